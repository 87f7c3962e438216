set_option maxRecDepth 100000
/-! COMPONENT, 11: a whole start -/
theorem sub1 (x : Int32) : x - 1 = x + (-1) := Int32.sub_eq_add_neg ..
theorem CHN.hd {G : AH} {F : Nat → Int32} {f : Nat} : ∀ {m q : Nat}, CHN G F f m q → ∃ fs, G q = some (.inr (21, fs))
  | 0, _, h => h.elim
  | 1, _, h => ⟨_, h⟩
  | _ + 2, _, ⟨_, h, _⟩ => ⟨_, h⟩
/-- the host and the log in the state y -/
def HL (Y : YT) (h N K : Nat) (η : HV) (lg ka : Nat) (y : MS) (g : Nat) (G : AH) : Prop := sub (hM Y h N y η) G ∧ (y.1 0 0 = nI N ∧ y.1 4 0 = nI K ∧ y.1 20 0 = nI g) ∧ G lg = some (.inr (1, [.ref ka, .int (nI g)])) ∧ G ka = some (.inl (yA Y 0, 40, .inl (y.1 21)))
theorem HL.cg {Y : YT} {h N K : Nat} {η : HV} {lg ka : Nat} {y z : MS} {g : Nat} {G : AH} (H : HL Y h N K η lg ka y g G) (e : ∀ k i, k ≤ 4 ∨ k = 20 ∨ k = 21 → z.1 k i = y.1 k i) : HL Y h N K η lg ka z g G := by
  obtain ⟨h1, ⟨h2, h3, h4⟩, h5, h6⟩ := H
  have e21 : z.1 21 = y.1 21 := by funext i; exact e 21 i (by omega)
  exact ⟨by rw [hM_cg (fun k i hk => e k i (.inl hk))]; exact h1, ⟨(e 0 0 (by omega)).trans h2, (e 4 0 (by omega)).trans h3, (e 20 0 (by omega)).trans h4⟩, h5, by rw [e21]; exact h6⟩
theorem bk1_at {y : MS} {k q g : Nat} (h17 : y.1 17 0 = nI (k + 1)) (hk : k < 1000) (h18 : y.1 18 k = nI q) (hq : q < 1000) (h19 : y.1 19 0 = 0) (h20 : y.1 20 0 = nI g) (hg : g < 1000000000) : bk1 y = mu (mu (mu (mu y 17 0 (nI k)) 1 q 0) 21 (g % 40) (nI (200 + q))) 20 0 (nI (g + 1)) := by
  unfold bk1
  rw [h17, show nI (k + 1) - 1 = nI k from (sub1 _).trans nI_pm, nI_clamp (by omega), h18, nI_clamp (by omega), show (200 : Int32) + nI q = nI (200 + q) from nI_add 200 q]
  exact lgG_on ((mu_nk (by decide)).trans ((mu_nk (by decide)).trans h19)) ((mu_nk (by decide)).trans ((mu_nk (by decide)).trans h20)) (by omega)
/-- one step back -/
theorem HL.bk {Y : YT} {h N K : Nat} {η : HV} {lg ka : Nat} {y : MS} {k q g : Nat} {G : AH} {f1 : Nat → Int32} (h17 : y.1 17 0 = nI (k + 1)) (hk : k < 1000) (h18 : y.1 18 k = nI q) (hq : q < 1000) (h19 : y.1 19 0 = 0) (h0 : y.1 0 0 = nI N) (h4 : y.1 4 0 = nI K) (h20 : y.1 20 0 = nI g) (hg : g < 1000000000) (h1 : sub (hM Y h N (mu y 1 q 0) η) G) (h5 : G lg = some (.inr (1, [.ref ka, .int (nI (g + 1))]))) (h6 : G ka = some (.inl (yA Y 0, 40, .inl (upd f1 (g % 40) (nI (200 + q)))))) (e6 : f1 = y.1 21) : HL Y h N K η lg ka (bk1 y) (g + 1) G ∧ (bk1 y).1 17 0 = nI k := by
  rw [bk1_at h17 hk h18 hq h19 h20 hg]
  refine ⟨⟨?_, ⟨?_, ?_, mu_hit⟩, h5, ?_⟩, ?_⟩
  · rw [hM_cg (b := mu y 1 q 0) (fun k' i hk' => ?_)]; exact h1
    rw [mu_nk (by omega), mu_nk (by omega)]
    rw [mu_com (by decide)]; exact mu_nk (by omega)
  · rw [mu_nk (by decide), mu_nk (by decide), mu_nk (by decide), mu_nk (by decide)]; exact h0
  · rw [mu_nk (by decide), mu_nk (by decide), mu_nk (by decide), mu_nk (by decide)]; exact h4
  · rw [h6, e6]
    refine congrArg (fun f => some (Sum.inl (yA Y 0, 40, Sum.inl f))) (funext fun i => ?_)
    unfold upd
    rw [mu_nk (by decide)]
    by_cases e : i = g % 40
    · rw [if_pos e, e, mu_hit]
    · rw [if_neg e, mu_ni e, mu_nk (by decide), mu_nk (by decide)]
  · rw [mu_nk (by decide), mu_nk (by decide), mu_nk (by decide), mu_hit]
def WOK (Y : YT) (h N K : Nat) (η : HV) (sa lg ka be dn : Nat) (r : Bool × MS) (n u : Nat) (G : AH) : AH → Nat → Nat → Prop := fun G' n' u' => r.1 = true ∧ (∃ g', g' < 1000000000 ∧ HL Y h N K η lg ka r.2 g' G') ∧ (∃ st' fd', G' sa = some (.inr (20, [.ref h, .ref lg, .ref be, .ref dn, .int (nI st')])) ∧ r.2.1 17 0 = nI st' ∧ st' ≤ 12 ∧ G' dn = some (.inl (yA Y 0, 12, .inl fd')) ∧ ∀ i, i < st' → fd' i = r.2.1 18 i) ∧ FR (DS h sa lg ka be dn) n G G' ∧ n ≤ n' ∧ u ≤ u'
def WNO (Y : YT) (h N K : Nat) (η : HV) (sa lg ka be dn : Nat) (r : Bool × MS) (n u : Nat) (G : AH) : String → Nat → AH → Nat → Nat → Prop := fun E q G' n' u' => E = "PluginChains$StartFailed" ∧ yz Y ≤ q ∧ r.1 = false ∧ (∃ g', g' < 1000000000 ∧ HL Y h N K η lg ka r.2 g' G') ∧ (∃ m, r.2.1 14 0 = nI m ∧ m ≤ 12 ∧ CHN G' (r.2.1 15) 0 m q) ∧ FR (DS h sa lg ka be dn) n G G' ∧ n ≤ n' ∧ u ≤ u'

set_option maxHeartbeats 1000000 in
theorem met_X21_startWhole {Y : YT} {l : Launch} {n u : Nat} {G : AH} (sa : Nat) (p_ : Nat) {h N K lg ka be dn g : Nat} {η : HV} {I : AH} {σ : MS} {fd : Nat → Int32} (hst : STH Y h I sa lg ka be dn) (hI : sub I G) (hP : STG Y h N K η sa lg ka be dn σ 0 g fd G) (hS : SSt Y N σ I (η.2 0)) (h0 : SI N 12 σ 0 0 g) (hp : p_ < N) (hb : bt (σ.1 16 0) p_ = false) (hg : g < 99000000) : GM Y l yX21_startWhole (wsW_ yX21_startWhole cX21_startWhole 6 none [((2 : Nat), (9 : Nat), (50 : Nat), (0 : Nat)), ((50 : Nat), (52 : Nat), (50 : Nat), (0 : Nat))]) 169 8422 [.ref sa, .int (nI p_)] G n u 1176 3600 (pV (WOK Y h N K η sa lg ka be dn (startsF N 12 σ p_) n u G)) (WNO Y h N K η sa lg ka be dn (startsF N 12 σ p_) n u G) := by
  refine GM.introH (own := RX21) rfl (by decide +kernel) (Nat.le_of_ble_eq_true rfl) ?_
  intro p e s m args below meth c R Q hC hr hnm hF hL hE
  have hE1 := hE.1
  have hE2 := hE.2.1
  have hnz : yz Y ≤ n := by have := hC.z; have := hC.n; omega
  show V Y p l e R s m args below meth c 6 n u G n u Q 0 [(0, .ref sa), (1, .int (nI p_))] []
  refine V.lts (fun hlt => ?_)
  have hIn := sub_none hI hlt
  have hst0 := hst
  have hm : SIM N σ σ := ⟨EQ.refl, fun q hq h => h, fun q hq h => .inl h⟩
  obtain ⟨⟨hzh, hzs, hzl, hzk, hze, hzd⟩, ⟨hIh_h, hIs, hIl, hIk, hIe, hId⟩, ⟨hsh, hlh, hkh, heh, hdh⟩, nbk, nbd, nkd⟩ := hst
  obtain ⟨p1, ⟨p4, p17, p20⟩, ps, pl, pk, pb, pd, pa⟩ := hP
  have hN2 := h0.hN2
  have hf12 := h0.hf
  have hN : σ.1 0 0 = nI N := (hm.1.1 0 0 (by decide)).trans h0.hN
  have h14 : σ.1 14 0 = nI 0 := (hm.1.1 14 0 (by decide)).trans h0.h14
  obtain ⟨hpl, hb_, hk9_, hi9_, h19⟩ := hS
  have hS : SSt Y N σ I (η.2 0) := ⟨hpl, hb_, hk9_, hi9_, h19⟩
  have hl_sa : sa < n := hlt _ _ ps
  have hl_h : h + 6 < n := hlt _ _ (p1 _ _ (hM_j 6))
  have hl_lg : lg < n := hlt _ _ pl
  have hl_ka : ka < n := hlt _ _ pk
  have hl_be : be < n := hlt _ _ pb
  have hl_dn : dn < n := hlt _ _ pd
  have DSI : ∀ a, DS h sa lg ka be dn a → I a = none := by rintro a (q | rfl | rfl | rfl | rfl | rfl)
                                                           · exact hIh_h a q
                                                           all_goals assumption
  obtain ⟨sR, fR, gR, hR, hRno⟩ := starts_ok 12 σ p_ 0 0 g h0 hp hb
  have hR0 : (startsF N 12 σ p_).2.1 0 0 = σ.1 0 0 := hR.fr 0 0 (by decide) (by decide) (by decide) (by decide) (by decide) (by decide) (by decide) (by decide)
  have hR19 : (startsF N 12 σ p_).2.1 19 0 = σ.1 19 0 := hR.fr 19 0 (by decide) (by decide) (by decide) (by decide) (by decide) (by decide) (by decide) (by decide)
  have hcn : cnb σ N ≤ 12 := by
    have := cntB_n (fun q => !(bt (σ.1 16 0) q)) N
    unfold cnb; omega
  refine g_iconst (v := 0) hC dX21_startWhole_0 rfl ?_
  refine g_istore_n (L' := [(2, .int 0), (0, .ref sa), (1, .int (nI p_))]) hC dX21_startWhole_1 rfl (by decide) rfl ?_
  refine g_aload_n hC dX21_startWhole_2 rfl 1 rfl ?_
  refine g_iload_n hC dX21_startWhole_3 rfl 2 rfl ?_
  refine V.lts (fun lc_1 => ?_)
  refine g_callv hC (g_runV hC (SCh_all hst0 12 _ _ G σ σ p_ 0 0 g fd hI ⟨p1, ⟨p4, p17, p20⟩, ps, pl, pk, pb, pd, pa⟩ hS hm h0 hp hb (by omega)) kc_X21 ps (lw_V q1893 q1895 qs18 q129 q1896) rfl md_X21_start dX21_startWhole_4 rfl ⟨by omega, by omega⟩ (by omega) (by omega) rfl (Nat.le_of_ble_eq_true rfl)) (fun E_2 q_2 G_2 n_2 u_2 hx_2 hn_2 hm_2 hu_2 => ?_) (fun G_2 n_2 u_2 hp_2 hn_2 hm_2 hu_2 => ?_)
  · obtain ⟨rfl, hzq_2, hT_2, ⟨st_2, g_2, fd_2, m_2, hP_2, h14_2, h12_2, hch_2⟩, hfr_2, hnn_2, huu_2⟩ := hx_2
    refine VX.lts (fun ltx_2 => ?_)
    obtain ⟨p1_2, ⟨p4_2, p17_2, p20_2⟩, ps_2, pl_2, pk_2, pb_2, pd_2, pa_2⟩ := hP_2
    have hi_2 : sub I G_2 := hfr_2.subs hI lc_1 DSI
    have hf_2 : FR (DS h sa lg ka be dn) n G G_2 := FR.refl.trans hfr_2 (by omega) (fun a_ q_ => .inl q_)
    obtain ⟨stm_2, gm_2, fl1_2, fl2_2⟩ := (sim_ok 12 σ σ p_ 0 0 g hm h0 hp hb).2.2 hT_2
    obtain ⟨fa_2, fb_2, fc_2, fdd_2, fe_2, ff_2⟩ := fl1_2
    have es_2 : st_2 = stm_2 := (nI_eq (by have := pa_2.2.1; omega) (by omega)).mp (p17_2.symm.trans fa_2)
    have eg_2 : g_2 = gm_2 := (nI_eq (by have := pa_2.2.2; omega) (by omega)).mp (p20_2.symm.trans fe_2)
    subst es_2 eg_2
    have q0_2 : (cstF N 12 σ p_).2.1 0 0 = nI N := by
      have h9 := ff_2.1 0 0 (by decide)
      rw [bkF_ne (by decide) (by decide) (by decide) (by decide)] at h9
      exact h9.trans (hR0.trans hN)
    have q19_2 : (cstF N 12 σ p_).2.1 19 0 = 0 := by
      have h9 := ff_2.1 19 0 (by decide)
      rw [bkF_ne (by decide) (by decide) (by decide) (by decide)] at h9
      exact h9.trans (hR19.trans h19)
    refine g_catchG hC (tableOf ([((2 : Nat), (9 : Nat), (50 : Nat), (0 : Nat)), ((50 : Nat), (52 : Nat), (50 : Nat), (0 : Nat))].take 0)) ⟨2, 9, 50, 0⟩ (tableOf ([((2 : Nat), (9 : Nat), (50 : Nat), (0 : Nat)), ((50 : Nat), (52 : Nat), (50 : Nat), (0 : Nat))].drop 1)) rfl (fun z hz => nomatch hz) (by decide) (.inl rfl) (hp := 50) rfl ?_
    refine g_astore (L' := [(4, .ref q_2), (2, .int 0), (0, .ref sa), (1, .int (nI p_))]) hC dX21_startWhole_50 (by decide) rfl ?_
    refine g_aload_n hC dX21_startWhole_52 rfl 2 rfl ?_
    refine g_get (v := .int (nI st_2)) hC kc_X21 ps_2 4 (by decide) q1875 rfl dX21_startWhole_53 ?_
    refine g_iconst (v := 1) hC dX21_startWhole_56 rfl ?_
    refine g_isub hC dX21_startWhole_57 ?_
    refine g_istore (L' := [(5, .int ((nI st_2) - 1)), (4, .ref q_2), (2, .int 0), (0, .ref sa), (1, .int (nI p_))]) hC dX21_startWhole_58 (by decide) rfl ?_
    have hl_60 : ∀ (kf_ : Nat) (Gq : AH) (k : Nat) (y : MS) (gq : Nat), (HL Y h N K η lg ka y gq Gq) → (Gq sa = some (.inr (20, [.ref h, .ref lg, .ref be, .ref dn, .int (nI st_2)]))) → (Gq dn = some (.inl (yA Y 0, 12, .inl fd_2))) → (sub I Gq) → (FR (DS h sa lg ka be dn) n G Gq) → (sub (X21 G_2) Gq) → (k ≤ st_2) → (y = bkF (st_2 - k) (cstF N 12 σ p_).2) → (y.1 17 0 = nI k) → (gq + k ≤ g + 2 * st_2 + 1) → k < kf_ → V Y p l e R s m args below meth c 6 n u Gq n_2 u_2 Q 60 [(4, .ref q_2), (2, .int 0), (0, .ref sa), (1, .int (nI p_)), (5, .int (nI k - 1))] [] := by
      intro kf_
      induction kf_ with
      | zero => intro Gq k y gq jH ys yd jI jf jx jk jy j17 jg hk_; exact absurd hk_ (Nat.not_lt_zero _)
      | succ kf_ ih_ =>
        intro Gq k y gq jH ys yd jI jf jx jk jy j17 jg hk_
        refine V.lts (fun ltq => ?_)
        obtain ⟨y1, ⟨yN, yK, y20⟩, yl, yk⟩ := jH
        have y19 : y.1 19 0 = 0 := by rw [jy, bkF_ne (by decide) (by decide) (by decide) (by decide)]; exact q19_2
        have y18 : ∀ i, y.1 18 i = (cstF N 12 σ p_).2.1 18 i := fun i => by rw [jy, bkF_ne (by decide) (by decide) (by decide) (by decide)]
        rcases k with _ | k
        · refine g_iload hC dX21_startWhole_60 4 rfl ?_
          refine g_if_lt hC dX21_startWhole_62 (tgt := 93) (by decide) (fun c_62 => ?_) (fun c_62 => ?_)
          · refine g_aload hC dX21_startWhole_93 0 rfl ?_
            have hch2 : CHN Gq ((startsF N 12 σ p_).2.1 15) 0 m_2 q_2 := hch_2.to (fun i hi => by rw [← ff_2.1 15 i (by decide), bkF_ne (by decide) (by decide) (by decide) (by decide)]) jx
            obtain ⟨fsx, hxq⟩ := hch2.hd
            refine g_athrow hC kc_X22 hxq hzq_2 dX21_startWhole_95 ?_
            refine g_out hC (by decide) ?_ (by omega) (by omega) hE
            rw [Nat.sub_zero] at ff_2 jy
            refine ⟨rfl, hzq_2, ?_, ⟨_, by have := pa_2.2.2; omega, HL.cg ⟨y1, ⟨yN, yK, y20⟩, yl, yk⟩ (fun k i q => by rw [jy]; exact (ff_2.1 k i (by omega)).symm)⟩, ⟨m_2, ?_, by omega, hch2⟩, jf, by omega, by omega⟩
            · have sa1 := (sim_ok 12 σ σ p_ 0 0 g hm h0 hp hb).1
              exact sa1.symm.trans hT_2
            · have h9 := ff_2.1 14 0 (by decide)
              rw [bkF_ne (by decide) (by decide) (by decide) (by decide), h14_2] at h9
              rw [← h9, Nat.zero_add]
          · first | exact absurd c_62 (by decide) | exact absurd c_62 (by omega)
        · rw [show nI (k + 1) - 1 = nI k from (sub1 _).trans nI_pm]
          refine g_iload hC dX21_startWhole_60 4 rfl ?_
          refine g_if_ltN hC k (by omega) dX21_startWhole_62 (tgt := 93) (by decide) (fun c_62 => ?_) (fun c_62 => ?_)
          · exact absurd c_62 (by omega)
          · refine g_iload_n hC dX21_startWhole_65 rfl 1 rfl ?_
            refine g_if_neN hC 0 (by omega) dX21_startWhole_66 (tgt := 93) (by decide) (fun c_66 => ?_) (fun c_66 => ?_)
            · first | exact absurd c_66 (by decide) | exact absurd c_66 (by omega)
            · refine g_aload_n hC dX21_startWhole_69 rfl 2 rfl ?_
              refine g_get (v := .ref h) hC kc_X21 ys 0 (by decide) q1870 rfl dX21_startWhole_70 ?_
              refine g_aload_n hC dX21_startWhole_73 rfl 2 rfl ?_
              refine g_get (v := .ref dn) hC kc_X21 ys 3 (by decide) q1873 rfl dX21_startWhole_74 ?_
              refine g_iload hC dX21_startWhole_77 4 rfl ?_
              refine g_iald hC yd (vin (by omega) (by omega)) dX21_startWhole_79 ?_
              rw [show (nI k).toNatClampNeg = k from nI_clamp (by omega)]
              obtain ⟨qd, hqd, hqe⟩ := fdd_2 k (by omega)
              have hqe2 : fd_2 k = nI qd := (pa_2.1 k (by omega)).trans hqe
              rw [hqe2]
              refine g_aload_n hC dX21_startWhole_80 rfl 2 rfl ?_
              refine g_get (v := .ref lg) hC kc_X21 ys 1 (by decide) q1871 rfl dX21_startWhole_81 ?_
              refine V.lts (fun lc_3 => ?_)
              refine g_callv0 hC (g_runV hC (met_X2_stop (G := Gq) h qd lg y1 yN yK hN2 hzh yl yk hzl hzk (by omega) hlh hkh hqd) kc_X2 (y1 _ _ (hM_0 yN yK)) (lw_V q2440 q2441 q2442 q83 q2443) rfl md_X2_stop dX21_startWhole_84 rfl ⟨by omega, by omega⟩ (by omega) (by omega) rfl (Nat.le_of_ble_eq_true rfl)) (fun G_4 n_4 u_4 hp_4 hn_4 hm_4 hu_4 => ?_)
              obtain ⟨hb_4, hoa_4, hob_4, hf_4, rfl, rfl⟩ := hp_4
              have hx_4 : sub (X21 G_2) G_4 := hf_4.subs jx lc_3 (fun a q => by
                rcases q with q | rfl | rfl
                · exact X21_hD jx y1 a q
                · exact X21_no jx yl (fun fs_ q_ => by cases q_)
                · exact X21_no jx yk (fun fs_ q_ => by cases q_))
              have o_5 : G_4 sa = some (.inr (20, [.ref h, .ref lg, .ref be, .ref dn, .int (nI st_2)])) := (hf_4 _ (lc_3 _ _ ys) (fun q => q.elim (fun q => (fun q => absurd q hsh) q) (fun q => q.elim (fun q => (fun q => absurd q (gne_c ys yl (by decide))) q) (fun q => (fun q => absurd q (gne_oa ys yk)) q)))).trans ys
              have a_6 : G_4 dn = some (.inl (yA Y 0, 12, .inl fd_2)) := (hf_4 _ (lc_3 _ _ yd) (fun q => q.elim (fun q => (fun q => absurd q hdh) q) (fun q => q.elim (fun q => (fun q => absurd q (gne_ao yd yl)) q) (fun q => (fun q => absurd q (Ne.symm nkd)) q)))).trans yd
              have hi_7 : sub I G_4 := hf_4.subs jI lc_3 (fun a q => (show _ from (fun q => q.elim (fun q => (fun q => hIh_h _ q) q) (fun q => q.elim (fun q => (fun q : a = _ => by subst q; exact hIl) q) (fun q => (fun q : a = _ => by subst q; exact hIk) q))) q))
              have hf_8 : FR (DS h sa lg ka be dn) n G G_4 := jf.trans hf_4 (by omega) (fun a_ q_ => .inl (q_.elim (fun e => .inl e) (fun e => e.elim (fun e => .inr (.inl e)) (fun e => .inr (.inr (.inl e))))))
              have hbk := HL.bk (N := N) (K := K) (k := k) (q := qd) j17 (by omega) ((y18 k).trans hqe) (by omega) y19 yN yK y20 (by omega) hb_4 hoa_4 hob_4 rfl
              refine g_iinc (v := (nI k) + (-1)) (L' := [(5, .int ((nI k) + (-1))), (4, .ref q_2), (2, .int 0), (0, .ref sa), (1, .int (nI p_))]) hC dX21_startWhole_87 (k := 4) rfl rfl (by decide) rfl ?_
              refine g_goto (tgt := 60) hC dX21_startWhole_90 (by decide) ?_
              refine V.sub [1, 2, 3, 4, 0] rfl ?_
              have h_ := ih_ G_4 k (bk1 y) (gq + 1) (hbk.1) (o_5) (a_6) (hi_7) (hf_8) (hx_4) (by omega) (by rw [show st_2 - k = (st_2 - (k + 1)) + 1 by omega, bkF_add, ← jy]; rfl) (hbk.2) (by omega) (by omega)
              have e_0 : nI k - 1 = nI k + (-1) := by exact sub1 _
              rw [e_0] at h_
              exact h_
    refine V.sub [1, 2, 3, 4, 0] rfl ?_
    exact hl_60 (st_2 + 1) G_2 st_2 ((cstF N 12 σ p_).2) g_2 (⟨p1_2, ⟨q0_2, p4_2, p20_2⟩, pl_2, pk_2⟩) (ps_2) (pd_2) (hi_2) (hf_2) (X21_sub) (by omega) (by rw [Nat.sub_self]; rfl) (p17_2) (by have := fl2_2; omega) (by omega)
  · obtain ⟨hT_2, ⟨st_2, g_2, fd_2, hP_2⟩, hfr_2, hnn_2, huu_2, hcn_2, hcu_2⟩ := hp_2
    obtain ⟨p1_2, ⟨p4_2, p17_2, p20_2⟩, ps_2, pl_2, pk_2, pb_2, pd_2, pa_2⟩ := hP_2
    have hi_2 : sub I G_2 := hfr_2.subs hI lc_1 DSI
    have hf_2 : FR (DS h sa lg ka be dn) n G G_2 := FR.refl.trans hfr_2 (by omega) (fun a_ q_ => .inl q_)
    refine g_iconst (v := 1) hC dX21_startWhole_7 rfl ?_
    refine g_istore_n (L' := [(2, .int 1), (0, .ref sa), (1, .int (nI p_))]) hC dX21_startWhole_8 rfl (by decide) rfl ?_
    refine g_aload_n hC dX21_startWhole_9 rfl 1 rfl ?_
    refine g_get (v := .int (nI st_2)) hC kc_X21 ps_2 4 (by decide) q1875 rfl dX21_startWhole_10 ?_
    refine g_iconst (v := 1) hC dX21_startWhole_13 rfl ?_
    refine g_isub hC dX21_startWhole_14 ?_
    refine g_istore_n (L' := [(3, .int ((nI st_2) - 1)), (2, .int 1), (0, .ref sa), (1, .int (nI p_))]) hC dX21_startWhole_15 rfl (by decide) rfl ?_
    refine g_iload_n hC dX21_startWhole_16 rfl 0 rfl ?_
    refine g_if_lt hC dX21_startWhole_17 (tgt := 47) (by decide) (fun c_17 => ?_) (fun c_17 => ?_)
    · refine g_goto (tgt := 96) hC dX21_startWhole_47 (by decide) ?_
      refine g_vret hC hr ⟨rfl, ?_⟩ (by omega) (by omega) hE dX21_startWhole_96
      obtain ⟨sa1, sa2, -⟩ := sim_ok 12 σ σ p_ 0 0 g hm h0 hp hb
      have sm := sa2 hT_2
      have e20 := (sm.1.1 20 0 (by decide)).symm.trans p20_2
      have e17 := (sm.1.1 17 0 (by decide)).symm.trans p17_2
      have q0_2 : (cstF N 12 σ p_).2.1 0 0 = nI N := (sm.1.1 0 0 (by decide)).trans (hR0.trans hN)
      refine ⟨sa1.symm.trans hT_2, ⟨_, pa_2.2.2, HL.cg ⟨p1_2, ⟨q0_2, p4_2, p20_2⟩, pl_2, pk_2⟩ (fun k i q => (sm.1.1 k i (by omega)).symm)⟩, ⟨_, _, ps_2, e17, pa_2.2.1, pd_2, fun i hi => (pa_2.1 i hi).trans (sm.1.1 18 i (by decide))⟩, hf_2, by omega, by omega⟩
    · refine g_iload_n hC dX21_startWhole_20 rfl 1 rfl ?_
      refine g_if_neN hC 1 (by omega) dX21_startWhole_21 (tgt := 47) (by decide) (fun c_21 => ?_) (fun c_21 => ?_)
      · refine g_goto (tgt := 96) hC dX21_startWhole_47 (by decide) ?_
        refine g_vret hC hr ⟨rfl, ?_⟩ (by omega) (by omega) hE dX21_startWhole_96
        obtain ⟨sa1, sa2, -⟩ := sim_ok 12 σ σ p_ 0 0 g hm h0 hp hb
        have sm := sa2 hT_2
        have e20 := (sm.1.1 20 0 (by decide)).symm.trans p20_2
        have e17 := (sm.1.1 17 0 (by decide)).symm.trans p17_2
        have q0_2 : (cstF N 12 σ p_).2.1 0 0 = nI N := (sm.1.1 0 0 (by decide)).trans (hR0.trans hN)
        refine ⟨sa1.symm.trans hT_2, ⟨_, pa_2.2.2, HL.cg ⟨p1_2, ⟨q0_2, p4_2, p20_2⟩, pl_2, pk_2⟩ (fun k i q => (sm.1.1 k i (by omega)).symm)⟩, ⟨_, _, ps_2, e17, pa_2.2.1, pd_2, fun i hi => (pa_2.1 i hi).trans (sm.1.1 18 i (by decide))⟩, hf_2, by omega, by omega⟩
      · first | exact absurd c_21 (by decide) | exact absurd c_21 (by omega)
set_option maxHeartbeats 1000000 in
theorem met_X21_init {Y : YT} {l : Launch} {n u : Nat} {G : AH} (sa : Nat) (h : Nat) (lg : Nat)  (h1 : G sa = some (.inr (20, [.null, .null, .null, .null, .int 0]))) (hz : yz Y ≤ sa) : GM Y l yX21_init (ws_ yX21_init cX21_init 3 none) 1 24 [.ref sa, .ref h, .ref lg] G n u 2 24 (pV (fun G' n' u' => G' sa = some (.inr (20, [.ref h, .ref lg, .ref n, .ref (n + 1), .int 0])) ∧ G' n = some (.inl (yA Y 5, 12, .inl (fun _ => 0))) ∧ G' (n + 1) = some (.inl (yA Y 0, 12, .inl (fun _ => 0))) ∧ FR (fun q_ => q_ = sa) n G G' ∧ n' = n + 2 ∧ u' = u + 24)) noX := by
  refine GM.intro (own := RX21) rfl (by decide +kernel) (Nat.le_of_ble_eq_true rfl) ?_
  intro p e s m args below meth c R Q hC hr hnm hF hL hE
  have hE1 := hE.1
  have hE2 := hE.2.1
  have hnz : yz Y ≤ n := by have := hC.z; have := hC.n; omega
  show V Y p l e R s m args below meth c 3 n u G n u Q 0 [(0, .ref sa), (1, .ref h), (2, .ref lg)] []
  refine V.lts (fun hlt => ?_)
  have hl_sa : sa < n := hlt _ _ h1
  refine g_aload_n hC dX21_init_0 rfl 0 rfl ?_
  refine V.lts (fun lc_1 => ?_)
  refine g_objInit hC q1869 q178 q179 dX21_init_1 (by omega) (by first | (simp; omega) | (simp [Value.category]; omega)) ?_
  refine g_aload_n hC dX21_init_4 rfl 0 rfl ?_
  refine g_bipush (v := 12) hC dX21_init_5 (by decide) ?_
  obtain ⟨G_2, eG_2⟩ : ∃ G_, gU G n (.inl (yA Y 5, 12, .inl (fun _ => 0))) = G_ := ⟨_, rfl⟩
  refine V.lts (fun ltG_2 => ?_)
  have o_3 : G_2 sa = some (.inr (20, [.null, .null, .null, .null, .int 0])) := by rw [← eG_2]; exact (gU_n _ (Nat.ne_of_lt (ltG_2 _ _ h1))).trans h1
  have hf_4 : FR (fun q_ => q_ = sa) n G G_2 := by rw [← eG_2]; exact FR.put FR.refl (.inr (by omega))
  refine g_newa hC (atype := .boolean) 5 rfl rfl rfl q1888 (a0 := (12, .inl (fun _ => 0))) (fun _ => rfl) (by decide) rfl (by simp only [componentBytes]; omega) (G' := G_2) eG_2 (by omega) (by omega) dX21_init_7 ?_
  have a_5 : G_2 n = some (.inl (yA Y 5, 12, .inl (fun _ => 0))) := by rw [← eG_2]; exact gU_s _ _ _
  obtain ⟨G_6, eG_6⟩ : ∃ G_, gU G_2 sa (.inr (20, [.null, .null, .ref n, .null, .int 0])) = G_ := ⟨_, rfl⟩
  have a_7 : G_6 n = some (.inl (yA Y 5, 12, .inl (fun _ => 0))) := by rw [← eG_6]; exact (gU_n _ (gne_ao a_5 o_3)).trans a_5
  have hf_8 : FR (fun q_ => q_ = sa) n G G_6 := by rw [← eG_6]; exact FR.put hf_4 (.inl rfl)
  refine g_putF hC hnm kc_X21 o_3 2 (by decide) q1872 rfl rfl rfl rfl (by show 2 < 5; decide) rfl (by omega) (G' := G_6) eG_6 dX21_init_9 ?_
  have o_9 : G_6 sa = some (.inr (20, [.null, .null, .ref n, .null, .int 0])) := by rw [← eG_6]; exact gU_s _ _ _
  refine g_aload_n hC dX21_init_12 rfl 0 rfl ?_
  refine g_bipush (v := 12) hC dX21_init_13 (by decide) ?_
  obtain ⟨G_10, eG_10⟩ : ∃ G_, gU G_6 (n + 1) (.inl (yA Y 0, 12, .inl (fun _ => 0))) = G_ := ⟨_, rfl⟩
  refine V.lts (fun ltG_10 => ?_)
  have o_11 : G_10 sa = some (.inr (20, [.null, .null, .ref n, .null, .int 0])) := by rw [← eG_10]; exact (gU_n _ (Nat.ne_of_lt (ltG_10 _ _ o_9))).trans o_9
  have a_12 : G_10 n = some (.inl (yA Y 5, 12, .inl (fun _ => 0))) := by rw [← eG_10]; exact (gU_n _ (Nat.ne_of_lt (ltG_10 _ _ a_7))).trans a_7
  have hf_13 : FR (fun q_ => q_ = sa) n G G_10 := by rw [← eG_10]; exact FR.put hf_8 (.inr (by omega))
  refine g_newa hC (atype := .int) 0 rfl rfl rfl q198 (a0 := (12, .inl (fun _ => 0))) (fun _ => rfl) (by decide) rfl (by simp only [componentBytes]; omega) (G' := G_10) eG_10 (by omega) (by omega) dX21_init_15 ?_
  have a_14 : G_10 (n + 1) = some (.inl (yA Y 0, 12, .inl (fun _ => 0))) := by rw [← eG_10]; exact gU_s _ _ _
  obtain ⟨G_15, eG_15⟩ : ∃ G_, gU G_10 sa (.inr (20, [.null, .null, .ref n, .ref (n + 1), .int 0])) = G_ := ⟨_, rfl⟩
  have a_16 : G_15 n = some (.inl (yA Y 5, 12, .inl (fun _ => 0))) := by rw [← eG_15]; exact (gU_n _ (gne_ao a_12 o_11)).trans a_12
  have a_17 : G_15 (n + 1) = some (.inl (yA Y 0, 12, .inl (fun _ => 0))) := by rw [← eG_15]; exact (gU_n _ (gne_ao a_14 o_11)).trans a_14
  have hf_18 : FR (fun q_ => q_ = sa) n G G_15 := by rw [← eG_15]; exact FR.put hf_13 (.inl rfl)
  refine g_putF hC hnm kc_X21 o_11 3 (by decide) q1873 rfl rfl rfl rfl (by show 3 < 5; decide) rfl (by omega) (G' := G_15) eG_15 dX21_init_17 ?_
  have o_19 : G_15 sa = some (.inr (20, [.null, .null, .ref n, .ref (n + 1), .int 0])) := by rw [← eG_15]; exact gU_s _ _ _
  refine g_aload_n hC dX21_init_20 rfl 0 rfl ?_
  refine g_aload_n hC dX21_init_21 rfl 1 rfl ?_
  obtain ⟨G_20, eG_20⟩ : ∃ G_, gU G_15 sa (.inr (20, [.ref h, .null, .ref n, .ref (n + 1), .int 0])) = G_ := ⟨_, rfl⟩
  have a_21 : G_20 n = some (.inl (yA Y 5, 12, .inl (fun _ => 0))) := by rw [← eG_20]; exact (gU_n _ (gne_ao a_16 o_19)).trans a_16
  have a_22 : G_20 (n + 1) = some (.inl (yA Y 0, 12, .inl (fun _ => 0))) := by rw [← eG_20]; exact (gU_n _ (gne_ao a_17 o_19)).trans a_17
  have hf_23 : FR (fun q_ => q_ = sa) n G G_20 := by rw [← eG_20]; exact FR.put hf_18 (.inl rfl)
  refine g_putF hC hnm kc_X21 o_19 0 (by decide) q1870 rfl rfl rfl rfl (by show 0 < 5; decide) rfl (by omega) (G' := G_20) eG_20 dX21_init_22 ?_
  have o_24 : G_20 sa = some (.inr (20, [.ref h, .null, .ref n, .ref (n + 1), .int 0])) := by rw [← eG_20]; exact gU_s _ _ _
  refine g_aload_n hC dX21_init_25 rfl 0 rfl ?_
  refine g_aload_n hC dX21_init_26 rfl 2 rfl ?_
  obtain ⟨G_25, eG_25⟩ : ∃ G_, gU G_20 sa (.inr (20, [.ref h, .ref lg, .ref n, .ref (n + 1), .int 0])) = G_ := ⟨_, rfl⟩
  have a_26 : G_25 n = some (.inl (yA Y 5, 12, .inl (fun _ => 0))) := by rw [← eG_25]; exact (gU_n _ (gne_ao a_21 o_24)).trans a_21
  have a_27 : G_25 (n + 1) = some (.inl (yA Y 0, 12, .inl (fun _ => 0))) := by rw [← eG_25]; exact (gU_n _ (gne_ao a_22 o_24)).trans a_22
  have hf_28 : FR (fun q_ => q_ = sa) n G G_25 := by rw [← eG_25]; exact FR.put hf_23 (.inl rfl)
  refine g_putF hC hnm kc_X21 o_24 1 (by decide) q1871 rfl rfl rfl rfl (by show 1 < 5; decide) rfl (by omega) (G' := G_25) eG_25 dX21_init_27 ?_
  have o_29 : G_25 sa = some (.inr (20, [.ref h, .ref lg, .ref n, .ref (n + 1), .int 0])) := by rw [← eG_25]; exact gU_s _ _ _
  refine g_vret hC hr ⟨rfl, ?_⟩ (by omega) (by omega) hE dX21_init_30
  exact ⟨o_29, a_26, a_27, hf_28, rfl, by omega⟩
