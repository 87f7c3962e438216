set_option maxRecDepth 100000
/-! COMPONENT, 10: starting one -/
theorem pv_any {σ : MS} {p k : Nat} (h : ¬ tl σ 0 p = 1) : ∀ {i : Nat}, (foldN (pvH σ p k) none i = none ↔ anyN (runP σ p k) i = false)
  | 0 => ⟨fun _ => rfl, fun _ => rfl⟩
  | i + 1 => by
    have ih := pv_any (k := k) h (i := i)
    have e : srvF σ i p k = runP σ p k i := by unfold srvF runP; simp [h]
    rw [foldN_sc]
    unfold pvH
    rw [e]
    cases hr : runP σ p k i with
    | false =>
      simp only [Bool.false_eq_true, if_false]
      constructor
      · intro q; exact anyN_s (ih.mp q) hr
      · intro q; refine ih.mpr ?_; unfold anyN at q; simp at q; exact q.1
    | true =>
      simp only [if_true]
      constructor
      · intro q; split at q
        · cases q
        · split at q <;> cases q
      · intro q; unfold anyN at q; simp [hr] at q
theorem pvH_lt {σ : MS} {p k : Nat} : ∀ {i g : Nat}, foldN (pvH σ p k) none i = some g → g < i
  | 0, g, h => by cases h
  | i + 1, g, h => by
    rw [foldN_sc] at h
    unfold pvH at h
    split at h
    · split at h
      · cases h; omega
      · next q => split at h
                  · cases h; omega
                  · cases h; have := pvH_lt (i := i) (g := g) q; omega
    · have := pvH_lt (i := i) (g := g) h; omega
theorem nd1_ni {N fu : Nat} (p k : Nat) {σ : MS} {st f g : Nat} (hS : SI N fu σ st f g) (ht : (ndO N (startsF N fu) p k σ).1 = true) : ∀ q, q < N → ¬ tl σ 0 q = 0 → tl (ndO N (startsF N fu) p k σ).2 0 q = tl σ 0 q := by
  revert ht
  unfold ndO
  cases e : foldN (tkS σ p k) none N with
  | none => intro q; cases q
  | some q0 =>
    simp only
    split
    · intro q; cases q
    · next hb =>
      split
      · next ht => intro _; exact starts_ni fu σ q0 st f g hS (tkS_lt e) (by simpa using hb) ht
      · intro q; cases q
theorem lgG_on {z : MS} {x : Int32} {g : Nat} (h19 : z.1 19 0 = 0) (h20 : z.1 20 0 = nI g) (hg : g < 2 ^ 31) : lgG z x = mu (mu z 21 (g % 40) x) 20 0 (nI (g + 1)) := by
  unfold lgG lgF
  rw [h20, nI_clamp hg, if_pos h19]
theorem STG.lg {Y : YT} {h N K : Nat} {η : HV} {sa lg ka be dn : Nat} {z : MS} {st g : Nat} {fd : Nat → Int32} {G : AH} {x : Int32} {f1 : Nat → Int32} (h19 : z.1 19 0 = 0) (h20 : z.1 20 0 = nI g) (hg : g + 1 < 1000000000) (h1 : sub (hM Y h N z η) G) (h4 : z.1 4 0 = nI K) (h17 : z.1 17 0 = nI st) (h5 : G sa = some (.inr (20, [.ref h, .ref lg, .ref be, .ref dn, .int (nI st)]))) (h6 : G lg = some (.inr (1, [.ref ka, .int (nI (g + 1))]))) (h7 : G ka = some (.inl (yA Y 0, 40, .inl (upd f1 (g % 40) x)))) (e7 : f1 = z.1 21) (h8 : G be = some (.inl (yA Y 5, 12, .inl (beF z)))) (h9 : G dn = some (.inl (yA Y 0, 12, .inl fd))) (h10 : (∀ i, i < st → fd i = z.1 18 i) ∧ st ≤ 12) : STG Y h N K η sa lg ka be dn (lgG z x) st (g + 1) fd G := by
  have e21 : (lgG z x).1 21 = upd f1 (g % 40) x := by
    rw [lgG_on h19 h20 (by omega), e7]
    funext i
    unfold upd
    rw [mu_nk (by decide)]
    by_cases e : i = g % 40
    · rw [if_pos e, e, mu_hit]
    · rw [if_neg e, mu_ni e]
  have e : ∀ k i, k ≠ 20 → k ≠ 21 → (lgG z x).1 k i = z.1 k i := fun k i a b => lgG_ne a b
  refine ⟨by rw [hM_cg (fun k i hk => e k i (by omega) (by omega))]; exact h1, ⟨(e 4 0 (by decide) (by decide)).trans h4, (e 17 0 (by decide) (by decide)).trans h17, ?_⟩, h5, h6, by rw [e21]; exact h7, by rw [beF_e (e 16 0 (by decide) (by decide))]; exact h8, h9, fun i hi => (h10.1 i hi).trans (e 18 i (by decide) (by decide)).symm, h10.2, by omega⟩
  rw [lgG_on h19 h20 (by omega)]; exact mu_hit
theorem cnb_p {σ : MS} {N p : Nat} (hp : p < N) (hb : bt (σ.1 16 0) p = false) : 1 ≤ cnb σ N := by
  have := cntB_lt (Q := fun _ => false) (P := fun q => !(bt (σ.1 16 0) q)) N (fun q hq hh => by cases hh) ⟨p, hp, by simp [hb], rfl⟩
  unfold cnb; omega
theorem idl_p {σ : MS} {N p : Nat} (hp : p < N) (hb : tl σ 0 p = 0) : 1 ≤ idl σ N := by
  have := cntB_lt (Q := fun _ => false) (P := fun q => decide (tl σ 0 q = 0)) N (fun q hq hh => by cases hh) ⟨p, hp, by simp [hb], rfl⟩
  unfold idl; omega
set_option maxHeartbeats 1000000 in
theorem met_X21_start {Y : YT} {l : Launch} {n u : Nat} {G : AH} (sa : Nat) (p_ : Nat) {h N K lg ka be dn : Nat} {η : HV} {I : AH} {σ σm : MS} {st f g fu fS lS : Nat} {fd : Nat → Int32} (hSC : SCh Y l h N K η I sa lg ka be dn fu fS lS) (hst : STH Y h I sa lg ka be dn) (hI : sub I G) (hP : STG Y h N K η sa lg ka be dn σ st g fd G) (hS : SSt Y N σ I (η.2 0)) (hm : SIM N σ σm) (h0 : SI N (fu + 1) σm st f g) (hp : p_ < N) (hb : bt (σ.1 16 0) p_ = false) (hg : g + 50 < 100000000 + st) : GM Y l yX21_start (ws_ yX21_start cX21_start 3 none) (fS + 14) (lS + 700) [.ref sa, .int (nI p_)] G n u (98 * cnb σ N) (300 * cnb σ N) (pV (SOK Y h N K η sa lg ka be dn (cstF N (fu + 1) σ p_) σ n u 0 0 G)) (SNO Y h N K η sa lg ka be dn (cstF N (fu + 1) σ p_) f n u G) := by
  refine GM.intro (own := RX21) rfl (by decide +kernel) (Nat.le_of_ble_eq_true rfl) ?_
  intro p e s m args below meth c R Q hC hr hnm hF hL hE
  have hE1 := hE.1
  have hE2 := hE.2.1
  have hnz : yz Y ≤ n := by have := hC.z; have := hC.n; omega
  show V Y p l e R s m args below meth c 3 n u G n u Q 0 [(0, .ref sa), (1, .int (nI p_))] []
  refine V.lts (fun hlt => ?_)
  have hIn := sub_none hI hlt
  have hst0 := hst
  obtain ⟨⟨hzh, hzs, hzl, hzk, hze, hzd⟩, ⟨hIh_h, hIs, hIl, hIk, hIe, hId⟩, ⟨hsh, hlh, hkh, heh, hdh⟩, nbk, nbd, nkd⟩ := hst
  obtain ⟨p1, ⟨p4, p17, p20⟩, ps, pl, pk, pb, pd, pa⟩ := hP
  have hN2 := h0.hN2
  have hf12 := h0.hf
  have hN : σ.1 0 0 = nI N := (hm.1.1 0 0 (by decide)).trans h0.hN
  have h14 : σ.1 14 0 = nI f := (hm.1.1 14 0 (by decide)).trans h0.h14
  obtain ⟨hpl, hb_, hk9_, hi9_, h19⟩ := hS
  have hS : SSt Y N σ I (η.2 0) := ⟨hpl, hb_, hk9_, hi9_, h19⟩
  have hl_sa : sa < n := hlt _ _ ps
  have hl_h : h + 6 < n := hlt _ _ (p1 _ _ (hM_j 6))
  have hl_lg : lg < n := hlt _ _ pl
  have hl_ka : ka < n := hlt _ _ pk
  have hl_be : be < n := hlt _ _ pb
  have hl_dn : dn < n := hlt _ _ pd
  have DSI : ∀ a, DS h sa lg ka be dn a → I a = none := by rintro a (q | rfl | rfl | rfl | rfl | rfl)
                                                           · exact hIh_h a q
                                                           all_goals assumption
  have hbm : bt (σm.1 16 0) p_ = false := by
    cases e : bt (σm.1 16 0) p_ with
    | false => rfl
    | true => rw [hm.2.1 p_ hp e] at hb; cases hb
  have hcp := cnb_p hp hb
  have hcs := cnb_s hN2 hp hb
  have hff : f + fu < 12 := by omega
  refine g_aload_n hC dX21_start_0 rfl 0 rfl ?_
  refine g_get (v := .ref h) hC kc_X21 ps 0 (by decide) q1870 rfl dX21_start_1 ?_
  refine g_get (v := .ref (h + 2)) hC kc_X2 (p1 _ _ (hM_0 hN p4)) 5 (by decide) q266 rfl dX21_start_4 ?_
  refine g_iload_n hC dX21_start_7 rfl 1 rfl ?_
  refine g_iald hC (p1 _ _ (hM_j 2)) (vin (by omega) (by omega)) dX21_start_8 ?_
  rw [show (nI p_).toNatClampNeg = p_ from nI_clamp (by omega)]
  rw [hA_in (by omega)]
  refine g_if_eq hC dX21_start_9 (tgt := 24) (by decide) (fun c_9 => ?_) (fun c_9 => ?_)
  · have hid := c_9
    have hidm : tl σm 0 p_ = 0 := (hm.1.tl_ 0 p_).symm.trans hid
    have hcA : cstF N (fu + 1) σ p_ = goF N (cstF N fu) σ p_ := if_neg (Classical.not_not.mpr hid)
    refine g_aload_n hC dX21_start_24 rfl 0 rfl ?_
    refine g_get (v := .ref be) hC kc_X21 ps 2 (by decide) q1872 rfl dX21_start_25 ?_
    refine g_iload_n hC dX21_start_28 rfl 1 rfl ?_
    refine g_iconst (v := 1) hC dX21_start_29 rfl ?_
    obtain ⟨G_1, eG_1⟩ : ∃ G_, gU G be (.inl (yA Y 5, 12, .inl (upd (beF σ) p_ 1))) = G_ := ⟨_, rfl⟩
    have o_2 : G_1 sa = some (.inr (20, [.ref h, .ref lg, .ref be, .ref dn, .int (nI st)])) := by rw [← eG_1]; exact (gU_n _ (gne_oa ps pb)).trans ps
    have o_3 : G_1 lg = some (.inr (1, [.ref ka, .int (nI g)])) := by rw [← eG_1]; exact (gU_n _ (gne_oa pl pb)).trans pl
    have a_4 : G_1 ka = some (.inl (yA Y 0, 40, .inl (σ.1 21))) := by rw [← eG_1]; exact (gU_n _ (Ne.symm nbk)).trans pk
    have a_5 : G_1 dn = some (.inl (yA Y 0, 12, .inl fd)) := by rw [← eG_1]; exact (gU_n _ (Ne.symm nbd)).trans pd
    have hs_6 : sub (hM Y h N σ η) G_1 := by rw [← eG_1]; exact sub_away p1 (hM_none heh)
    have hi_7 : sub I G_1 := by rw [← eG_1]; exact sub_away hI hIe
    have hf_8 : FR (DS h sa lg ka be dn) n G G_1 := by rw [← eG_1]; exact FR.put FR.refl (.inl (.inr (.inr (.inr (.inr (.inl rfl))))))
    refine g_zast hC pb (vin (by omega) (by omega)) (by omega) (f' := (upd (beF σ) p_ 1)) (by rw [nI_clamp (by omega)]; rfl) (G' := G_1) eG_1 dX21_start_30 ?_
    have a_9 : G_1 be = some (.inl (yA Y 5, 12, .inl (upd (beF σ) p_ 1))) := by rw [← eG_1]; exact gU_s _ _ _
    rw [beF_s (by omega)] at a_9
    refine g_iconst (v := 0) hC dX21_start_31 rfl ?_
    have e21b : (bsy σ p_).1 21 = σ.1 21 := funext fun i => mu_nk (by decide)
    refine g_istore_n (L' := [(2, .int 0), (0, .ref sa), (1, .int (nI p_))]) hC dX21_start_32 rfl (by decide) rfl ?_
    have hl_33 : ∀ (kf_ : Nat) (Gq : AH) (nq : Nat) (uq : Nat) (k : Nat) (z : MS) (zm : MS) (stq : Nat) (gq : Nat) (fdq : Nat → Int32), (STG Y h N K η sa lg ka be dn z stq gq fdq Gq) → (sub I Gq) → (FR (DS h sa lg ka be dn) n G Gq) → (SSt Y N z I (η.2 0)) → (SIM N z zm) → (SI N fu zm stq f gq) → (k ≤ 8) → (ndF N (cstF N fu) p_ 8 0 (bsy σ p_) = ndF N (cstF N fu) p_ (8 - k) k z) → (tl zm 0 p_ = 0 ∧ bt (zm.1 16 0) p_ = true) → (n ≤ nq ∧ nq + 98 * cnb z N ≤ n + 98 * cnb (bsy σ p_) N + 12 * k) → (u ≤ uq ∧ uq + 300 * cnb z N ≤ u + 300 * cnb (bsy σ p_) N + 34 * k) → (gq + 50 < 100000000 + stq) → 8 - k < kf_ → V Y p l e R s m args below meth c 3 n u Gq nq uq Q 33 [(0, .ref sa), (1, .int (nI p_)), (2, .int (nI k))] [] := by
      intro kf_
      induction kf_ with
      | zero => intro Gq nq uq k z zm stq gq fdq jP jI jf jS jm j0 jk8 je jp jn ju jg hk_; exact absurd hk_ (Nat.not_lt_zero _)
      | succ kf_ ih_ =>
        intro Gq nq uq k z zm stq gq fdq jP jI jf jS jm j0 jk8 je jp jn ju jg hk_
        refine V.lts (fun ltq => ?_)
        obtain ⟨j1, ⟨j4, j17, j20⟩, js, jl, jk, jb, jd, ja⟩ := jP
        have jN : z.1 0 0 = nI N := (jm.1.1 0 0 (by decide)).trans j0.hN
        obtain ⟨ap, nmp, kdp, hrp, hkp, htp, hip, -⟩ := jS.1 p_ hp
        obtain ⟨jn1, jn2⟩ := jn
        obtain ⟨ju1, ju2⟩ := ju
        have jpz : tl z 0 p_ = 0 := (jm.1.tl_ 0 p_).trans jp.1
        have jh0 := jm.1.1 19 0 (by decide)
        have hidz := idl_p hp jp.1
        have hst9 := j0.hst
        refine g_iload_n hC dX21_start_33 rfl 2 rfl ?_
        refine g_bipush (v := 8) hC dX21_start_34 (by decide) ?_
        refine g_icmp_geN hC k 8 (by omega) (by omega) dX21_start_36 (tgt := 83) (by decide) (fun c_36 => ?_) (fun c_36 => ?_)
        · have je8 : ndF N (cstF N fu) p_ 8 0 (bsy σ p_) = (true, z) := by rw [je, show k = 8 by omega]; rfl
          have hgo : cstF N (fu + 1) σ p_ = rtS z p_ := by rw [hcA]; unfold goF; rw [je8]; exact if_pos rfl
          refine g_aload_n hC dX21_start_83 rfl 0 rfl ?_
          refine g_get (v := .ref h) hC kc_X21 js 0 (by decide) q1870 rfl dX21_start_84 ?_
          refine g_get (v := .ref (h + 3)) hC kc_X2 (j1 _ _ (hM_0 jN j4)) 6 (by decide) q269 rfl dX21_start_87 ?_
          refine g_iload_n hC dX21_start_90 rfl 1 rfl ?_
          refine g_iald hC (j1 _ _ (hM_j 3)) (vin (by omega) (by omega)) dX21_start_91 ?_
          rw [show (nI p_).toNatClampNeg = p_ from nI_clamp (by omega)]
          rw [hA_in (by omega)]
          refine g_if_le hC dX21_start_92 (tgt := 142) (by decide) (fun c_92 => ?_) (fun c_92 => ?_)
          · refine g_aload_n hC dX21_start_142 rfl 0 rfl ?_
            refine g_get (v := .ref h) hC kc_X21 js 0 (by decide) q1870 rfl dX21_start_143 ?_
            refine g_get (v := .ref (h + 2)) hC kc_X2 (j1 _ _ (hM_0 jN j4)) 5 (by decide) q266 rfl dX21_start_146 ?_
            refine g_iload_n hC dX21_start_149 rfl 1 rfl ?_
            refine g_iconst (v := 1) hC dX21_start_150 rfl ?_
            obtain ⟨G_10, eG_10⟩ : ∃ G_, gU Gq (h + 2) (.inl (yA Y 0, 12, .inl (upd (hA N 0 z η.1) p_ 1))) = G_ := ⟨_, rfl⟩
            have o_11 : G_10 sa = some (.inr (20, [.ref h, .ref lg, .ref be, .ref dn, .int (nI stq)])) := by rw [← eG_10]; exact (gU_n _ (fun q => hsh (by rw [q]; exact ⟨by omega, by omega⟩))).trans js
            have o_12 : G_10 lg = some (.inr (1, [.ref ka, .int (nI gq)])) := by rw [← eG_10]; exact (gU_n _ (fun q => hlh (by rw [q]; exact ⟨by omega, by omega⟩))).trans jl
            have a_13 : G_10 ka = some (.inl (yA Y 0, 40, .inl (z.1 21))) := by rw [← eG_10]; exact (gU_n _ (fun q => hkh (by rw [q]; exact ⟨by omega, by omega⟩))).trans jk
            have a_14 : G_10 be = some (.inl (yA Y 5, 12, .inl (beF z))) := by rw [← eG_10]; exact (gU_n _ (fun q => heh (by rw [q]; exact ⟨by omega, by omega⟩))).trans jb
            have a_15 : G_10 dn = some (.inl (yA Y 0, 12, .inl fdq)) := by rw [← eG_10]; exact (gU_n _ (fun q => hdh (by rw [q]; exact ⟨by omega, by omega⟩))).trans jd
            have hs_16 : sub (hM Y h N (mu z 1 p_ 1) η) G_10 := by rw [← eG_10]; exact hM_w0 j1 (by omega) (by omega) (by omega)
            have hi_17 : sub I G_10 := by rw [← eG_10]; exact sub_away jI (hIh_h _ ⟨by omega, by omega⟩)
            have hf_18 : FR (DS h sa lg ka be dn) n G G_10 := by rw [← eG_10]; exact FR.put jf (.inl (.inl ⟨by omega, by omega⟩))
            refine g_iast hC (j1 _ _ (hM_j 2)) (vin (by omega) (by omega)) (by omega) (f' := upd (hA N 0 z η.1) p_ 1) (by rw [nI_clamp (by omega)]) (G' := G_10) eG_10 dX21_start_151 ?_
            refine g_aload_n hC dX21_start_152 rfl 0 rfl ?_
            refine g_get (v := .ref h) hC kc_X21 o_11 0 (by decide) q1870 rfl dX21_start_153 ?_
            refine g_get (v := .ref (h + 5)) hC kc_X2 (hs_16 _ _ (hM_0 ((mu_nk (by decide)).trans jN) ((mu_nk (by decide)).trans j4))) 8 (by decide) q278 rfl dX21_start_156 ?_
            refine g_iload_n hC dX21_start_159 rfl 1 rfl ?_
            refine g_aload_n hC dX21_start_160 rfl 0 rfl ?_
            refine g_get (v := .ref h) hC kc_X21 o_11 0 (by decide) q1870 rfl dX21_start_161 ?_
            refine g_dup hC dX21_start_164 rfl ?_
            refine g_get (v := .int (z.1 2 0)) hC kc_X2 (hs_16 _ _ (hM_0 ((mu_nk (by decide)).trans jN) ((mu_nk (by decide)).trans j4))) 2 (by decide) q258 rfl dX21_start_165 ?_
            refine g_dup_x1 hC dX21_start_168 rfl rfl ?_
            refine g_iconst (v := 1) hC dX21_start_169 rfl ?_
            refine g_iadd hC dX21_start_170 ?_
            obtain ⟨G_19, eG_19⟩ : ∃ G_, gU G_10 h (.inr (2, [.int (nI N), .int (nI K), .int ((z.1 2 0) + 1), .int (z.1 3 0), .ref (h + 1), .ref (h + 2), .ref (h + 3), .ref (h + 4), .ref (h + 5), .ref (h + 6), .ref (h + 7)])) = G_ := ⟨_, rfl⟩
            have o_20 : G_19 sa = some (.inr (20, [.ref h, .ref lg, .ref be, .ref dn, .int (nI stq)])) := by rw [← eG_19]; exact (gU_n _ (fun q => hsh (by rw [q]; exact ⟨by omega, by omega⟩))).trans o_11
            have o_21 : G_19 lg = some (.inr (1, [.ref ka, .int (nI gq)])) := by rw [← eG_19]; exact (gU_n _ (fun q => hlh (by rw [q]; exact ⟨by omega, by omega⟩))).trans o_12
            have a_22 : G_19 ka = some (.inl (yA Y 0, 40, .inl (z.1 21))) := by rw [← eG_19]; exact (gU_n _ (fun q => hkh (by rw [q]; exact ⟨by omega, by omega⟩))).trans a_13
            have a_23 : G_19 be = some (.inl (yA Y 5, 12, .inl (beF z))) := by rw [← eG_19]; exact (gU_n _ (fun q => heh (by rw [q]; exact ⟨by omega, by omega⟩))).trans a_14
            have a_24 : G_19 dn = some (.inl (yA Y 0, 12, .inl fdq)) := by rw [← eG_19]; exact (gU_n _ (fun q => hdh (by rw [q]; exact ⟨by omega, by omega⟩))).trans a_15
            have hs_25 : sub (hM Y h N (mu (mu z 1 p_ 1) 2 0 ((z.1 2 0) + 1)) η) G_19 := by rw [← eG_19]; exact hM_f2 hs_16 (by rw [((mu_nk (by decide)).trans jN), ((mu_nk (by decide)).trans j4)] <;> rfl)
            have hi_26 : sub I G_19 := by rw [← eG_19]; exact sub_away hi_17 (hIh_h _ ⟨by omega, by omega⟩)
            have hf_27 : FR (DS h sa lg ka be dn) n G G_19 := by rw [← eG_19]; exact FR.put hf_18 (.inl (.inl ⟨by omega, by omega⟩))
            refine g_put hC kc_X2 (hs_16 _ _ (hM_0 ((mu_nk (by decide)).trans jN) ((mu_nk (by decide)).trans j4))) 2 (by decide) q258 rfl rfl rfl (by show 2 < 11; decide) rfl (by omega) (G' := G_19) eG_19 dX21_start_171 ?_
            obtain ⟨G_28, eG_28⟩ : ∃ G_, gU G_19 (h + 5) (.inl (yA Y 0, 12, .inl (upd (hA N 7 (mu (mu z 1 p_ 1) 2 0 ((z.1 2 0) + 1)) η.1) p_ (z.1 2 0)))) = G_ := ⟨_, rfl⟩
            have o_29 : G_28 sa = some (.inr (20, [.ref h, .ref lg, .ref be, .ref dn, .int (nI stq)])) := by rw [← eG_28]; exact (gU_n _ (fun q => hsh (by rw [q]; exact ⟨by omega, by omega⟩))).trans o_20
            have o_30 : G_28 lg = some (.inr (1, [.ref ka, .int (nI gq)])) := by rw [← eG_28]; exact (gU_n _ (fun q => hlh (by rw [q]; exact ⟨by omega, by omega⟩))).trans o_21
            have a_31 : G_28 ka = some (.inl (yA Y 0, 40, .inl (z.1 21))) := by rw [← eG_28]; exact (gU_n _ (fun q => hkh (by rw [q]; exact ⟨by omega, by omega⟩))).trans a_22
            have a_32 : G_28 be = some (.inl (yA Y 5, 12, .inl (beF z))) := by rw [← eG_28]; exact (gU_n _ (fun q => heh (by rw [q]; exact ⟨by omega, by omega⟩))).trans a_23
            have a_33 : G_28 dn = some (.inl (yA Y 0, 12, .inl fdq)) := by rw [← eG_28]; exact (gU_n _ (fun q => hdh (by rw [q]; exact ⟨by omega, by omega⟩))).trans a_24
            have hs_34 : sub (hM Y h N (mu (mu (mu z 1 p_ 1) 2 0 ((z.1 2 0) + 1)) 1 (84 + p_) (z.1 2 0)) η) G_28 := by rw [← eG_28]; exact hM_w7 hs_25 (by omega) (by omega) (by omega)
            have hi_35 : sub I G_28 := by rw [← eG_28]; exact sub_away hi_26 (hIh_h _ ⟨by omega, by omega⟩)
            have hf_36 : FR (DS h sa lg ka be dn) n G G_28 := by rw [← eG_28]; exact FR.put hf_27 (.inl (.inl ⟨by omega, by omega⟩))
            refine g_iast hC (hs_25 _ _ (hM_j 5)) (vin (by omega) (by omega)) (by omega) (f' := upd (hA N 7 (mu (mu z 1 p_ 1) 2 0 ((z.1 2 0) + 1)) η.1) p_ (z.1 2 0)) (by rw [nI_clamp (by omega)]) (G' := G_28) eG_28 dX21_start_174 ?_
            refine g_aload_n hC dX21_start_175 rfl 0 rfl ?_
            refine g_get (v := .ref lg) hC kc_X21 o_29 1 (by decide) q1871 rfl dX21_start_176 ?_
            refine g_bipush (v := 100) hC dX21_start_179 (by decide) ?_
            refine g_iload_n hC dX21_start_181 rfl 1 rfl ?_
            refine g_iaddN hC 100 p_ dX21_start_182 ?_
            refine V.lts (fun lc_37 => ?_)
            refine g_callv0 hC (g_runV hC (met_X1_add (G := G_28) lg (nI (100 + p_)) o_30 a_31 (by omega) (by omega) (by omega)) kc_X1 o_30 (lw_V q2436 q2437 q2438 q82 q2439) rfl md_X1_add dX21_start_183 rfl ⟨by omega, by omega⟩ (by omega) (by omega) rfl (Nat.le_of_ble_eq_true rfl)) (fun G_38 n_38 u_38 hp_38 hn_38 hm_38 hu_38 => ?_)
            obtain ⟨hoa_38, hob_38, hf_38, rfl, rfl⟩ := hp_38
            have o_39 : G_38 sa = some (.inr (20, [.ref h, .ref lg, .ref be, .ref dn, .int (nI stq)])) := (hf_38 _ (lc_37 _ _ o_29) (fun q => q.elim (fun q => (fun q => absurd q (gne_c o_29 o_30 (by decide))) q) (fun q => (fun q => absurd q (gne_oa o_29 a_31)) q))).trans o_29
            have a_40 : G_38 be = some (.inl (yA Y 5, 12, .inl (beF z))) := (hf_38 _ (lc_37 _ _ a_32) (fun q => q.elim (fun q => (fun q => absurd q (gne_ao a_32 o_30)) q) (fun q => (fun q => absurd q nbk) q))).trans a_32
            have a_41 : G_38 dn = some (.inl (yA Y 0, 12, .inl fdq)) := (hf_38 _ (lc_37 _ _ a_33) (fun q => q.elim (fun q => (fun q => absurd q (gne_ao a_33 o_30)) q) (fun q => (fun q => absurd q (Ne.symm nkd)) q))).trans a_33
            have hs_42 : sub (hM Y h N (mu (mu (mu z 1 p_ 1) 2 0 ((z.1 2 0) + 1)) 1 (84 + p_) (z.1 2 0)) η) G_38 := hf_38.subs hs_34 lc_37 (fun a q => (show _ from (fun q => q.elim (fun q => (fun q : a = _ => by subst q; exact (hM_none hlh)) q) (fun q => (fun q : a = _ => by subst q; exact (hM_none hkh)) q)) q))
            have hi_43 : sub I G_38 := hf_38.subs hi_35 lc_37 (fun a q => (show _ from (fun q => q.elim (fun q => (fun q : a = _ => by subst q; exact hIl) q) (fun q => (fun q : a = _ => by subst q; exact hIk) q)) q))
            have hf_44 : FR (DS h sa lg ka be dn) n G G_38 := hf_36.trans hf_38 (by omega) (fun a_ q_ => .inl (q_.elim (fun e => .inr (.inl e)) (fun e => .inr (.inr (.inl e)))))
            refine g_aload_n hC dX21_start_186 rfl 0 rfl ?_
            refine g_get (v := .ref dn) hC kc_X21 o_39 3 (by decide) q1873 rfl dX21_start_187 ?_
            refine g_aload_n hC dX21_start_190 rfl 0 rfl ?_
            refine g_dup hC dX21_start_191 rfl ?_
            refine g_get (v := .int (nI stq)) hC kc_X21 o_39 4 (by decide) q1875 rfl dX21_start_192 ?_
            refine g_dup_x1 hC dX21_start_195 rfl rfl ?_
            refine g_iconst (v := 1) hC dX21_start_196 rfl ?_
            refine g_iaddN hC stq 1 dX21_start_197 ?_
            obtain ⟨G_45, eG_45⟩ : ∃ G_, gU G_38 sa (.inr (20, [.ref h, .ref lg, .ref be, .ref dn, .int (nI (stq + 1))])) = G_ := ⟨_, rfl⟩
            have o_46 : G_45 lg = some (.inr (1, [.ref ka, .int (nI (gq + 1))])) := by rw [← eG_45]; exact (gU_n _ (gne_c hoa_38 o_39 (by decide))).trans hoa_38
            have a_47 : G_45 be = some (.inl (yA Y 5, 12, .inl (beF z))) := by rw [← eG_45]; exact (gU_n _ (gne_ao a_40 o_39)).trans a_40
            have a_48 : G_45 dn = some (.inl (yA Y 0, 12, .inl fdq)) := by rw [← eG_45]; exact (gU_n _ (gne_ao a_41 o_39)).trans a_41
            have a_49 : G_45 ka = some (.inl (yA Y 0, 40, .inl (upd (z.1 21) (gq % 40) (nI (100 + p_))))) := by rw [← eG_45]; exact (gU_n _ (gne_ao hob_38 o_39)).trans hob_38
            have hs_50 : sub (hM Y h N (mu (mu (mu z 1 p_ 1) 2 0 ((z.1 2 0) + 1)) 1 (84 + p_) (z.1 2 0)) η) G_45 := by rw [← eG_45]; exact sub_away hs_42 (hM_none hsh)
            have hi_51 : sub I G_45 := by rw [← eG_45]; exact sub_away hi_43 hIs
            have hf_52 : FR (DS h sa lg ka be dn) n G G_45 := by rw [← eG_45]; exact FR.put hf_44 (.inl (.inr (.inr (.inr (.inl rfl)))))
            refine g_put hC kc_X21 o_39 4 (by decide) q1875 rfl rfl rfl (by show 4 < 5; decide) rfl (by omega) (G' := G_45) eG_45 dX21_start_198 ?_
            have o_53 : G_45 sa = some (.inr (20, [.ref h, .ref lg, .ref be, .ref dn, .int (nI (stq + 1))])) := by rw [← eG_45]; exact gU_s _ _ _
            refine g_iload_n hC dX21_start_201 rfl 1 rfl ?_
            obtain ⟨G_54, eG_54⟩ : ∃ G_, gU G_45 dn (.inl (yA Y 0, 12, .inl (upd fdq stq (nI p_)))) = G_ := ⟨_, rfl⟩
            have o_55 : G_54 sa = some (.inr (20, [.ref h, .ref lg, .ref be, .ref dn, .int (nI (stq + 1))])) := by rw [← eG_54]; exact (gU_n _ (gne_oa o_53 a_48)).trans o_53
            have o_56 : G_54 lg = some (.inr (1, [.ref ka, .int (nI (gq + 1))])) := by rw [← eG_54]; exact (gU_n _ (gne_oa o_46 a_48)).trans o_46
            have a_57 : G_54 be = some (.inl (yA Y 5, 12, .inl (beF z))) := by rw [← eG_54]; exact (gU_n _ nbd).trans a_47
            have a_58 : G_54 ka = some (.inl (yA Y 0, 40, .inl (upd (z.1 21) (gq % 40) (nI (100 + p_))))) := by rw [← eG_54]; exact (gU_n _ nkd).trans a_49
            have hs_59 : sub (hM Y h N (mu (mu (mu z 1 p_ 1) 2 0 ((z.1 2 0) + 1)) 1 (84 + p_) (z.1 2 0)) η) G_54 := by rw [← eG_54]; exact sub_away hs_50 (hM_none hdh)
            have hi_60 : sub I G_54 := by rw [← eG_54]; exact sub_away hi_51 hId
            have hf_61 : FR (DS h sa lg ka be dn) n G G_54 := by rw [← eG_54]; exact FR.put hf_52 (.inl (.inr (.inr (.inr (.inr (.inr rfl))))))
            refine g_iast hC a_48 (vin (by omega) (by omega)) (by omega) (f' := (upd fdq stq (nI p_))) (by rw [nI_clamp (by omega)]) (G' := G_54) eG_54 dX21_start_202 ?_
            have a_62 : G_54 dn = some (.inl (yA Y 0, 12, .inl (upd fdq stq (nI p_)))) := by rw [← eG_54]; exact gU_s _ _ _
            refine g_vret hC hr ⟨rfl, ?_⟩ (by omega) (by omega) hE dX21_start_203
            rw [hgo, rtS_t c_92 j17 (by omega)]
            obtain ⟨z2, hz2⟩ : ∃ z2, (mu (mu (mu (mu (mu z 1 p_ 1) 1 (84 + p_) (z.1 2 0)) 2 0 (z.1 2 0 + 1)) 18 stq (nI p_)) 17 0 (nI (stq + 1))) = z2 := ⟨_, rfl⟩
            rw [hz2]
            have e9 : ∀ k i, ¬ k = 1 → ¬ k = 2 → ¬ k = 18 → ¬ k = 17 → z2.1 k i = z.1 k i := fun k i a b c d => by rw [← hz2]; exact (mu_nk d).trans ((mu_nk c).trans ((mu_nk b).trans ((mu_nk a).trans (mu_nk a))))
            have e21 : z.1 21 = z2.1 21 := by funext i; exact (e9 21 i (by decide) (by decide) (by decide) (by decide)).symm
            have ehm : hM Y h N z2 η = hM Y h N ((mu (mu (mu z 1 p_ 1) 2 0 ((z.1 2 0) + 1)) 1 (84 + p_) (z.1 2 0))) η := hM_cg (fun k i hk => by
              rw [← hz2, mu_nk (by omega), mu_nk (by omega)]
              rw [mu_com (k := 2) (k' := 1) (by decide)])
            have hsl : STG Y h N K η sa lg ka be dn (lgG z2 (nI (100 + p_))) (stq + 1) (gq + 1) (upd fdq stq (nI p_)) G_54 := STG.lg ((e9 19 0 (by decide) (by decide) (by decide) (by decide)).trans jS.2.2.2.2) ((e9 20 0 (by decide) (by decide) (by decide) (by decide)).trans j20) (by omega) (by rw [ehm]; exact hs_59) ((e9 4 0 (by decide) (by decide) (by decide) (by decide)).trans j4) (by rw [← hz2]; exact mu_hit) o_55 o_56 a_58 e21 (by rw [beF_e (e9 16 0 (by decide) (by decide) (by decide) (by decide))]; exact a_57) a_62 ⟨fun i hi => by
              rw [← hz2, mu_nk (by decide)]
              unfold upd
              by_cases e : i = stq
              · rw [if_pos e, e]; exact mu_hit.symm
              · rw [if_neg e, mu_ni e, mu_nk (by decide), mu_nk (by decide), mu_nk (by decide)]; exact ja.1 i (by omega), by omega⟩
            have ecn : cnb (lgG z2 (nI (100 + p_))) N = cnb z N := cnb_e ((lgG_ne (by decide) (by decide)).trans (e9 16 0 (by decide) (by decide) (by decide) (by decide)))
            refine ⟨rfl, ⟨_, _, _, hsl⟩, hf_61, by omega, by omega, ?_, ?_⟩
            · show _ + 98 * cnb (lgG z2 (nI (100 + p_))) N ≤ _; rw [ecn]; omega
            · show _ + 300 * cnb (lgG z2 (nI (100 + p_))) N ≤ _; rw [ecn]; omega
          · refine g_aload_n hC dX21_start_95 rfl 0 rfl ?_
            refine g_get (v := .ref h) hC kc_X21 js 0 (by decide) q1870 rfl dX21_start_96 ?_
            refine g_get (v := .ref (h + 3)) hC kc_X2 (j1 _ _ (hM_0 jN j4)) 6 (by decide) q269 rfl dX21_start_99 ?_
            refine g_iload_n hC dX21_start_102 rfl 1 rfl ?_
            refine g_dup2_11 hC dX21_start_103 rfl rfl ?_
            refine g_iald hC (j1 _ _ (hM_j 3)) (vin (by omega) (by omega)) dX21_start_104 ?_
            rw [show (nI p_).toNatClampNeg = p_ from nI_clamp (by omega)]
            rw [hA_in (by omega)]
            refine g_iconst (v := 1) hC dX21_start_105 rfl ?_
            refine g_isub hC dX21_start_106 ?_
            obtain ⟨G_63, eG_63⟩ : ∃ G_, gU Gq (h + 3) (.inl (yA Y 0, 12, .inl (upd (hA N 5 z η.1) p_ ((tl z 5 p_) - 1)))) = G_ := ⟨_, rfl⟩
            have o_64 : G_63 sa = some (.inr (20, [.ref h, .ref lg, .ref be, .ref dn, .int (nI stq)])) := by rw [← eG_63]; exact (gU_n _ (fun q => hsh (by rw [q]; exact ⟨by omega, by omega⟩))).trans js
            have o_65 : G_63 lg = some (.inr (1, [.ref ka, .int (nI gq)])) := by rw [← eG_63]; exact (gU_n _ (fun q => hlh (by rw [q]; exact ⟨by omega, by omega⟩))).trans jl
            have a_66 : G_63 ka = some (.inl (yA Y 0, 40, .inl (z.1 21))) := by rw [← eG_63]; exact (gU_n _ (fun q => hkh (by rw [q]; exact ⟨by omega, by omega⟩))).trans jk
            have a_67 : G_63 be = some (.inl (yA Y 5, 12, .inl (beF z))) := by rw [← eG_63]; exact (gU_n _ (fun q => heh (by rw [q]; exact ⟨by omega, by omega⟩))).trans jb
            have a_68 : G_63 dn = some (.inl (yA Y 0, 12, .inl fdq)) := by rw [← eG_63]; exact (gU_n _ (fun q => hdh (by rw [q]; exact ⟨by omega, by omega⟩))).trans jd
            have hs_69 : sub (hM Y h N (mu z 1 (60 + p_) ((tl z 5 p_) - 1)) η) G_63 := by rw [← eG_63]; exact hM_w5 j1 (by omega) (by omega) (by omega)
            have hi_70 : sub I G_63 := by rw [← eG_63]; exact sub_away jI (hIh_h _ ⟨by omega, by omega⟩)
            have hf_71 : FR (DS h sa lg ka be dn) n G G_63 := by rw [← eG_63]; exact FR.put jf (.inl (.inl ⟨by omega, by omega⟩))
            refine g_iast hC (j1 _ _ (hM_j 3)) (vin (by omega) (by omega)) (by omega) (f' := upd (hA N 5 z η.1) p_ ((tl z 5 p_) - 1)) (by rw [nI_clamp (by omega)]) (G' := G_63) eG_63 dX21_start_107 ?_
            refine g_aload_n hC dX21_start_108 rfl 0 rfl ?_
            refine g_get (v := .ref h) hC kc_X21 o_64 0 (by decide) q1870 rfl dX21_start_109 ?_
            refine g_get (v := .ref (h + 2)) hC kc_X2 (hs_69 _ _ (hM_0 ((mu_nk (by decide)).trans jN) ((mu_nk (by decide)).trans j4))) 5 (by decide) q266 rfl dX21_start_112 ?_
            refine g_iload_n hC dX21_start_115 rfl 1 rfl ?_
            refine g_iconst (v := 2) hC dX21_start_116 rfl ?_
            obtain ⟨G_72, eG_72⟩ : ∃ G_, gU G_63 (h + 2) (.inl (yA Y 0, 12, .inl (upd (hA N 0 (mu z 1 (60 + p_) ((tl z 5 p_) - 1)) η.1) p_ 2))) = G_ := ⟨_, rfl⟩
            have o_73 : G_72 sa = some (.inr (20, [.ref h, .ref lg, .ref be, .ref dn, .int (nI stq)])) := by rw [← eG_72]; exact (gU_n _ (fun q => hsh (by rw [q]; exact ⟨by omega, by omega⟩))).trans o_64
            have o_74 : G_72 lg = some (.inr (1, [.ref ka, .int (nI gq)])) := by rw [← eG_72]; exact (gU_n _ (fun q => hlh (by rw [q]; exact ⟨by omega, by omega⟩))).trans o_65
            have a_75 : G_72 ka = some (.inl (yA Y 0, 40, .inl (z.1 21))) := by rw [← eG_72]; exact (gU_n _ (fun q => hkh (by rw [q]; exact ⟨by omega, by omega⟩))).trans a_66
            have a_76 : G_72 be = some (.inl (yA Y 5, 12, .inl (beF z))) := by rw [← eG_72]; exact (gU_n _ (fun q => heh (by rw [q]; exact ⟨by omega, by omega⟩))).trans a_67
            have a_77 : G_72 dn = some (.inl (yA Y 0, 12, .inl fdq)) := by rw [← eG_72]; exact (gU_n _ (fun q => hdh (by rw [q]; exact ⟨by omega, by omega⟩))).trans a_68
            have hs_78 : sub (hM Y h N (mu (mu z 1 (60 + p_) ((tl z 5 p_) - 1)) 1 p_ 2) η) G_72 := by rw [← eG_72]; exact hM_w0 hs_69 (by omega) (by omega) (by omega)
            have hi_79 : sub I G_72 := by rw [← eG_72]; exact sub_away hi_70 (hIh_h _ ⟨by omega, by omega⟩)
            have hf_80 : FR (DS h sa lg ka be dn) n G G_72 := by rw [← eG_72]; exact FR.put hf_71 (.inl (.inl ⟨by omega, by omega⟩))
            refine g_iast hC (hs_69 _ _ (hM_j 2)) (vin (by omega) (by omega)) (by omega) (f' := upd (hA N 0 (mu z 1 (60 + p_) ((tl z 5 p_) - 1)) η.1) p_ 2) (by rw [nI_clamp (by omega)]) (G' := G_72) eG_72 dX21_start_117 ?_
            refine g_aload_n hC dX21_start_118 rfl 0 rfl ?_
            refine g_get (v := .ref lg) hC kc_X21 o_73 1 (by decide) q1871 rfl dX21_start_119 ?_
            refine g_sipush (v := 300) hC dX21_start_122 (by decide) ?_
            refine g_iload_n hC dX21_start_125 rfl 1 rfl ?_
            refine g_iaddN hC 300 p_ dX21_start_126 ?_
            refine V.lts (fun lc_81 => ?_)
            refine g_callv0 hC (g_runV hC (met_X1_add (G := G_72) lg (nI (300 + p_)) o_74 a_75 (by omega) (by omega) (by omega)) kc_X1 o_74 (lw_V q2436 q2437 q2438 q82 q2439) rfl md_X1_add dX21_start_127 rfl ⟨by omega, by omega⟩ (by omega) (by omega) rfl (Nat.le_of_ble_eq_true rfl)) (fun G_82 n_82 u_82 hp_82 hn_82 hm_82 hu_82 => ?_)
            obtain ⟨hoa_82, hob_82, hf_82, rfl, rfl⟩ := hp_82
            have o_83 : G_82 sa = some (.inr (20, [.ref h, .ref lg, .ref be, .ref dn, .int (nI stq)])) := (hf_82 _ (lc_81 _ _ o_73) (fun q => q.elim (fun q => (fun q => absurd q (gne_c o_73 o_74 (by decide))) q) (fun q => (fun q => absurd q (gne_oa o_73 a_75)) q))).trans o_73
            have a_84 : G_82 be = some (.inl (yA Y 5, 12, .inl (beF z))) := (hf_82 _ (lc_81 _ _ a_76) (fun q => q.elim (fun q => (fun q => absurd q (gne_ao a_76 o_74)) q) (fun q => (fun q => absurd q nbk) q))).trans a_76
            have a_85 : G_82 dn = some (.inl (yA Y 0, 12, .inl fdq)) := (hf_82 _ (lc_81 _ _ a_77) (fun q => q.elim (fun q => (fun q => absurd q (gne_ao a_77 o_74)) q) (fun q => (fun q => absurd q (Ne.symm nkd)) q))).trans a_77
            have hs_86 : sub (hM Y h N (mu (mu z 1 (60 + p_) ((tl z 5 p_) - 1)) 1 p_ 2) η) G_82 := hf_82.subs hs_78 lc_81 (fun a q => (show _ from (fun q => q.elim (fun q => (fun q : a = _ => by subst q; exact (hM_none hlh)) q) (fun q => (fun q : a = _ => by subst q; exact (hM_none hkh)) q)) q))
            have hi_87 : sub I G_82 := hf_82.subs hi_79 lc_81 (fun a q => (show _ from (fun q => q.elim (fun q => (fun q : a = _ => by subst q; exact hIl) q) (fun q => (fun q : a = _ => by subst q; exact hIk) q)) q))
            have hf_88 : FR (DS h sa lg ka be dn) n G G_82 := hf_80.trans hf_82 (by omega) (fun a_ q_ => .inl (q_.elim (fun e => .inr (.inl e)) (fun e => .inr (.inr (.inl e)))))
            obtain ⟨G_89, eG_89⟩ : ∃ G_, gU G_82 nq (.inr (21, [.null, .null, .null, .null, .null, .int 0, .int 0, .int 0, .int 0])) = G_ := ⟨_, rfl⟩
            refine V.lts (fun ltG_89 => ?_)
            have o_90 : G_89 sa = some (.inr (20, [.ref h, .ref lg, .ref be, .ref dn, .int (nI stq)])) := by rw [← eG_89]; exact (gU_n _ (Nat.ne_of_lt (ltG_89 _ _ o_83))).trans o_83
            have o_91 : G_89 lg = some (.inr (1, [.ref ka, .int (nI (gq + 1))])) := by rw [← eG_89]; exact (gU_n _ (Nat.ne_of_lt (ltG_89 _ _ hoa_82))).trans hoa_82
            have a_92 : G_89 be = some (.inl (yA Y 5, 12, .inl (beF z))) := by rw [← eG_89]; exact (gU_n _ (Nat.ne_of_lt (ltG_89 _ _ a_84))).trans a_84
            have a_93 : G_89 dn = some (.inl (yA Y 0, 12, .inl fdq)) := by rw [← eG_89]; exact (gU_n _ (Nat.ne_of_lt (ltG_89 _ _ a_85))).trans a_85
            have a_94 : G_89 ka = some (.inl (yA Y 0, 40, .inl (upd (z.1 21) (gq % 40) (nI (300 + p_))))) := by rw [← eG_89]; exact (gU_n _ (Nat.ne_of_lt (ltG_89 _ _ hob_82))).trans hob_82
            have hs_95 : sub (hM Y h N (mu (mu z 1 (60 + p_) ((tl z 5 p_) - 1)) 1 p_ 2) η) G_89 := by rw [← eG_89]; exact sub_new hs_86 ltG_89
            have hi_96 : sub I G_89 := by rw [← eG_89]; exact sub_new hi_87 ltG_89
            have hf_97 : FR (DS h sa lg ka be dn) n G G_89 := by rw [← eG_89]; exact FR.put hf_88 (.inr (by omega))
            refine g_new hC kc_X22 q1897 q1898 q130 (fs := [.null, .null, .null, .null, .null, .int 0, .int 0, .int 0, .int 0]) rfl (G' := G_89) eG_89 (by omega) (by omega) dX21_start_130 ?_
            have o_98 : G_89 nq = some (.inr (21, [.null, .null, .null, .null, .null, .int 0, .int 0, .int 0, .int 0])) := by rw [← eG_89]; exact gU_s _ _ _
            refine g_dup hC dX21_start_133 rfl ?_
            refine g_iload_n hC dX21_start_134 rfl 1 rfl ?_
            refine g_iconst (v := 5) hC dX21_start_135 rfl ?_
            refine g_iconst (v := (-1)) hC dX21_start_136 rfl ?_
            refine g_null hC dX21_start_137 ?_
            refine V.lts (fun lc_99 => ?_)
            refine g_callv0 hC (g_runI (ret := none) hC (met_X22_init (G := G_89) nq (nI p_) 5 (-1) none o_98 (by omega)) (lw_meth q1908) q130 q1906 q1907 rfl md_X22_init dX21_start_138 rfl ⟨by omega, by omega⟩ (by omega) (by omega) rfl (Nat.le_of_ble_eq_true rfl)) (fun G_100 n_100 u_100 hp_100 hn_100 hm_100 hu_100 => ?_)
            obtain ⟨ho_100, hf_100, rfl, rfl⟩ := hp_100
            have o_101 : G_100 sa = some (.inr (20, [.ref h, .ref lg, .ref be, .ref dn, .int (nI stq)])) := (hf_100 _ (lc_99 _ _ o_90) (fun q => (gne_c o_90 o_98 (by decide)) q)).trans o_90
            have o_102 : G_100 lg = some (.inr (1, [.ref ka, .int (nI (gq + 1))])) := (hf_100 _ (lc_99 _ _ o_91) (fun q => (gne_c o_91 o_98 (by decide)) q)).trans o_91
            have a_103 : G_100 be = some (.inl (yA Y 5, 12, .inl (beF z))) := (hf_100 _ (lc_99 _ _ a_92) (fun q => (gne_ao a_92 o_98) q)).trans a_92
            have a_104 : G_100 dn = some (.inl (yA Y 0, 12, .inl fdq)) := (hf_100 _ (lc_99 _ _ a_93) (fun q => (gne_ao a_93 o_98) q)).trans a_93
            have a_105 : G_100 ka = some (.inl (yA Y 0, 40, .inl (upd (z.1 21) (gq % 40) (nI (300 + p_))))) := (hf_100 _ (lc_99 _ _ a_94) (fun q => (gne_ao a_94 o_98) q)).trans a_94
            have hs_106 : sub (hM Y h N (mu (mu z 1 (60 + p_) ((tl z 5 p_) - 1)) 1 p_ 2) η) G_100 := hf_100.subs hs_95 lc_99 (fun a q => by subst q; exact hM_none (by unfold hD; omega))
            have hi_107 : sub I G_100 := hf_100.subs hi_96 lc_99 (fun a q => by subst q; exact hIn _ (by omega))
            have hf_108 : FR (DS h sa lg ka be dn) n G G_100 := hf_97.trans hf_100 (by omega) (fun a_ q_ => by first | exact .inl q_ | exact .inl (.inl q_) | exact .inl (.inr q_) | (subst q_; first | exact .inr (by omega) | exact .inl rfl))
            refine g_athrow hC kc_X22 ho_100 (by omega) dX21_start_141 ?_
            refine g_out hC (by decide) ?_ (by omega) (by omega) hE
            rw [hgo, rtS_f c_92]
            obtain ⟨z2, hz2⟩ : ∃ z2, (mu (mu z 1 (60 + p_) ((tl z 5 p_) - 1)) 1 p_ 2) = z2 := ⟨_, rfl⟩
            have e9 : ∀ k i, ¬ k = 1 → z2.1 k i = z.1 k i := fun k i q => by rw [← hz2]; exact (mu_nk q).trans (mu_nk q)
            have h149 : z2.1 14 0 = nI f := (e9 14 0 (by decide)).trans ((jm.1.1 14 0 (by decide)).trans j0.h14)
            have e21 : z.1 21 = z2.1 21 := by funext i; exact (e9 21 i (by decide)).symm
            have hsl : STG Y h N K η sa lg ka be dn (lgG z2 (nI (300 + p_))) stq (gq + 1) fdq G_100 := STG.lg ((e9 19 0 (by decide)).trans jS.2.2.2.2) ((e9 20 0 (by decide)).trans j20) (by omega) (by rw [← hz2]; exact hs_106) ((e9 4 0 (by decide)).trans j4) ((e9 17 0 (by decide)).trans j17) o_101 o_102 a_105 e21 (by rw [beF_e (e9 16 0 (by decide))]; exact a_103) a_104 ⟨fun i hi => (ja.1 i hi).trans (e9 18 i (by decide)).symm, ja.2.1⟩
            have h148 : (lgG z2 (nI (300 + p_))).1 14 0 = nI f := (lgG_ne (by decide) (by decide)).trans h149
            obtain ⟨e1, e2, e3, e4⟩ := flG_15 (z := lgG z2 (nI (300 + p_))) (a := nI p_) (b := 5) (c := -1) h148 (by omega)
            rw [show (mu (mu z 1 (60 + p_) (z.1 1 (60 + p_) - 1)) 1 p_ 2) = z2 from hz2]
            refine ⟨rfl, by omega, rfl, ⟨_, _, _, 1, hsl.cg (fun k i a b => flG_ne a b), flG_14 h148 (by omega), by omega, ?_⟩, hf_108, by omega, by omega⟩
            show _ = _
            rw [e1, e2, e3]; exact ho_100
        · refine g_aload_n hC dX21_start_39 rfl 0 rfl ?_
          refine g_get (v := .ref h) hC kc_X21 js 0 (by decide) q1870 rfl dX21_start_40 ?_
          refine g_get (v := .ref (h + 1)) hC kc_X2 (j1 _ _ (hM_0 jN j4)) 4 (by decide) q263 rfl dX21_start_43 ?_
          refine g_iload_n hC dX21_start_46 rfl 1 rfl ?_
          refine g_aald (t0 := 6) hC (j1 _ _ (hM_j 1)) rfl (vin (by omega) (by omega)) (r := some ap) (by rw [nI_clamp (by omega)]; exact hrp) dX21_start_47 ?_
          refine g_getP (v := .int (tl z 3 p_)) hC hkp (jI _ _ hip) 3 (by decide) q1427 rfl dX21_start_48 ?_
          refine g_iload_n hC dX21_start_51 rfl 2 rfl ?_
          refine V.lts (fun lc_109 => ?_)
          refine g_calli0 hC (g_runS hC (met_X0_has (G := Gq) (tl z 3 p_) k  ) (lw_S q1924 q1781 q81 q1782) md_X0_has dX21_start_52 rfl ⟨by omega, by omega⟩ (by omega) (by omega) rfl (Nat.le_of_ble_eq_true rfl)) (fun r_110 G_110 n_110 u_110 hp_110 hn_110 hm_110 hu_110 => ?_)
          obtain ⟨rfl, rfl, rfl, rfl⟩ := hp_110
          refine g_if_eqB hC (hasF (tl z 3 p_) k) dX21_start_55 (tgt := 77) (by decide) (fun c_55 => ?_) (fun c_55 => ?_)
          · refine g_iincN (L' := [(2, .int (nI (k + 1))), (0, .ref sa), (1, .int (nI p_))]) hC 1 k dX21_start_77 (k := 2) rfl (by decide) (by decide) rfl ?_
            refine g_goto (tgt := 33) hC dX21_start_80 (by decide) ?_
            refine V.sub [1, 2, 0] rfl ?_
            exact ih_ Gq nq uq (k + 1) z zm stq gq fdq (⟨j1, ⟨j4, j17, j20⟩, js, jl, jk, jb, jd, ja⟩) (jI) (jf) (jS) (jm) (j0) (by omega) (je.trans (by rw [show 8 - k = (8 - (k + 1)) + 1 by omega, ndF_s]; exact if_pos (.inl c_55))) (jp) (⟨by omega, by omega⟩) (⟨by omega, by omega⟩) (jg) (by omega)
          · refine g_aload_n hC dX21_start_58 rfl 0 rfl ?_
            refine g_get (v := .ref h) hC kc_X21 js 0 (by decide) q1870 rfl dX21_start_59 ?_
            refine g_iload_n hC dX21_start_62 rfl 1 rfl ?_
            refine g_iload_n hC dX21_start_63 rfl 2 rfl ?_
            refine V.lts (fun lc_111 => ?_)
            refine g_calli0 hC (g_runV hC (met_X2_provider (G := Gq) h p_ k (j1) (jN) (j4) (hN2) (jI) (hIh_h) (jS.1) (by omega) (by omega)) kc_X2 (j1 _ _ (hM_0 jN j4)) (lw_V q1925 q1784 q1785 q83 q1786) rfl md_X2_provider dX21_start_64 rfl ⟨by omega, by omega⟩ (by omega) (by omega) rfl (Nat.le_of_ble_eq_true rfl)) (fun r_112 G_112 n_112 u_112 hp_112 hn_112 hm_112 hu_112 => ?_)
            obtain ⟨rfl, hf_112, hnn_112, huu_112, hn12_112, hu34_112, hno_112⟩ := hp_112
            have o_113 : G_112 sa = some (.inr (20, [.ref h, .ref lg, .ref be, .ref dn, .int (nI stq)])) := (hf_112 _ (lc_111 _ _ js) (fun q => q)).trans js
            have o_114 : G_112 lg = some (.inr (1, [.ref ka, .int (nI gq)])) := (hf_112 _ (lc_111 _ _ jl) (fun q => q)).trans jl
            have a_115 : G_112 ka = some (.inl (yA Y 0, 40, .inl (z.1 21))) := (hf_112 _ (lc_111 _ _ jk) (fun q => q)).trans jk
            have a_116 : G_112 be = some (.inl (yA Y 5, 12, .inl (beF z))) := (hf_112 _ (lc_111 _ _ jb) (fun q => q)).trans jb
            have a_117 : G_112 dn = some (.inl (yA Y 0, 12, .inl fdq)) := (hf_112 _ (lc_111 _ _ jd) (fun q => q)).trans jd
            have hs_118 : sub (hM Y h N z η) G_112 := hf_112.subs j1 lc_111 (fun a q => False.elim q)
            have hi_119 : sub I G_112 := hf_112.subs jI lc_111 (fun a q => False.elim q)
            have hf_120 : FR (DS h sa lg ka be dn) n G G_112 := jf.trans hf_112 (by omega) (fun a_ q_ => by first | exact .inl q_ | exact False.elim q_ | exact .inl (.inl q_) | exact .inl (.inr q_) | (subst q_; first | exact .inr (by omega) | exact .inl rfl))
            rcases he : foldN (pvH z p_ k) none N with _ | q9
            · have hno9 := hno_112 he
              have hany0 := (pv_any (by rw [jpz]; decide)).mp he
              have hgo2 : ¬ (needF z p_ k = false ∨ anyN (runP z p_ k) N = true) := fun q => by
                rcases q with q | q
                · rw [needF_has, c_55] at q; cases q
                · rw [hany0] at q; cases q
              have hnx : (ndO N (cstF N fu) p_ k z).1 = false → cstF N (fu + 1) σ p_ = (false, (ndO N (cstF N fu) p_ k z).2) := fun e => by
                have e2 : ndF N (cstF N fu) p_ 8 0 (bsy σ p_) = (false, (ndO N (cstF N fu) p_ k z).2) := by rw [je, show 8 - k = (8 - (k + 1)) + 1 by omega, ndF_s, if_neg hgo2, if_neg (by rw [e]; exact Bool.false_ne_true)]
                rw [hcA]; unfold goF; rw [e2]; exact if_neg Bool.false_ne_true
              refine g_iconst (v := (-1)) hC dX21_start_67 rfl ?_
              refine g_icmp_ne hC dX21_start_68 (tgt := 77) (by decide) (fun c_68 => ?_) (fun c_68 => ?_)
              · exact absurd rfl c_68
              · refine g_aload_n hC dX21_start_71 rfl 0 rfl ?_
                refine g_iload_n hC dX21_start_72 rfl 1 rfl ?_
                refine g_iload_n hC dX21_start_73 rfl 2 rfl ?_
                refine V.lts (fun lc_121 => ?_)
                refine g_callv hC (g_runVW hC (met_X21_needed (G := G_112) sa p_ k hSC hst0 hi_119 ⟨hs_118, ⟨j4, j17, j20⟩, o_113, o_114, a_115, a_116, a_117, ja⟩ jS jm j0 hp (by omega) hff (by omega)) kc_X21 o_113 (lw_VW q1926 q1928 qs19 q129 q1929) rfl md_X21_needed dX21_start_74 rfl ⟨by omega, by omega⟩ (by omega) (by omega) rfl (Nat.le_of_ble_eq_true rfl)) (fun E_122 q_122 G_122 n_122 u_122 hx_122 hn_122 hm_122 hu_122 => ?_) (fun G_122 n_122 u_122 hp_122 hn_122 hm_122 hu_122 => ?_)
                · obtain ⟨rfl, hzq_122, hT_122, ⟨st_122, g_122, fd_122, m_122, hP_122, h14_122, h12_122, hch_122⟩, hfr_122, hnn_122, huu_122⟩ := hx_122
                  refine VX.lts (fun ltx_122 => ?_)
                  obtain ⟨p1_122, ⟨p4_122, p17_122, p20_122⟩, ps_122, pl_122, pk_122, pb_122, pd_122, pa_122⟩ := hP_122
                  have hi_122 : sub I G_122 := hfr_122.subs hi_119 lc_121 DSI
                  have hf_122 : FR (DS h sa lg ka be dn) n G G_122 := hf_120.trans hfr_122 (by omega) (fun a_ q_ => .inl q_)
                  refine g_out hC (by decide) ?_ (by omega) (by omega) hE
                  rw [hnx hT_122]
                  exact ⟨rfl, hzq_122, rfl, ⟨_, _, _, m_122, ⟨p1_122, ⟨p4_122, p17_122, p20_122⟩, ps_122, pl_122, pk_122, pb_122, pd_122, pa_122⟩, h14_122, h12_122, hch_122⟩, hf_122, by omega, by omega⟩
                · obtain ⟨hT_122, ⟨st_122, g_122, fd_122, hP_122⟩, hfr_122, hnn_122, huu_122, hcn_122, hcu_122⟩ := hp_122
                  obtain ⟨p1_122, ⟨p4_122, p17_122, p20_122⟩, ps_122, pl_122, pk_122, pb_122, pd_122, pa_122⟩ := hP_122
                  have hi_122 : sub I G_122 := hfr_122.subs hi_119 lc_121 DSI
                  have hf_122 : FR (DS h sa lg ka be dn) n G G_122 := hf_120.trans hfr_122 (by omega) (fun a_ q_ => .inl q_)
                  obtain ⟨ex1, ex2, ex3⟩ := nd1_sim (sim_ok fu) (starts_ok fu) p_ k jm j0
                  have hTm : (ndO N (startsF N fu) p_ k zm).1 = true := ex1.symm.trans hT_122
                  obtain ⟨hsm2, s1_122, f1_122, g1_122, hR_122⟩ := ex2 hTm
                  have hni_122 := nd1_ni p_ k j0 hTm
                  have hl1_122 := hR_122.hst
                  obtain ⟨y1_122, y2_122, y3_122, y4_122⟩ := hR_122.yes rfl
                  have ye1_122 : st_122 = s1_122 := Eq.symm (by
                    have h9 := hR_122.h17.symm.trans ((hsm2.1.1 17 0 (by decide)).symm.trans p17_122)
                    have h8 := pa_122.2.1
                    exact (nI_eq (by omega) (by omega)).mp h9)
                  have hgb := j0.hg
                  have ye2_122 : g_122 = g1_122 := Eq.symm (by
                    have h9 := hR_122.h20.symm.trans ((hsm2.1.1 20 0 (by decide)).symm.trans p20_122)
                    have h8 := pa_122.2.2
                    exact (nI_eq (by omega) (by omega)).mp h9)
                  subst ye1_122 ye2_122
                  have hS3_122 := j0.next (y1_122 ▸ hR_122)
                  have hS2 : SSt Y N (ndO N (cstF N fu) p_ k z).2 I (η.2 0) := jS.cg hN2 (fun w q a b c d => (hsm2.1.tl_ w q).trans ((hR_122.tw w q a b c d).trans (jm.1.tl_ w q).symm)) (fun q a b => by rw [hsm2.1.tl_, hni_122 q a (by rw [← jm.1.tl_]; exact b), ← jm.1.tl_]; exact b) ((hsm2.1.1 19 0 (by decide)).trans ((hR_122.fr 19 0 (by decide) (by decide) (by decide) (by decide) (by decide) (by decide) (by decide) (by decide)).trans (jm.1.1 19 0 (by decide)).symm))
                  have hjp2 : tl (ndO N (startsF N fu) p_ k zm).2 0 p_ = 0 ∧ bt ((ndO N (startsF N fu) p_ k zm).2.1 16 0) p_ = true := ⟨(y4_122 p_ hp (by omega) jp.2).trans jp.1, by rw [hR_122.fr 16 0 (by decide) (by decide) (by decide) (by decide) (by decide) (by decide) (by decide) (by decide)]; exact jp.2⟩
                  refine g_iincN (L' := [(2, .int (nI (k + 1))), (0, .ref sa), (1, .int (nI p_))]) hC 1 k dX21_start_77 (k := 2) rfl (by decide) (by decide) rfl ?_
                  refine g_goto (tgt := 33) hC dX21_start_80 (by decide) ?_
                  refine V.sub [1, 2, 0] rfl ?_
                  exact ih_ G_122 n_122 u_122 (k + 1) ((ndO N (cstF N fu) p_ k z).2) ((ndO N (startsF N fu) p_ k zm).2) st_122 g_122 fd_122 (⟨p1_122, ⟨p4_122, p17_122, p20_122⟩, ps_122, pl_122, pk_122, pb_122, pd_122, pa_122⟩) (hi_122) (hf_122) (hS2) (hsm2) (hS3_122) (by omega) (je.trans (by rw [show 8 - k = (8 - (k + 1)) + 1 by omega, ndF_s, if_neg hgo2, if_pos hT_122])) (hjp2) (⟨by omega, by omega⟩) (⟨by omega, by omega⟩) (by omega) (by omega)
            · have hq9 := pvH_lt he
              have hany : anyN (runP z p_ k) N = true := by
                cases q : anyN (runP z p_ k) N with
                | true => rfl
                | false => have := (pv_any (by rw [jpz]; decide)).mpr q; rw [he] at this; cases this
              refine g_iconst (v := (-1)) hC dX21_start_67 rfl ?_
              refine g_icmp_ne hC dX21_start_68 (tgt := 77) (by decide) (fun c_68 => ?_) (fun c_68 => ?_)
              · refine g_iincN (L' := [(2, .int (nI (k + 1))), (0, .ref sa), (1, .int (nI p_))]) hC 1 k dX21_start_77 (k := 2) rfl (by decide) (by decide) rfl ?_
                refine g_goto (tgt := 33) hC dX21_start_80 (by decide) ?_
                refine V.sub [1, 2, 0] rfl ?_
                exact ih_ G_112 n_112 u_112 (k + 1) z zm stq gq fdq (⟨hs_118, ⟨j4, j17, j20⟩, o_113, o_114, a_115, a_116, a_117, ja⟩) (hi_119) (hf_120) (jS) (jm) (j0) (by omega) (je.trans (by rw [show 8 - k = (8 - (k + 1)) + 1 by omega, ndF_s]; exact if_pos (.inr hany))) (jp) (⟨by omega, by omega⟩) (⟨by omega, by omega⟩) (jg) (by omega)
              · first | exact absurd c_68 (nI_m1 (by omega)) | exact absurd (Classical.not_not.mp c_68) (nI_m1 (by omega))
    refine V.sub [1, 2, 0] rfl ?_
    exact hl_33 (8 - 0 + 1) G_1 n u 0 (bsy σ p_) (bsy σm p_) st g fd (⟨by rw [hM_cg (a := bsy σ p_) (b := σ) (fun k i q => mu_nk (by omega))]; exact hs_6, ⟨(mu_nk (by decide)).trans p4, (mu_nk (by decide)).trans p17, (mu_nk (by decide)).trans p20⟩, o_2, o_3, by rw [e21b]; exact a_4, a_9, a_5, fun i hi => (pa.1 i hi).trans (mu_nk (by decide)).symm, pa.2⟩) (hi_7) (hf_8) (hS.cg hN2 (fun w q a b c d => tl_ne (by decide)) (fun q a b c => b (((show tl (bsy σ p_) 0 q = tl σ 0 q from tl_ne (by decide))).symm.trans c)) (mu_nk (by decide))) (hm.bsy hN2 hp) (h0.busy1 hp hbm) (by omega) (rfl) (⟨(tl_ne (by decide)).trans hidm, by rw [bsy_bt (by omega) (by omega)]; simp⟩) (⟨by omega, by omega⟩) (⟨by omega, by omega⟩) (hg) (by omega)
  · have hnA : cstF N (fu + 1) σ p_ = (false, flG σ (nI p_) 1 (-1)) := if_pos c_9
    obtain ⟨G_123, eG_123⟩ : ∃ G_, gU G n (.inr (21, [.null, .null, .null, .null, .null, .int 0, .int 0, .int 0, .int 0])) = G_ := ⟨_, rfl⟩
    refine V.lts (fun ltG_123 => ?_)
    have o_124 : G_123 sa = some (.inr (20, [.ref h, .ref lg, .ref be, .ref dn, .int (nI st)])) := by rw [← eG_123]; exact (gU_n _ (Nat.ne_of_lt (ltG_123 _ _ ps))).trans ps
    have o_125 : G_123 lg = some (.inr (1, [.ref ka, .int (nI g)])) := by rw [← eG_123]; exact (gU_n _ (Nat.ne_of_lt (ltG_123 _ _ pl))).trans pl
    have a_126 : G_123 ka = some (.inl (yA Y 0, 40, .inl (σ.1 21))) := by rw [← eG_123]; exact (gU_n _ (Nat.ne_of_lt (ltG_123 _ _ pk))).trans pk
    have a_127 : G_123 be = some (.inl (yA Y 5, 12, .inl (beF σ))) := by rw [← eG_123]; exact (gU_n _ (Nat.ne_of_lt (ltG_123 _ _ pb))).trans pb
    have a_128 : G_123 dn = some (.inl (yA Y 0, 12, .inl fd)) := by rw [← eG_123]; exact (gU_n _ (Nat.ne_of_lt (ltG_123 _ _ pd))).trans pd
    have hs_129 : sub (hM Y h N σ η) G_123 := by rw [← eG_123]; exact sub_new p1 ltG_123
    have hi_130 : sub I G_123 := by rw [← eG_123]; exact sub_new hI ltG_123
    have hf_131 : FR (DS h sa lg ka be dn) n G G_123 := by rw [← eG_123]; exact FR.put FR.refl (.inr (by omega))
    refine g_new hC kc_X22 q1897 q1898 q130 (fs := [.null, .null, .null, .null, .null, .int 0, .int 0, .int 0, .int 0]) rfl (G' := G_123) eG_123 (by omega) (by omega) dX21_start_12 ?_
    have o_132 : G_123 n = some (.inr (21, [.null, .null, .null, .null, .null, .int 0, .int 0, .int 0, .int 0])) := by rw [← eG_123]; exact gU_s _ _ _
    refine g_dup hC dX21_start_15 rfl ?_
    refine g_iload_n hC dX21_start_16 rfl 1 rfl ?_
    refine g_iconst (v := 1) hC dX21_start_17 rfl ?_
    refine g_iconst (v := (-1)) hC dX21_start_18 rfl ?_
    refine g_null hC dX21_start_19 ?_
    refine V.lts (fun lc_133 => ?_)
    refine g_callv0 hC (g_runI (ret := none) hC (met_X22_init (G := G_123) n (nI p_) 1 (-1) none o_132 (by omega)) (lw_meth q1908) q130 q1906 q1907 rfl md_X22_init dX21_start_20 rfl ⟨by omega, by omega⟩ (by omega) (by omega) rfl (Nat.le_of_ble_eq_true rfl)) (fun G_134 n_134 u_134 hp_134 hn_134 hm_134 hu_134 => ?_)
    obtain ⟨ho_134, hf_134, rfl, rfl⟩ := hp_134
    have o_135 : G_134 sa = some (.inr (20, [.ref h, .ref lg, .ref be, .ref dn, .int (nI st)])) := (hf_134 _ (lc_133 _ _ o_124) (fun q => (gne_c o_124 o_132 (by decide)) q)).trans o_124
    have o_136 : G_134 lg = some (.inr (1, [.ref ka, .int (nI g)])) := (hf_134 _ (lc_133 _ _ o_125) (fun q => (gne_c o_125 o_132 (by decide)) q)).trans o_125
    have a_137 : G_134 ka = some (.inl (yA Y 0, 40, .inl (σ.1 21))) := (hf_134 _ (lc_133 _ _ a_126) (fun q => (gne_ao a_126 o_132) q)).trans a_126
    have a_138 : G_134 be = some (.inl (yA Y 5, 12, .inl (beF σ))) := (hf_134 _ (lc_133 _ _ a_127) (fun q => (gne_ao a_127 o_132) q)).trans a_127
    have a_139 : G_134 dn = some (.inl (yA Y 0, 12, .inl fd)) := (hf_134 _ (lc_133 _ _ a_128) (fun q => (gne_ao a_128 o_132) q)).trans a_128
    have hs_140 : sub (hM Y h N σ η) G_134 := hf_134.subs hs_129 lc_133 (fun a q => by subst q; exact hM_none (by unfold hD; omega))
    have hi_141 : sub I G_134 := hf_134.subs hi_130 lc_133 (fun a q => by subst q; exact hIn _ (by omega))
    have hf_142 : FR (DS h sa lg ka be dn) n G G_134 := hf_131.trans hf_134 (by omega) (fun a_ q_ => by first | exact .inl q_ | exact .inl (.inl q_) | exact .inl (.inr q_) | (subst q_; first | exact .inr (by omega) | exact .inl rfl))
    refine g_athrow hC kc_X22 ho_134 (by omega) dX21_start_23 ?_
    refine g_out hC (by decide) ?_ (by omega) (by omega) hE
    rw [hnA]
    obtain ⟨e1, e2, e3, e4⟩ := flG_15 (a := nI p_) (b := 1) (c := -1) h14 (by omega)
    refine ⟨rfl, by omega, rfl, ⟨_, _, _, 1, STG.cg ⟨hs_140, ⟨p4, p17, p20⟩, o_135, o_136, a_137, a_138, a_139, pa⟩ (fun k i a b => flG_ne a b), flG_14 h14 (by omega), by omega, ?_⟩, hf_142, by omega, by omega⟩
    show _ = _
    rw [e1, e2, e3]; exact ho_134
theorem SCh_0 {Y : YT} {l : Launch} {h N K : Nat} {η : HV} {I : AH} {sa lg ka be dn : Nat} : SCh Y l h N K η I sa lg ka be dn 0 0 0 := by
  intro n u G σ σm p st f g fd _ _ _ hm h0 hp hb _
  have hbm : bt (σm.1 16 0) p = false := by
    cases e : bt (σm.1 16 0) p with
    | false => rfl
    | true => rw [hm.2.1 p hp e] at hb; cases hb
  have h1 := h0.hnb
  have h2 := cnb_p hp hbm
  unfold cnb at h2
  omega
theorem SCh_all {Y : YT} {l : Launch} {h N K : Nat} {η : HV} {I : AH} {sa lg ka be dn : Nat} (hst : STH Y h I sa lg ka be dn) : ∀ fu, SCh Y l h N K η I sa lg ka be dn fu (14 * fu) (700 * fu)
  | 0 => SCh_0
  | fu + 1 => fun n u G σ σm p st f g fd a b c d e h0 h1 h2 => met_X21_start (fS := 14 * fu) (lS := 700 * fu) sa p (SCh_all hst fu) hst a b c d e h0 h1 h2
