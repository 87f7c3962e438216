set_option maxRecDepth 100000
/-! THE MODEL, 10: chains, fires -/
def shF : Nat → MS → Nat → MS
  | 0, z, a => mu z 24 0 (nI a)
  | i + 1, z, a => if aheadF z a (z.1 24 i).toNatClampNeg = true then shF i (mu z 24 (i + 1) (z.1 24 i)) a else mu z 24 (i + 1) (nI a)
def chS (pt wo : Int32) (z : MS) (a : Nat) : MS :=
  if nI a = wo ∨ ¬ hkF z 1 a = pt ∨ ¬ tl z 0 (hkF z 0 a).toNatClampNeg = 1 then z else mu (shF (z.1 23 0).toNatClampNeg z a) 23 0 (nI ((z.1 23 0).toNatClampNeg + 1))
def chainsF (K : Nat) (σ : MS) (pt wo : Int32) : MS := foldN (chS pt wo) (mu σ 23 0 0) K
abbrev CH (K : Nat) (σ z : MS) (t : Nat) : Prop :=
  (∀ k i, k ≠ 23 → k ≠ 24 → z.1 k i = σ.1 k i) ∧
  (z.2 = σ.2) ∧
  (z.1 23 0 = nI t) ∧
  (∀ i, i < t → ∃ a, a < K ∧ z.1 24 i = nI a)
theorem CH.fr {K : Nat} {σ z : MS} {t : Nat} (h : CH K σ z t) : ∀ k i, k ≠ 23 → k ≠ 24 → z.1 k i = σ.1 k i := h.1
theorem CH.f2 {K : Nat} {σ z : MS} {t : Nat} (h : CH K σ z t) : z.2 = σ.2 := h.2.1
theorem CH.h23 {K : Nat} {σ z : MS} {t : Nat} (h : CH K σ z t) : z.1 23 0 = nI t := h.2.2.1
theorem CH.hen {K : Nat} {σ z : MS} {t : Nat} (h : CH K σ z t) : ∀ i, i < t → ∃ a, a < K ∧ z.1 24 i = nI a := h.2.2.2
abbrev SH (K : Nat) (z y : MS) (t i : Nat) : Prop :=
  (∀ k b, k ≠ 24 → y.1 k b = z.1 k b) ∧
  (y.2 = z.2) ∧
  (∀ b, b < i → y.1 24 b = z.1 24 b) ∧
  (∀ b, i < b → b ≤ t → ∃ a, a < K ∧ y.1 24 b = nI a)
theorem SH.fr {K : Nat} {z y : MS} {t i : Nat} (h : SH K z y t i) : ∀ k b, k ≠ 24 → y.1 k b = z.1 k b := h.1
theorem SH.f2 {K : Nat} {z y : MS} {t i : Nat} (h : SH K z y t i) : y.2 = z.2 := h.2.1
theorem SH.lo {K : Nat} {z y : MS} {t i : Nat} (h : SH K z y t i) : ∀ b, b < i → y.1 24 b = z.1 24 b := h.2.2.1
theorem SH.hi {K : Nat} {z y : MS} {t i : Nat} (h : SH K z y t i) : ∀ b, i < b → b ≤ t → ∃ a, a < K ∧ y.1 24 b = nI a := h.2.2.2
theorem SH.put {K t i a : Nat} {σ z y : MS} (c : CH K σ z t) (s : SH K z y t i) (hi : i ≤ t) (ha : a < K) : CH K σ (mu (mu y 24 i (nI a)) 23 0 (nI (t + 1))) (t + 1) := by
  refine ⟨fun k b h1 h2 => (mu_nk h1).trans ((mu_nk h2).trans ((s.fr k b h2).trans (c.fr k b h1 h2))), s.f2.trans c.f2, mu_hit, fun b hb => ?_⟩
  show ∃ a, a < K ∧ (mu _ 23 0 _).1 24 b = _
  rw [mu_nk (by decide)]
  by_cases e : b = i
  · subst e; exact ⟨a, ha, mu_hit⟩
  · rw [mu_ni e]
    by_cases c2 : b < i
    · obtain ⟨g, h1, h2⟩ := c.hen b (by omega)
      exact ⟨g, h1, (s.lo b c2).trans h2⟩
    · exact s.hi b (by omega) (by omega)
theorem SH.step {K t i : Nat} {σ z y : MS} (c : CH K σ z t) (s : SH K z y t (i + 1)) (hi : i + 1 ≤ t) : SH K z (mu y 24 (i + 1) (y.1 24 i)) t i := by
  refine ⟨fun k b h => (mu_nk h).trans (s.fr k b h), s.f2, fun b hb => (mu_ni (by omega)).trans (s.lo b (by omega)), fun b h1 h2 => ?_⟩
  by_cases e : b = i + 1
  · subst e
    obtain ⟨g, h3, h4⟩ := c.hen i (by omega)
    exact ⟨g, h3, by rw [mu_hit, s.lo i (by omega)]; exact h4⟩
  · obtain ⟨g, h3, h4⟩ := s.hi b (by omega) h2
    exact ⟨g, h3, (mu_ni e).trans h4⟩
set_option maxHeartbeats 1000000 in
theorem met_X5_chains {Y : YT} {l : Launch} {m0 n u : Nat} {σ : MS} {B : AH} (hz : yz Y ≤ m0) (pt_ : Int32) (wo_ : Int32) {N K : Nat} (hN2 : N ≤ 12) (hK : σ.1 4 0 = nI K) (hK2 : K ≤ 24) (hpq : ∀ h, h < K → ∃ q, q < N ∧ hkF σ 0 h = nI q) : GM Y l yX5_chains (ws_ yX5_chains cX5_chains 5 none) 3 66 [.ref m0, .int pt_, .int wo_] (mG Y m0 σ B) n u 0 0 (pV (fun G' n' u' => mG Y m0 (chainsF K σ pt_ wo_) B = G' ∧ n = n' ∧ u = u')) noX := by
  refine GM.intro (own := RX5) rfl (by decide +kernel) (Nat.le_of_ble_eq_true rfl) ?_
  intro p e s m args below meth c R Q hC hr hnm hF hL hE
  have hE1 := hE.1
  have hE2 := hE.2.1
  show V Y p l e R s m args below meth c 5 n u (mG Y m0 σ B) n u Q 0 [(0, .ref m0), (1, .int pt_), (2, .int wo_)] []
  refine g_aload_n hC dX5_chains_0 rfl 0 rfl ?_
  refine g_iconst (v := 0) hC dX5_chains_1 rfl ?_
  refine m_put hC 23 (by decide) rfl (by decide) q3544 rfl rfl rfl hz dX5_chains_2 ?_
  have hc0 : CH K σ (mu σ 23 0 0) 0 := ⟨fun k i h1 h2 => mu_nk h1, rfl, mu_hit, fun i h => absurd h (Nat.not_lt_zero _)⟩
  refine g_iconst (v := 0) hC dX5_chains_5 rfl ?_
  refine g_istore_n (L' := [(3, .int 0), (0, .ref m0), (1, .int pt_), (2, .int wo_)]) hC dX5_chains_6 rfl (by decide) rfl ?_
  have hl_7 : ∀ (kf_ : Nat) (a : Nat) (z : MS) (t : Nat), (a ≤ K) → (CH K σ z t) → (t ≤ a) → (foldN (chS pt_ wo_) (mu σ 23 0 0) a = z) → K - a < kf_ → V Y p l e R s m args below meth c 5 n u (mG Y m0 z B) n u Q 7 [(3, .int (nI a)), (0, .ref m0), (1, .int pt_), (2, .int wo_)] [] := by
    intro kf_
    induction kf_ with
    | zero => intro a z t ha hc hta hzf hk_; exact absurd hk_ (Nat.not_lt_zero _)
    | succ kf_ ih_o =>
      intro a z t ha hc hta hzf hk_
      refine g_iload_n hC dX5_chains_7 rfl 0 rfl ?_
      refine g_aload_n hC dX5_chains_8 rfl 1 rfl ?_
      refine m_get (v := .int (nI K)) hC 4 (by decide) q3525 (congrArg (fun z => some (Value.int z)) ((hc.fr _ _ (by decide) (by decide)).trans hK)) dX5_chains_9 ?_
      refine g_icmp_geN hC a K (by omega) (by omega) dX5_chains_12 (tgt := 121) (by decide) (fun c_12 => ?_) (fun c_12 => ?_)
      · have ee_ : K = a := by omega
        subst ee_
        refine g_vret hC hr ⟨rfl, ?_⟩ (by omega) (by omega) hE dX5_chains_121
        exact ⟨by rw [← hzf]; rfl, rfl, rfl⟩
      · obtain ⟨q, hq, eq0⟩ := hpq a (by omega)
        have eq : hkF z 0 a = nI q := (hc.fr _ _ (by decide) (by decide)).trans eq0
        have cl_q : (nI q).toNatClampNeg = q := nI_clamp (by omega)
        refine g_iload_n hC dX5_chains_15 rfl 0 rfl ?_
        refine g_iload_n hC dX5_chains_16 rfl 3 rfl ?_
        refine g_icmp_eq hC dX5_chains_17 (tgt := 115) (by decide) (fun c_17 => ?_) (fun c_17 => ?_)
        · refine g_iincN (L' := [(3, .int (nI (a + 1))), (0, .ref m0), (1, .int pt_), (2, .int wo_)]) hC 1 a dX5_chains_115 (k := 0) rfl (by decide) (by decide) rfl ?_
          refine g_goto (tgt := 7) hC dX5_chains_118 (by decide) ?_
          exact ih_o (a + 1) z t (by omega) (hc) (by omega) (by show chS pt_ wo_ (foldN (chS pt_ wo_) (mu σ 23 0 0) a) a = _; rw [hzf]; unfold chS; rw [if_pos (by simp [c_17])]) (by omega)
        · refine g_aload_n hC dX5_chains_20 rfl 1 rfl ?_
          refine g_iconst (v := 1) hC dX5_chains_21 rfl ?_
          refine g_iload_n hC dX5_chains_22 rfl 0 rfl ?_
          refine g_calli0 hC (g_runV hC (met_X5_hk hz 1 a (by omega)) kc_X5 mG_o (lw_V q3890 q3892 qs71 q89 q3893) rfl md_X5_hk dX5_chains_23 rfl ⟨by omega, by omega⟩ (by omega) (by omega) rfl (Nat.le_of_ble_eq_true rfl)) (fun r_1 G_1 n_1 u_1 hp_1 hn_1 hm_1 hu_1 => ?_)
          obtain ⟨rfl, rfl, rfl, rfl⟩ := hp_1
          refine g_iload_n hC dX5_chains_26 rfl 2 rfl ?_
          refine g_icmp_ne hC dX5_chains_27 (tgt := 115) (by decide) (fun c_27 => ?_) (fun c_27 => ?_)
          · refine g_iincN (L' := [(3, .int (nI (a + 1))), (0, .ref m0), (1, .int pt_), (2, .int wo_)]) hC 1 a dX5_chains_115 (k := 0) rfl (by decide) (by decide) rfl ?_
            refine g_goto (tgt := 7) hC dX5_chains_118 (by decide) ?_
            exact ih_o (a + 1) z t (by omega) (hc) (by omega) (by show chS pt_ wo_ (foldN (chS pt_ wo_) (mu σ 23 0 0) a) a = _; rw [hzf]; unfold chS; rw [if_pos (by simp [c_17, c_27])]) (by omega)
          · refine g_aload_n hC dX5_chains_30 rfl 1 rfl ?_
            refine g_aload_n hC dX5_chains_31 rfl 1 rfl ?_
            refine g_iconst (v := 0) hC dX5_chains_32 rfl ?_
            refine g_iload_n hC dX5_chains_33 rfl 0 rfl ?_
            refine g_calli0 hC (g_runV hC (met_X5_hk hz 0 a (by omega)) kc_X5 mG_o (lw_V q3890 q3892 qs71 q89 q3893) rfl md_X5_hk dX5_chains_34 rfl ⟨by omega, by omega⟩ (by omega) (by omega) rfl (Nat.le_of_ble_eq_true rfl)) (fun r_2 G_2 n_2 u_2 hp_2 hn_2 hm_2 hu_2 => ?_)
            obtain ⟨rfl, rfl, rfl, rfl⟩ := hp_2
            rw [eq]
            refine g_calli0 hC (g_runV hC (met_X5_state hz q (by omega)) kc_X5 mG_o (lw_V q3708 q3710 qs44 q89 q3711) rfl md_X5_state dX5_chains_37 rfl ⟨by omega, by omega⟩ (by omega) (by omega) rfl (Nat.le_of_ble_eq_true rfl)) (fun r_3 G_3 n_3 u_3 hp_3 hn_3 hm_3 hu_3 => ?_)
            obtain ⟨rfl, rfl, rfl, rfl⟩ := hp_3
            refine g_iconst (v := 1) hC dX5_chains_40 rfl ?_
            refine g_icmp_eq hC dX5_chains_41 (tgt := 47) (by decide) (fun c_41 => ?_) (fun c_41 => ?_)
            · refine g_aload_n hC dX5_chains_47 rfl 1 rfl ?_
              refine m_get (v := .int (nI t)) hC 23 (by decide) q3544 (congrArg (fun z => some (Value.int z)) hc.h23) dX5_chains_48 ?_
              refine g_istore (L' := [(4, .int (nI t)), (3, .int (nI a)), (0, .ref m0), (1, .int pt_), (2, .int wo_)]) hC dX5_chains_51 (by decide) rfl ?_
              have hl_53 : ∀ (kf_ : Nat) (i : Nat) (y : MS), (i ≤ t) → (SH K z y t i) → (shF i y a = shF t z a) → i < kf_ → V Y p l e R s m args below meth c 5 n u (mG Y m0 y B) n u Q 53 [(4, .int (nI i)), (3, .int (nI a)), (0, .ref m0), (1, .int pt_), (2, .int wo_)] [] := by
                intro kf_
                induction kf_ with
                | zero => intro i y hit hs hys hk_; exact absurd hk_ (Nat.not_lt_zero _)
                | succ kf_ ih_i =>
                  intro i y hit hs hys hk_
                  refine g_iload hC dX5_chains_53 0 rfl ?_
                  refine g_if_leN hC i (by omega) dX5_chains_55 (tgt := 97) (by decide) (fun c_55 => ?_) (fun c_55 => ?_)
                  · obtain rfl : i = 0 := by omega
                    have hys3 : shF t z a = mu y 24 0 (nI a) := hys.symm
                    refine g_aload_n hC dX5_chains_97 rfl 2 rfl ?_
                    refine m_get (v := .ref (m0 + 11)) hC 24 (by decide) q3545 rfl dX5_chains_98 ?_
                    refine g_iload hC dX5_chains_101 0 rfl ?_
                    refine g_iload_n hC dX5_chains_103 rfl 1 rfl ?_
                    refine m_ast hC 24 0 rfl (show 0 < 24 from by omega) (by omega) hz dX5_chains_104 ?_
                    refine g_aload_n hC dX5_chains_105 rfl 2 rfl ?_
                    refine g_dup hC dX5_chains_106 rfl ?_
                    refine m_get (v := .int (nI t)) hC 23 (by decide) q3544 (congrArg (fun z => some (Value.int z)) ((mu_nk (by decide)).trans ((hs.fr _ _ (by decide)).trans hc.h23))) dX5_chains_107 ?_
                    refine g_iconst (v := 1) hC dX5_chains_110 rfl ?_
                    refine g_iaddN hC t 1 dX5_chains_111 ?_
                    refine m_put hC 23 (by decide) rfl (by decide) q3544 rfl rfl rfl hz dX5_chains_112 ?_
                    refine g_iincN (L' := [(3, .int (nI (a + 1))), (4, .int (nI 0)), (0, .ref m0), (1, .int pt_), (2, .int wo_)]) hC 1 a dX5_chains_115 (k := 1) rfl (by decide) (by decide) rfl ?_
                    refine g_goto (tgt := 7) hC dX5_chains_118 (by decide) ?_
                    refine V.sub [0, 2, 3, 4] rfl ?_
                    exact ih_o (a + 1) (mu (mu y 24 0 (nI a)) 23 0 (nI (t + 1))) (t + 1) (by omega) (SH.put hc hs (by omega) (by omega)) (by omega) (by show chS pt_ wo_ (foldN (chS pt_ wo_) (mu σ 23 0 0) a) a = _; rw [hzf]; unfold chS; rw [if_neg (by simp [c_17, c_27, eq, cl_q, c_41]), hc.h23, nI_clamp (by omega), hys3]) (by omega)
                  · obtain ⟨i, rfl⟩ : ∃ j, i = j + 1 := ⟨i - 1, by omega⟩
                    obtain ⟨g, hg, eg0⟩ := hc.hen i (by omega)
                    have eg : y.1 24 i = nI g := (hs.lo i (by omega)).trans eg0
                    have hyp : ∀ h, h < K → ∃ q, q < N ∧ hkF y 0 h = nI q := fun h hh => by
                      obtain ⟨q, h1, h2⟩ := hpq h hh
                      exact ⟨q, h1, ((hs.fr _ _ (by decide)).trans (hc.fr _ _ (by decide) (by decide))).trans h2⟩
                    refine g_aload_n hC dX5_chains_58 rfl 2 rfl ?_
                    refine g_iload_n hC dX5_chains_59 rfl 1 rfl ?_
                    refine g_aload_n hC dX5_chains_60 rfl 2 rfl ?_
                    refine m_get (v := .ref (m0 + 11)) hC 24 (by decide) q3545 rfl dX5_chains_61 ?_
                    refine g_iload hC dX5_chains_64 0 rfl ?_
                    refine g_iconst (v := 1) hC dX5_chains_66 rfl ?_
                    refine g_isub1N hC i dX5_chains_67 ?_
                    refine m_ald (v := nI g) hC 24 i rfl (show i < 24 from by omega) (by omega) eg dX5_chains_68 ?_
                    refine g_calli0 hC (g_runV hC (met_X5_isAhead hz a g (by omega) (by omega) (by omega) (by omega) (hyp)) kc_X5 mG_o (lw_V q3902 q3904 qs73 q89 q3905) rfl md_X5_isAhead dX5_chains_69 rfl ⟨by omega, by omega⟩ (by omega) (by omega) rfl (Nat.le_of_ble_eq_true rfl)) (fun r_4 G_4 n_4 u_4 hp_4 hn_4 hm_4 hu_4 => ?_)
                    obtain ⟨rfl, rfl, rfl, rfl⟩ := hp_4
                    refine g_if_eqB hC (aheadF y  a g) dX5_chains_72 (tgt := 97) (by decide) (fun c_72 => ?_) (fun c_72 => ?_)
                    · have hys3 : shF t z a = mu y 24 (i + 1) (nI a) := by rw [← hys, shF, eg, nI_clamp (by omega), if_neg (by rw [c_72]; simp)]
                      refine g_aload_n hC dX5_chains_97 rfl 2 rfl ?_
                      refine m_get (v := .ref (m0 + 11)) hC 24 (by decide) q3545 rfl dX5_chains_98 ?_
                      refine g_iload hC dX5_chains_101 0 rfl ?_
                      refine g_iload_n hC dX5_chains_103 rfl 1 rfl ?_
                      refine m_ast hC 24 (i + 1) rfl (show i + 1 < 24 from by omega) (by omega) hz dX5_chains_104 ?_
                      refine g_aload_n hC dX5_chains_105 rfl 2 rfl ?_
                      refine g_dup hC dX5_chains_106 rfl ?_
                      refine m_get (v := .int (nI t)) hC 23 (by decide) q3544 (congrArg (fun z => some (Value.int z)) ((mu_nk (by decide)).trans ((hs.fr _ _ (by decide)).trans hc.h23))) dX5_chains_107 ?_
                      refine g_iconst (v := 1) hC dX5_chains_110 rfl ?_
                      refine g_iaddN hC t 1 dX5_chains_111 ?_
                      refine m_put hC 23 (by decide) rfl (by decide) q3544 rfl rfl rfl hz dX5_chains_112 ?_
                      refine g_iincN (L' := [(3, .int (nI (a + 1))), (4, .int (nI (i + 1))), (0, .ref m0), (1, .int pt_), (2, .int wo_)]) hC 1 a dX5_chains_115 (k := 1) rfl (by decide) (by decide) rfl ?_
                      refine g_goto (tgt := 7) hC dX5_chains_118 (by decide) ?_
                      refine V.sub [0, 2, 3, 4] rfl ?_
                      exact ih_o (a + 1) (mu (mu y 24 (i + 1) (nI a)) 23 0 (nI (t + 1))) (t + 1) (by omega) (SH.put hc hs (by omega) (by omega)) (by omega) (by show chS pt_ wo_ (foldN (chS pt_ wo_) (mu σ 23 0 0) a) a = _; rw [hzf]; unfold chS; rw [if_neg (by simp [c_17, c_27, eq, cl_q, c_41]), hc.h23, nI_clamp (by omega), hys3]) (by omega)
                    · have hys2 := hys
                      rw [shF, eg, nI_clamp (by omega), if_pos c_72] at hys2
                      refine g_aload_n hC dX5_chains_75 rfl 2 rfl ?_
                      refine m_get (v := .ref (m0 + 11)) hC 24 (by decide) q3545 rfl dX5_chains_76 ?_
                      refine g_iload hC dX5_chains_79 0 rfl ?_
                      refine g_aload_n hC dX5_chains_81 rfl 2 rfl ?_
                      refine m_get (v := .ref (m0 + 11)) hC 24 (by decide) q3545 rfl dX5_chains_82 ?_
                      refine g_iload hC dX5_chains_85 0 rfl ?_
                      refine g_iconst (v := 1) hC dX5_chains_87 rfl ?_
                      refine g_isub1N hC i dX5_chains_88 ?_
                      refine m_ald (v := nI g) hC 24 i rfl (show i < 24 from by omega) (by omega) eg dX5_chains_89 ?_
                      refine m_ast hC 24 (i + 1) rfl (show i + 1 < 24 from by omega) (by omega) hz dX5_chains_90 ?_
                      refine g_idecN (L' := [(4, .int (nI i)), (3, .int (nI a)), (0, .ref m0), (1, .int pt_), (2, .int wo_)]) hC i dX5_chains_91 (k := 0) rfl (by decide) rfl ?_
                      refine g_goto (tgt := 53) hC dX5_chains_94 (by decide) ?_
                      exact ih_i i (mu y 24 (i + 1) (nI g)) (by omega) (eg ▸ SH.step hc hs (by omega)) (hys2) (by omega)
              exact hl_53 (t + 1) t z (Nat.le_refl _) (⟨fun _ _ _ => rfl, rfl, fun _ _ => rfl, fun b h1 h2 => by omega⟩) (rfl) (by omega)
            · refine g_goto (tgt := 115) hC dX5_chains_44 (by decide) ?_
              refine g_iincN (L' := [(3, .int (nI (a + 1))), (0, .ref m0), (1, .int pt_), (2, .int wo_)]) hC 1 a dX5_chains_115 (k := 0) rfl (by decide) (by decide) rfl ?_
              refine g_goto (tgt := 7) hC dX5_chains_118 (by decide) ?_
              exact ih_o (a + 1) z t (by omega) (hc) (by omega) (by show chS pt_ wo_ (foldN (chS pt_ wo_) (mu σ 23 0 0) a) a = _; rw [hzf]; unfold chS; rw [if_pos (by simp [c_17, c_27, eq, cl_q, c_41])]) (by omega)
  exact hl_7 (K + 1) 0 (mu σ 23 0 0) 0 (by omega) (hc0) (by omega) (rfl) (by omega)
theorem shF_ok {K t a : Nat} {σ z : MS} (c : CH K σ z t) (ha : a < K) : ∀ (i : Nat) (y : MS), i ≤ t → SH K z y t i → CH K σ (mu (shF i y a) 23 0 (nI (t + 1))) (t + 1) := by
  intro i
  induction i with
  | zero => intro y hi s; exact SH.put c s hi ha
  | succ i ih =>
    intro y hi s
    unfold shF
    split
    · exact ih _ (by omega) (SH.step c s hi)
    · exact SH.put c s hi ha
theorem chains_ok {K : Nat} {σ : MS} {pt wo : Int32} (hK2 : K ≤ 24) : ∃ t, t ≤ K ∧ CH K σ (chainsF K σ pt wo) t := by
  have : ∀ a, a ≤ K → ∃ t, t ≤ a ∧ CH K σ (foldN (chS pt wo) (mu σ 23 0 0) a) t := by
    intro a
    induction a with
    | zero => intro _; exact ⟨0, Nat.le_refl _, fun k i h1 h2 => mu_nk h1, rfl, mu_hit, fun i h => absurd h (Nat.not_lt_zero _)⟩
    | succ a ih =>
      intro ha
      obtain ⟨t, h1, c⟩ := ih (by omega)
      show ∃ t, t ≤ a + 1 ∧ CH K σ (chS pt wo (foldN (chS pt wo) (mu σ 23 0 0) a) a) t
      unfold chS
      split
      · exact ⟨t, by omega, c⟩
      · rw [show (foldN (fun z a => if nI a = wo ∨ ¬ hkF z 1 a = pt ∨ ¬ tl z 0 (hkF z 0 a).toNatClampNeg = 1 then z else mu (shF (z.1 23 0).toNatClampNeg z a) 23 0 (nI ((z.1 23 0).toNatClampNeg + 1))) (mu σ 23 0 0) a) = foldN (chS pt wo) (mu σ 23 0 0) a from rfl, c.h23, nI_clamp (by omega)]
        exact ⟨t + 1, by omega, shF_ok c (by omega) t _ (Nat.le_refl _) ⟨fun _ _ _ => rfl, rfl, fun _ _ => rfl, fun b h1 h2 => by omega⟩⟩
  exact this K (Nat.le_refl _)
def chainF (σ : MS) (K : Nat) (pt i : Int32) : Int32 × MS :=
  if wi pt 0 3 = true then (if wi i 0 ((chainsF K σ pt (-1)).1 23 0 - 1) = true then (chainsF K σ pt (-1)).1 24 i.toNatClampNeg else -1, chainsF K σ pt (-1)) else (-1 - 10, mNo σ 1)
set_option maxHeartbeats 1000000 in
theorem met_X5_chain {Y : YT} {l : Launch} {m0 n u : Nat} {σ : MS} {B : AH} (hz : yz Y ≤ m0) (pt_ : Int32) (i_ : Int32) {N K : Nat} (hN2 : N ≤ 12) (hK : σ.1 4 0 = nI K) (hK2 : K ≤ 24) (hpq : ∀ h, h < K → ∃ q, q < N ∧ hkF σ 0 h = nI q) : GM Y l yX5_chain (ws_ yX5_chain cX5_chain 3 (some FieldType.int)) 4 90 [.ref m0, .int pt_, .int i_] (mG Y m0 σ B) n u 0 0 (pI (fun r G' n' u' => (chainF σ K pt_ i_).1 = r ∧ mG Y m0 ((chainF σ K pt_ i_).2) B = G' ∧ n = n' ∧ u = u')) noX := by
  refine GM.intro (own := RX5) rfl (by decide +kernel) (Nat.le_of_ble_eq_true rfl) ?_
  intro p e s m args below meth c R Q hC hr hnm hF hL hE
  have hE1 := hE.1
  have hE2 := hE.2.1
  show V Y p l e R s m args below meth c 3 n u (mG Y m0 σ B) n u Q 0 [(0, .ref m0), (1, .int pt_), (2, .int i_)] []
  refine g_iload_n hC dX5_chain_0 rfl 1 rfl ?_
  refine g_calli0 hC (g_runS hC (met_X5_isPoint hz pt_ ) (lw_S q3883 q3884 q89 q3885) md_X5_isPoint dX5_chain_1 rfl ⟨by omega, by omega⟩ (by omega) (by omega) rfl (Nat.le_of_ble_eq_true rfl)) (fun r_1 G_1 n_1 u_1 hp_1 hn_1 hm_1 hu_1 => ?_)
  obtain ⟨rfl, rfl, rfl, rfl⟩ := hp_1
  refine g_if_neB hC (wi pt_ 0 3) dX5_chain_4 (tgt := 13) (by decide) (fun c_4 => ?_) (fun c_4 => ?_)
  · refine g_aload_n hC dX5_chain_13 rfl 0 rfl ?_
    refine g_iload_n hC dX5_chain_14 rfl 1 rfl ?_
    refine g_iconst (v := (-1)) hC dX5_chain_15 rfl ?_
    refine g_callv0 hC (g_runV hC (met_X5_chains hz pt_ (-1) (hN2) (hK) (hK2) (hpq)) kc_X5 mG_o (lw_V q3898 q3900 qs72 q89 q3901) rfl md_X5_chains dX5_chain_16 rfl ⟨by omega, by omega⟩ (by omega) (by omega) rfl (Nat.le_of_ble_eq_true rfl)) (fun G_2 n_2 u_2 hp_2 hn_2 hm_2 hu_2 => ?_)
    obtain ⟨rfl, rfl, rfl⟩ := hp_2
    obtain ⟨t, ht, hc⟩ := chains_ok (σ := σ) (pt := pt_) (wo := -1) hK2
    obtain ⟨z, ez⟩ : ∃ z, chainsF K σ pt_ (-1) = z := ⟨_, rfl⟩
    rw [ez] at hc ⊢
    refine g_iload_n hC dX5_chain_19 rfl 2 rfl ?_
    refine g_iconst (v := 0) hC dX5_chain_20 rfl ?_
    refine g_aload_n hC dX5_chain_21 rfl 0 rfl ?_
    refine m_get (v := .int (nI t)) hC 23 (by decide) q3544 (congrArg (fun z => some (Value.int z)) hc.h23) dX5_chain_22 ?_
    refine g_iconst (v := 1) hC dX5_chain_25 rfl ?_
    refine g_isub hC dX5_chain_26 ?_
    refine g_calli0 hC (g_runS hC (met_X5_within hz i_ 0 ((nI t) - 1) ) (lw_S q3637 q3638 q89 q3639) md_X5_within dX5_chain_27 rfl ⟨by omega, by omega⟩ (by omega) (by omega) rfl (Nat.le_of_ble_eq_true rfl)) (fun r_3 G_3 n_3 u_3 hp_3 hn_3 hm_3 hu_3 => ?_)
    obtain ⟨rfl, rfl, rfl, rfl⟩ := hp_3
    refine g_if_eqB hC (wi i_ 0 ((nI t) - 1)) dX5_chain_30 (tgt := 42) (by decide) (fun c_30 => ?_) (fun c_30 => ?_)
    · refine g_iconst (v := (-1)) hC dX5_chain_42 rfl ?_
      refine g_iret hC hr rfl ⟨_, rfl, ?_⟩ (by omega) (by omega) hE dX5_chain_43
      have h9 : chainF σ K pt_ i_ = ((-1), z) := by
        first | (simp [chainF, c_4, c_30]; done) | (simp [chainF, c_4, c_30]; rfl) | (unfold chainF; rw [if_pos c_4, ez, hc.h23]; simp [c_4, c_30])
      exact ⟨by rw [h9], by rw [h9], rfl, rfl⟩
    · obtain ⟨i, hi, rfl⟩ := wi_pl rfl (by omega) c_30
      have cl_i : (nI i).toNatClampNeg = i := nI_clamp (by omega)
      refine g_aload_n hC dX5_chain_33 rfl 0 rfl ?_
      refine m_get (v := .ref (m0 + 11)) hC 24 (by decide) q3545 rfl dX5_chain_34 ?_
      refine g_iload_n hC dX5_chain_37 rfl 2 rfl ?_
      refine m_ald (v := z.1 24 i) hC 24 i rfl (show i < 24 from by omega) (by omega) rfl dX5_chain_38 ?_
      refine g_goto (tgt := 43) hC dX5_chain_39 (by decide) ?_
      refine g_iret hC hr rfl ⟨_, rfl, ?_⟩ (by omega) (by omega) hE dX5_chain_43
      have h9 : chainF σ K pt_ (nI i) = (z.1 24 i, z) := by
        first | (simp [chainF, c_4, c_30, cl_i]; done) | (simp [chainF, c_4, c_30, cl_i]; rfl) | (unfold chainF; rw [if_pos c_4, ez, hc.h23]; simp [c_4, c_30, cl_i])
      exact ⟨by rw [h9], by rw [h9], rfl, rfl⟩
  · refine g_aload_n hC dX5_chain_7 rfl 0 rfl ?_
    refine g_iconst (v := (-1)) hC dX5_chain_8 rfl ?_
    refine g_calli0 hC (g_runV hC (met_X5_no10 hz 1 (by omega)) kc_X5 mG_o (lw_V q3756 q3758 qs52 q89 q3759) rfl md_X5_no10 dX5_chain_9 rfl ⟨by omega, by omega⟩ (by omega) (by omega) rfl (Nat.le_of_ble_eq_true rfl)) (fun r_4 G_4 n_4 u_4 hp_4 hn_4 hm_4 hu_4 => ?_)
    obtain ⟨rfl, rfl, rfl, rfl⟩ := hp_4
    refine g_iret hC hr rfl ⟨_, rfl, ?_⟩ (by omega) (by omega) hE dX5_chain_12
    have h9 : chainF σ K pt_ i_ = (-(nI 1) - 10, mNo σ 1) := by
      first | (simp [chainF, c_4]; done) | (simp [chainF, c_4]; rfl) | (unfold chainF; rw [if_pos c_4, ez, hc.h23]; simp [c_4])
    exact ⟨by rw [h9], by rw [h9], rfl, rfl⟩
