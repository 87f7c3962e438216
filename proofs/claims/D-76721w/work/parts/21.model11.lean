set_option maxRecDepth 100000
/-! THE MODEL, 11: rest, fires -/
theorem tab_out_0_7 {x : Int32} (h0 : ¬ x = 0) (h1 : ¬ x = 1) (h2 : ¬ x = 2) (h3 : ¬ x = 3) (h4 : ¬ x = 4) (h5 : ¬ x = 5) (h6 : ¬ x = 6) (h7 : ¬ x = 7) : x.toInt < 0 ∨ 7 < x.toInt := by
  have a0 := i_ne h0; have a1 := i_ne h1; have a2 := i_ne h2; have a3 := i_ne h3; have a4 := i_ne h4; have a5 := i_ne h5; have a6 := i_ne h6; have a7 := i_ne h7
  rw [show (0 : Int32).toInt = 0 from by decide] at a0
  rw [show (1 : Int32).toInt = 1 from by decide] at a1
  rw [show (2 : Int32).toInt = 2 from by decide] at a2
  rw [show (3 : Int32).toInt = 3 from by decide] at a3
  rw [show (4 : Int32).toInt = 4 from by decide] at a4
  rw [show (5 : Int32).toInt = 5 from by decide] at a5
  rw [show (6 : Int32).toInt = 6 from by decide] at a6
  rw [show (7 : Int32).toInt = 7 from by decide] at a7
  omega
def rsP (z : MS) (a : Nat) : MS := mu (if (z.1 27 0).toNatClampNeg < 30 then mu z 28 (z.1 27 0).toNatClampNeg (nI a) else z) 27 0 (nI ((z.1 27 0).toNatClampNeg + 1))
def rsB (rec : MS → Int32 → Int32 × MS) (y : MS) (f k : Int32) (q : Nat) (x : Int32) : Int32 × MS :=
  if f = 0 then rec y (x + k) else
  if f = 1 then ((rec y x).1 * k, (rec y x).2) else
  if f = 2 then (if (rec y x).2.1 25 0 = 0 then rec (rec y x).2 (rec y x).1 else (0, (rec y x).2)) else
  if f = 3 then (if tenF x = tenF k then (x, y) else rec y x) else
  if f = 4 then ((rec y (x ^^^ k)).1 ^^^ k, (rec y (x ^^^ k)).2) else
  if f = 5 then ((rec y x).1 + (rec y x).2.1 27 0, (rec y x).2) else
  if f = 6 then rec (mu y 29 q (y.1 29 q + x)) x else
  if f = 7 then (if x < k then (0, throwF y x) else rec y x) else
  if (rec y x).2.1 25 0 = 1 then ((rec y x).2.1 26 0 + k, mu (rec y x).2 25 0 0) else rec y x
def rsF (M : Nat) : Nat → MS → Int32 → Int32 × MS
  | 0, z, x => (x, z)
  | r + 1, z, x => if (z.1 27 0).toNatClampNeg = 200 then (0, mu z 25 0 2) else
    rsB (rsF M r) (rsP z (z.1 24 (M - (r + 1))).toNatClampNeg) (hkF z 3 (z.1 24 (M - (r + 1))).toNatClampNeg) (hkF z 4 (z.1 24 (M - (r + 1))).toNatClampNeg) (hkF z 0 (z.1 24 (M - (r + 1))).toNatClampNeg).toNatClampNeg x
abbrev RI (N K M : Nat) (z : MS) (t : Nat) : Prop :=
  (z.1 23 0 = nI M) ∧
  (M ≤ 24) ∧
  (∀ i, i < M → ∃ a, a < K ∧ z.1 24 i = nI a) ∧
  (K ≤ 24) ∧
  (N ≤ 12) ∧
  (∀ h, h < K → ∃ q, q < N ∧ hkF z 0 h = nI q) ∧
  (z.1 27 0 = nI t) ∧
  (t ≤ 200)
theorem RI.hM {N K M : Nat} {z : MS} {t : Nat} (h : RI N K M z t) : z.1 23 0 = nI M := h.1
theorem RI.hM2 {N K M : Nat} {z : MS} {t : Nat} (h : RI N K M z t) : M ≤ 24 := h.2.1
theorem RI.hen {N K M : Nat} {z : MS} {t : Nat} (h : RI N K M z t) : ∀ i, i < M → ∃ a, a < K ∧ z.1 24 i = nI a := h.2.2.1
theorem RI.hK2 {N K M : Nat} {z : MS} {t : Nat} (h : RI N K M z t) : K ≤ 24 := h.2.2.2.1
theorem RI.hN2 {N K M : Nat} {z : MS} {t : Nat} (h : RI N K M z t) : N ≤ 12 := h.2.2.2.2.1
theorem RI.hpq {N K M : Nat} {z : MS} {t : Nat} (h : RI N K M z t) : ∀ h, h < K → ∃ q, q < N ∧ hkF z 0 h = nI q := h.2.2.2.2.2.1
theorem RI.h27 {N K M : Nat} {z : MS} {t : Nat} (h : RI N K M z t) : z.1 27 0 = nI t := h.2.2.2.2.2.2.1
theorem RI.ht {N K M : Nat} {z : MS} {t : Nat} (h : RI N K M z t) : t ≤ 200 := h.2.2.2.2.2.2.2
abbrev RF (z y : MS) : Prop :=
  (∀ k i, k ≠ 25 → k ≠ 26 → k ≠ 27 → k ≠ 28 → k ≠ 29 → y.1 k i = z.1 k i) ∧
  (y.2 = z.2)
theorem RF.fr {z y : MS} (h : RF z y) : ∀ k i, k ≠ 25 → k ≠ 26 → k ≠ 27 → k ≠ 28 → k ≠ 29 → y.1 k i = z.1 k i := h.1
theorem RF.f2 {z y : MS} (h : RF z y) : y.2 = z.2 := h.2
theorem RI.to {N K M t t' : Nat} {z y : MS} (h : RI N K M z t) (f : RF z y) (h27 : y.1 27 0 = nI t') (ht : t' ≤ 200) : RI N K M y t' := by
  refine ⟨(f.fr 23 0 (by decide) (by decide) (by decide) (by decide) (by decide)).trans h.hM, h.hM2, fun i hi => ?_, h.hK2, h.hN2, fun a ha => ?_, h27, ht⟩
  · obtain ⟨a, h1, h2⟩ := h.hen i hi
    exact ⟨a, h1, (f.fr 24 i (by decide) (by decide) (by decide) (by decide) (by decide)).trans h2⟩
  · obtain ⟨q, h1, h2⟩ := h.hpq a ha
    exact ⟨q, h1, (f.fr 5 _ (by decide) (by decide) (by decide) (by decide) (by decide)).trans h2⟩
theorem RF.refl (z : MS) : RF z z := ⟨fun _ _ _ _ _ _ _ => rfl, rfl⟩
theorem RF.trans {a b d : MS} (f : RF a b) (g : RF b d) : RF a d := ⟨fun k i h1 h2 h3 h4 h5 => (g.fr k i h1 h2 h3 h4 h5).trans (f.fr k i h1 h2 h3 h4 h5), g.f2.trans f.f2⟩
theorem RF.mu {a b : MS} {k i : Nat} {x : Int32} (f : RF a b) (hk : k = 25 ∨ k = 26 ∨ k = 27 ∨ k = 28 ∨ k = 29) : RF a (mu b k i x) := ⟨fun k' i' h1 h2 h3 h4 h5 => (mu_nk (by omega)).trans (f.fr k' i' h1 h2 h3 h4 h5), f.f2⟩
theorem rsP_ok {z : MS} {a t : Nat} (h : z.1 27 0 = nI t) (ht : t < 2 ^ 31) : RF z (rsP z a) ∧ (rsP z a).1 27 0 = nI (t + 1) := by
  unfold rsP
  rw [h, nI_clamp ht]
  refine ⟨RF.mu ?_ (by omega), mu_hit⟩
  split
  · exact RF.mu (RF.refl z) (by omega)
  · exact RF.refl z
theorem rs_ok {N K M : Nat} : ∀ (r : Nat) (z : MS) (x : Int32) (t : Nat), r ≤ M → RI N K M z t → RF z (rsF M r z x).2 ∧ ∃ t', RI N K M (rsF M r z x).2 t' := by
  intro r
  induction r with
  | zero => intro z x t _ h; exact ⟨RF.refl z, t, h⟩
  | succ r ih =>
    intro z x t hr h
    have ht := h.ht
    unfold rsF
    rw [h.h27, nI_clamp (by omega)]
    split
    · have F := RF.mu (k := 25) (i := 0) (x := 2) (RF.refl z) (by omega)
      exact ⟨F, t, h.to F ((mu_nk (by decide)).trans h.h27) ht⟩
    · next h2 =>
      obtain ⟨F0, e27⟩ := rsP_ok (a := (z.1 24 (M - (r + 1))).toNatClampNeg) h.h27 (by omega)
      have H0 := h.to F0 e27 (by omega)
      generalize rsP z (z.1 24 (M - (r + 1))).toNatClampNeg = y at F0 H0 ⊢
      have I1 := fun x => ih y x (t + 1) (by omega) H0
      have fin : ∀ (v : MS) (t' : Nat), RF y v → RI N K M v t' → RF z v ∧ ∃ t', RI N K M v t' := fun v t' f g => ⟨F0.trans f, t', g⟩
      generalize hkF z 3 (z.1 24 (M - (r + 1))).toNatClampNeg = ff
      generalize hkF z 4 (z.1 24 (M - (r + 1))).toNatClampNeg = kk
      generalize (hkF z 0 (z.1 24 (M - (r + 1))).toNatClampNeg).toNatClampNeg = qq
      unfold rsB
      by_cases c0 : ff = 0
      · rw [if_pos c0]; obtain ⟨f, t1, g⟩ := I1 (x + kk); exact fin _ _ f g
      rw [if_neg c0]
      by_cases c1 : ff = 1
      · rw [if_pos c1]; obtain ⟨f, t1, g⟩ := I1 x; exact fin _ _ f g
      rw [if_neg c1]
      by_cases c2 : ff = 2
      · rw [if_pos c2]
        obtain ⟨f, t1, g⟩ := I1 x
        by_cases d : (rsF M r y x).2.1 25 0 = 0
        · rw [if_pos d]
          obtain ⟨f2, t2, g2⟩ := ih _ (rsF M r y x).1 t1 (by omega) g
          exact fin _ _ (f.trans f2) g2
        · rw [if_neg d]; exact fin _ _ f g
      rw [if_neg c2]
      by_cases c3 : ff = 3
      · rw [if_pos c3]
        by_cases d : tenF x = tenF kk
        · rw [if_pos d]; exact fin _ _ (RF.refl y) H0
        · rw [if_neg d]; obtain ⟨f, t1, g⟩ := I1 x; exact fin _ _ f g
      rw [if_neg c3]
      by_cases c4 : ff = 4
      · rw [if_pos c4]; obtain ⟨f, t1, g⟩ := I1 (x ^^^ kk); exact fin _ _ f g
      rw [if_neg c4]
      by_cases c5 : ff = 5
      · rw [if_pos c5]; obtain ⟨f, t1, g⟩ := I1 x; exact fin _ _ f g
      rw [if_neg c5]
      by_cases c6 : ff = 6
      · rw [if_pos c6]
        have F1 := RF.mu (k := 29) (i := qq) (x := y.1 29 qq + x) (RF.refl y) (by omega)
        obtain ⟨f, t1, g⟩ := ih _ x (t + 1) (by omega) (H0.to F1 ((mu_nk (by decide)).trans H0.h27) (by omega))
        exact fin _ _ (F1.trans f) g
      rw [if_neg c6]
      by_cases c7 : ff = 7
      · rw [if_pos c7]
        by_cases d : x < kk
        · rw [if_pos d]
          have F1 := RF.mu (k := 26) (i := 0) (x := x) (RF.mu (k := 25) (i := 0) (x := 1) (RF.refl y) (by omega)) (by omega)
          exact fin _ (t + 1) F1 (H0.to F1 ((mu_nk (by decide)).trans ((mu_nk (by decide)).trans H0.h27)) (by omega))
        · rw [if_neg d]; obtain ⟨f, t1, g⟩ := I1 x; exact fin _ _ f g
      rw [if_neg c7]
      obtain ⟨f, t1, g⟩ := I1 x
      by_cases d : (rsF M r y x).2.1 25 0 = 1
      · rw [if_pos d]
        have F1 := RF.mu (k := 25) (i := 0) (x := 0) f (by omega)
        exact fin _ t1 F1 (g.to (RF.mu (k := 25) (i := 0) (x := 0) (RF.refl _) (by omega)) ((mu_nk (by decide)).trans g.h27) g.ht)
      · rw [if_neg d]; exact fin _ _ f g
theorem rsF_step {M r a q t : Nat} {z : MS} {x : Int32} (h27 : z.1 27 0 = nI t) (ht : t < 200) (ea : z.1 24 (M - (r + 1)) = nI a) (ha : a < 2 ^ 31) (eq : hkF z 0 a = nI q) (hq : q < 2 ^ 31) : rsF M (r + 1) z x = rsB (rsF M r) (rsP z a) (hkF z 3 a) (hkF z 4 a) q x := by
  show (if (z.1 27 0).toNatClampNeg = 200 then (0, mu z 25 0 2) else rsB (rsF M r) (rsP z (z.1 24 (M - (r + 1))).toNatClampNeg) (hkF z 3 (z.1 24 (M - (r + 1))).toNatClampNeg) (hkF z 4 (z.1 24 (M - (r + 1))).toNatClampNeg) (hkF z 0 (z.1 24 (M - (r + 1))).toNatClampNeg).toNatClampNeg x) = _
  rw [h27, nI_clamp (by omega), if_neg (by omega), ea, nI_clamp ha, eq, nI_clamp hq]
set_option maxHeartbeats 2000000 in
theorem met_X5_rest_step {Y : YT} {l : Launch} {m0 n u : Nat} {σ : MS} {B : AH} (hz : yz Y ≤ m0) (i_ : Nat) (x_ : Int32) {N K M rr t fS lS : Nat} (hS : ∀ (z : MS) (x : Int32) (t i : Nat), RI N K M z t → i + rr = M → GM Y l yX5_rest (ws_ yX5_rest cX5_rest 6 (some FieldType.int)) fS lS [.ref m0, .int (nI i), .int x] (mG Y m0 z B) n u 0 0 (pI (fun r' G' n' u' => (rsF M rr z x).1 = r' ∧ mG Y m0 (rsF M rr z x).2 B = G' ∧ n = n' ∧ u = u')) noX) (h0 : RI N K M σ t) (hir : i_ + (rr + 1) = M) : GM Y l yX5_rest (ws_ yX5_rest cX5_rest 6 (some FieldType.int)) (fS + 4) (lS + 100) [.ref m0, .int (nI i_), .int x_] (mG Y m0 σ B) n u 0 0 (pI (fun r G' n' u' => (rsF M (rr + 1) σ x_).1 = r ∧ mG Y m0 ((rsF M (rr + 1) σ x_).2) B = G' ∧ n = n' ∧ u = u')) noX := by
  refine GM.intro (own := RX5) rfl (by decide +kernel) (Nat.le_of_ble_eq_true rfl) ?_
  intro p e s m args below meth c R Q hC hr hnm hF hL hE
  have hE1 := hE.1
  have hE2 := hE.2.1
  show V Y p l e R s m args below meth c 6 n u (mG Y m0 σ B) n u Q 0 [(0, .ref m0), (1, .int (nI i_)), (2, .int x_)] []
  have hM2 := h0.hM2
  have hK2 := h0.hK2
  have hN2 := h0.hN2
  have ht := h0.ht
  refine g_iload_n hC dX5_rest_0 rfl 1 rfl ?_
  refine g_aload_n hC dX5_rest_1 rfl 0 rfl ?_
  refine m_get (v := .int (nI M)) hC 23 (by decide) q3544 (congrArg (fun z => some (Value.int z)) h0.hM) dX5_rest_2 ?_
  refine g_icmp_neN hC i_ M (by omega) (by omega) dX5_rest_5 (tgt := 10) (by decide) (fun c_5 => ?_) (fun c_5 => ?_)
  · refine g_aload_n hC dX5_rest_10 rfl 0 rfl ?_
    refine m_get (v := .int (nI t)) hC 27 (by decide) q3548 (congrArg (fun z => some (Value.int z)) h0.h27) dX5_rest_11 ?_
    refine g_sipush (v := 200) hC dX5_rest_14 (by decide) ?_
    refine g_icmp_neN hC t 200 (by omega) (by omega) dX5_rest_17 (tgt := 27) (by decide) (fun c_17 => ?_) (fun c_17 => ?_)
    · obtain ⟨a, ha, ea⟩ := h0.hen i_ (by omega)
      obtain ⟨q, hq, eq⟩ := h0.hpq a ha
      have ea9 : σ.1 24 (M - (rr + 1)) = nI a := by rw [show M - (rr + 1) = i_ by omega]; exact ea
      refine g_aload_n hC dX5_rest_27 rfl 0 rfl ?_
      refine m_get (v := .ref (m0 + 11)) hC 24 (by decide) q3545 rfl dX5_rest_28 ?_
      refine g_iload_n hC dX5_rest_31 rfl 1 rfl ?_
      refine m_ald (v := nI a) hC 24 i_ rfl (show i_ < 24 from by omega) (by omega) ea dX5_rest_32 ?_
      refine g_istore_n (L' := [(3, .int (nI a)), (0, .ref m0), (1, .int (nI i_)), (2, .int x_)]) hC dX5_rest_33 rfl (by decide) rfl ?_
      have hj_63 : ∀ (y : MS), (rsP σ a = y) → V Y p l e R s m args below meth c 6 n u (mG Y m0 y B) n u Q 63 [(3, .int (nI a)), (0, .ref m0), (1, .int (nI i_)), (2, .int x_)] [] := by
        intro y hy
        obtain ⟨F0, e27⟩ := rsP_ok (a := a) h0.h27 (by omega)
        rw [hy] at F0 e27
        have H0 := h0.to F0 e27 (by omega)
        refine g_aload_n hC dX5_rest_63 rfl 1 rfl ?_
        refine g_iconst (v := 4) hC dX5_rest_64 rfl ?_
        refine g_iload_n hC dX5_rest_65 rfl 0 rfl ?_
        refine g_calli0 hC (g_runV hC (met_X5_hk hz 4 a (by omega)) kc_X5 mG_o (lw_V q3890 q3892 qs71 q89 q3893) rfl md_X5_hk dX5_rest_66 rfl ⟨by omega, by omega⟩ (by omega) (by omega) rfl (Nat.le_of_ble_eq_true rfl)) (fun r_1 G_1 n_1 u_1 hp_1 hn_1 hm_1 hu_1 => ?_)
        obtain ⟨rfl, rfl, rfl, rfl⟩ := hp_1
        rw [show hkF y 4 a = hkF σ 4 a from F0.fr 5 _ (by decide) (by decide) (by decide) (by decide) (by decide)]
        refine g_istore (L' := [(4, .int (hkF σ 4 a)), (3, .int (nI a)), (0, .ref m0), (1, .int (nI i_)), (2, .int x_)]) hC dX5_rest_69 (by decide) rfl ?_
        refine g_aload_n hC dX5_rest_71 rfl 2 rfl ?_
        refine g_iconst (v := 3) hC dX5_rest_72 rfl ?_
        refine g_iload_n hC dX5_rest_73 rfl 1 rfl ?_
        refine g_calli0 hC (g_runV hC (met_X5_hk hz 3 a (by omega)) kc_X5 mG_o (lw_V q3890 q3892 qs71 q89 q3893) rfl md_X5_hk dX5_rest_74 rfl ⟨by omega, by omega⟩ (by omega) (by omega) rfl (Nat.le_of_ble_eq_true rfl)) (fun r_2 G_2 n_2 u_2 hp_2 hn_2 hm_2 hu_2 => ?_)
        obtain ⟨rfl, rfl, rfl, rfl⟩ := hp_2
        rw [show hkF y 3 a = hkF σ 3 a from F0.fr 5 _ (by decide) (by decide) (by decide) (by decide) (by decide)]
        by_cases s_77_0 : (hkF σ 3 a) = 0
        · refine g_tableIn (tgt := 124) hC dX5_rest_77 (by rw [s_77_0]; decide) (by rw [s_77_0]; decide) (by rw [s_77_0]; rfl) (by decide) ?_
          refine g_aload_n hC dX5_rest_124 rfl 2 rfl ?_
          refine g_iload_n hC dX5_rest_125 rfl 3 rfl ?_
          refine g_iconst (v := 1) hC dX5_rest_126 rfl ?_
          refine g_iaddN hC i_ 1 dX5_rest_127 ?_
          refine g_iload_n hC dX5_rest_128 rfl 4 rfl ?_
          refine g_iload hC dX5_rest_129 0 rfl ?_
          refine g_iadd hC dX5_rest_131 ?_
          refine g_calli0 hC (g_runV hC (hS y (x_ + (hkF σ 4 a)) (t + 1) (i_ + 1) H0 (by omega)) kc_X5 mG_o (lw_V q3914 q3916 qs75 q89 q3917) rfl md_X5_rest dX5_rest_132 rfl ⟨by omega, by omega⟩ (by omega) (by omega) rfl (Nat.le_of_ble_eq_true rfl)) (fun r_3 G_3 n_3 u_3 hp_3 hn_3 hm_3 hu_3 => ?_)
          obtain ⟨rfl, rfl, rfl, rfl⟩ := hp_3
          refine g_iret hC hr rfl ⟨_, rfl, ?_⟩ (by omega) (by omega) hE dX5_rest_135
          have h9 : rsF M (rr + 1) σ x_ = ((rsF M rr y (x_ + (hkF σ 4 a))).1, (rsF M rr y (x_ + (hkF σ 4 a))).2) := by
            rw [rsF_step h0.h27 (by omega) ea9 (by omega) eq (by omega), hy]
            unfold rsB
            rw [if_pos s_77_0]
          exact ⟨by rw [h9], by rw [h9], rfl, rfl⟩
        by_cases s_77_1 : (hkF σ 3 a) = 1
        · refine g_tableIn (tgt := 136) hC dX5_rest_77 (by rw [s_77_1]; decide) (by rw [s_77_1]; decide) (by rw [s_77_1]; rfl) (by decide) ?_
          refine g_aload_n hC dX5_rest_136 rfl 2 rfl ?_
          refine g_iload_n hC dX5_rest_137 rfl 3 rfl ?_
          refine g_iconst (v := 1) hC dX5_rest_138 rfl ?_
          refine g_iaddN hC i_ 1 dX5_rest_139 ?_
          refine g_iload_n hC dX5_rest_140 rfl 4 rfl ?_
          refine g_calli0 hC (g_runV hC (hS y x_ (t + 1) (i_ + 1) H0 (by omega)) kc_X5 mG_o (lw_V q3914 q3916 qs75 q89 q3917) rfl md_X5_rest dX5_rest_141 rfl ⟨by omega, by omega⟩ (by omega) (by omega) rfl (Nat.le_of_ble_eq_true rfl)) (fun r_4 G_4 n_4 u_4 hp_4 hn_4 hm_4 hu_4 => ?_)
          obtain ⟨rfl, rfl, rfl, rfl⟩ := hp_4
          refine g_iload hC dX5_rest_144 0 rfl ?_
          refine g_imul hC dX5_rest_146 ?_
          refine g_iret hC hr rfl ⟨_, rfl, ?_⟩ (by omega) (by omega) hE dX5_rest_147
          have h9 : rsF M (rr + 1) σ x_ = (((rsF M rr y x_).1) * (hkF σ 4 a), (rsF M rr y x_).2) := by
            rw [rsF_step h0.h27 (by omega) ea9 (by omega) eq (by omega), hy]
            unfold rsB
            rw [if_neg s_77_0, if_pos s_77_1]
          exact ⟨by rw [h9], by rw [h9], rfl, rfl⟩
        by_cases s_77_2 : (hkF σ 3 a) = 2
        · refine g_tableIn (tgt := 148) hC dX5_rest_77 (by rw [s_77_2]; decide) (by rw [s_77_2]; decide) (by rw [s_77_2]; rfl) (by decide) ?_
          refine g_aload_n hC dX5_rest_148 rfl 2 rfl ?_
          refine g_iload_n hC dX5_rest_149 rfl 3 rfl ?_
          refine g_iconst (v := 1) hC dX5_rest_150 rfl ?_
          refine g_iaddN hC i_ 1 dX5_rest_151 ?_
          refine g_iload_n hC dX5_rest_152 rfl 4 rfl ?_
          refine g_calli0 hC (g_runV hC (hS y x_ (t + 1) (i_ + 1) H0 (by omega)) kc_X5 mG_o (lw_V q3914 q3916 qs75 q89 q3917) rfl md_X5_rest dX5_rest_153 rfl ⟨by omega, by omega⟩ (by omega) (by omega) rfl (Nat.le_of_ble_eq_true rfl)) (fun r_5 G_5 n_5 u_5 hp_5 hn_5 hm_5 hu_5 => ?_)
          obtain ⟨rfl, rfl, rfl, rfl⟩ := hp_5
          refine g_istore (L' := [(5, .int ((rsF M rr y x_).1)), (4, .int (hkF σ 4 a)), (3, .int (nI a)), (0, .ref m0), (1, .int (nI i_)), (2, .int x_)]) hC dX5_rest_156 (by decide) rfl ?_
          obtain ⟨_, t2, H2⟩ := rs_ok (M := M) rr y x_ (t + 1) (by omega) H0
          refine g_aload_n hC dX5_rest_158 rfl 3 rfl ?_
          refine m_get (v := .int (((rsF M rr y x_).2).1 25 0)) hC 25 (by decide) q3546 rfl dX5_rest_159 ?_
          refine g_if_ne hC dX5_rest_162 (tgt := 177) (by decide) (fun c_162 => ?_) (fun c_162 => ?_)
          · refine g_iconst (v := 0) hC dX5_rest_177 rfl ?_
            refine g_iret hC hr rfl ⟨_, rfl, ?_⟩ (by omega) (by omega) hE dX5_rest_178
            have h9 : rsF M (rr + 1) σ x_ = (0, (rsF M rr y x_).2) := by
              rw [rsF_step h0.h27 (by omega) ea9 (by omega) eq (by omega), hy]
              unfold rsB
              rw [if_neg s_77_0, if_neg s_77_1, if_pos s_77_2, if_neg c_162]
            exact ⟨by rw [h9], by rw [h9], rfl, rfl⟩
          · refine g_aload_n hC dX5_rest_165 rfl 3 rfl ?_
            refine g_iload_n hC dX5_rest_166 rfl 4 rfl ?_
            refine g_iconst (v := 1) hC dX5_rest_167 rfl ?_
            refine g_iaddN hC i_ 1 dX5_rest_168 ?_
            refine g_iload hC dX5_rest_169 0 rfl ?_
            refine g_calli0 hC (g_runV hC (hS ((rsF M rr y x_).2) ((rsF M rr y x_).1) t2 (i_ + 1) H2 (by omega)) kc_X5 mG_o (lw_V q3914 q3916 qs75 q89 q3917) rfl md_X5_rest dX5_rest_171 rfl ⟨by omega, by omega⟩ (by omega) (by omega) rfl (Nat.le_of_ble_eq_true rfl)) (fun r_6 G_6 n_6 u_6 hp_6 hn_6 hm_6 hu_6 => ?_)
            obtain ⟨rfl, rfl, rfl, rfl⟩ := hp_6
            refine g_goto (tgt := 178) hC dX5_rest_174 (by decide) ?_
            refine g_iret hC hr rfl ⟨_, rfl, ?_⟩ (by omega) (by omega) hE dX5_rest_178
            have h9 : rsF M (rr + 1) σ x_ = ((rsF M rr ((rsF M rr y x_).2) ((rsF M rr y x_).1)).1, (rsF M rr ((rsF M rr y x_).2) ((rsF M rr y x_).1)).2) := by
              rw [rsF_step h0.h27 (by omega) ea9 (by omega) eq (by omega), hy]
              unfold rsB
              rw [if_neg s_77_0, if_neg s_77_1, if_pos s_77_2, if_pos c_162]
            exact ⟨by rw [h9], by rw [h9], rfl, rfl⟩
        by_cases s_77_3 : (hkF σ 3 a) = 3
        · refine g_tableIn (tgt := 179) hC dX5_rest_77 (by rw [s_77_3]; decide) (by rw [s_77_3]; decide) (by rw [s_77_3]; rfl) (by decide) ?_
          refine g_iload_n hC dX5_rest_179 rfl 4 rfl ?_
          refine g_calli0 hC (g_runS hC (met_X5_ten hz x_ ) (lw_S q3918 q3919 q89 q3920) md_X5_ten dX5_rest_180 rfl ⟨by omega, by omega⟩ (by omega) (by omega) rfl (Nat.le_of_ble_eq_true rfl)) (fun r_7 G_7 n_7 u_7 hp_7 hn_7 hm_7 hu_7 => ?_)
          obtain ⟨rfl, rfl, rfl, rfl⟩ := hp_7
          refine g_iload hC dX5_rest_183 0 rfl ?_
          refine g_calli0 hC (g_runS hC (met_X5_ten hz (hkF σ 4 a) ) (lw_S q3918 q3919 q89 q3920) md_X5_ten dX5_rest_185 rfl ⟨by omega, by omega⟩ (by omega) (by omega) rfl (Nat.le_of_ble_eq_true rfl)) (fun r_8 G_8 n_8 u_8 hp_8 hn_8 hm_8 hu_8 => ?_)
          obtain ⟨rfl, rfl, rfl, rfl⟩ := hp_8
          refine g_icmp_ne hC dX5_rest_188 (tgt := 195) (by decide) (fun c_188 => ?_) (fun c_188 => ?_)
          · refine g_aload_n hC dX5_rest_195 rfl 2 rfl ?_
            refine g_iload_n hC dX5_rest_196 rfl 3 rfl ?_
            refine g_iconst (v := 1) hC dX5_rest_197 rfl ?_
            refine g_iaddN hC i_ 1 dX5_rest_198 ?_
            refine g_iload_n hC dX5_rest_199 rfl 4 rfl ?_
            refine g_calli0 hC (g_runV hC (hS y x_ (t + 1) (i_ + 1) H0 (by omega)) kc_X5 mG_o (lw_V q3914 q3916 qs75 q89 q3917) rfl md_X5_rest dX5_rest_200 rfl ⟨by omega, by omega⟩ (by omega) (by omega) rfl (Nat.le_of_ble_eq_true rfl)) (fun r_9 G_9 n_9 u_9 hp_9 hn_9 hm_9 hu_9 => ?_)
            obtain ⟨rfl, rfl, rfl, rfl⟩ := hp_9
            refine g_iret hC hr rfl ⟨_, rfl, ?_⟩ (by omega) (by omega) hE dX5_rest_203
            have h9 : rsF M (rr + 1) σ x_ = ((rsF M rr y x_).1, (rsF M rr y x_).2) := by
              rw [rsF_step h0.h27 (by omega) ea9 (by omega) eq (by omega), hy]
              unfold rsB
              rw [if_neg s_77_0, if_neg s_77_1, if_neg s_77_2, if_pos s_77_3, if_neg c_188]
            exact ⟨by rw [h9], by rw [h9], rfl, rfl⟩
          · refine g_iload_n hC dX5_rest_191 rfl 4 rfl ?_
            refine g_goto (tgt := 203) hC dX5_rest_192 (by decide) ?_
            refine g_iret hC hr rfl ⟨_, rfl, ?_⟩ (by omega) (by omega) hE dX5_rest_203
            have h9 : rsF M (rr + 1) σ x_ = (x_, y) := by
              rw [rsF_step h0.h27 (by omega) ea9 (by omega) eq (by omega), hy]
              unfold rsB
              rw [if_neg s_77_0, if_neg s_77_1, if_neg s_77_2, if_pos s_77_3, if_pos c_188]
            exact ⟨by rw [h9], by rw [h9], rfl, rfl⟩
        by_cases s_77_4 : (hkF σ 3 a) = 4
        · refine g_tableIn (tgt := 204) hC dX5_rest_77 (by rw [s_77_4]; decide) (by rw [s_77_4]; decide) (by rw [s_77_4]; rfl) (by decide) ?_
          refine g_aload_n hC dX5_rest_204 rfl 2 rfl ?_
          refine g_iload_n hC dX5_rest_205 rfl 3 rfl ?_
          refine g_iconst (v := 1) hC dX5_rest_206 rfl ?_
          refine g_iaddN hC i_ 1 dX5_rest_207 ?_
          refine g_iload_n hC dX5_rest_208 rfl 4 rfl ?_
          refine g_iload hC dX5_rest_209 0 rfl ?_
          refine g_ixor hC dX5_rest_211 ?_
          refine g_calli0 hC (g_runV hC (hS y (x_ ^^^ (hkF σ 4 a)) (t + 1) (i_ + 1) H0 (by omega)) kc_X5 mG_o (lw_V q3914 q3916 qs75 q89 q3917) rfl md_X5_rest dX5_rest_212 rfl ⟨by omega, by omega⟩ (by omega) (by omega) rfl (Nat.le_of_ble_eq_true rfl)) (fun r_10 G_10 n_10 u_10 hp_10 hn_10 hm_10 hu_10 => ?_)
          obtain ⟨rfl, rfl, rfl, rfl⟩ := hp_10
          refine g_iload hC dX5_rest_215 0 rfl ?_
          refine g_ixor hC dX5_rest_217 ?_
          refine g_iret hC hr rfl ⟨_, rfl, ?_⟩ (by omega) (by omega) hE dX5_rest_218
          have h9 : rsF M (rr + 1) σ x_ = (((rsF M rr y (x_ ^^^ (hkF σ 4 a))).1) ^^^ (hkF σ 4 a), (rsF M rr y (x_ ^^^ (hkF σ 4 a))).2) := by
            rw [rsF_step h0.h27 (by omega) ea9 (by omega) eq (by omega), hy]
            unfold rsB
            rw [if_neg s_77_0, if_neg s_77_1, if_neg s_77_2, if_neg s_77_3, if_pos s_77_4]
          exact ⟨by rw [h9], by rw [h9], rfl, rfl⟩
        by_cases s_77_5 : (hkF σ 3 a) = 5
        · refine g_tableIn (tgt := 219) hC dX5_rest_77 (by rw [s_77_5]; decide) (by rw [s_77_5]; decide) (by rw [s_77_5]; rfl) (by decide) ?_
          refine g_aload_n hC dX5_rest_219 rfl 2 rfl ?_
          refine g_iload_n hC dX5_rest_220 rfl 3 rfl ?_
          refine g_iconst (v := 1) hC dX5_rest_221 rfl ?_
          refine g_iaddN hC i_ 1 dX5_rest_222 ?_
          refine g_iload_n hC dX5_rest_223 rfl 4 rfl ?_
          refine g_calli0 hC (g_runV hC (hS y x_ (t + 1) (i_ + 1) H0 (by omega)) kc_X5 mG_o (lw_V q3914 q3916 qs75 q89 q3917) rfl md_X5_rest dX5_rest_224 rfl ⟨by omega, by omega⟩ (by omega) (by omega) rfl (Nat.le_of_ble_eq_true rfl)) (fun r_11 G_11 n_11 u_11 hp_11 hn_11 hm_11 hu_11 => ?_)
          obtain ⟨rfl, rfl, rfl, rfl⟩ := hp_11
          refine g_istore (L' := [(5, .int ((rsF M rr y x_).1)), (4, .int (hkF σ 4 a)), (3, .int (nI a)), (0, .ref m0), (1, .int (nI i_)), (2, .int x_)]) hC dX5_rest_227 (by decide) rfl ?_
          refine g_iload hC dX5_rest_229 0 rfl ?_
          refine g_aload_n hC dX5_rest_231 rfl 3 rfl ?_
          refine m_get (v := .int (((rsF M rr y x_).2).1 27 0)) hC 27 (by decide) q3548 rfl dX5_rest_232 ?_
          refine g_iadd hC dX5_rest_235 ?_
          refine g_iret hC hr rfl ⟨_, rfl, ?_⟩ (by omega) (by omega) hE dX5_rest_236
          have h9 : rsF M (rr + 1) σ x_ = (((rsF M rr y x_).1) + (((rsF M rr y x_).2).1 27 0), (rsF M rr y x_).2) := by
            rw [rsF_step h0.h27 (by omega) ea9 (by omega) eq (by omega), hy]
            unfold rsB
            rw [if_neg s_77_0, if_neg s_77_1, if_neg s_77_2, if_neg s_77_3, if_neg s_77_4, if_pos s_77_5]
          exact ⟨by rw [h9], by rw [h9], rfl, rfl⟩
        by_cases s_77_6 : (hkF σ 3 a) = 6
        · refine g_tableIn (tgt := 237) hC dX5_rest_77 (by rw [s_77_6]; decide) (by rw [s_77_6]; decide) (by rw [s_77_6]; rfl) (by decide) ?_
          refine g_aload_n hC dX5_rest_237 rfl 2 rfl ?_
          refine m_get (v := .ref (m0 + 13)) hC 29 (by decide) q3550 rfl dX5_rest_238 ?_
          refine g_aload_n hC dX5_rest_241 rfl 2 rfl ?_
          refine g_iconst (v := 0) hC dX5_rest_242 rfl ?_
          refine g_iload_n hC dX5_rest_243 rfl 1 rfl ?_
          refine g_calli0 hC (g_runV hC (met_X5_hk hz 0 a (by omega)) kc_X5 mG_o (lw_V q3890 q3892 qs71 q89 q3893) rfl md_X5_hk dX5_rest_244 rfl ⟨by omega, by omega⟩ (by omega) (by omega) rfl (Nat.le_of_ble_eq_true rfl)) (fun r_12 G_12 n_12 u_12 hp_12 hn_12 hm_12 hu_12 => ?_)
          obtain ⟨rfl, rfl, rfl, rfl⟩ := hp_12
          rw [show hkF y 0 a = nI q from (F0.fr 5 _ (by decide) (by decide) (by decide) (by decide) (by decide)).trans eq]
          have H6 : RI N K M (mu y 29 q (y.1 29 q + x_)) (t + 1) := H0.to (RF.mu (RF.refl y) (by omega)) ((mu_nk (by decide)).trans H0.h27) (by omega)
          refine g_dup2_11 hC dX5_rest_247 rfl rfl ?_
          refine m_ald (v := y.1 29 q) hC 29 q rfl (show q < 12 from by omega) (by omega) rfl dX5_rest_248 ?_
          refine g_iload_n hC dX5_rest_249 rfl 4 rfl ?_
          refine g_iadd hC dX5_rest_250 ?_
          refine m_ast hC 29 q rfl (show q < 12 from by omega) (by omega) hz dX5_rest_251 ?_
          refine g_aload_n hC dX5_rest_252 rfl 2 rfl ?_
          refine g_iload_n hC dX5_rest_253 rfl 3 rfl ?_
          refine g_iconst (v := 1) hC dX5_rest_254 rfl ?_
          refine g_iaddN hC i_ 1 dX5_rest_255 ?_
          refine g_iload_n hC dX5_rest_256 rfl 4 rfl ?_
          refine g_calli0 hC (g_runV hC (hS (mu y 29 q ((y.1 29 q) + x_)) x_ (t + 1) (i_ + 1) H6 (by omega)) kc_X5 mG_o (lw_V q3914 q3916 qs75 q89 q3917) rfl md_X5_rest dX5_rest_257 rfl ⟨by omega, by omega⟩ (by omega) (by omega) rfl (Nat.le_of_ble_eq_true rfl)) (fun r_13 G_13 n_13 u_13 hp_13 hn_13 hm_13 hu_13 => ?_)
          obtain ⟨rfl, rfl, rfl, rfl⟩ := hp_13
          refine g_iret hC hr rfl ⟨_, rfl, ?_⟩ (by omega) (by omega) hE dX5_rest_260
          have h9 : rsF M (rr + 1) σ x_ = ((rsF M rr (mu y 29 q ((y.1 29 q) + x_)) x_).1, (rsF M rr (mu y 29 q ((y.1 29 q) + x_)) x_).2) := by
            rw [rsF_step h0.h27 (by omega) ea9 (by omega) eq (by omega), hy]
            unfold rsB
            rw [if_neg s_77_0, if_neg s_77_1, if_neg s_77_2, if_neg s_77_3, if_neg s_77_4, if_neg s_77_5, if_pos s_77_6]
          exact ⟨by rw [h9], by rw [h9], rfl, rfl⟩
        by_cases s_77_7 : (hkF σ 3 a) = 7
        · refine g_tableIn (tgt := 261) hC dX5_rest_77 (by rw [s_77_7]; decide) (by rw [s_77_7]; decide) (by rw [s_77_7]; rfl) (by decide) ?_
          refine g_iload_n hC dX5_rest_261 rfl 4 rfl ?_
          refine g_iload hC dX5_rest_262 0 rfl ?_
          refine g_icmp_ge hC dX5_rest_264 (tgt := 275) (by decide) (fun c_264 => ?_) (fun c_264 => ?_)
          · refine g_aload_n hC dX5_rest_275 rfl 2 rfl ?_
            refine g_iload_n hC dX5_rest_276 rfl 3 rfl ?_
            refine g_iconst (v := 1) hC dX5_rest_277 rfl ?_
            refine g_iaddN hC i_ 1 dX5_rest_278 ?_
            refine g_iload_n hC dX5_rest_279 rfl 4 rfl ?_
            refine g_calli0 hC (g_runV hC (hS y x_ (t + 1) (i_ + 1) H0 (by omega)) kc_X5 mG_o (lw_V q3914 q3916 qs75 q89 q3917) rfl md_X5_rest dX5_rest_280 rfl ⟨by omega, by omega⟩ (by omega) (by omega) rfl (Nat.le_of_ble_eq_true rfl)) (fun r_14 G_14 n_14 u_14 hp_14 hn_14 hm_14 hu_14 => ?_)
            obtain ⟨rfl, rfl, rfl, rfl⟩ := hp_14
            refine g_iret hC hr rfl ⟨_, rfl, ?_⟩ (by omega) (by omega) hE dX5_rest_283
            have h9 : rsF M (rr + 1) σ x_ = ((rsF M rr y x_).1, (rsF M rr y x_).2) := by
              rw [rsF_step h0.h27 (by omega) ea9 (by omega) eq (by omega), hy]
              unfold rsB
              rw [if_neg s_77_0, if_neg s_77_1, if_neg s_77_2, if_neg s_77_3, if_neg s_77_4, if_neg s_77_5, if_neg s_77_6, if_pos s_77_7, if_neg (Int32.not_lt.mpr c_264)]
            exact ⟨by rw [h9], by rw [h9], rfl, rfl⟩
          · refine g_aload_n hC dX5_rest_267 rfl 2 rfl ?_
            refine g_iload_n hC dX5_rest_268 rfl 4 rfl ?_
            refine g_calli0 hC (g_runV hC (met_X5_throwsOne hz x_ ) kc_X5 mG_o (lw_V q3921 q3923 qs76 q89 q3924) rfl md_X5_throwsOne dX5_rest_269 rfl ⟨by omega, by omega⟩ (by omega) (by omega) rfl (Nat.le_of_ble_eq_true rfl)) (fun r_15 G_15 n_15 u_15 hp_15 hn_15 hm_15 hu_15 => ?_)
            obtain ⟨rfl, rfl, rfl, rfl⟩ := hp_15
            refine g_goto (tgt := 283) hC dX5_rest_272 (by decide) ?_
            refine g_iret hC hr rfl ⟨_, rfl, ?_⟩ (by omega) (by omega) hE dX5_rest_283
            have h9 : rsF M (rr + 1) σ x_ = (0, throwF y x_) := by
              rw [rsF_step h0.h27 (by omega) ea9 (by omega) eq (by omega), hy]
              unfold rsB
              rw [if_neg s_77_0, if_neg s_77_1, if_neg s_77_2, if_neg s_77_3, if_neg s_77_4, if_neg s_77_5, if_neg s_77_6, if_pos s_77_7, if_pos (Int32.not_le.mp c_264)]
            exact ⟨by rw [h9], by rw [h9], rfl, rfl⟩
        refine g_tableOut (tgt := 284) hC dX5_rest_77 (tab_out_0_7 s_77_0 s_77_1 s_77_2 s_77_3 s_77_4 s_77_5 s_77_6 s_77_7) (by decide) ?_
        refine g_aload_n hC dX5_rest_284 rfl 2 rfl ?_
        refine g_iload_n hC dX5_rest_285 rfl 3 rfl ?_
        refine g_iconst (v := 1) hC dX5_rest_286 rfl ?_
        refine g_iaddN hC i_ 1 dX5_rest_287 ?_
        refine g_iload_n hC dX5_rest_288 rfl 4 rfl ?_
        refine g_calli0 hC (g_runV hC (hS y x_ (t + 1) (i_ + 1) H0 (by omega)) kc_X5 mG_o (lw_V q3914 q3916 qs75 q89 q3917) rfl md_X5_rest dX5_rest_289 rfl ⟨by omega, by omega⟩ (by omega) (by omega) rfl (Nat.le_of_ble_eq_true rfl)) (fun r_16 G_16 n_16 u_16 hp_16 hn_16 hm_16 hu_16 => ?_)
        obtain ⟨rfl, rfl, rfl, rfl⟩ := hp_16
        refine g_istore (L' := [(5, .int ((rsF M rr y x_).1)), (4, .int (hkF σ 4 a)), (3, .int (nI a)), (0, .ref m0), (1, .int (nI i_)), (2, .int x_)]) hC dX5_rest_292 (by decide) rfl ?_
        refine g_aload_n hC dX5_rest_294 rfl 3 rfl ?_
        refine m_get (v := .int (((rsF M rr y x_).2).1 25 0)) hC 25 (by decide) q3546 rfl dX5_rest_295 ?_
        refine g_iconst (v := 1) hC dX5_rest_298 rfl ?_
        refine g_icmp_eq hC dX5_rest_299 (tgt := 305) (by decide) (fun c_299 => ?_) (fun c_299 => ?_)
        · refine g_aload_n hC dX5_rest_305 rfl 3 rfl ?_
          refine g_iconst (v := 0) hC dX5_rest_306 rfl ?_
          refine m_put hC 25 (by decide) rfl (by decide) q3546 rfl rfl rfl hz dX5_rest_307 ?_
          refine g_aload_n hC dX5_rest_310 rfl 3 rfl ?_
          refine m_get (v := .int (((rsF M rr y x_).2).1 26 0)) hC 26 (by decide) q3547 (congrArg (fun z => some (Value.int z)) (mu_nk (by decide))) dX5_rest_311 ?_
          refine g_iload hC dX5_rest_314 1 rfl ?_
          refine g_iadd hC dX5_rest_316 ?_
          refine g_iret hC hr rfl ⟨_, rfl, ?_⟩ (by omega) (by omega) hE dX5_rest_317
          have h9 : rsF M (rr + 1) σ x_ = ((((rsF M rr y x_).2).1 26 0) + (hkF σ 4 a), (mu ((rsF M rr y x_).2) 25 0 0)) := by
            rw [rsF_step h0.h27 (by omega) ea9 (by omega) eq (by omega), hy]
            unfold rsB
            rw [if_neg s_77_0, if_neg s_77_1, if_neg s_77_2, if_neg s_77_3, if_neg s_77_4, if_neg s_77_5, if_neg s_77_6, if_neg s_77_7, if_pos c_299]
          exact ⟨by rw [h9], by rw [h9], rfl, rfl⟩
        · refine g_iload hC dX5_rest_302 0 rfl ?_
          refine g_iret hC hr rfl ⟨_, rfl, ?_⟩ (by omega) (by omega) hE dX5_rest_304
          have h9 : rsF M (rr + 1) σ x_ = ((rsF M rr y x_).1, (rsF M rr y x_).2) := by
            rw [rsF_step h0.h27 (by omega) ea9 (by omega) eq (by omega), hy]
            unfold rsB
            rw [if_neg s_77_0, if_neg s_77_1, if_neg s_77_2, if_neg s_77_3, if_neg s_77_4, if_neg s_77_5, if_neg s_77_6, if_neg s_77_7, if_neg c_299]
          exact ⟨by rw [h9], by rw [h9], rfl, rfl⟩
      refine g_aload_n hC dX5_rest_34 rfl 1 rfl ?_
      refine m_get (v := .int (nI t)) hC 27 (by decide) q3548 (congrArg (fun z => some (Value.int z)) h0.h27) dX5_rest_35 ?_
      refine g_bipush (v := 30) hC dX5_rest_38 (by decide) ?_
      refine g_icmp_geN hC t 30 (by omega) (by omega) dX5_rest_40 (tgt := 53) (by decide) (fun c_40 => ?_) (fun c_40 => ?_)
      · refine g_aload_n hC dX5_rest_53 rfl 1 rfl ?_
        refine g_dup hC dX5_rest_54 rfl ?_
        refine m_get (v := .int (nI t)) hC 27 (by decide) q3548 (congrArg (fun z => some (Value.int z)) h0.h27) dX5_rest_55 ?_
        refine g_iconst (v := 1) hC dX5_rest_58 rfl ?_
        refine g_iaddN hC t 1 dX5_rest_59 ?_
        refine m_put hC 27 (by decide) rfl (by decide) q3548 rfl rfl rfl hz dX5_rest_60 ?_
        exact hj_63 (mu σ 27 0 (nI (t + 1))) (by unfold rsP; rw [h0.h27, nI_clamp (by omega), if_neg (by omega)])
      · refine g_aload_n hC dX5_rest_43 rfl 1 rfl ?_
        refine m_get (v := .ref (m0 + 12)) hC 28 (by decide) q3549 rfl dX5_rest_44 ?_
        refine g_aload_n hC dX5_rest_47 rfl 1 rfl ?_
        refine m_get (v := .int (nI t)) hC 27 (by decide) q3548 (congrArg (fun z => some (Value.int z)) h0.h27) dX5_rest_48 ?_
        refine g_iload_n hC dX5_rest_51 rfl 0 rfl ?_
        refine m_ast hC 28 t rfl (show t < 30 from by omega) (by omega) hz dX5_rest_52 ?_
        refine g_aload_n hC dX5_rest_53 rfl 1 rfl ?_
        refine g_dup hC dX5_rest_54 rfl ?_
        refine m_get (v := .int (nI t)) hC 27 (by decide) q3548 (congrArg (fun z => some (Value.int z)) ((mu_nk (by decide)).trans h0.h27)) dX5_rest_55 ?_
        refine g_iconst (v := 1) hC dX5_rest_58 rfl ?_
        refine g_iaddN hC t 1 dX5_rest_59 ?_
        refine m_put hC 27 (by decide) rfl (by decide) q3548 rfl rfl rfl hz dX5_rest_60 ?_
        exact hj_63 (mu (mu σ 28 t (nI a)) 27 0 (nI (t + 1))) (by unfold rsP; rw [h0.h27, nI_clamp (by omega), if_pos (by omega)])
    · refine g_aload_n hC dX5_rest_20 rfl 0 rfl ?_
      refine g_iconst (v := 2) hC dX5_rest_21 rfl ?_
      refine m_put hC 25 (by decide) rfl (by decide) q3546 rfl rfl rfl hz dX5_rest_22 ?_
      refine g_iconst (v := 0) hC dX5_rest_25 rfl ?_
      refine g_iret hC hr rfl ⟨_, rfl, ?_⟩ (by omega) (by omega) hE dX5_rest_26
      have h9 : rsF M (rr + 1) σ x_ = (0, (mu σ 25 0 2)) := by unfold rsF; rw [h0.h27, nI_clamp (by omega), if_pos c_17]
      exact ⟨by rw [h9], by rw [h9], rfl, rfl⟩
  · exact absurd c_5 (by omega)
set_option maxHeartbeats 1000000 in
theorem met_X5_rest_0 {Y : YT} {l : Launch} {m0 n u : Nat} {σ : MS} {B : AH} (hz : yz Y ≤ m0) (i_ : Nat) (x_ : Int32) {N K M t : Nat} (h0 : RI N K M σ t) (hir : i_ = M) : GM Y l yX5_rest (ws_ yX5_rest cX5_rest 6 (some FieldType.int)) 2 100 [.ref m0, .int (nI i_), .int x_] (mG Y m0 σ B) n u 0 0 (pI (fun r G' n' u' => (rsF M 0 σ x_).1 = r ∧ mG Y m0 ((rsF M 0 σ x_).2) B = G' ∧ n = n' ∧ u = u')) noX := by
  refine GM.intro (own := RX5) rfl (by decide +kernel) (Nat.le_of_ble_eq_true rfl) ?_
  intro p e s m args below meth c R Q hC hr hnm hF hL hE
  have hE1 := hE.1
  have hE2 := hE.2.1
  show V Y p l e R s m args below meth c 6 n u (mG Y m0 σ B) n u Q 0 [(0, .ref m0), (1, .int (nI i_)), (2, .int x_)] []
  have hM2 := h0.hM2
  refine g_iload_n hC dX5_rest_0 rfl 1 rfl ?_
  refine g_aload_n hC dX5_rest_1 rfl 0 rfl ?_
  refine m_get (v := .int (nI M)) hC 23 (by decide) q3544 (congrArg (fun z => some (Value.int z)) h0.hM) dX5_rest_2 ?_
  refine g_icmp_neN hC i_ M (by omega) (by omega) dX5_rest_5 (tgt := 10) (by decide) (fun c_5 => ?_) (fun c_5 => ?_)
  · exact absurd hir c_5
  · refine g_iload_n hC dX5_rest_8 rfl 2 rfl ?_
    refine g_iret hC hr rfl ⟨_, rfl, ?_⟩ (by omega) (by omega) hE dX5_rest_9
    exact ⟨rfl, rfl, rfl, rfl⟩
set_option maxHeartbeats 1000000 in
theorem met_X5_rest {Y : YT} {l : Launch} {m0 n u : Nat} {B : AH} (hz : yz Y ≤ m0) {N K M : Nat} : ∀ (rr : Nat) (z : MS) (x : Int32) (t i : Nat), RI N K M z t → i + rr = M → GM Y l yX5_rest (ws_ yX5_rest cX5_rest 6 (some FieldType.int)) (4 * rr + 2) (100 * rr + 100) [.ref m0, .int (nI i), .int x] (mG Y m0 z B) n u 0 0 (pI (fun r' G' n' u' => (rsF M rr z x).1 = r' ∧ mG Y m0 (rsF M rr z x).2 B = G' ∧ n = n' ∧ u = u')) noX := by
  intro rr
  induction rr with
  | zero => intro z x t i h hi; exact met_X5_rest_0 hz i x h hi
  | succ rr ih => intro z x t i h hi; exact met_X5_rest_step hz i x (fS := 4 * rr + 2) (lS := 100 * rr + 100) ih h hi
