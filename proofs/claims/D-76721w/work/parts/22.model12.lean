set_option maxRecDepth 100000
/-! THE MODEL, 12: fires -/
def ntS (z : MS) (p : Nat) : MS := mu z 29 p 0
def fs3 (σ : MS) : MS := mu (mu (mu σ 25 0 0) 26 0 0) 27 0 0
def fsI (σ : MS) : MS := foldN ntS (fs3 σ) 12
theorem fsI_RF (σ : MS) : RF σ (fsI σ) := ⟨fun k i h1 h2 h3 h4 h5 => (fold_keep (f := ntS) (g := fun z : MS => z.1 k i) (fun a i => mu_nk h5) _ _).trans ((mu_nk h3).trans ((mu_nk h2).trans (mu_nk h1))), (fold_keep (f := ntS) (g := fun z : MS => z.2) (fun a i => rfl) _ _)⟩
theorem fsI_27 (σ : MS) : (fsI σ).1 27 0 = 0 := (fold_keep (f := ntS) (g := fun z : MS => z.1 27 0) (fun a i => mu_nk (by decide)) _ _).trans mu_hit
def firesF (M : Nat) (σ : MS) (x : Int32) : Int32 × MS :=
  (if (rsF M M (fsI σ) x).2.1 25 0 = 0 then (rsF M M (fsI σ) x).1 else if (rsF M M (fsI σ) x).2.1 25 0 = 1 then (rsF M M (fsI σ) x).2.1 26 0 else 0, (rsF M M (fsI σ) x).2)
theorem fires_ok {N K M : Nat} {σ : MS} {x : Int32} (h : RI N K M (fsI σ) 0) : RF σ (firesF M σ x).2 ∧ RI N K M (fsI (firesF M σ x).2) 0 ∧ ∃ t, t ≤ 200 ∧ (firesF M σ x).2.1 27 0 = nI t := by
  obtain ⟨f, t, g⟩ := rs_ok M (fsI σ) x 0 (Nat.le_refl _) h
  exact ⟨(fsI_RF σ).trans f, g.to (fsI_RF _) (fsI_27 _) (by omega), t, g.ht, g.h27⟩
theorem ch_RI {N K M : Nat} {σ z : MS} (c : CH K σ z M) (hM : M ≤ K) (hK2 : K ≤ 24) (hN2 : N ≤ 12) (hpq : ∀ h, h < K → ∃ q, q < N ∧ hkF σ 0 h = nI q) : RI N K M (fsI z) 0 := by
  have F := fsI_RF z
  refine ⟨(F.fr 23 0 (by decide) (by decide) (by decide) (by decide) (by decide)).trans c.h23, by omega, fun i hi => ?_, hK2, hN2, fun a ha => ?_, fsI_27 z, by omega⟩
  · obtain ⟨a, h1, h2⟩ := c.hen i hi
    exact ⟨a, h1, (F.fr 24 i (by decide) (by decide) (by decide) (by decide) (by decide)).trans h2⟩
  · obtain ⟨q, h1, h2⟩ := hpq a ha
    exact ⟨q, h1, (F.fr 5 _ (by decide) (by decide) (by decide) (by decide) (by decide)).trans ((c.fr 5 _ (by decide) (by decide)).trans h2)⟩
set_option maxHeartbeats 1000000 in
theorem met_X5_fires {Y : YT} {l : Launch} {m0 n u : Nat} {σ : MS} {B : AH} (hz : yz Y ≤ m0) (x_ : Int32) {N K M : Nat} (h0 : RI N K M (fsI σ) 0) : GM Y l yX5_fires (ws_ yX5_fires cX5_fires 3 (some FieldType.int)) 99 2525 [.ref m0, .int x_] (mG Y m0 σ B) n u 0 0 (pI (fun r G' n' u' => (firesF M σ x_).1 = r ∧ mG Y m0 ((firesF M σ x_).2) B = G' ∧ n = n' ∧ u = u')) noX := by
  refine GM.intro (own := RX5) rfl (by decide +kernel) (Nat.le_of_ble_eq_true rfl) ?_
  intro p e s m args below meth c R Q hC hr hnm hF hL hE
  have hE1 := hE.1
  have hE2 := hE.2.1
  show V Y p l e R s m args below meth c 3 n u (mG Y m0 σ B) n u Q 0 [(0, .ref m0), (1, .int x_)] []
  have hM2 := h0.hM2
  refine g_aload_n hC dX5_fires_0 rfl 0 rfl ?_
  refine g_iconst (v := 0) hC dX5_fires_1 rfl ?_
  refine m_put hC 25 (by decide) rfl (by decide) q3546 rfl rfl rfl hz dX5_fires_2 ?_
  refine g_aload_n hC dX5_fires_5 rfl 0 rfl ?_
  refine g_iconst (v := 0) hC dX5_fires_6 rfl ?_
  refine m_put hC 26 (by decide) rfl (by decide) q3547 rfl rfl rfl hz dX5_fires_7 ?_
  refine g_aload_n hC dX5_fires_10 rfl 0 rfl ?_
  refine g_iconst (v := 0) hC dX5_fires_11 rfl ?_
  refine m_put hC 27 (by decide) rfl (by decide) q3548 rfl rfl rfl hz dX5_fires_12 ?_
  refine g_iconst (v := 0) hC dX5_fires_15 rfl ?_
  refine g_istore_n (L' := [(2, .int 0), (0, .ref m0), (1, .int x_)]) hC dX5_fires_16 rfl (by decide) rfl ?_
  have hl_17 : ∀ (kf_ : Nat) (i : Nat), (i ≤ 12) → 12 - i < kf_ → V Y p l e R s m args below meth c 3 n u (mG Y m0 (foldN ntS (fs3 σ) i) B) n u Q 17 [(2, .int (nI i)), (0, .ref m0), (1, .int x_)] [] := by
    intro kf_
    induction kf_ with
    | zero => intro i hi hk_; exact absurd hk_ (Nat.not_lt_zero _)
    | succ kf_ ih_ =>
      intro i hi hk_
      refine g_iload_n hC dX5_fires_17 rfl 0 rfl ?_
      refine g_bipush (v := 12) hC dX5_fires_18 (by decide) ?_
      refine g_icmp_geN hC i 12 (by omega) (by omega) dX5_fires_20 (tgt := 36) (by decide) (fun c_20 => ?_) (fun c_20 => ?_)
      · have ee_ : 12 = i := by omega
        subst ee_
        obtain ⟨z, ez⟩ : ∃ z, fsI σ = z := ⟨_, rfl⟩
        show V Y p l e R s m args below meth c 3 n u (mG Y m0 (fsI σ) B) n u Q 36 _ _
        have hr9 := h0
        rw [ez] at hr9 ⊢
        refine g_aload_n hC dX5_fires_36 rfl 1 rfl ?_
        refine g_iconst (v := 0) hC dX5_fires_37 rfl ?_
        refine g_iload_n hC dX5_fires_38 rfl 2 rfl ?_
        refine g_calli0 hC (g_runV hC (met_X5_rest hz M z x_ 0 0 hr9 (by omega)) kc_X5 mG_o (lw_V q3914 q3916 qs75 q89 q3917) rfl md_X5_rest dX5_fires_39 rfl ⟨by omega, by omega⟩ (by omega) (by omega) rfl (Nat.le_of_ble_eq_true rfl)) (fun r_1 G_1 n_1 u_1 hp_1 hn_1 hm_1 hu_1 => ?_)
        obtain ⟨rfl, rfl, rfl, rfl⟩ := hp_1
        refine g_istore_n (L' := [(2, .int ((rsF M M z x_).1)), (0, .ref m0), (1, .int x_)]) hC dX5_fires_42 rfl (by decide) rfl ?_
        refine g_aload_n hC dX5_fires_43 rfl 1 rfl ?_
        refine m_get (v := .int (((rsF M M z x_).2).1 25 0)) hC 25 (by decide) q3546 rfl dX5_fires_44 ?_
        refine g_if_ne hC dX5_fires_47 (tgt := 54) (by decide) (fun c_47 => ?_) (fun c_47 => ?_)
        · refine g_aload_n hC dX5_fires_54 rfl 1 rfl ?_
          refine m_get (v := .int (((rsF M M z x_).2).1 25 0)) hC 25 (by decide) q3546 rfl dX5_fires_55 ?_
          refine g_iconst (v := 1) hC dX5_fires_58 rfl ?_
          refine g_icmp_ne hC dX5_fires_59 (tgt := 69) (by decide) (fun c_59 => ?_) (fun c_59 => ?_)
          · refine g_iconst (v := 0) hC dX5_fires_69 rfl ?_
            refine g_iret hC hr rfl ⟨_, rfl, ?_⟩ (by omega) (by omega) hE dX5_fires_70
            have h9 : firesF M σ x_ = (0, (rsF M M z x_).2) := by unfold firesF; rw [ez]; simp [c_47, c_59]
            exact ⟨by rw [h9], by rw [h9], rfl, rfl⟩
          · refine g_aload_n hC dX5_fires_62 rfl 1 rfl ?_
            refine m_get (v := .int (((rsF M M z x_).2).1 26 0)) hC 26 (by decide) q3547 rfl dX5_fires_63 ?_
            refine g_goto (tgt := 70) hC dX5_fires_66 (by decide) ?_
            refine g_iret hC hr rfl ⟨_, rfl, ?_⟩ (by omega) (by omega) hE dX5_fires_70
            have h9 : firesF M σ x_ = (((rsF M M z x_).2).1 26 0, (rsF M M z x_).2) := by unfold firesF; rw [ez]; simp [c_47, c_59]
            exact ⟨by rw [h9], by rw [h9], rfl, rfl⟩
        · refine g_iload_n hC dX5_fires_50 rfl 0 rfl ?_
          refine g_goto (tgt := 70) hC dX5_fires_51 (by decide) ?_
          refine g_iret hC hr rfl ⟨_, rfl, ?_⟩ (by omega) (by omega) hE dX5_fires_70
          have h9 : firesF M σ x_ = ((rsF M M z x_).1, (rsF M M z x_).2) := by unfold firesF; rw [ez]; simp [c_47]
          exact ⟨by rw [h9], by rw [h9], rfl, rfl⟩
      · refine g_aload_n hC dX5_fires_23 rfl 1 rfl ?_
        refine m_get (v := .ref (m0 + 13)) hC 29 (by decide) q3550 rfl dX5_fires_24 ?_
        refine g_iload_n hC dX5_fires_27 rfl 0 rfl ?_
        refine g_iconst (v := 0) hC dX5_fires_28 rfl ?_
        refine m_ast hC 29 i rfl (show i < 12 from by omega) (by omega) hz dX5_fires_29 ?_
        refine g_iincN (L' := [(2, .int (nI (i + 1))), (0, .ref m0), (1, .int x_)]) hC 1 i dX5_fires_30 (k := 0) rfl (by decide) (by decide) rfl ?_
        refine g_goto (tgt := 17) hC dX5_fires_33 (by decide) ?_
        have h_ := ih_ (i + 1) (by omega) (by omega)
        have e_0 : foldN ntS (fs3 σ) (i + 1) = (mu (foldN ntS (fs3 σ) i) 29 i 0) := by first | rfl | (simp [foldN, ntS, c_20]; done)
        rw [e_0] at h_
        exact h_
  exact hl_17 (12 - 0 + 1) 0 (by omega) (by omega)
