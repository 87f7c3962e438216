set_option maxRecDepth 100000
/-! COMPONENT, 2: exceptions made, leaf classes, the log, the small methods of the host -/
set_option maxHeartbeats 1000000 in
theorem met_J3_init_3_X6 {Y : YT} {l : Launch} {n u : Nat} {G : AH} (a_ : Nat)  (h1 : G a_ = some (.inr (6, [.null, .null, .null, .null, .null, .int 0, .int 0]))) (hz : yz Y ≤ a_) : GM Y l yJ3_init_3 (ws_ yJ3_init_3 cJ3_init_3 5 none) 1 24 [.ref a_, .null, .null, .int 0, .int 0] G n u 0 0 (pV (fun G' n' u' => G' a_ = some (.inr (6, [.null, .null, .null, .null, .null, .int 0, .int 0])) ∧ FR (fun q_ => q_ = a_) n G G' ∧ n = n' ∧ u = u')) noX := by
  refine GM.intro (own := RJ3) rfl (by decide +kernel) (Nat.le_of_ble_eq_true rfl) ?_
  intro p e s m args below meth c R Q hC hr hnm hF hL hE
  have hE1 := hE.1
  have hE2 := hE.2.1
  have hnz : yz Y ≤ n := by have := hC.z; have := hC.n; omega
  show V Y p l e R s m args below meth c 5 n u G n u Q 0 [(0, .ref a_), (1, .null), (2, .null), (3, .int 0), (4, .int 0)] []
  refine V.lts (fun hlt => ?_)
  have hl_a_ : a_ < n := hlt _ _ h1
  refine g_aload_n hC dJ3_init_3_0 rfl 0 rfl ?_
  refine V.lts (fun lc_1 => ?_)
  refine g_objInit hC q436 q178 q179 dJ3_init_3_1 (by omega) (by first | (simp; omega) | (simp [Value.category]; omega)) ?_
  refine g_aload_n hC dJ3_init_3_4 rfl 0 rfl ?_
  refine g_aload_n hC dJ3_init_3_5 rfl 0 rfl ?_
  obtain ⟨G_2, eG_2⟩ : ∃ G_, gU G a_ (.inr (6, [.ref a_, .null, .null, .null, .null, .int 0, .int 0])) = G_ := ⟨_, rfl⟩
  have hf_3 : FR (fun q_ => q_ = a_) n G G_2 := by rw [← eG_2]; exact FR.put FR.refl (.inl rfl)
  refine g_put hC kc_X6 h1 0 (by decide) q460 rfl rfl rfl (by show 0 < 7; decide) rfl (by omega) (G' := G_2) eG_2 dJ3_init_3_6 ?_
  have o_4 : G_2 a_ = some (.inr (6, [.ref a_, .null, .null, .null, .null, .int 0, .int 0])) := by rw [← eG_2]; exact gU_s _ _ _
  refine g_aload_n hC dJ3_init_3_9 rfl 0 rfl ?_
  obtain ⟨r_5, hZr_5⟩ := hC.K.stR q438 q90 sn_UNASSIGNED_STACK
  refine g_gets (v := va_rf r_5) hC hZr_5 q437 dJ3_init_3_10 ?_
  obtain ⟨G_6, eG_6⟩ : ∃ G_, gU G_2 a_ (.inr (6, [.ref a_, va_rf r_5, .null, .null, .null, .int 0, .int 0])) = G_ := ⟨_, rfl⟩
  have hf_7 : FR (fun q_ => q_ = a_) n G G_6 := by rw [← eG_6]; exact FR.put hf_3 (.inl rfl)
  refine g_put hC kc_X6 o_4 1 (by decide) q461 rfl (rf_narA _) (rf_fitA _) (by show 1 < 7; decide) rfl (by omega) (G' := G_6) eG_6 dJ3_init_3_13 ?_
  have o_8 : G_6 a_ = some (.inr (6, [.ref a_, va_rf r_5, .null, .null, .null, .int 0, .int 0])) := by rw [← eG_6]; exact gU_s _ _ _
  refine g_aload_n hC dJ3_init_3_16 rfl 0 rfl ?_
  obtain ⟨r_9, hZr_9⟩ := hC.K.stR q440 q90 sn_SUPPRESSED_SENTINEL
  refine g_gets (v := va_rf r_9) hC hZr_9 q439 dJ3_init_3_17 ?_
  obtain ⟨G_10, eG_10⟩ : ∃ G_, gU G_6 a_ (.inr (6, [.ref a_, va_rf r_5, va_rf r_9, .null, .null, .int 0, .int 0])) = G_ := ⟨_, rfl⟩
  have hf_11 : FR (fun q_ => q_ = a_) n G G_10 := by rw [← eG_10]; exact FR.put hf_7 (.inl rfl)
  refine g_put hC kc_X6 o_8 2 (by decide) q462 rfl (rf_nar _) (rf_fit _) (by show 2 < 7; decide) rfl (by omega) (G' := G_10) eG_10 dJ3_init_3_20 ?_
  have o_12 : G_10 a_ = some (.inr (6, [.ref a_, va_rf r_5, va_rf r_9, .null, .null, .int 0, .int 0])) := by rw [← eG_10]; exact gU_s _ _ _
  refine g_iload hC dJ3_init_3_23 4 rfl ?_
  refine g_if_eqN hC 0 (by omega) dJ3_init_3_25 (tgt := 36) (by decide) (fun c_25 => ?_) (fun c_25 => ?_)
  · refine g_aload_n hC dJ3_init_3_36 rfl 0 rfl ?_
    refine g_null hC dJ3_init_3_37 ?_
    obtain ⟨G_13, eG_13⟩ : ∃ G_, gU G_10 a_ (.inr (6, [.ref a_, .null, va_rf r_9, .null, .null, .int 0, .int 0])) = G_ := ⟨_, rfl⟩
    have hf_14 : FR (fun q_ => q_ = a_) n G G_13 := by rw [← eG_13]; exact FR.put hf_11 (.inl rfl)
    refine g_put hC kc_X6 o_12 1 (by decide) q461 rfl rfl rfl (by show 1 < 7; decide) rfl (by omega) (G' := G_13) eG_13 dJ3_init_3_38 ?_
    have o_15 : G_13 a_ = some (.inr (6, [.ref a_, .null, va_rf r_9, .null, .null, .int 0, .int 0])) := by rw [← eG_13]; exact gU_s _ _ _
    refine g_aload_n hC dJ3_init_3_41 rfl 0 rfl ?_
    refine g_aload_nN hC dJ3_init_3_42 rfl 1 rfl ?_
    obtain ⟨G_16, eG_16⟩ : ∃ G_, gU G_13 a_ (.inr (6, [.ref a_, .null, va_rf r_9, .null, .null, .int 0, .int 0])) = G_ := ⟨_, rfl⟩
    have hf_17 : FR (fun q_ => q_ = a_) n G G_16 := by rw [← eG_16]; exact FR.put hf_14 (.inl rfl)
    refine g_put hC kc_X6 o_15 3 (by decide) q459 rfl rfl rfl (by show 3 < 7; decide) rfl (by omega) (G' := G_16) eG_16 dJ3_init_3_43 ?_
    have o_18 : G_16 a_ = some (.inr (6, [.ref a_, .null, va_rf r_9, .null, .null, .int 0, .int 0])) := by rw [← eG_16]; exact gU_s _ _ _
    refine g_aload_n hC dJ3_init_3_46 rfl 0 rfl ?_
    refine g_aload_nN hC dJ3_init_3_47 rfl 2 rfl ?_
    obtain ⟨G_19, eG_19⟩ : ∃ G_, gU G_16 a_ (.inr (6, [.null, .null, va_rf r_9, .null, .null, .int 0, .int 0])) = G_ := ⟨_, rfl⟩
    have hf_20 : FR (fun q_ => q_ = a_) n G G_19 := by rw [← eG_19]; exact FR.put hf_17 (.inl rfl)
    refine g_put hC kc_X6 o_18 0 (by decide) q460 rfl rfl rfl (by show 0 < 7; decide) rfl (by omega) (G' := G_19) eG_19 dJ3_init_3_48 ?_
    have o_21 : G_19 a_ = some (.inr (6, [.null, .null, va_rf r_9, .null, .null, .int 0, .int 0])) := by rw [← eG_19]; exact gU_s _ _ _
    refine g_iload_n hC dJ3_init_3_51 rfl 3 rfl ?_
    refine g_if_neN hC 0 (by omega) dJ3_init_3_52 (tgt := 60) (by decide) (fun c_52 => ?_) (fun c_52 => ?_)
    · first | exact absurd c_52 (by decide) | exact absurd c_52 (by omega)
    · refine g_aload_n hC dJ3_init_3_55 rfl 0 rfl ?_
      refine g_null hC dJ3_init_3_56 ?_
      obtain ⟨G_22, eG_22⟩ : ∃ G_, gU G_19 a_ (.inr (6, [.null, .null, .null, .null, .null, .int 0, .int 0])) = G_ := ⟨_, rfl⟩
      have hf_23 : FR (fun q_ => q_ = a_) n G G_22 := by rw [← eG_22]; exact FR.put hf_20 (.inl rfl)
      refine g_put hC kc_X6 o_21 2 (by decide) q462 rfl rfl rfl (by show 2 < 7; decide) rfl (by omega) (G' := G_22) eG_22 dJ3_init_3_57 ?_
      have o_24 : G_22 a_ = some (.inr (6, [.null, .null, .null, .null, .null, .int 0, .int 0])) := by rw [← eG_22]; exact gU_s _ _ _
      refine g_vret hC hr ⟨rfl, ?_⟩ (by omega) (by omega) hE dJ3_init_3_60
      exact ⟨o_24, hf_23, rfl, rfl⟩
  · first | exact absurd c_25 (by decide) | exact absurd c_25 (by omega)
set_option maxHeartbeats 1000000 in
theorem met_J4_init_2_X6 {Y : YT} {l : Launch} {n u : Nat} {G : AH} (a_ : Nat)  (h1 : G a_ = some (.inr (6, [.null, .null, .null, .null, .null, .int 0, .int 0]))) (hz : yz Y ≤ a_) : GM Y l yJ4_init_2 (ws_ yJ4_init_2 cJ4_init_2 5 none) 2 48 [.ref a_, .null, .null, .int 0, .int 0] G n u 0 0 (pV (fun G' n' u' => G' a_ = some (.inr (6, [.null, .null, .null, .null, .null, .int 0, .int 0])) ∧ FR (fun q_ => q_ = a_) n G G' ∧ n = n' ∧ u = u')) noX := by
  refine GM.intro (own := RJ4) rfl (by decide +kernel) (Nat.le_of_ble_eq_true rfl) ?_
  intro p e s m args below meth c R Q hC hr hnm hF hL hE
  have hE1 := hE.1
  have hE2 := hE.2.1
  have hnz : yz Y ≤ n := by have := hC.z; have := hC.n; omega
  show V Y p l e R s m args below meth c 5 n u G n u Q 0 [(0, .ref a_), (1, .null), (2, .null), (3, .int 0), (4, .int 0)] []
  refine V.lts (fun hlt => ?_)
  have hl_a_ : a_ < n := hlt _ _ h1
  refine g_aload_n hC dJ4_init_2_0 rfl 0 rfl ?_
  refine g_aload_nN hC dJ4_init_2_1 rfl 1 rfl ?_
  refine g_aload_nN hC dJ4_init_2_2 rfl 2 rfl ?_
  refine g_iload_n hC dJ4_init_2_3 rfl 3 rfl ?_
  refine g_iload hC dJ4_init_2_4 4 rfl ?_
  refine V.lts (fun lc_1 => ?_)
  refine g_callv0 hC (g_runI (ret := none) hC (met_J3_init_3_X6 (G := G) a_ h1 (by omega)) (lw_meth q517) q90 q515 q516 rfl md_J3_init_3 dJ4_init_2_6 rfl ⟨by omega, by omega⟩ (by omega) (by omega) rfl (Nat.le_of_ble_eq_true rfl)) (fun G_2 n_2 u_2 hp_2 hn_2 hm_2 hu_2 => ?_)
  obtain ⟨ho_2, hf_2, rfl, rfl⟩ := hp_2
  have hf_3 : FR (fun q_ => q_ = a_) n G G_2 := FR.refl.trans hf_2 (by omega) (fun a_ q_ => by first | exact .inl q_ | (subst q_; first | exact .inr (by omega) | exact .inl rfl))
  refine g_vret hC hr ⟨rfl, ?_⟩ (by omega) (by omega) hE dJ4_init_2_9
  exact ⟨ho_2, hf_3, rfl, rfl⟩
set_option maxHeartbeats 1000000 in
theorem met_X6_init {Y : YT} {l : Launch} {n u : Nat} {G : AH} (a_ : Nat) (x1 : Int32)  (h1 : G a_ = some (.inr (6, [.null, .null, .null, .null, .null, .int 0, .int 0]))) (hz : yz Y ≤ a_) : GM Y l yX6_init (ws_ yX6_init cX6_init 2 none) 3 72 [.ref a_, .int x1] G n u 0 0 (pV (fun G' n' u' => G' a_ = some (.inr (6, [.null, .null, .null, .null, .null, .int 0, .int x1])) ∧ FR (fun q_ => q_ = a_) n G G' ∧ n = n' ∧ u = u')) noX := by
  refine GM.intro (own := RX6) rfl (by decide +kernel) (Nat.le_of_ble_eq_true rfl) ?_
  intro p e s m args below meth c R Q hC hr hnm hF hL hE
  have hE1 := hE.1
  have hE2 := hE.2.1
  have hnz : yz Y ≤ n := by have := hC.z; have := hC.n; omega
  show V Y p l e R s m args below meth c 2 n u G n u Q 0 [(0, .ref a_), (1, .int x1)] []
  refine V.lts (fun hlt => ?_)
  have hl_a_ : a_ < n := hlt _ _ h1
  refine g_aload_n hC dX6_init_0 rfl 0 rfl ?_
  refine g_null hC dX6_init_1 ?_
  refine g_null hC dX6_init_2 ?_
  refine g_iconst (v := 0) hC dX6_init_3 rfl ?_
  refine g_iconst (v := 0) hC dX6_init_4 rfl ?_
  refine V.lts (fun lc_1 => ?_)
  refine g_callv0 hC (g_runI (ret := none) hC (met_J4_init_2_X6 (G := G) a_ h1 (by omega)) (lw_meth q514) q91 q512 q513 rfl md_J4_init_2 dX6_init_5 rfl ⟨by omega, by omega⟩ (by omega) (by omega) rfl (Nat.le_of_ble_eq_true rfl)) (fun G_2 n_2 u_2 hp_2 hn_2 hm_2 hu_2 => ?_)
  obtain ⟨ho_2, hf_2, rfl, rfl⟩ := hp_2
  have hf_3 : FR (fun q_ => q_ = a_) n G G_2 := FR.refl.trans hf_2 (by omega) (fun a_ q_ => by first | exact .inl q_ | (subst q_; first | exact .inr (by omega) | exact .inl rfl))
  refine g_aload_n hC dX6_init_8 rfl 0 rfl ?_
  refine g_iload_n hC dX6_init_9 rfl 1 rfl ?_
  obtain ⟨G_4, eG_4⟩ : ∃ G_, gU G_2 a_ (.inr (6, [.null, .null, .null, .null, .null, .int 0, .int x1])) = G_ := ⟨_, rfl⟩
  have hf_5 : FR (fun q_ => q_ = a_) n G G_4 := by rw [← eG_4]; exact FR.put hf_3 (.inl rfl)
  refine g_putF hC hnm kc_X6 ho_2 6 (by decide) q518 rfl rfl rfl rfl (by show 6 < 7; decide) rfl (by omega) (G' := G_4) eG_4 dX6_init_10 ?_
  have o_6 : G_4 a_ = some (.inr (6, [.null, .null, .null, .null, .null, .int 0, .int x1])) := by rw [← eG_4]; exact gU_s _ _ _
  refine g_vret hC hr ⟨rfl, ?_⟩ (by omega) (by omega) hE dX6_init_13
  exact ⟨o_6, hf_5, rfl, rfl⟩
set_option maxHeartbeats 1000000 in
theorem met_J3_init_3_X18 {Y : YT} {l : Launch} {n u : Nat} {G : AH} (a_ : Nat)  (h1 : G a_ = some (.inr (17, [.null, .null, .null, .null, .null, .int 0, .int 0]))) (hz : yz Y ≤ a_) : GM Y l yJ3_init_3 (ws_ yJ3_init_3 cJ3_init_3 5 none) 1 24 [.ref a_, .null, .null, .int 0, .int 0] G n u 0 0 (pV (fun G' n' u' => G' a_ = some (.inr (17, [.null, .null, .null, .null, .null, .int 0, .int 0])) ∧ FR (fun q_ => q_ = a_) n G G' ∧ n = n' ∧ u = u')) noX := by
  refine GM.intro (own := RJ3) rfl (by decide +kernel) (Nat.le_of_ble_eq_true rfl) ?_
  intro p e s m args below meth c R Q hC hr hnm hF hL hE
  have hE1 := hE.1
  have hE2 := hE.2.1
  have hnz : yz Y ≤ n := by have := hC.z; have := hC.n; omega
  show V Y p l e R s m args below meth c 5 n u G n u Q 0 [(0, .ref a_), (1, .null), (2, .null), (3, .int 0), (4, .int 0)] []
  refine V.lts (fun hlt => ?_)
  have hl_a_ : a_ < n := hlt _ _ h1
  refine g_aload_n hC dJ3_init_3_0 rfl 0 rfl ?_
  refine V.lts (fun lc_1 => ?_)
  refine g_objInit hC q436 q178 q179 dJ3_init_3_1 (by omega) (by first | (simp; omega) | (simp [Value.category]; omega)) ?_
  refine g_aload_n hC dJ3_init_3_4 rfl 0 rfl ?_
  refine g_aload_n hC dJ3_init_3_5 rfl 0 rfl ?_
  obtain ⟨G_2, eG_2⟩ : ∃ G_, gU G a_ (.inr (17, [.ref a_, .null, .null, .null, .null, .int 0, .int 0])) = G_ := ⟨_, rfl⟩
  have hf_3 : FR (fun q_ => q_ = a_) n G G_2 := by rw [← eG_2]; exact FR.put FR.refl (.inl rfl)
  refine g_put hC kc_X18 h1 0 (by decide) q460 rfl rfl rfl (by show 0 < 7; decide) rfl (by omega) (G' := G_2) eG_2 dJ3_init_3_6 ?_
  have o_4 : G_2 a_ = some (.inr (17, [.ref a_, .null, .null, .null, .null, .int 0, .int 0])) := by rw [← eG_2]; exact gU_s _ _ _
  refine g_aload_n hC dJ3_init_3_9 rfl 0 rfl ?_
  obtain ⟨r_5, hZr_5⟩ := hC.K.stR q438 q90 sn_UNASSIGNED_STACK
  refine g_gets (v := va_rf r_5) hC hZr_5 q437 dJ3_init_3_10 ?_
  obtain ⟨G_6, eG_6⟩ : ∃ G_, gU G_2 a_ (.inr (17, [.ref a_, va_rf r_5, .null, .null, .null, .int 0, .int 0])) = G_ := ⟨_, rfl⟩
  have hf_7 : FR (fun q_ => q_ = a_) n G G_6 := by rw [← eG_6]; exact FR.put hf_3 (.inl rfl)
  refine g_put hC kc_X18 o_4 1 (by decide) q461 rfl (rf_narA _) (rf_fitA _) (by show 1 < 7; decide) rfl (by omega) (G' := G_6) eG_6 dJ3_init_3_13 ?_
  have o_8 : G_6 a_ = some (.inr (17, [.ref a_, va_rf r_5, .null, .null, .null, .int 0, .int 0])) := by rw [← eG_6]; exact gU_s _ _ _
  refine g_aload_n hC dJ3_init_3_16 rfl 0 rfl ?_
  obtain ⟨r_9, hZr_9⟩ := hC.K.stR q440 q90 sn_SUPPRESSED_SENTINEL
  refine g_gets (v := va_rf r_9) hC hZr_9 q439 dJ3_init_3_17 ?_
  obtain ⟨G_10, eG_10⟩ : ∃ G_, gU G_6 a_ (.inr (17, [.ref a_, va_rf r_5, va_rf r_9, .null, .null, .int 0, .int 0])) = G_ := ⟨_, rfl⟩
  have hf_11 : FR (fun q_ => q_ = a_) n G G_10 := by rw [← eG_10]; exact FR.put hf_7 (.inl rfl)
  refine g_put hC kc_X18 o_8 2 (by decide) q462 rfl (rf_nar _) (rf_fit _) (by show 2 < 7; decide) rfl (by omega) (G' := G_10) eG_10 dJ3_init_3_20 ?_
  have o_12 : G_10 a_ = some (.inr (17, [.ref a_, va_rf r_5, va_rf r_9, .null, .null, .int 0, .int 0])) := by rw [← eG_10]; exact gU_s _ _ _
  refine g_iload hC dJ3_init_3_23 4 rfl ?_
  refine g_if_eqN hC 0 (by omega) dJ3_init_3_25 (tgt := 36) (by decide) (fun c_25 => ?_) (fun c_25 => ?_)
  · refine g_aload_n hC dJ3_init_3_36 rfl 0 rfl ?_
    refine g_null hC dJ3_init_3_37 ?_
    obtain ⟨G_13, eG_13⟩ : ∃ G_, gU G_10 a_ (.inr (17, [.ref a_, .null, va_rf r_9, .null, .null, .int 0, .int 0])) = G_ := ⟨_, rfl⟩
    have hf_14 : FR (fun q_ => q_ = a_) n G G_13 := by rw [← eG_13]; exact FR.put hf_11 (.inl rfl)
    refine g_put hC kc_X18 o_12 1 (by decide) q461 rfl rfl rfl (by show 1 < 7; decide) rfl (by omega) (G' := G_13) eG_13 dJ3_init_3_38 ?_
    have o_15 : G_13 a_ = some (.inr (17, [.ref a_, .null, va_rf r_9, .null, .null, .int 0, .int 0])) := by rw [← eG_13]; exact gU_s _ _ _
    refine g_aload_n hC dJ3_init_3_41 rfl 0 rfl ?_
    refine g_aload_nN hC dJ3_init_3_42 rfl 1 rfl ?_
    obtain ⟨G_16, eG_16⟩ : ∃ G_, gU G_13 a_ (.inr (17, [.ref a_, .null, va_rf r_9, .null, .null, .int 0, .int 0])) = G_ := ⟨_, rfl⟩
    have hf_17 : FR (fun q_ => q_ = a_) n G G_16 := by rw [← eG_16]; exact FR.put hf_14 (.inl rfl)
    refine g_put hC kc_X18 o_15 3 (by decide) q459 rfl rfl rfl (by show 3 < 7; decide) rfl (by omega) (G' := G_16) eG_16 dJ3_init_3_43 ?_
    have o_18 : G_16 a_ = some (.inr (17, [.ref a_, .null, va_rf r_9, .null, .null, .int 0, .int 0])) := by rw [← eG_16]; exact gU_s _ _ _
    refine g_aload_n hC dJ3_init_3_46 rfl 0 rfl ?_
    refine g_aload_nN hC dJ3_init_3_47 rfl 2 rfl ?_
    obtain ⟨G_19, eG_19⟩ : ∃ G_, gU G_16 a_ (.inr (17, [.null, .null, va_rf r_9, .null, .null, .int 0, .int 0])) = G_ := ⟨_, rfl⟩
    have hf_20 : FR (fun q_ => q_ = a_) n G G_19 := by rw [← eG_19]; exact FR.put hf_17 (.inl rfl)
    refine g_put hC kc_X18 o_18 0 (by decide) q460 rfl rfl rfl (by show 0 < 7; decide) rfl (by omega) (G' := G_19) eG_19 dJ3_init_3_48 ?_
    have o_21 : G_19 a_ = some (.inr (17, [.null, .null, va_rf r_9, .null, .null, .int 0, .int 0])) := by rw [← eG_19]; exact gU_s _ _ _
    refine g_iload_n hC dJ3_init_3_51 rfl 3 rfl ?_
    refine g_if_neN hC 0 (by omega) dJ3_init_3_52 (tgt := 60) (by decide) (fun c_52 => ?_) (fun c_52 => ?_)
    · first | exact absurd c_52 (by decide) | exact absurd c_52 (by omega)
    · refine g_aload_n hC dJ3_init_3_55 rfl 0 rfl ?_
      refine g_null hC dJ3_init_3_56 ?_
      obtain ⟨G_22, eG_22⟩ : ∃ G_, gU G_19 a_ (.inr (17, [.null, .null, .null, .null, .null, .int 0, .int 0])) = G_ := ⟨_, rfl⟩
      have hf_23 : FR (fun q_ => q_ = a_) n G G_22 := by rw [← eG_22]; exact FR.put hf_20 (.inl rfl)
      refine g_put hC kc_X18 o_21 2 (by decide) q462 rfl rfl rfl (by show 2 < 7; decide) rfl (by omega) (G' := G_22) eG_22 dJ3_init_3_57 ?_
      have o_24 : G_22 a_ = some (.inr (17, [.null, .null, .null, .null, .null, .int 0, .int 0])) := by rw [← eG_22]; exact gU_s _ _ _
      refine g_vret hC hr ⟨rfl, ?_⟩ (by omega) (by omega) hE dJ3_init_3_60
      exact ⟨o_24, hf_23, rfl, rfl⟩
  · first | exact absurd c_25 (by decide) | exact absurd c_25 (by omega)
set_option maxHeartbeats 1000000 in
theorem met_J4_init_2_X18 {Y : YT} {l : Launch} {n u : Nat} {G : AH} (a_ : Nat)  (h1 : G a_ = some (.inr (17, [.null, .null, .null, .null, .null, .int 0, .int 0]))) (hz : yz Y ≤ a_) : GM Y l yJ4_init_2 (ws_ yJ4_init_2 cJ4_init_2 5 none) 2 48 [.ref a_, .null, .null, .int 0, .int 0] G n u 0 0 (pV (fun G' n' u' => G' a_ = some (.inr (17, [.null, .null, .null, .null, .null, .int 0, .int 0])) ∧ FR (fun q_ => q_ = a_) n G G' ∧ n = n' ∧ u = u')) noX := by
  refine GM.intro (own := RJ4) rfl (by decide +kernel) (Nat.le_of_ble_eq_true rfl) ?_
  intro p e s m args below meth c R Q hC hr hnm hF hL hE
  have hE1 := hE.1
  have hE2 := hE.2.1
  have hnz : yz Y ≤ n := by have := hC.z; have := hC.n; omega
  show V Y p l e R s m args below meth c 5 n u G n u Q 0 [(0, .ref a_), (1, .null), (2, .null), (3, .int 0), (4, .int 0)] []
  refine V.lts (fun hlt => ?_)
  have hl_a_ : a_ < n := hlt _ _ h1
  refine g_aload_n hC dJ4_init_2_0 rfl 0 rfl ?_
  refine g_aload_nN hC dJ4_init_2_1 rfl 1 rfl ?_
  refine g_aload_nN hC dJ4_init_2_2 rfl 2 rfl ?_
  refine g_iload_n hC dJ4_init_2_3 rfl 3 rfl ?_
  refine g_iload hC dJ4_init_2_4 4 rfl ?_
  refine V.lts (fun lc_1 => ?_)
  refine g_callv0 hC (g_runI (ret := none) hC (met_J3_init_3_X18 (G := G) a_ h1 (by omega)) (lw_meth q517) q90 q515 q516 rfl md_J3_init_3 dJ4_init_2_6 rfl ⟨by omega, by omega⟩ (by omega) (by omega) rfl (Nat.le_of_ble_eq_true rfl)) (fun G_2 n_2 u_2 hp_2 hn_2 hm_2 hu_2 => ?_)
  obtain ⟨ho_2, hf_2, rfl, rfl⟩ := hp_2
  have hf_3 : FR (fun q_ => q_ = a_) n G G_2 := FR.refl.trans hf_2 (by omega) (fun a_ q_ => by first | exact .inl q_ | (subst q_; first | exact .inr (by omega) | exact .inl rfl))
  refine g_vret hC hr ⟨rfl, ?_⟩ (by omega) (by omega) hE dJ4_init_2_9
  exact ⟨ho_2, hf_3, rfl, rfl⟩
set_option maxHeartbeats 1000000 in
theorem met_X18_init {Y : YT} {l : Launch} {n u : Nat} {G : AH} (a_ : Nat) (x1 : Int32)  (h1 : G a_ = some (.inr (17, [.null, .null, .null, .null, .null, .int 0, .int 0]))) (hz : yz Y ≤ a_) : GM Y l yX18_init (ws_ yX18_init cX18_init 2 none) 3 72 [.ref a_, .int x1] G n u 0 0 (pV (fun G' n' u' => G' a_ = some (.inr (17, [.null, .null, .null, .null, .null, .int 0, .int x1])) ∧ FR (fun q_ => q_ = a_) n G G' ∧ n = n' ∧ u = u')) noX := by
  refine GM.intro (own := RX18) rfl (by decide +kernel) (Nat.le_of_ble_eq_true rfl) ?_
  intro p e s m args below meth c R Q hC hr hnm hF hL hE
  have hE1 := hE.1
  have hE2 := hE.2.1
  have hnz : yz Y ≤ n := by have := hC.z; have := hC.n; omega
  show V Y p l e R s m args below meth c 2 n u G n u Q 0 [(0, .ref a_), (1, .int x1)] []
  refine V.lts (fun hlt => ?_)
  have hl_a_ : a_ < n := hlt _ _ h1
  refine g_aload_n hC dX18_init_0 rfl 0 rfl ?_
  refine g_null hC dX18_init_1 ?_
  refine g_null hC dX18_init_2 ?_
  refine g_iconst (v := 0) hC dX18_init_3 rfl ?_
  refine g_iconst (v := 0) hC dX18_init_4 rfl ?_
  refine V.lts (fun lc_1 => ?_)
  refine g_callv0 hC (g_runI (ret := none) hC (met_J4_init_2_X18 (G := G) a_ h1 (by omega)) (lw_meth q514) q91 q1702 q513 rfl md_J4_init_2 dX18_init_5 rfl ⟨by omega, by omega⟩ (by omega) (by omega) rfl (Nat.le_of_ble_eq_true rfl)) (fun G_2 n_2 u_2 hp_2 hn_2 hm_2 hu_2 => ?_)
  obtain ⟨ho_2, hf_2, rfl, rfl⟩ := hp_2
  have hf_3 : FR (fun q_ => q_ = a_) n G G_2 := FR.refl.trans hf_2 (by omega) (fun a_ q_ => by first | exact .inl q_ | (subst q_; first | exact .inr (by omega) | exact .inl rfl))
  refine g_aload_n hC dX18_init_8 rfl 0 rfl ?_
  refine g_iload_n hC dX18_init_9 rfl 1 rfl ?_
  obtain ⟨G_4, eG_4⟩ : ∃ G_, gU G_2 a_ (.inr (17, [.null, .null, .null, .null, .null, .int 0, .int x1])) = G_ := ⟨_, rfl⟩
  have hf_5 : FR (fun q_ => q_ = a_) n G G_4 := by rw [← eG_4]; exact FR.put hf_3 (.inl rfl)
  refine g_putF hC hnm kc_X18 ho_2 6 (by decide) q1703 rfl rfl rfl rfl (by show 6 < 7; decide) rfl (by omega) (G' := G_4) eG_4 dX18_init_10 ?_
  have o_6 : G_4 a_ = some (.inr (17, [.null, .null, .null, .null, .null, .int 0, .int x1])) := by rw [← eG_4]; exact gU_s _ _ _
  refine g_vret hC hr ⟨rfl, ?_⟩ (by omega) (by omega) hE dX18_init_13
  exact ⟨o_6, hf_5, rfl, rfl⟩
set_option maxHeartbeats 1000000 in
theorem met_J3_init_3_X22 {Y : YT} {l : Launch} {n u : Nat} {G : AH} (a_ : Nat) (c_ : Option Nat)  (h1 : G a_ = some (.inr (21, [.null, .null, .null, .null, .null, .int 0, .int 0, .int 0, .int 0]))) (hz : yz Y ≤ a_) : GM Y l yJ3_init_3 (ws_ yJ3_init_3 cJ3_init_3 5 none) 1 24 [.ref a_, .null, va_rf c_, .int 0, .int 0] G n u 0 0 (pV (fun G' n' u' => G' a_ = some (.inr (21, [va_rf c_, .null, .null, .null, .null, .int 0, .int 0, .int 0, .int 0])) ∧ FR (fun q_ => q_ = a_) n G G' ∧ n = n' ∧ u = u')) noX := by
  rcases c_ with _ | c_
  · refine GM.intro (own := RJ3) rfl (by decide +kernel) (Nat.le_of_ble_eq_true rfl) ?_
    intro p e s m args below meth c R Q hC hr hnm hF hL hE
    have hE1 := hE.1
    have hE2 := hE.2.1
    have hnz : yz Y ≤ n := by have := hC.z; have := hC.n; omega
    show V Y p l e R s m args below meth c 5 n u G n u Q 0 [(0, .ref a_), (1, .null), (2, .null), (3, .int 0), (4, .int 0)] []
    refine V.lts (fun hlt => ?_)
    have hl_a_ : a_ < n := hlt _ _ h1
    refine g_aload_n hC dJ3_init_3_0 rfl 0 rfl ?_
    refine V.lts (fun lc_1 => ?_)
    refine g_objInit hC q436 q178 q179 dJ3_init_3_1 (by omega) (by first | (simp; omega) | (simp [Value.category]; omega)) ?_
    refine g_aload_n hC dJ3_init_3_4 rfl 0 rfl ?_
    refine g_aload_n hC dJ3_init_3_5 rfl 0 rfl ?_
    obtain ⟨G_2, eG_2⟩ : ∃ G_, gU G a_ (.inr (21, [.ref a_, .null, .null, .null, .null, .int 0, .int 0, .int 0, .int 0])) = G_ := ⟨_, rfl⟩
    have hf_3 : FR (fun q_ => q_ = a_) n G G_2 := by rw [← eG_2]; exact FR.put FR.refl (.inl rfl)
    refine g_put hC kc_X22 h1 0 (by decide) q460 rfl rfl rfl (by show 0 < 9; decide) rfl (by omega) (G' := G_2) eG_2 dJ3_init_3_6 ?_
    have o_4 : G_2 a_ = some (.inr (21, [.ref a_, .null, .null, .null, .null, .int 0, .int 0, .int 0, .int 0])) := by rw [← eG_2]; exact gU_s _ _ _
    refine g_aload_n hC dJ3_init_3_9 rfl 0 rfl ?_
    obtain ⟨r_5, hZr_5⟩ := hC.K.stR q438 q90 sn_UNASSIGNED_STACK
    refine g_gets (v := va_rf r_5) hC hZr_5 q437 dJ3_init_3_10 ?_
    obtain ⟨G_6, eG_6⟩ : ∃ G_, gU G_2 a_ (.inr (21, [.ref a_, va_rf r_5, .null, .null, .null, .int 0, .int 0, .int 0, .int 0])) = G_ := ⟨_, rfl⟩
    have hf_7 : FR (fun q_ => q_ = a_) n G G_6 := by rw [← eG_6]; exact FR.put hf_3 (.inl rfl)
    refine g_put hC kc_X22 o_4 1 (by decide) q461 rfl (rf_narA _) (rf_fitA _) (by show 1 < 9; decide) rfl (by omega) (G' := G_6) eG_6 dJ3_init_3_13 ?_
    have o_8 : G_6 a_ = some (.inr (21, [.ref a_, va_rf r_5, .null, .null, .null, .int 0, .int 0, .int 0, .int 0])) := by rw [← eG_6]; exact gU_s _ _ _
    refine g_aload_n hC dJ3_init_3_16 rfl 0 rfl ?_
    obtain ⟨r_9, hZr_9⟩ := hC.K.stR q440 q90 sn_SUPPRESSED_SENTINEL
    refine g_gets (v := va_rf r_9) hC hZr_9 q439 dJ3_init_3_17 ?_
    obtain ⟨G_10, eG_10⟩ : ∃ G_, gU G_6 a_ (.inr (21, [.ref a_, va_rf r_5, va_rf r_9, .null, .null, .int 0, .int 0, .int 0, .int 0])) = G_ := ⟨_, rfl⟩
    have hf_11 : FR (fun q_ => q_ = a_) n G G_10 := by rw [← eG_10]; exact FR.put hf_7 (.inl rfl)
    refine g_put hC kc_X22 o_8 2 (by decide) q462 rfl (rf_nar _) (rf_fit _) (by show 2 < 9; decide) rfl (by omega) (G' := G_10) eG_10 dJ3_init_3_20 ?_
    have o_12 : G_10 a_ = some (.inr (21, [.ref a_, va_rf r_5, va_rf r_9, .null, .null, .int 0, .int 0, .int 0, .int 0])) := by rw [← eG_10]; exact gU_s _ _ _
    refine g_iload hC dJ3_init_3_23 4 rfl ?_
    refine g_if_eqN hC 0 (by omega) dJ3_init_3_25 (tgt := 36) (by decide) (fun c_25 => ?_) (fun c_25 => ?_)
    · refine g_aload_n hC dJ3_init_3_36 rfl 0 rfl ?_
      refine g_null hC dJ3_init_3_37 ?_
      obtain ⟨G_13, eG_13⟩ : ∃ G_, gU G_10 a_ (.inr (21, [.ref a_, .null, va_rf r_9, .null, .null, .int 0, .int 0, .int 0, .int 0])) = G_ := ⟨_, rfl⟩
      have hf_14 : FR (fun q_ => q_ = a_) n G G_13 := by rw [← eG_13]; exact FR.put hf_11 (.inl rfl)
      refine g_put hC kc_X22 o_12 1 (by decide) q461 rfl rfl rfl (by show 1 < 9; decide) rfl (by omega) (G' := G_13) eG_13 dJ3_init_3_38 ?_
      have o_15 : G_13 a_ = some (.inr (21, [.ref a_, .null, va_rf r_9, .null, .null, .int 0, .int 0, .int 0, .int 0])) := by rw [← eG_13]; exact gU_s _ _ _
      refine g_aload_n hC dJ3_init_3_41 rfl 0 rfl ?_
      refine g_aload_nN hC dJ3_init_3_42 rfl 1 rfl ?_
      obtain ⟨G_16, eG_16⟩ : ∃ G_, gU G_13 a_ (.inr (21, [.ref a_, .null, va_rf r_9, .null, .null, .int 0, .int 0, .int 0, .int 0])) = G_ := ⟨_, rfl⟩
      have hf_17 : FR (fun q_ => q_ = a_) n G G_16 := by rw [← eG_16]; exact FR.put hf_14 (.inl rfl)
      refine g_put hC kc_X22 o_15 3 (by decide) q459 rfl rfl rfl (by show 3 < 9; decide) rfl (by omega) (G' := G_16) eG_16 dJ3_init_3_43 ?_
      have o_18 : G_16 a_ = some (.inr (21, [.ref a_, .null, va_rf r_9, .null, .null, .int 0, .int 0, .int 0, .int 0])) := by rw [← eG_16]; exact gU_s _ _ _
      refine g_aload_n hC dJ3_init_3_46 rfl 0 rfl ?_
      refine g_aload_nN hC dJ3_init_3_47 rfl 2 rfl ?_
      obtain ⟨G_19, eG_19⟩ : ∃ G_, gU G_16 a_ (.inr (21, [.null, .null, va_rf r_9, .null, .null, .int 0, .int 0, .int 0, .int 0])) = G_ := ⟨_, rfl⟩
      have hf_20 : FR (fun q_ => q_ = a_) n G G_19 := by rw [← eG_19]; exact FR.put hf_17 (.inl rfl)
      refine g_put hC kc_X22 o_18 0 (by decide) q460 rfl rfl rfl (by show 0 < 9; decide) rfl (by omega) (G' := G_19) eG_19 dJ3_init_3_48 ?_
      have o_21 : G_19 a_ = some (.inr (21, [.null, .null, va_rf r_9, .null, .null, .int 0, .int 0, .int 0, .int 0])) := by rw [← eG_19]; exact gU_s _ _ _
      refine g_iload_n hC dJ3_init_3_51 rfl 3 rfl ?_
      refine g_if_neN hC 0 (by omega) dJ3_init_3_52 (tgt := 60) (by decide) (fun c_52 => ?_) (fun c_52 => ?_)
      · first | exact absurd c_52 (by decide) | exact absurd c_52 (by omega)
      · refine g_aload_n hC dJ3_init_3_55 rfl 0 rfl ?_
        refine g_null hC dJ3_init_3_56 ?_
        obtain ⟨G_22, eG_22⟩ : ∃ G_, gU G_19 a_ (.inr (21, [.null, .null, .null, .null, .null, .int 0, .int 0, .int 0, .int 0])) = G_ := ⟨_, rfl⟩
        have hf_23 : FR (fun q_ => q_ = a_) n G G_22 := by rw [← eG_22]; exact FR.put hf_20 (.inl rfl)
        refine g_put hC kc_X22 o_21 2 (by decide) q462 rfl rfl rfl (by show 2 < 9; decide) rfl (by omega) (G' := G_22) eG_22 dJ3_init_3_57 ?_
        have o_24 : G_22 a_ = some (.inr (21, [.null, .null, .null, .null, .null, .int 0, .int 0, .int 0, .int 0])) := by rw [← eG_22]; exact gU_s _ _ _
        refine g_vret hC hr ⟨rfl, ?_⟩ (by omega) (by omega) hE dJ3_init_3_60
        exact ⟨o_24, hf_23, rfl, rfl⟩
    · first | exact absurd c_25 (by decide) | exact absurd c_25 (by omega)
  · refine GM.intro (own := RJ3) rfl (by decide +kernel) (Nat.le_of_ble_eq_true rfl) ?_
    intro p e s m args below meth c R Q hC hr hnm hF hL hE
    have hE1 := hE.1
    have hE2 := hE.2.1
    have hnz : yz Y ≤ n := by have := hC.z; have := hC.n; omega
    show V Y p l e R s m args below meth c 5 n u G n u Q 0 [(0, .ref a_), (1, .null), (2, .ref c_), (3, .int 0), (4, .int 0)] []
    refine V.lts (fun hlt => ?_)
    have hl_a_ : a_ < n := hlt _ _ h1
    refine g_aload_n hC dJ3_init_3_0 rfl 0 rfl ?_
    refine V.lts (fun lc_1 => ?_)
    refine g_objInit hC q436 q178 q179 dJ3_init_3_1 (by omega) (by first | (simp; omega) | (simp [Value.category]; omega)) ?_
    refine g_aload_n hC dJ3_init_3_4 rfl 0 rfl ?_
    refine g_aload_n hC dJ3_init_3_5 rfl 0 rfl ?_
    obtain ⟨G_2, eG_2⟩ : ∃ G_, gU G a_ (.inr (21, [.ref a_, .null, .null, .null, .null, .int 0, .int 0, .int 0, .int 0])) = G_ := ⟨_, rfl⟩
    have hf_3 : FR (fun q_ => q_ = a_) n G G_2 := by rw [← eG_2]; exact FR.put FR.refl (.inl rfl)
    refine g_put hC kc_X22 h1 0 (by decide) q460 rfl rfl rfl (by show 0 < 9; decide) rfl (by omega) (G' := G_2) eG_2 dJ3_init_3_6 ?_
    have o_4 : G_2 a_ = some (.inr (21, [.ref a_, .null, .null, .null, .null, .int 0, .int 0, .int 0, .int 0])) := by rw [← eG_2]; exact gU_s _ _ _
    refine g_aload_n hC dJ3_init_3_9 rfl 0 rfl ?_
    obtain ⟨r_5, hZr_5⟩ := hC.K.stR q438 q90 sn_UNASSIGNED_STACK
    refine g_gets (v := va_rf r_5) hC hZr_5 q437 dJ3_init_3_10 ?_
    obtain ⟨G_6, eG_6⟩ : ∃ G_, gU G_2 a_ (.inr (21, [.ref a_, va_rf r_5, .null, .null, .null, .int 0, .int 0, .int 0, .int 0])) = G_ := ⟨_, rfl⟩
    have hf_7 : FR (fun q_ => q_ = a_) n G G_6 := by rw [← eG_6]; exact FR.put hf_3 (.inl rfl)
    refine g_put hC kc_X22 o_4 1 (by decide) q461 rfl (rf_narA _) (rf_fitA _) (by show 1 < 9; decide) rfl (by omega) (G' := G_6) eG_6 dJ3_init_3_13 ?_
    have o_8 : G_6 a_ = some (.inr (21, [.ref a_, va_rf r_5, .null, .null, .null, .int 0, .int 0, .int 0, .int 0])) := by rw [← eG_6]; exact gU_s _ _ _
    refine g_aload_n hC dJ3_init_3_16 rfl 0 rfl ?_
    obtain ⟨r_9, hZr_9⟩ := hC.K.stR q440 q90 sn_SUPPRESSED_SENTINEL
    refine g_gets (v := va_rf r_9) hC hZr_9 q439 dJ3_init_3_17 ?_
    obtain ⟨G_10, eG_10⟩ : ∃ G_, gU G_6 a_ (.inr (21, [.ref a_, va_rf r_5, va_rf r_9, .null, .null, .int 0, .int 0, .int 0, .int 0])) = G_ := ⟨_, rfl⟩
    have hf_11 : FR (fun q_ => q_ = a_) n G G_10 := by rw [← eG_10]; exact FR.put hf_7 (.inl rfl)
    refine g_put hC kc_X22 o_8 2 (by decide) q462 rfl (rf_nar _) (rf_fit _) (by show 2 < 9; decide) rfl (by omega) (G' := G_10) eG_10 dJ3_init_3_20 ?_
    have o_12 : G_10 a_ = some (.inr (21, [.ref a_, va_rf r_5, va_rf r_9, .null, .null, .int 0, .int 0, .int 0, .int 0])) := by rw [← eG_10]; exact gU_s _ _ _
    refine g_iload hC dJ3_init_3_23 4 rfl ?_
    refine g_if_eqN hC 0 (by omega) dJ3_init_3_25 (tgt := 36) (by decide) (fun c_25 => ?_) (fun c_25 => ?_)
    · refine g_aload_n hC dJ3_init_3_36 rfl 0 rfl ?_
      refine g_null hC dJ3_init_3_37 ?_
      obtain ⟨G_13, eG_13⟩ : ∃ G_, gU G_10 a_ (.inr (21, [.ref a_, .null, va_rf r_9, .null, .null, .int 0, .int 0, .int 0, .int 0])) = G_ := ⟨_, rfl⟩
      have hf_14 : FR (fun q_ => q_ = a_) n G G_13 := by rw [← eG_13]; exact FR.put hf_11 (.inl rfl)
      refine g_put hC kc_X22 o_12 1 (by decide) q461 rfl rfl rfl (by show 1 < 9; decide) rfl (by omega) (G' := G_13) eG_13 dJ3_init_3_38 ?_
      have o_15 : G_13 a_ = some (.inr (21, [.ref a_, .null, va_rf r_9, .null, .null, .int 0, .int 0, .int 0, .int 0])) := by rw [← eG_13]; exact gU_s _ _ _
      refine g_aload_n hC dJ3_init_3_41 rfl 0 rfl ?_
      refine g_aload_nN hC dJ3_init_3_42 rfl 1 rfl ?_
      obtain ⟨G_16, eG_16⟩ : ∃ G_, gU G_13 a_ (.inr (21, [.ref a_, .null, va_rf r_9, .null, .null, .int 0, .int 0, .int 0, .int 0])) = G_ := ⟨_, rfl⟩
      have hf_17 : FR (fun q_ => q_ = a_) n G G_16 := by rw [← eG_16]; exact FR.put hf_14 (.inl rfl)
      refine g_put hC kc_X22 o_15 3 (by decide) q459 rfl rfl rfl (by show 3 < 9; decide) rfl (by omega) (G' := G_16) eG_16 dJ3_init_3_43 ?_
      have o_18 : G_16 a_ = some (.inr (21, [.ref a_, .null, va_rf r_9, .null, .null, .int 0, .int 0, .int 0, .int 0])) := by rw [← eG_16]; exact gU_s _ _ _
      refine g_aload_n hC dJ3_init_3_46 rfl 0 rfl ?_
      refine g_aload_n hC dJ3_init_3_47 rfl 2 rfl ?_
      obtain ⟨G_19, eG_19⟩ : ∃ G_, gU G_16 a_ (.inr (21, [.ref c_, .null, va_rf r_9, .null, .null, .int 0, .int 0, .int 0, .int 0])) = G_ := ⟨_, rfl⟩
      have hf_20 : FR (fun q_ => q_ = a_) n G G_19 := by rw [← eG_19]; exact FR.put hf_17 (.inl rfl)
      refine g_put hC kc_X22 o_18 0 (by decide) q460 rfl rfl rfl (by show 0 < 9; decide) rfl (by omega) (G' := G_19) eG_19 dJ3_init_3_48 ?_
      have o_21 : G_19 a_ = some (.inr (21, [.ref c_, .null, va_rf r_9, .null, .null, .int 0, .int 0, .int 0, .int 0])) := by rw [← eG_19]; exact gU_s _ _ _
      refine g_iload_n hC dJ3_init_3_51 rfl 3 rfl ?_
      refine g_if_neN hC 0 (by omega) dJ3_init_3_52 (tgt := 60) (by decide) (fun c_52 => ?_) (fun c_52 => ?_)
      · first | exact absurd c_52 (by decide) | exact absurd c_52 (by omega)
      · refine g_aload_n hC dJ3_init_3_55 rfl 0 rfl ?_
        refine g_null hC dJ3_init_3_56 ?_
        obtain ⟨G_22, eG_22⟩ : ∃ G_, gU G_19 a_ (.inr (21, [.ref c_, .null, .null, .null, .null, .int 0, .int 0, .int 0, .int 0])) = G_ := ⟨_, rfl⟩
        have hf_23 : FR (fun q_ => q_ = a_) n G G_22 := by rw [← eG_22]; exact FR.put hf_20 (.inl rfl)
        refine g_put hC kc_X22 o_21 2 (by decide) q462 rfl rfl rfl (by show 2 < 9; decide) rfl (by omega) (G' := G_22) eG_22 dJ3_init_3_57 ?_
        have o_24 : G_22 a_ = some (.inr (21, [.ref c_, .null, .null, .null, .null, .int 0, .int 0, .int 0, .int 0])) := by rw [← eG_22]; exact gU_s _ _ _
        refine g_vret hC hr ⟨rfl, ?_⟩ (by omega) (by omega) hE dJ3_init_3_60
        exact ⟨o_24, hf_23, rfl, rfl⟩
    · first | exact absurd c_25 (by decide) | exact absurd c_25 (by omega)
set_option maxHeartbeats 1000000 in
theorem met_J4_init_2_X22 {Y : YT} {l : Launch} {n u : Nat} {G : AH} (a_ : Nat) (c_ : Option Nat)  (h1 : G a_ = some (.inr (21, [.null, .null, .null, .null, .null, .int 0, .int 0, .int 0, .int 0]))) (hz : yz Y ≤ a_) : GM Y l yJ4_init_2 (ws_ yJ4_init_2 cJ4_init_2 5 none) 2 48 [.ref a_, .null, va_rf c_, .int 0, .int 0] G n u 0 0 (pV (fun G' n' u' => G' a_ = some (.inr (21, [va_rf c_, .null, .null, .null, .null, .int 0, .int 0, .int 0, .int 0])) ∧ FR (fun q_ => q_ = a_) n G G' ∧ n = n' ∧ u = u')) noX := by
  rcases c_ with _ | c_
  · refine GM.intro (own := RJ4) rfl (by decide +kernel) (Nat.le_of_ble_eq_true rfl) ?_
    intro p e s m args below meth c R Q hC hr hnm hF hL hE
    have hE1 := hE.1
    have hE2 := hE.2.1
    have hnz : yz Y ≤ n := by have := hC.z; have := hC.n; omega
    show V Y p l e R s m args below meth c 5 n u G n u Q 0 [(0, .ref a_), (1, .null), (2, .null), (3, .int 0), (4, .int 0)] []
    refine V.lts (fun hlt => ?_)
    have hl_a_ : a_ < n := hlt _ _ h1
    refine g_aload_n hC dJ4_init_2_0 rfl 0 rfl ?_
    refine g_aload_nN hC dJ4_init_2_1 rfl 1 rfl ?_
    refine g_aload_nN hC dJ4_init_2_2 rfl 2 rfl ?_
    refine g_iload_n hC dJ4_init_2_3 rfl 3 rfl ?_
    refine g_iload hC dJ4_init_2_4 4 rfl ?_
    refine V.lts (fun lc_1 => ?_)
    refine g_callv0 hC (g_runI (ret := none) hC (met_J3_init_3_X22 (G := G) a_ none h1 (by omega)) (lw_meth q517) q90 q515 q516 rfl md_J3_init_3 dJ4_init_2_6 rfl ⟨by omega, by omega⟩ (by omega) (by omega) rfl (Nat.le_of_ble_eq_true rfl)) (fun G_2 n_2 u_2 hp_2 hn_2 hm_2 hu_2 => ?_)
    obtain ⟨ho_2, hf_2, rfl, rfl⟩ := hp_2
    have hf_3 : FR (fun q_ => q_ = a_) n G G_2 := FR.refl.trans hf_2 (by omega) (fun a_ q_ => by first | exact .inl q_ | (subst q_; first | exact .inr (by omega) | exact .inl rfl))
    refine g_vret hC hr ⟨rfl, ?_⟩ (by omega) (by omega) hE dJ4_init_2_9
    exact ⟨ho_2, hf_3, rfl, rfl⟩
  · refine GM.intro (own := RJ4) rfl (by decide +kernel) (Nat.le_of_ble_eq_true rfl) ?_
    intro p e s m args below meth c R Q hC hr hnm hF hL hE
    have hE1 := hE.1
    have hE2 := hE.2.1
    have hnz : yz Y ≤ n := by have := hC.z; have := hC.n; omega
    show V Y p l e R s m args below meth c 5 n u G n u Q 0 [(0, .ref a_), (1, .null), (2, .ref c_), (3, .int 0), (4, .int 0)] []
    refine V.lts (fun hlt => ?_)
    have hl_a_ : a_ < n := hlt _ _ h1
    refine g_aload_n hC dJ4_init_2_0 rfl 0 rfl ?_
    refine g_aload_nN hC dJ4_init_2_1 rfl 1 rfl ?_
    refine g_aload_n hC dJ4_init_2_2 rfl 2 rfl ?_
    refine g_iload_n hC dJ4_init_2_3 rfl 3 rfl ?_
    refine g_iload hC dJ4_init_2_4 4 rfl ?_
    refine V.lts (fun lc_1 => ?_)
    refine g_callv0 hC (g_runI (ret := none) hC (met_J3_init_3_X22 (G := G) a_ (some c_) h1 (by omega)) (lw_meth q517) q90 q515 q516 rfl md_J3_init_3 dJ4_init_2_6 rfl ⟨by omega, by omega⟩ (by omega) (by omega) rfl (Nat.le_of_ble_eq_true rfl)) (fun G_2 n_2 u_2 hp_2 hn_2 hm_2 hu_2 => ?_)
    obtain ⟨ho_2, hf_2, rfl, rfl⟩ := hp_2
    have hf_3 : FR (fun q_ => q_ = a_) n G G_2 := FR.refl.trans hf_2 (by omega) (fun a_ q_ => by first | exact .inl q_ | (subst q_; first | exact .inr (by omega) | exact .inl rfl))
    refine g_vret hC hr ⟨rfl, ?_⟩ (by omega) (by omega) hE dJ4_init_2_9
    exact ⟨ho_2, hf_3, rfl, rfl⟩
set_option maxHeartbeats 1000000 in
theorem met_X22_init {Y : YT} {l : Launch} {n u : Nat} {G : AH} (a_ : Nat) (x1 : Int32) (x2 : Int32) (x3 : Int32) (c_ : Option Nat)  (h1 : G a_ = some (.inr (21, [.null, .null, .null, .null, .null, .int 0, .int 0, .int 0, .int 0]))) (hz : yz Y ≤ a_) : GM Y l yX22_init (ws_ yX22_init cX22_init 5 none) 3 72 [.ref a_, .int x1, .int x2, .int x3, va_rf c_] G n u 0 0 (pV (fun G' n' u' => G' a_ = some (.inr (21, [va_rf c_, .null, .null, .null, .null, .int 0, .int x1, .int x2, .int x3])) ∧ FR (fun q_ => q_ = a_) n G G' ∧ n = n' ∧ u = u')) noX := by
  rcases c_ with _ | c_
  · refine GM.intro (own := RX22) rfl (by decide +kernel) (Nat.le_of_ble_eq_true rfl) ?_
    intro p e s m args below meth c R Q hC hr hnm hF hL hE
    have hE1 := hE.1
    have hE2 := hE.2.1
    have hnz : yz Y ≤ n := by have := hC.z; have := hC.n; omega
    show V Y p l e R s m args below meth c 5 n u G n u Q 0 [(0, .ref a_), (1, .int x1), (2, .int x2), (3, .int x3), (4, .null)] []
    refine V.lts (fun hlt => ?_)
    have hl_a_ : a_ < n := hlt _ _ h1
    refine g_aload_n hC dX22_init_0 rfl 0 rfl ?_
    refine g_null hC dX22_init_1 ?_
    refine g_aloadN hC dX22_init_2 4 rfl ?_
    refine g_iconst (v := 0) hC dX22_init_4 rfl ?_
    refine g_iconst (v := 0) hC dX22_init_5 rfl ?_
    refine V.lts (fun lc_1 => ?_)
    refine g_callv0 hC (g_runI (ret := none) hC (met_J4_init_2_X22 (G := G) a_ none h1 (by omega)) (lw_meth q514) q91 q1909 q513 rfl md_J4_init_2 dX22_init_6 rfl ⟨by omega, by omega⟩ (by omega) (by omega) rfl (Nat.le_of_ble_eq_true rfl)) (fun G_2 n_2 u_2 hp_2 hn_2 hm_2 hu_2 => ?_)
    obtain ⟨ho_2, hf_2, rfl, rfl⟩ := hp_2
    have hf_3 : FR (fun q_ => q_ = a_) n G G_2 := FR.refl.trans hf_2 (by omega) (fun a_ q_ => by first | exact .inl q_ | (subst q_; first | exact .inr (by omega) | exact .inl rfl))
    refine g_aload_n hC dX22_init_9 rfl 0 rfl ?_
    refine g_iload_n hC dX22_init_10 rfl 1 rfl ?_
    obtain ⟨G_4, eG_4⟩ : ∃ G_, gU G_2 a_ (.inr (21, [.null, .null, .null, .null, .null, .int 0, .int x1, .int 0, .int 0])) = G_ := ⟨_, rfl⟩
    have hf_5 : FR (fun q_ => q_ = a_) n G G_4 := by rw [← eG_4]; exact FR.put hf_3 (.inl rfl)
    refine g_putF hC hnm kc_X22 ho_2 6 (by decide) q1910 rfl rfl rfl rfl (by show 6 < 9; decide) rfl (by omega) (G' := G_4) eG_4 dX22_init_11 ?_
    have o_6 : G_4 a_ = some (.inr (21, [.null, .null, .null, .null, .null, .int 0, .int x1, .int 0, .int 0])) := by rw [← eG_4]; exact gU_s _ _ _
    refine g_aload_n hC dX22_init_14 rfl 0 rfl ?_
    refine g_iload_n hC dX22_init_15 rfl 2 rfl ?_
    obtain ⟨G_7, eG_7⟩ : ∃ G_, gU G_4 a_ (.inr (21, [.null, .null, .null, .null, .null, .int 0, .int x1, .int x2, .int 0])) = G_ := ⟨_, rfl⟩
    have hf_8 : FR (fun q_ => q_ = a_) n G G_7 := by rw [← eG_7]; exact FR.put hf_5 (.inl rfl)
    refine g_putF hC hnm kc_X22 o_6 7 (by decide) q1912 rfl rfl rfl rfl (by show 7 < 9; decide) rfl (by omega) (G' := G_7) eG_7 dX22_init_16 ?_
    have o_9 : G_7 a_ = some (.inr (21, [.null, .null, .null, .null, .null, .int 0, .int x1, .int x2, .int 0])) := by rw [← eG_7]; exact gU_s _ _ _
    refine g_aload_n hC dX22_init_19 rfl 0 rfl ?_
    refine g_iload_n hC dX22_init_20 rfl 3 rfl ?_
    obtain ⟨G_10, eG_10⟩ : ∃ G_, gU G_7 a_ (.inr (21, [.null, .null, .null, .null, .null, .int 0, .int x1, .int x2, .int x3])) = G_ := ⟨_, rfl⟩
    have hf_11 : FR (fun q_ => q_ = a_) n G G_10 := by rw [← eG_10]; exact FR.put hf_8 (.inl rfl)
    refine g_putF hC hnm kc_X22 o_9 8 (by decide) q1914 rfl rfl rfl rfl (by show 8 < 9; decide) rfl (by omega) (G' := G_10) eG_10 dX22_init_21 ?_
    have o_12 : G_10 a_ = some (.inr (21, [.null, .null, .null, .null, .null, .int 0, .int x1, .int x2, .int x3])) := by rw [← eG_10]; exact gU_s _ _ _
    refine g_vret hC hr ⟨rfl, ?_⟩ (by omega) (by omega) hE dX22_init_24
    exact ⟨o_12, hf_11, rfl, rfl⟩
  · refine GM.intro (own := RX22) rfl (by decide +kernel) (Nat.le_of_ble_eq_true rfl) ?_
    intro p e s m args below meth c R Q hC hr hnm hF hL hE
    have hE1 := hE.1
    have hE2 := hE.2.1
    have hnz : yz Y ≤ n := by have := hC.z; have := hC.n; omega
    show V Y p l e R s m args below meth c 5 n u G n u Q 0 [(0, .ref a_), (1, .int x1), (2, .int x2), (3, .int x3), (4, .ref c_)] []
    refine V.lts (fun hlt => ?_)
    have hl_a_ : a_ < n := hlt _ _ h1
    refine g_aload_n hC dX22_init_0 rfl 0 rfl ?_
    refine g_null hC dX22_init_1 ?_
    refine g_aload hC dX22_init_2 4 rfl ?_
    refine g_iconst (v := 0) hC dX22_init_4 rfl ?_
    refine g_iconst (v := 0) hC dX22_init_5 rfl ?_
    refine V.lts (fun lc_1 => ?_)
    refine g_callv0 hC (g_runI (ret := none) hC (met_J4_init_2_X22 (G := G) a_ (some c_) h1 (by omega)) (lw_meth q514) q91 q1909 q513 rfl md_J4_init_2 dX22_init_6 rfl ⟨by omega, by omega⟩ (by omega) (by omega) rfl (Nat.le_of_ble_eq_true rfl)) (fun G_2 n_2 u_2 hp_2 hn_2 hm_2 hu_2 => ?_)
    obtain ⟨ho_2, hf_2, rfl, rfl⟩ := hp_2
    have hf_3 : FR (fun q_ => q_ = a_) n G G_2 := FR.refl.trans hf_2 (by omega) (fun a_ q_ => by first | exact .inl q_ | (subst q_; first | exact .inr (by omega) | exact .inl rfl))
    refine g_aload_n hC dX22_init_9 rfl 0 rfl ?_
    refine g_iload_n hC dX22_init_10 rfl 1 rfl ?_
    obtain ⟨G_4, eG_4⟩ : ∃ G_, gU G_2 a_ (.inr (21, [.ref c_, .null, .null, .null, .null, .int 0, .int x1, .int 0, .int 0])) = G_ := ⟨_, rfl⟩
    have hf_5 : FR (fun q_ => q_ = a_) n G G_4 := by rw [← eG_4]; exact FR.put hf_3 (.inl rfl)
    refine g_putF hC hnm kc_X22 ho_2 6 (by decide) q1910 rfl rfl rfl rfl (by show 6 < 9; decide) rfl (by omega) (G' := G_4) eG_4 dX22_init_11 ?_
    have o_6 : G_4 a_ = some (.inr (21, [.ref c_, .null, .null, .null, .null, .int 0, .int x1, .int 0, .int 0])) := by rw [← eG_4]; exact gU_s _ _ _
    refine g_aload_n hC dX22_init_14 rfl 0 rfl ?_
    refine g_iload_n hC dX22_init_15 rfl 2 rfl ?_
    obtain ⟨G_7, eG_7⟩ : ∃ G_, gU G_4 a_ (.inr (21, [.ref c_, .null, .null, .null, .null, .int 0, .int x1, .int x2, .int 0])) = G_ := ⟨_, rfl⟩
    have hf_8 : FR (fun q_ => q_ = a_) n G G_7 := by rw [← eG_7]; exact FR.put hf_5 (.inl rfl)
    refine g_putF hC hnm kc_X22 o_6 7 (by decide) q1912 rfl rfl rfl rfl (by show 7 < 9; decide) rfl (by omega) (G' := G_7) eG_7 dX22_init_16 ?_
    have o_9 : G_7 a_ = some (.inr (21, [.ref c_, .null, .null, .null, .null, .int 0, .int x1, .int x2, .int 0])) := by rw [← eG_7]; exact gU_s _ _ _
    refine g_aload_n hC dX22_init_19 rfl 0 rfl ?_
    refine g_iload_n hC dX22_init_20 rfl 3 rfl ?_
    obtain ⟨G_10, eG_10⟩ : ∃ G_, gU G_7 a_ (.inr (21, [.ref c_, .null, .null, .null, .null, .int 0, .int x1, .int x2, .int x3])) = G_ := ⟨_, rfl⟩
    have hf_11 : FR (fun q_ => q_ = a_) n G G_10 := by rw [← eG_10]; exact FR.put hf_8 (.inl rfl)
    refine g_putF hC hnm kc_X22 o_9 8 (by decide) q1914 rfl rfl rfl rfl (by show 8 < 9; decide) rfl (by omega) (G' := G_10) eG_10 dX22_init_21 ?_
    have o_12 : G_10 a_ = some (.inr (21, [.ref c_, .null, .null, .null, .null, .int 0, .int x1, .int x2, .int x3])) := by rw [← eG_10]; exact gU_s _ _ _
    refine g_vret hC hr ⟨rfl, ?_⟩ (by omega) (by omega) hE dX22_init_24
    exact ⟨o_12, hf_11, rfl, rfl⟩
set_option maxHeartbeats 1000000 in
theorem met_J3_init_3_X30 {Y : YT} {l : Launch} {n u : Nat} {G : AH} (a_ : Nat)  (h1 : G a_ = some (.inr (29, [.null, .null, .null, .null, .null, .int 0, .int 0]))) (hz : yz Y ≤ a_) : GM Y l yJ3_init_3 (ws_ yJ3_init_3 cJ3_init_3 5 none) 1 24 [.ref a_, .null, .null, .int 0, .int 0] G n u 0 0 (pV (fun G' n' u' => G' a_ = some (.inr (29, [.null, .null, .null, .null, .null, .int 0, .int 0])) ∧ FR (fun q_ => q_ = a_) n G G' ∧ n = n' ∧ u = u')) noX := by
  refine GM.intro (own := RJ3) rfl (by decide +kernel) (Nat.le_of_ble_eq_true rfl) ?_
  intro p e s m args below meth c R Q hC hr hnm hF hL hE
  have hE1 := hE.1
  have hE2 := hE.2.1
  have hnz : yz Y ≤ n := by have := hC.z; have := hC.n; omega
  show V Y p l e R s m args below meth c 5 n u G n u Q 0 [(0, .ref a_), (1, .null), (2, .null), (3, .int 0), (4, .int 0)] []
  refine V.lts (fun hlt => ?_)
  have hl_a_ : a_ < n := hlt _ _ h1
  refine g_aload_n hC dJ3_init_3_0 rfl 0 rfl ?_
  refine V.lts (fun lc_1 => ?_)
  refine g_objInit hC q436 q178 q179 dJ3_init_3_1 (by omega) (by first | (simp; omega) | (simp [Value.category]; omega)) ?_
  refine g_aload_n hC dJ3_init_3_4 rfl 0 rfl ?_
  refine g_aload_n hC dJ3_init_3_5 rfl 0 rfl ?_
  obtain ⟨G_2, eG_2⟩ : ∃ G_, gU G a_ (.inr (29, [.ref a_, .null, .null, .null, .null, .int 0, .int 0])) = G_ := ⟨_, rfl⟩
  have hf_3 : FR (fun q_ => q_ = a_) n G G_2 := by rw [← eG_2]; exact FR.put FR.refl (.inl rfl)
  refine g_put hC kc_X30 h1 0 (by decide) q460 rfl rfl rfl (by show 0 < 7; decide) rfl (by omega) (G' := G_2) eG_2 dJ3_init_3_6 ?_
  have o_4 : G_2 a_ = some (.inr (29, [.ref a_, .null, .null, .null, .null, .int 0, .int 0])) := by rw [← eG_2]; exact gU_s _ _ _
  refine g_aload_n hC dJ3_init_3_9 rfl 0 rfl ?_
  obtain ⟨r_5, hZr_5⟩ := hC.K.stR q438 q90 sn_UNASSIGNED_STACK
  refine g_gets (v := va_rf r_5) hC hZr_5 q437 dJ3_init_3_10 ?_
  obtain ⟨G_6, eG_6⟩ : ∃ G_, gU G_2 a_ (.inr (29, [.ref a_, va_rf r_5, .null, .null, .null, .int 0, .int 0])) = G_ := ⟨_, rfl⟩
  have hf_7 : FR (fun q_ => q_ = a_) n G G_6 := by rw [← eG_6]; exact FR.put hf_3 (.inl rfl)
  refine g_put hC kc_X30 o_4 1 (by decide) q461 rfl (rf_narA _) (rf_fitA _) (by show 1 < 7; decide) rfl (by omega) (G' := G_6) eG_6 dJ3_init_3_13 ?_
  have o_8 : G_6 a_ = some (.inr (29, [.ref a_, va_rf r_5, .null, .null, .null, .int 0, .int 0])) := by rw [← eG_6]; exact gU_s _ _ _
  refine g_aload_n hC dJ3_init_3_16 rfl 0 rfl ?_
  obtain ⟨r_9, hZr_9⟩ := hC.K.stR q440 q90 sn_SUPPRESSED_SENTINEL
  refine g_gets (v := va_rf r_9) hC hZr_9 q439 dJ3_init_3_17 ?_
  obtain ⟨G_10, eG_10⟩ : ∃ G_, gU G_6 a_ (.inr (29, [.ref a_, va_rf r_5, va_rf r_9, .null, .null, .int 0, .int 0])) = G_ := ⟨_, rfl⟩
  have hf_11 : FR (fun q_ => q_ = a_) n G G_10 := by rw [← eG_10]; exact FR.put hf_7 (.inl rfl)
  refine g_put hC kc_X30 o_8 2 (by decide) q462 rfl (rf_nar _) (rf_fit _) (by show 2 < 7; decide) rfl (by omega) (G' := G_10) eG_10 dJ3_init_3_20 ?_
  have o_12 : G_10 a_ = some (.inr (29, [.ref a_, va_rf r_5, va_rf r_9, .null, .null, .int 0, .int 0])) := by rw [← eG_10]; exact gU_s _ _ _
  refine g_iload hC dJ3_init_3_23 4 rfl ?_
  refine g_if_eqN hC 0 (by omega) dJ3_init_3_25 (tgt := 36) (by decide) (fun c_25 => ?_) (fun c_25 => ?_)
  · refine g_aload_n hC dJ3_init_3_36 rfl 0 rfl ?_
    refine g_null hC dJ3_init_3_37 ?_
    obtain ⟨G_13, eG_13⟩ : ∃ G_, gU G_10 a_ (.inr (29, [.ref a_, .null, va_rf r_9, .null, .null, .int 0, .int 0])) = G_ := ⟨_, rfl⟩
    have hf_14 : FR (fun q_ => q_ = a_) n G G_13 := by rw [← eG_13]; exact FR.put hf_11 (.inl rfl)
    refine g_put hC kc_X30 o_12 1 (by decide) q461 rfl rfl rfl (by show 1 < 7; decide) rfl (by omega) (G' := G_13) eG_13 dJ3_init_3_38 ?_
    have o_15 : G_13 a_ = some (.inr (29, [.ref a_, .null, va_rf r_9, .null, .null, .int 0, .int 0])) := by rw [← eG_13]; exact gU_s _ _ _
    refine g_aload_n hC dJ3_init_3_41 rfl 0 rfl ?_
    refine g_aload_nN hC dJ3_init_3_42 rfl 1 rfl ?_
    obtain ⟨G_16, eG_16⟩ : ∃ G_, gU G_13 a_ (.inr (29, [.ref a_, .null, va_rf r_9, .null, .null, .int 0, .int 0])) = G_ := ⟨_, rfl⟩
    have hf_17 : FR (fun q_ => q_ = a_) n G G_16 := by rw [← eG_16]; exact FR.put hf_14 (.inl rfl)
    refine g_put hC kc_X30 o_15 3 (by decide) q459 rfl rfl rfl (by show 3 < 7; decide) rfl (by omega) (G' := G_16) eG_16 dJ3_init_3_43 ?_
    have o_18 : G_16 a_ = some (.inr (29, [.ref a_, .null, va_rf r_9, .null, .null, .int 0, .int 0])) := by rw [← eG_16]; exact gU_s _ _ _
    refine g_aload_n hC dJ3_init_3_46 rfl 0 rfl ?_
    refine g_aload_nN hC dJ3_init_3_47 rfl 2 rfl ?_
    obtain ⟨G_19, eG_19⟩ : ∃ G_, gU G_16 a_ (.inr (29, [.null, .null, va_rf r_9, .null, .null, .int 0, .int 0])) = G_ := ⟨_, rfl⟩
    have hf_20 : FR (fun q_ => q_ = a_) n G G_19 := by rw [← eG_19]; exact FR.put hf_17 (.inl rfl)
    refine g_put hC kc_X30 o_18 0 (by decide) q460 rfl rfl rfl (by show 0 < 7; decide) rfl (by omega) (G' := G_19) eG_19 dJ3_init_3_48 ?_
    have o_21 : G_19 a_ = some (.inr (29, [.null, .null, va_rf r_9, .null, .null, .int 0, .int 0])) := by rw [← eG_19]; exact gU_s _ _ _
    refine g_iload_n hC dJ3_init_3_51 rfl 3 rfl ?_
    refine g_if_neN hC 0 (by omega) dJ3_init_3_52 (tgt := 60) (by decide) (fun c_52 => ?_) (fun c_52 => ?_)
    · first | exact absurd c_52 (by decide) | exact absurd c_52 (by omega)
    · refine g_aload_n hC dJ3_init_3_55 rfl 0 rfl ?_
      refine g_null hC dJ3_init_3_56 ?_
      obtain ⟨G_22, eG_22⟩ : ∃ G_, gU G_19 a_ (.inr (29, [.null, .null, .null, .null, .null, .int 0, .int 0])) = G_ := ⟨_, rfl⟩
      have hf_23 : FR (fun q_ => q_ = a_) n G G_22 := by rw [← eG_22]; exact FR.put hf_20 (.inl rfl)
      refine g_put hC kc_X30 o_21 2 (by decide) q462 rfl rfl rfl (by show 2 < 7; decide) rfl (by omega) (G' := G_22) eG_22 dJ3_init_3_57 ?_
      have o_24 : G_22 a_ = some (.inr (29, [.null, .null, .null, .null, .null, .int 0, .int 0])) := by rw [← eG_22]; exact gU_s _ _ _
      refine g_vret hC hr ⟨rfl, ?_⟩ (by omega) (by omega) hE dJ3_init_3_60
      exact ⟨o_24, hf_23, rfl, rfl⟩
  · first | exact absurd c_25 (by decide) | exact absurd c_25 (by omega)
set_option maxHeartbeats 1000000 in
theorem met_J4_init_2_X30 {Y : YT} {l : Launch} {n u : Nat} {G : AH} (a_ : Nat)  (h1 : G a_ = some (.inr (29, [.null, .null, .null, .null, .null, .int 0, .int 0]))) (hz : yz Y ≤ a_) : GM Y l yJ4_init_2 (ws_ yJ4_init_2 cJ4_init_2 5 none) 2 48 [.ref a_, .null, .null, .int 0, .int 0] G n u 0 0 (pV (fun G' n' u' => G' a_ = some (.inr (29, [.null, .null, .null, .null, .null, .int 0, .int 0])) ∧ FR (fun q_ => q_ = a_) n G G' ∧ n = n' ∧ u = u')) noX := by
  refine GM.intro (own := RJ4) rfl (by decide +kernel) (Nat.le_of_ble_eq_true rfl) ?_
  intro p e s m args below meth c R Q hC hr hnm hF hL hE
  have hE1 := hE.1
  have hE2 := hE.2.1
  have hnz : yz Y ≤ n := by have := hC.z; have := hC.n; omega
  show V Y p l e R s m args below meth c 5 n u G n u Q 0 [(0, .ref a_), (1, .null), (2, .null), (3, .int 0), (4, .int 0)] []
  refine V.lts (fun hlt => ?_)
  have hl_a_ : a_ < n := hlt _ _ h1
  refine g_aload_n hC dJ4_init_2_0 rfl 0 rfl ?_
  refine g_aload_nN hC dJ4_init_2_1 rfl 1 rfl ?_
  refine g_aload_nN hC dJ4_init_2_2 rfl 2 rfl ?_
  refine g_iload_n hC dJ4_init_2_3 rfl 3 rfl ?_
  refine g_iload hC dJ4_init_2_4 4 rfl ?_
  refine V.lts (fun lc_1 => ?_)
  refine g_callv0 hC (g_runI (ret := none) hC (met_J3_init_3_X30 (G := G) a_ h1 (by omega)) (lw_meth q517) q90 q515 q516 rfl md_J3_init_3 dJ4_init_2_6 rfl ⟨by omega, by omega⟩ (by omega) (by omega) rfl (Nat.le_of_ble_eq_true rfl)) (fun G_2 n_2 u_2 hp_2 hn_2 hm_2 hu_2 => ?_)
  obtain ⟨ho_2, hf_2, rfl, rfl⟩ := hp_2
  have hf_3 : FR (fun q_ => q_ = a_) n G G_2 := FR.refl.trans hf_2 (by omega) (fun a_ q_ => by first | exact .inl q_ | (subst q_; first | exact .inr (by omega) | exact .inl rfl))
  refine g_vret hC hr ⟨rfl, ?_⟩ (by omega) (by omega) hE dJ4_init_2_9
  exact ⟨ho_2, hf_3, rfl, rfl⟩
set_option maxHeartbeats 1000000 in
theorem met_X30_init {Y : YT} {l : Launch} {n u : Nat} {G : AH} (a_ : Nat)  (h1 : G a_ = some (.inr (29, [.null, .null, .null, .null, .null, .int 0, .int 0]))) (hz : yz Y ≤ a_) : GM Y l yX30_init (ws_ yX30_init cX30_init 1 none) 3 72 [.ref a_] G n u 0 0 (pV (fun G' n' u' => G' a_ = some (.inr (29, [.null, .null, .null, .null, .null, .int 0, .int 0])) ∧ FR (fun q_ => q_ = a_) n G G' ∧ n = n' ∧ u = u')) noX := by
  refine GM.intro (own := RX30) rfl (by decide +kernel) (Nat.le_of_ble_eq_true rfl) ?_
  intro p e s m args below meth c R Q hC hr hnm hF hL hE
  have hE1 := hE.1
  have hE2 := hE.2.1
  have hnz : yz Y ≤ n := by have := hC.z; have := hC.n; omega
  show V Y p l e R s m args below meth c 1 n u G n u Q 0 [(0, .ref a_)] []
  refine V.lts (fun hlt => ?_)
  have hl_a_ : a_ < n := hlt _ _ h1
  refine g_aload_n hC dX30_init_0 rfl 0 rfl ?_
  refine g_null hC dX30_init_1 ?_
  refine g_null hC dX30_init_2 ?_
  refine g_iconst (v := 0) hC dX30_init_3 rfl ?_
  refine g_iconst (v := 0) hC dX30_init_4 rfl ?_
  refine V.lts (fun lc_1 => ?_)
  refine g_callv0 hC (g_runI (ret := none) hC (met_J4_init_2_X30 (G := G) a_ h1 (by omega)) (lw_meth q514) q91 q3148 q513 rfl md_J4_init_2 dX30_init_5 rfl ⟨by omega, by omega⟩ (by omega) (by omega) rfl (Nat.le_of_ble_eq_true rfl)) (fun G_2 n_2 u_2 hp_2 hn_2 hm_2 hu_2 => ?_)
  obtain ⟨ho_2, hf_2, rfl, rfl⟩ := hp_2
  have hf_3 : FR (fun q_ => q_ = a_) n G G_2 := FR.refl.trans hf_2 (by omega) (fun a_ q_ => by first | exact .inl q_ | (subst q_; first | exact .inr (by omega) | exact .inl rfl))
  refine g_vret hC hr ⟨rfl, ?_⟩ (by omega) (by omega) hE dX30_init_8
  exact ⟨ho_2, hf_3, rfl, rfl⟩
set_option maxHeartbeats 1000000 in
theorem met_J3_init_3_X31 {Y : YT} {l : Launch} {n u : Nat} {G : AH} (a_ : Nat)  (h1 : G a_ = some (.inr (30, [.null, .null, .null, .null, .null, .int 0]))) (hz : yz Y ≤ a_) : GM Y l yJ3_init_3 (ws_ yJ3_init_3 cJ3_init_3 5 none) 1 24 [.ref a_, .null, .null, .int 0, .int 0] G n u 0 0 (pV (fun G' n' u' => G' a_ = some (.inr (30, [.null, .null, .null, .null, .null, .int 0])) ∧ FR (fun q_ => q_ = a_) n G G' ∧ n = n' ∧ u = u')) noX := by
  refine GM.intro (own := RJ3) rfl (by decide +kernel) (Nat.le_of_ble_eq_true rfl) ?_
  intro p e s m args below meth c R Q hC hr hnm hF hL hE
  have hE1 := hE.1
  have hE2 := hE.2.1
  have hnz : yz Y ≤ n := by have := hC.z; have := hC.n; omega
  show V Y p l e R s m args below meth c 5 n u G n u Q 0 [(0, .ref a_), (1, .null), (2, .null), (3, .int 0), (4, .int 0)] []
  refine V.lts (fun hlt => ?_)
  have hl_a_ : a_ < n := hlt _ _ h1
  refine g_aload_n hC dJ3_init_3_0 rfl 0 rfl ?_
  refine V.lts (fun lc_1 => ?_)
  refine g_objInit hC q436 q178 q179 dJ3_init_3_1 (by omega) (by first | (simp; omega) | (simp [Value.category]; omega)) ?_
  refine g_aload_n hC dJ3_init_3_4 rfl 0 rfl ?_
  refine g_aload_n hC dJ3_init_3_5 rfl 0 rfl ?_
  obtain ⟨G_2, eG_2⟩ : ∃ G_, gU G a_ (.inr (30, [.ref a_, .null, .null, .null, .null, .int 0])) = G_ := ⟨_, rfl⟩
  have hf_3 : FR (fun q_ => q_ = a_) n G G_2 := by rw [← eG_2]; exact FR.put FR.refl (.inl rfl)
  refine g_put hC kc_X31 h1 0 (by decide) q460 rfl rfl rfl (by show 0 < 6; decide) rfl (by omega) (G' := G_2) eG_2 dJ3_init_3_6 ?_
  have o_4 : G_2 a_ = some (.inr (30, [.ref a_, .null, .null, .null, .null, .int 0])) := by rw [← eG_2]; exact gU_s _ _ _
  refine g_aload_n hC dJ3_init_3_9 rfl 0 rfl ?_
  obtain ⟨r_5, hZr_5⟩ := hC.K.stR q438 q90 sn_UNASSIGNED_STACK
  refine g_gets (v := va_rf r_5) hC hZr_5 q437 dJ3_init_3_10 ?_
  obtain ⟨G_6, eG_6⟩ : ∃ G_, gU G_2 a_ (.inr (30, [.ref a_, va_rf r_5, .null, .null, .null, .int 0])) = G_ := ⟨_, rfl⟩
  have hf_7 : FR (fun q_ => q_ = a_) n G G_6 := by rw [← eG_6]; exact FR.put hf_3 (.inl rfl)
  refine g_put hC kc_X31 o_4 1 (by decide) q461 rfl (rf_narA _) (rf_fitA _) (by show 1 < 6; decide) rfl (by omega) (G' := G_6) eG_6 dJ3_init_3_13 ?_
  have o_8 : G_6 a_ = some (.inr (30, [.ref a_, va_rf r_5, .null, .null, .null, .int 0])) := by rw [← eG_6]; exact gU_s _ _ _
  refine g_aload_n hC dJ3_init_3_16 rfl 0 rfl ?_
  obtain ⟨r_9, hZr_9⟩ := hC.K.stR q440 q90 sn_SUPPRESSED_SENTINEL
  refine g_gets (v := va_rf r_9) hC hZr_9 q439 dJ3_init_3_17 ?_
  obtain ⟨G_10, eG_10⟩ : ∃ G_, gU G_6 a_ (.inr (30, [.ref a_, va_rf r_5, va_rf r_9, .null, .null, .int 0])) = G_ := ⟨_, rfl⟩
  have hf_11 : FR (fun q_ => q_ = a_) n G G_10 := by rw [← eG_10]; exact FR.put hf_7 (.inl rfl)
  refine g_put hC kc_X31 o_8 2 (by decide) q462 rfl (rf_nar _) (rf_fit _) (by show 2 < 6; decide) rfl (by omega) (G' := G_10) eG_10 dJ3_init_3_20 ?_
  have o_12 : G_10 a_ = some (.inr (30, [.ref a_, va_rf r_5, va_rf r_9, .null, .null, .int 0])) := by rw [← eG_10]; exact gU_s _ _ _
  refine g_iload hC dJ3_init_3_23 4 rfl ?_
  refine g_if_eqN hC 0 (by omega) dJ3_init_3_25 (tgt := 36) (by decide) (fun c_25 => ?_) (fun c_25 => ?_)
  · refine g_aload_n hC dJ3_init_3_36 rfl 0 rfl ?_
    refine g_null hC dJ3_init_3_37 ?_
    obtain ⟨G_13, eG_13⟩ : ∃ G_, gU G_10 a_ (.inr (30, [.ref a_, .null, va_rf r_9, .null, .null, .int 0])) = G_ := ⟨_, rfl⟩
    have hf_14 : FR (fun q_ => q_ = a_) n G G_13 := by rw [← eG_13]; exact FR.put hf_11 (.inl rfl)
    refine g_put hC kc_X31 o_12 1 (by decide) q461 rfl rfl rfl (by show 1 < 6; decide) rfl (by omega) (G' := G_13) eG_13 dJ3_init_3_38 ?_
    have o_15 : G_13 a_ = some (.inr (30, [.ref a_, .null, va_rf r_9, .null, .null, .int 0])) := by rw [← eG_13]; exact gU_s _ _ _
    refine g_aload_n hC dJ3_init_3_41 rfl 0 rfl ?_
    refine g_aload_nN hC dJ3_init_3_42 rfl 1 rfl ?_
    obtain ⟨G_16, eG_16⟩ : ∃ G_, gU G_13 a_ (.inr (30, [.ref a_, .null, va_rf r_9, .null, .null, .int 0])) = G_ := ⟨_, rfl⟩
    have hf_17 : FR (fun q_ => q_ = a_) n G G_16 := by rw [← eG_16]; exact FR.put hf_14 (.inl rfl)
    refine g_put hC kc_X31 o_15 3 (by decide) q459 rfl rfl rfl (by show 3 < 6; decide) rfl (by omega) (G' := G_16) eG_16 dJ3_init_3_43 ?_
    have o_18 : G_16 a_ = some (.inr (30, [.ref a_, .null, va_rf r_9, .null, .null, .int 0])) := by rw [← eG_16]; exact gU_s _ _ _
    refine g_aload_n hC dJ3_init_3_46 rfl 0 rfl ?_
    refine g_aload_nN hC dJ3_init_3_47 rfl 2 rfl ?_
    obtain ⟨G_19, eG_19⟩ : ∃ G_, gU G_16 a_ (.inr (30, [.null, .null, va_rf r_9, .null, .null, .int 0])) = G_ := ⟨_, rfl⟩
    have hf_20 : FR (fun q_ => q_ = a_) n G G_19 := by rw [← eG_19]; exact FR.put hf_17 (.inl rfl)
    refine g_put hC kc_X31 o_18 0 (by decide) q460 rfl rfl rfl (by show 0 < 6; decide) rfl (by omega) (G' := G_19) eG_19 dJ3_init_3_48 ?_
    have o_21 : G_19 a_ = some (.inr (30, [.null, .null, va_rf r_9, .null, .null, .int 0])) := by rw [← eG_19]; exact gU_s _ _ _
    refine g_iload_n hC dJ3_init_3_51 rfl 3 rfl ?_
    refine g_if_neN hC 0 (by omega) dJ3_init_3_52 (tgt := 60) (by decide) (fun c_52 => ?_) (fun c_52 => ?_)
    · first | exact absurd c_52 (by decide) | exact absurd c_52 (by omega)
    · refine g_aload_n hC dJ3_init_3_55 rfl 0 rfl ?_
      refine g_null hC dJ3_init_3_56 ?_
      obtain ⟨G_22, eG_22⟩ : ∃ G_, gU G_19 a_ (.inr (30, [.null, .null, .null, .null, .null, .int 0])) = G_ := ⟨_, rfl⟩
      have hf_23 : FR (fun q_ => q_ = a_) n G G_22 := by rw [← eG_22]; exact FR.put hf_20 (.inl rfl)
      refine g_put hC kc_X31 o_21 2 (by decide) q462 rfl rfl rfl (by show 2 < 6; decide) rfl (by omega) (G' := G_22) eG_22 dJ3_init_3_57 ?_
      have o_24 : G_22 a_ = some (.inr (30, [.null, .null, .null, .null, .null, .int 0])) := by rw [← eG_22]; exact gU_s _ _ _
      refine g_vret hC hr ⟨rfl, ?_⟩ (by omega) (by omega) hE dJ3_init_3_60
      exact ⟨o_24, hf_23, rfl, rfl⟩
  · first | exact absurd c_25 (by decide) | exact absurd c_25 (by omega)
set_option maxHeartbeats 1000000 in
theorem met_J4_init_2_X31 {Y : YT} {l : Launch} {n u : Nat} {G : AH} (a_ : Nat)  (h1 : G a_ = some (.inr (30, [.null, .null, .null, .null, .null, .int 0]))) (hz : yz Y ≤ a_) : GM Y l yJ4_init_2 (ws_ yJ4_init_2 cJ4_init_2 5 none) 2 48 [.ref a_, .null, .null, .int 0, .int 0] G n u 0 0 (pV (fun G' n' u' => G' a_ = some (.inr (30, [.null, .null, .null, .null, .null, .int 0])) ∧ FR (fun q_ => q_ = a_) n G G' ∧ n = n' ∧ u = u')) noX := by
  refine GM.intro (own := RJ4) rfl (by decide +kernel) (Nat.le_of_ble_eq_true rfl) ?_
  intro p e s m args below meth c R Q hC hr hnm hF hL hE
  have hE1 := hE.1
  have hE2 := hE.2.1
  have hnz : yz Y ≤ n := by have := hC.z; have := hC.n; omega
  show V Y p l e R s m args below meth c 5 n u G n u Q 0 [(0, .ref a_), (1, .null), (2, .null), (3, .int 0), (4, .int 0)] []
  refine V.lts (fun hlt => ?_)
  have hl_a_ : a_ < n := hlt _ _ h1
  refine g_aload_n hC dJ4_init_2_0 rfl 0 rfl ?_
  refine g_aload_nN hC dJ4_init_2_1 rfl 1 rfl ?_
  refine g_aload_nN hC dJ4_init_2_2 rfl 2 rfl ?_
  refine g_iload_n hC dJ4_init_2_3 rfl 3 rfl ?_
  refine g_iload hC dJ4_init_2_4 4 rfl ?_
  refine V.lts (fun lc_1 => ?_)
  refine g_callv0 hC (g_runI (ret := none) hC (met_J3_init_3_X31 (G := G) a_ h1 (by omega)) (lw_meth q517) q90 q515 q516 rfl md_J3_init_3 dJ4_init_2_6 rfl ⟨by omega, by omega⟩ (by omega) (by omega) rfl (Nat.le_of_ble_eq_true rfl)) (fun G_2 n_2 u_2 hp_2 hn_2 hm_2 hu_2 => ?_)
  obtain ⟨ho_2, hf_2, rfl, rfl⟩ := hp_2
  have hf_3 : FR (fun q_ => q_ = a_) n G G_2 := FR.refl.trans hf_2 (by omega) (fun a_ q_ => by first | exact .inl q_ | (subst q_; first | exact .inr (by omega) | exact .inl rfl))
  refine g_vret hC hr ⟨rfl, ?_⟩ (by omega) (by omega) hE dJ4_init_2_9
  exact ⟨ho_2, hf_3, rfl, rfl⟩
set_option maxHeartbeats 1000000 in
theorem met_X31_init {Y : YT} {l : Launch} {n u : Nat} {G : AH} (a_ : Nat)  (h1 : G a_ = some (.inr (30, [.null, .null, .null, .null, .null, .int 0]))) (hz : yz Y ≤ a_) : GM Y l yX31_init (ws_ yX31_init cX31_init 1 none) 3 72 [.ref a_] G n u 0 0 (pV (fun G' n' u' => G' a_ = some (.inr (30, [.null, .null, .null, .null, .null, .int 0])) ∧ FR (fun q_ => q_ = a_) n G G' ∧ n = n' ∧ u = u')) noX := by
  refine GM.intro (own := RX31) rfl (by decide +kernel) (Nat.le_of_ble_eq_true rfl) ?_
  intro p e s m args below meth c R Q hC hr hnm hF hL hE
  have hE1 := hE.1
  have hE2 := hE.2.1
  have hnz : yz Y ≤ n := by have := hC.z; have := hC.n; omega
  show V Y p l e R s m args below meth c 1 n u G n u Q 0 [(0, .ref a_)] []
  refine V.lts (fun hlt => ?_)
  have hl_a_ : a_ < n := hlt _ _ h1
  refine g_aload_n hC dX31_init_0 rfl 0 rfl ?_
  refine g_null hC dX31_init_1 ?_
  refine g_null hC dX31_init_2 ?_
  refine g_iconst (v := 0) hC dX31_init_3 rfl ?_
  refine g_iconst (v := 0) hC dX31_init_4 rfl ?_
  refine V.lts (fun lc_1 => ?_)
  refine g_callv0 hC (g_runI (ret := none) hC (met_J4_init_2_X31 (G := G) a_ h1 (by omega)) (lw_meth q514) q91 q3168 q513 rfl md_J4_init_2 dX31_init_5 rfl ⟨by omega, by omega⟩ (by omega) (by omega) rfl (Nat.le_of_ble_eq_true rfl)) (fun G_2 n_2 u_2 hp_2 hn_2 hm_2 hu_2 => ?_)
  obtain ⟨ho_2, hf_2, rfl, rfl⟩ := hp_2
  have hf_3 : FR (fun q_ => q_ = a_) n G G_2 := FR.refl.trans hf_2 (by omega) (fun a_ q_ => by first | exact .inl q_ | (subst q_; first | exact .inr (by omega) | exact .inl rfl))
  refine g_vret hC hr ⟨rfl, ?_⟩ (by omega) (by omega) hE dX31_init_8
  exact ⟨ho_2, hf_3, rfl, rfl⟩
