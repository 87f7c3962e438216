set_option maxRecDepth 100000
/-! COMPONENT, 26: the log -/
theorem imax40 {g : Nat} (h : g < 1000000000) : imax 0 (nI g - 40) = nI (g - 40) := by
  by_cases c : g < 40
  · have h1 : (nI g - 40 : Int32).toInt = (g : Int) - 40 := by
      rw [Int32.toInt_sub, nI_toInt (by omega)]
      exact Int.bmod_eq_of_le (by show _ ≤ (g : Int) - (40 : Int32).toInt; have : (40 : Int32).toInt = 40 := rfl; omega) (by have : (40 : Int32).toInt = 40 := rfl; omega)
    unfold imax
    rw [if_neg (by rw [Int32.lt_iff_toInt_lt, h1]; show ¬ (0 : Int) < _; omega), show g - 40 = 0 by omega]; rfl
  · have e : nI g - 40 = nI (g - 40) := by rw [← nI_sub (by omega)]; rfl
    unfold imax
    rw [e]
    by_cases c2 : g = 40
    · subst c2; rfl
    · rw [if_pos (by rw [Int32.lt_iff_toInt_lt, nI_toInt (by omega)]; show (0 : Int) < _; omega)]
theorem inL0 {x b : Int32} : inL x.toInt64 0 b.toInt64 = wi x 0 b := inL_wi (a := 0)
theorem wi_n {x : Int32} {m : Nat} (hm : m < 1000000000) (h : wi x 0 (nI m - 1) = true) : ∃ k, x = nI k ∧ k < m := by
  unfold wi at h
  simp only [Bool.and_eq_true, decide_eq_true_eq] at h
  have h1 := Int32.le_iff_toInt_le.mp h.1
  have h2 := Int32.le_iff_toInt_le.mp h.2
  have e : (nI m - 1 : Int32).toInt = (m : Int) - 1 := by
    rw [Int32.toInt_sub, nI_toInt (by omega)]
    exact Int.bmod_eq_of_le (by have : (1 : Int32).toInt = 1 := rfl; omega) (by have : (1 : Int32).toInt = 1 := rfl; omega)
  rw [e] at h2
  have z : (0 : Int32).toInt = 0 := rfl
  rw [z] at h1
  refine ⟨x.toInt.toNat, Int32.toInt_inj.mp ?_, by omega⟩
  rw [nI_toInt (by omega)]; omega
set_option maxHeartbeats 1000000 in
theorem met_X1_init {Y : YT} {l : Launch} {n u : Nat} {G : AH} (lg : Nat)  (h1 : G lg = some (.inr (1, [.null, .int 0]))) (hz : yz Y ≤ lg) : GM Y l yX1_init (ws_ yX1_init cX1_init 1 none) 1 24 [.ref lg] G n u 1 40 (pV (fun G' n' u' => G' lg = some (.inr (1, [.ref n, .int 0])) ∧ G' n = some (.inl (yA Y 0, 40, .inl (fun _ => 0))) ∧ FR (fun q_ => q_ = lg) n G G' ∧ n + 1 = n' ∧ u + 40 = u')) noX := by
  refine GM.intro (own := RX1) rfl (by decide +kernel) (Nat.le_of_ble_eq_true rfl) ?_
  intro p e s m args below meth c R Q hC hr hnm hF hL hE
  have hE1 := hE.1
  have hE2 := hE.2.1
  have hnz : yz Y ≤ n := by have := hC.z; have := hC.n; omega
  show V Y p l e R s m args below meth c 1 n u G n u Q 0 [(0, .ref lg)] []
  refine V.lts (fun hlt => ?_)
  have hl_lg : lg < n := hlt _ _ h1
  refine g_aload_n hC dX1_init_0 rfl 0 rfl ?_
  refine V.lts (fun lc_1 => ?_)
  refine g_objInit hC q189 q178 q179 dX1_init_1 (by omega) (by first | (simp; omega) | (simp [Value.category]; omega)) ?_
  refine g_aload_n hC dX1_init_4 rfl 0 rfl ?_
  refine g_bipush (v := 40) hC dX1_init_5 (by decide) ?_
  obtain ⟨G_2, eG_2⟩ : ∃ G_, gU G n (.inl (yA Y 0, 40, .inl (fun _ => 0))) = G_ := ⟨_, rfl⟩
  refine V.lts (fun ltG_2 => ?_)
  have o_3 : G_2 lg = some (.inr (1, [.null, .int 0])) := by rw [← eG_2]; exact (gU_n _ (Nat.ne_of_lt (ltG_2 _ _ h1))).trans h1
  have hf_4 : FR (fun q_ => q_ = lg) n G G_2 := by rw [← eG_2]; exact FR.put FR.refl (.inr (by omega))
  refine g_newa hC (atype := .int) 0 rfl rfl rfl q198 (a0 := (40, .inl (fun _ => 0))) (fun _ => rfl) (by decide) rfl (by simp only [componentBytes]; omega) (G' := G_2) eG_2 (by omega) (by omega) dX1_init_7 ?_
  have a_5 : G_2 n = some (.inl (yA Y 0, 40, .inl (fun _ => 0))) := by rw [← eG_2]; exact gU_s _ _ _
  obtain ⟨G_6, eG_6⟩ : ∃ G_, gU G_2 lg (.inr (1, [.ref n, .int 0])) = G_ := ⟨_, rfl⟩
  have a_7 : G_6 n = some (.inl (yA Y 0, 40, .inl (fun _ => 0))) := by rw [← eG_6]; exact (gU_n _ (gne_ao a_5 o_3)).trans a_5
  have hf_8 : FR (fun q_ => q_ = lg) n G G_6 := by rw [← eG_6]; exact FR.put hf_4 (.inl rfl)
  refine g_putF hC hnm kc_X1 o_3 0 (by decide) q190 rfl rfl rfl rfl (by show 0 < 2; decide) rfl (by omega) (G' := G_6) eG_6 dX1_init_9 ?_
  have o_9 : G_6 lg = some (.inr (1, [.ref n, .int 0])) := by rw [← eG_6]; exact gU_s _ _ _
  refine g_vret hC hr ⟨rfl, ?_⟩ (by omega) (by omega) hE dX1_init_12
  exact ⟨o_9, a_7, hf_8, rfl, rfl⟩
def logC (f : Nat → Int32) (g : Nat) (i : Int32) : Int32 := if wi i 0 (nI (g - (g - 40)) - 1) = true then f ((g - 40 + i.toNatClampNeg) % 40) else -1
theorem logC_F {σ : MS} {g : Nat} {i : Int32} (hg : g < 1000000000) : logC (σ.1 21) g i = logF σ g i := by
  unfold logC logF
  have e : imin 40 (nI g) = nI (g - (g - 40)) := by
    unfold imin
    by_cases c : g < 40
    · rw [if_pos (by rw [Int32.lt_iff_toInt_lt, nI_toInt (by omega)]; show (g : Int) < 40; omega), show g - (g - 40) = g by omega]
    · rw [if_neg (by rw [Int32.lt_iff_toInt_lt, nI_toInt (by omega)]; show ¬ (g : Int) < 40; omega), show g - (g - 40) = 40 by omega]; rfl
  rw [e]
  split
  · refine congrArg (σ.1 21) ?_
    generalize i.toNatClampNeg = x
    by_cases c : 40 < g
    · rw [if_pos c]; omega
    · rw [if_neg c]; omega
  · rfl
set_option maxHeartbeats 1000000 in
theorem met_X1_at {Y : YT} {l : Launch} {n u : Nat} {G : AH} (lg : Nat) (i_ : Int32) {ka g : Nat} {f : Nat → Int32} (hl1 : G lg = some (.inr (1, [.ref ka, .int (nI g)]))) (hl2 : G ka = some (.inl (yA Y 0, 40, .inl f))) (hg : g < 1000000000) : GM Y l yX1_at (ws_ yX1_at cX1_at 3 (some FieldType.int)) 1 25 [.ref lg, .int i_] G n u 0 0 (pI (fun r G' n' u' => logC f g i_ = r ∧ G = G' ∧ n = n' ∧ u = u')) noX := by
  refine GM.intro (own := RX1) rfl (by decide +kernel) (Nat.le_of_ble_eq_true rfl) ?_
  intro p e s m args below meth c R Q hC hr hnm hF hL hE
  have hE1 := hE.1
  have hE2 := hE.2.1
  have hnz : yz Y ≤ n := by have := hC.z; have := hC.n; omega
  show V Y p l e R s m args below meth c 3 n u G n u Q 0 [(0, .ref lg), (1, .int i_)] []
  refine V.lts (fun hlt => ?_)
  have hl_lg : lg < n := hlt _ _ hl1
  have hl_ka : ka < n := hlt _ _ hl2
  refine g_iconst (v := 0) hC dX1_at_0 rfl ?_
  refine g_aload_n hC dX1_at_1 rfl 0 rfl ?_
  refine g_get (v := .int (nI g)) hC kc_X1 hl1 1 (by decide) q191 rfl dX1_at_2 ?_
  refine g_bipush (v := 40) hC dX1_at_5 (by decide) ?_
  refine g_isub hC dX1_at_7 ?_
  refine V.lts (fun lc_1 => ?_)
  refine g_calli0 hC (g_runS hC (met_J2_max 0 ((nI g) - 40) ) (lw_S q3468 q756 q88 q757) md_J2_max dX1_at_8 rfl ⟨by omega, by omega⟩ (by omega) (by omega) rfl (Nat.le_of_ble_eq_true rfl)) (fun r_2 G_2 n_2 u_2 hp_2 hn_2 hm_2 hu_2 => ?_)
  obtain ⟨rfl, rfl, rfl, rfl⟩ := hp_2
  rw [imax40 hg]
  refine g_istore_n (L' := [(2, .int (nI (g - 40))), (0, .ref lg), (1, .int i_)]) hC dX1_at_11 rfl (by decide) rfl ?_
  refine g_iload_n hC dX1_at_12 rfl 2 rfl ?_
  refine g_i2l (v := i_.toInt64) hC dX1_at_13 rfl ?_
  refine g_lconst (v := 0) hC dX1_at_14 rfl ?_
  refine g_aload_n hC dX1_at_15 rfl 1 rfl ?_
  refine g_get (v := .int (nI g)) hC kc_X1 hl1 1 (by decide) q191 rfl dX1_at_16 ?_
  refine g_iload_n hC dX1_at_19 rfl 0 rfl ?_
  refine g_isubN hC g (g - 40) (by omega) dX1_at_20 ?_
  refine g_iconst (v := 1) hC dX1_at_21 rfl ?_
  refine g_isub hC dX1_at_22 ?_
  refine g_i2l (v := ((nI (g - (g - 40))) - 1).toInt64) hC dX1_at_23 rfl ?_
  refine V.lts (fun lc_3 => ?_)
  refine g_calli0 hC (g_runS hC (met_X0_in (G := G) i_.toInt64 0 (((nI (g - (g - 40))) - 1).toInt64)  ) (lw_S q3469 q529 q81 q530) md_X0_in dX1_at_24 rfl ⟨by omega, by omega⟩ (by omega) (by omega) rfl (Nat.le_of_ble_eq_true rfl)) (fun r_4 G_4 n_4 u_4 hp_4 hn_4 hm_4 hu_4 => ?_)
  obtain ⟨rfl, rfl, rfl, rfl⟩ := hp_4
  refine g_if_eqB hC (inL i_.toInt64 0 (((nI (g - (g - 40))) - 1).toInt64)) dX1_at_27 (tgt := 44) (by decide) (fun c_27 => ?_) (fun c_27 => ?_)
  · have hin : wi i_ 0 (nI (g - (g - 40)) - 1) = false := by rw [inL0] at c_27; exact c_27
    refine g_iconst (v := (-1)) hC dX1_at_44 rfl ?_
    refine g_iret hC hr rfl ⟨_, rfl, ?_⟩ (by omega) (by omega) hE dX1_at_45
    exact ⟨by unfold logC; rw [if_neg (by rw [hin]; decide)], rfl, rfl, rfl⟩
  · have hin : wi i_ 0 (nI (g - (g - 40)) - 1) = true := by rw [inL0] at c_27; exact c_27
    have hin0 := hin
    refine g_aload_n hC dX1_at_30 rfl 1 rfl ?_
    refine g_get (v := .ref ka) hC kc_X1 hl1 0 (by decide) q190 rfl dX1_at_31 ?_
    refine g_iload_n hC dX1_at_34 rfl 0 rfl ?_
    refine g_iload_n hC dX1_at_35 rfl 2 rfl ?_
    obtain ⟨k9, rfl, hk9⟩ := wi_n (by omega) hin
    refine g_iaddN hC (g - 40) k9 dX1_at_36 ?_
    refine g_bipush (v := 40) hC dX1_at_37 (by decide) ?_
    refine g_iremN hC ((g - 40) + k9) 40 (by omega) (by omega) (by omega) dX1_at_39 ?_
    refine g_iald hC hl2 (vin (by omega) (by omega)) dX1_at_40 ?_
    rw [show (nI (((g - 40) + k9) % 40)).toNatClampNeg = ((g - 40) + k9) % 40 from nI_clamp (by omega)]
    refine g_goto (tgt := 45) hC dX1_at_41 (by decide) ?_
    refine g_iret hC hr rfl ⟨_, rfl, ?_⟩ (by omega) (by omega) hE dX1_at_45
    exact ⟨by unfold logC; rw [if_pos hin0, nI_clamp (by omega)], rfl, rfl, rfl⟩
