set_option maxRecDepth 100000
/-! COMPONENT, 4: objects made, the log, the small methods of the host -/
theorem and1 (y : Int32) : y &&& 1 = 0 ∨ y &&& 1 = 1 := by
  have h : (y &&& 1).toBitVec = (BitVec.ofBool (y.toBitVec.getLsbD 0)).setWidth 32 := by
    have : (y &&& 1).toBitVec = y.toBitVec &&& 1#32 := rfl
    rw [this, BitVec.and_one_eq_setWidth_ofBool_getLsbD]
  cases q : y.toBitVec.getLsbD 0 with
  | false => left; apply Int32.toBitVec_inj.mp; rw [h, q]; rfl
  | true => right; apply Int32.toBitVec_inj.mp; rw [h, q]; rfl
def hasF (x : Int32) (k : Nat) : Bool := decide ((x >>> (nI k &&& 31)) &&& 1 = 1)
def inL (v a b : Int64) : Bool := !(decide (lg_cmp v a < 0)) && !(decide (0 < lg_cmp v b))
theorem i64_inj {x y : Int32} : x.toInt64.toInt = x.toInt := by simp
theorem inL_wi {x a b : Int32} : inL x.toInt64 a.toInt64 b.toInt64 = wi x a b := by
  unfold inL wi
  have h1 : lg_cmp x.toInt64 a.toInt64 < 0 ↔ x < a := by rw [lgc_lt, Int32.lt_iff_toInt_lt]; simp
  have h2 : 0 < lg_cmp x.toInt64 b.toInt64 ↔ b < x := by rw [lgc_gt, Int32.lt_iff_toInt_lt]; simp
  have h3 : (decide (a ≤ x)) = !(decide (x < a)) := by rw [← decide_not]; exact decide_eq_decide.mpr Int32.not_lt.symm
  have h4 : (decide (x ≤ b)) = !(decide (b < x)) := by rw [← decide_not]; exact decide_eq_decide.mpr Int32.not_lt.symm
  rw [h3, h4, decide_eq_decide.mpr h1, decide_eq_decide.mpr h2]
set_option maxHeartbeats 1000000 in
theorem met_X12_init {Y : YT} {l : Launch} {n u : Nat} {G : AH} (a_ : Nat) (x1 : Int32) (s1 : Nat) (x3 : Int32) (x4 : Int32) (x5 : Int32)  (h1 : G a_ = some (.inr (11, [.int 0, .null, .int 0, .int 0, .int 0]))) (hz : yz Y ≤ a_) : GM Y l yX12_init (ws_ yX12_init cX12_init 6 none) 1 24 [.ref a_, .int x1, .ref s1, .int x3, .int x4, .int x5] G n u 0 0 (pV (fun G' n' u' => G' a_ = some (.inr (11, [.int x1, .ref s1, .int x3, .int x4, .int x5])) ∧ FR (fun q_ => q_ = a_) n G G' ∧ n = n' ∧ u = u')) noX := by
  refine GM.intro (own := RX12) rfl (by decide +kernel) (Nat.le_of_ble_eq_true rfl) ?_
  intro p e s m args below meth c R Q hC hr hnm hF hL hE
  have hE1 := hE.1
  have hE2 := hE.2.1
  have hnz : yz Y ≤ n := by have := hC.z; have := hC.n; omega
  show V Y p l e R s m args below meth c 6 n u G n u Q 0 [(0, .ref a_), (1, .int x1), (2, .ref s1), (3, .int x3), (4, .int x4), (5, .int x5)] []
  refine V.lts (fun hlt => ?_)
  have hl_a_ : a_ < n := hlt _ _ h1
  refine g_aload_n hC dX12_init_0 rfl 0 rfl ?_
  refine V.lts (fun lc_1 => ?_)
  refine g_objInit hC q1416 q178 q179 dX12_init_1 (by omega) (by first | (simp; omega) | (simp [Value.category]; omega)) ?_
  refine g_aload_n hC dX12_init_4 rfl 0 rfl ?_
  refine g_iload_n hC dX12_init_5 rfl 1 rfl ?_
  obtain ⟨G_2, eG_2⟩ : ∃ G_, gU G a_ (.inr (11, [.int x1, .null, .int 0, .int 0, .int 0])) = G_ := ⟨_, rfl⟩
  have hf_3 : FR (fun q_ => q_ = a_) n G G_2 := by rw [← eG_2]; exact FR.put FR.refl (.inl rfl)
  refine g_putF hC hnm kc_X12 h1 0 (by decide) q1417 rfl rfl rfl rfl (by show 0 < 5; decide) rfl (by omega) (G' := G_2) eG_2 dX12_init_6 ?_
  have o_4 : G_2 a_ = some (.inr (11, [.int x1, .null, .int 0, .int 0, .int 0])) := by rw [← eG_2]; exact gU_s _ _ _
  refine g_aload_n hC dX12_init_9 rfl 0 rfl ?_
  refine g_aload_n hC dX12_init_10 rfl 2 rfl ?_
  obtain ⟨G_5, eG_5⟩ : ∃ G_, gU G_2 a_ (.inr (11, [.int x1, .ref s1, .int 0, .int 0, .int 0])) = G_ := ⟨_, rfl⟩
  have hf_6 : FR (fun q_ => q_ = a_) n G G_5 := by rw [← eG_5]; exact FR.put hf_3 (.inl rfl)
  refine g_putF hC hnm kc_X12 o_4 1 (by decide) q1420 rfl rfl rfl rfl (by show 1 < 5; decide) rfl (by omega) (G' := G_5) eG_5 dX12_init_11 ?_
  have o_7 : G_5 a_ = some (.inr (11, [.int x1, .ref s1, .int 0, .int 0, .int 0])) := by rw [← eG_5]; exact gU_s _ _ _
  refine g_aload_n hC dX12_init_14 rfl 0 rfl ?_
  refine g_iload_n hC dX12_init_15 rfl 3 rfl ?_
  obtain ⟨G_8, eG_8⟩ : ∃ G_, gU G_5 a_ (.inr (11, [.int x1, .ref s1, .int x3, .int 0, .int 0])) = G_ := ⟨_, rfl⟩
  have hf_9 : FR (fun q_ => q_ = a_) n G G_8 := by rw [← eG_8]; exact FR.put hf_6 (.inl rfl)
  refine g_putF hC hnm kc_X12 o_7 2 (by decide) q1423 rfl rfl rfl rfl (by show 2 < 5; decide) rfl (by omega) (G' := G_8) eG_8 dX12_init_16 ?_
  have o_10 : G_8 a_ = some (.inr (11, [.int x1, .ref s1, .int x3, .int 0, .int 0])) := by rw [← eG_8]; exact gU_s _ _ _
  refine g_aload_n hC dX12_init_19 rfl 0 rfl ?_
  refine g_iload hC dX12_init_20 4 rfl ?_
  obtain ⟨G_11, eG_11⟩ : ∃ G_, gU G_8 a_ (.inr (11, [.int x1, .ref s1, .int x3, .int x4, .int 0])) = G_ := ⟨_, rfl⟩
  have hf_12 : FR (fun q_ => q_ = a_) n G G_11 := by rw [← eG_11]; exact FR.put hf_9 (.inl rfl)
  refine g_putF hC hnm kc_X12 o_10 3 (by decide) q1426 rfl rfl rfl rfl (by show 3 < 5; decide) rfl (by omega) (G' := G_11) eG_11 dX12_init_22 ?_
  have o_13 : G_11 a_ = some (.inr (11, [.int x1, .ref s1, .int x3, .int x4, .int 0])) := by rw [← eG_11]; exact gU_s _ _ _
  refine g_aload_n hC dX12_init_25 rfl 0 rfl ?_
  refine g_iload hC dX12_init_26 5 rfl ?_
  obtain ⟨G_14, eG_14⟩ : ∃ G_, gU G_11 a_ (.inr (11, [.int x1, .ref s1, .int x3, .int x4, .int x5])) = G_ := ⟨_, rfl⟩
  have hf_15 : FR (fun q_ => q_ = a_) n G G_14 := by rw [← eG_14]; exact FR.put hf_12 (.inl rfl)
  refine g_putF hC hnm kc_X12 o_13 4 (by decide) q1430 rfl rfl rfl rfl (by show 4 < 5; decide) rfl (by omega) (G' := G_14) eG_14 dX12_init_28 ?_
  have o_16 : G_14 a_ = some (.inr (11, [.int x1, .ref s1, .int x3, .int x4, .int x5])) := by rw [← eG_14]; exact gU_s _ _ _
  refine g_vret hC hr ⟨rfl, ?_⟩ (by omega) (by omega) hE dX12_init_31
  exact ⟨o_16, hf_15, rfl, rfl⟩
set_option maxHeartbeats 1000000 in
theorem met_X12_init_X13 {Y : YT} {l : Launch} {n u : Nat} {G : AH} (a_ : Nat) (x1 : Int32) (s1 : Nat) (x3 : Int32) (x4 : Int32) (x5 : Int32)  (h1 : G a_ = some (.inr (12, [.int 0, .null, .int 0, .int 0, .int 0]))) (hz : yz Y ≤ a_) : GM Y l yX12_init (ws_ yX12_init cX12_init 6 none) 1 24 [.ref a_, .int x1, .ref s1, .int x3, .int x4, .int x5] G n u 0 0 (pV (fun G' n' u' => G' a_ = some (.inr (12, [.int x1, .ref s1, .int x3, .int x4, .int x5])) ∧ FR (fun q_ => q_ = a_) n G G' ∧ n = n' ∧ u = u')) noX := by
  refine GM.intro (own := RX12) rfl (by decide +kernel) (Nat.le_of_ble_eq_true rfl) ?_
  intro p e s m args below meth c R Q hC hr hnm hF hL hE
  have hE1 := hE.1
  have hE2 := hE.2.1
  have hnz : yz Y ≤ n := by have := hC.z; have := hC.n; omega
  show V Y p l e R s m args below meth c 6 n u G n u Q 0 [(0, .ref a_), (1, .int x1), (2, .ref s1), (3, .int x3), (4, .int x4), (5, .int x5)] []
  refine V.lts (fun hlt => ?_)
  have hl_a_ : a_ < n := hlt _ _ h1
  refine g_aload_n hC dX12_init_0 rfl 0 rfl ?_
  refine V.lts (fun lc_1 => ?_)
  refine g_objInit hC q1416 q178 q179 dX12_init_1 (by omega) (by first | (simp; omega) | (simp [Value.category]; omega)) ?_
  refine g_aload_n hC dX12_init_4 rfl 0 rfl ?_
  refine g_iload_n hC dX12_init_5 rfl 1 rfl ?_
  obtain ⟨G_2, eG_2⟩ : ∃ G_, gU G a_ (.inr (12, [.int x1, .null, .int 0, .int 0, .int 0])) = G_ := ⟨_, rfl⟩
  have hf_3 : FR (fun q_ => q_ = a_) n G G_2 := by rw [← eG_2]; exact FR.put FR.refl (.inl rfl)
  refine g_putF hC hnm kc_X13 h1 0 (by decide) q1417 rfl rfl rfl rfl (by show 0 < 5; decide) rfl (by omega) (G' := G_2) eG_2 dX12_init_6 ?_
  have o_4 : G_2 a_ = some (.inr (12, [.int x1, .null, .int 0, .int 0, .int 0])) := by rw [← eG_2]; exact gU_s _ _ _
  refine g_aload_n hC dX12_init_9 rfl 0 rfl ?_
  refine g_aload_n hC dX12_init_10 rfl 2 rfl ?_
  obtain ⟨G_5, eG_5⟩ : ∃ G_, gU G_2 a_ (.inr (12, [.int x1, .ref s1, .int 0, .int 0, .int 0])) = G_ := ⟨_, rfl⟩
  have hf_6 : FR (fun q_ => q_ = a_) n G G_5 := by rw [← eG_5]; exact FR.put hf_3 (.inl rfl)
  refine g_putF hC hnm kc_X13 o_4 1 (by decide) q1420 rfl rfl rfl rfl (by show 1 < 5; decide) rfl (by omega) (G' := G_5) eG_5 dX12_init_11 ?_
  have o_7 : G_5 a_ = some (.inr (12, [.int x1, .ref s1, .int 0, .int 0, .int 0])) := by rw [← eG_5]; exact gU_s _ _ _
  refine g_aload_n hC dX12_init_14 rfl 0 rfl ?_
  refine g_iload_n hC dX12_init_15 rfl 3 rfl ?_
  obtain ⟨G_8, eG_8⟩ : ∃ G_, gU G_5 a_ (.inr (12, [.int x1, .ref s1, .int x3, .int 0, .int 0])) = G_ := ⟨_, rfl⟩
  have hf_9 : FR (fun q_ => q_ = a_) n G G_8 := by rw [← eG_8]; exact FR.put hf_6 (.inl rfl)
  refine g_putF hC hnm kc_X13 o_7 2 (by decide) q1423 rfl rfl rfl rfl (by show 2 < 5; decide) rfl (by omega) (G' := G_8) eG_8 dX12_init_16 ?_
  have o_10 : G_8 a_ = some (.inr (12, [.int x1, .ref s1, .int x3, .int 0, .int 0])) := by rw [← eG_8]; exact gU_s _ _ _
  refine g_aload_n hC dX12_init_19 rfl 0 rfl ?_
  refine g_iload hC dX12_init_20 4 rfl ?_
  obtain ⟨G_11, eG_11⟩ : ∃ G_, gU G_8 a_ (.inr (12, [.int x1, .ref s1, .int x3, .int x4, .int 0])) = G_ := ⟨_, rfl⟩
  have hf_12 : FR (fun q_ => q_ = a_) n G G_11 := by rw [← eG_11]; exact FR.put hf_9 (.inl rfl)
  refine g_putF hC hnm kc_X13 o_10 3 (by decide) q1426 rfl rfl rfl rfl (by show 3 < 5; decide) rfl (by omega) (G' := G_11) eG_11 dX12_init_22 ?_
  have o_13 : G_11 a_ = some (.inr (12, [.int x1, .ref s1, .int x3, .int x4, .int 0])) := by rw [← eG_11]; exact gU_s _ _ _
  refine g_aload_n hC dX12_init_25 rfl 0 rfl ?_
  refine g_iload hC dX12_init_26 5 rfl ?_
  obtain ⟨G_14, eG_14⟩ : ∃ G_, gU G_11 a_ (.inr (12, [.int x1, .ref s1, .int x3, .int x4, .int x5])) = G_ := ⟨_, rfl⟩
  have hf_15 : FR (fun q_ => q_ = a_) n G G_14 := by rw [← eG_14]; exact FR.put hf_12 (.inl rfl)
  refine g_putF hC hnm kc_X13 o_13 4 (by decide) q1430 rfl rfl rfl rfl (by show 4 < 5; decide) rfl (by omega) (G' := G_14) eG_14 dX12_init_28 ?_
  have o_16 : G_14 a_ = some (.inr (12, [.int x1, .ref s1, .int x3, .int x4, .int x5])) := by rw [← eG_14]; exact gU_s _ _ _
  refine g_vret hC hr ⟨rfl, ?_⟩ (by omega) (by omega) hE dX12_init_31
  exact ⟨o_16, hf_15, rfl, rfl⟩
set_option maxHeartbeats 1000000 in
theorem met_X12_init_X14 {Y : YT} {l : Launch} {n u : Nat} {G : AH} (a_ : Nat) (x1 : Int32) (s1 : Nat) (x3 : Int32) (x4 : Int32) (x5 : Int32)  (h1 : G a_ = some (.inr (13, [.int 0, .null, .int 0, .int 0, .int 0]))) (hz : yz Y ≤ a_) : GM Y l yX12_init (ws_ yX12_init cX12_init 6 none) 1 24 [.ref a_, .int x1, .ref s1, .int x3, .int x4, .int x5] G n u 0 0 (pV (fun G' n' u' => G' a_ = some (.inr (13, [.int x1, .ref s1, .int x3, .int x4, .int x5])) ∧ FR (fun q_ => q_ = a_) n G G' ∧ n = n' ∧ u = u')) noX := by
  refine GM.intro (own := RX12) rfl (by decide +kernel) (Nat.le_of_ble_eq_true rfl) ?_
  intro p e s m args below meth c R Q hC hr hnm hF hL hE
  have hE1 := hE.1
  have hE2 := hE.2.1
  have hnz : yz Y ≤ n := by have := hC.z; have := hC.n; omega
  show V Y p l e R s m args below meth c 6 n u G n u Q 0 [(0, .ref a_), (1, .int x1), (2, .ref s1), (3, .int x3), (4, .int x4), (5, .int x5)] []
  refine V.lts (fun hlt => ?_)
  have hl_a_ : a_ < n := hlt _ _ h1
  refine g_aload_n hC dX12_init_0 rfl 0 rfl ?_
  refine V.lts (fun lc_1 => ?_)
  refine g_objInit hC q1416 q178 q179 dX12_init_1 (by omega) (by first | (simp; omega) | (simp [Value.category]; omega)) ?_
  refine g_aload_n hC dX12_init_4 rfl 0 rfl ?_
  refine g_iload_n hC dX12_init_5 rfl 1 rfl ?_
  obtain ⟨G_2, eG_2⟩ : ∃ G_, gU G a_ (.inr (13, [.int x1, .null, .int 0, .int 0, .int 0])) = G_ := ⟨_, rfl⟩
  have hf_3 : FR (fun q_ => q_ = a_) n G G_2 := by rw [← eG_2]; exact FR.put FR.refl (.inl rfl)
  refine g_putF hC hnm kc_X14 h1 0 (by decide) q1417 rfl rfl rfl rfl (by show 0 < 5; decide) rfl (by omega) (G' := G_2) eG_2 dX12_init_6 ?_
  have o_4 : G_2 a_ = some (.inr (13, [.int x1, .null, .int 0, .int 0, .int 0])) := by rw [← eG_2]; exact gU_s _ _ _
  refine g_aload_n hC dX12_init_9 rfl 0 rfl ?_
  refine g_aload_n hC dX12_init_10 rfl 2 rfl ?_
  obtain ⟨G_5, eG_5⟩ : ∃ G_, gU G_2 a_ (.inr (13, [.int x1, .ref s1, .int 0, .int 0, .int 0])) = G_ := ⟨_, rfl⟩
  have hf_6 : FR (fun q_ => q_ = a_) n G G_5 := by rw [← eG_5]; exact FR.put hf_3 (.inl rfl)
  refine g_putF hC hnm kc_X14 o_4 1 (by decide) q1420 rfl rfl rfl rfl (by show 1 < 5; decide) rfl (by omega) (G' := G_5) eG_5 dX12_init_11 ?_
  have o_7 : G_5 a_ = some (.inr (13, [.int x1, .ref s1, .int 0, .int 0, .int 0])) := by rw [← eG_5]; exact gU_s _ _ _
  refine g_aload_n hC dX12_init_14 rfl 0 rfl ?_
  refine g_iload_n hC dX12_init_15 rfl 3 rfl ?_
  obtain ⟨G_8, eG_8⟩ : ∃ G_, gU G_5 a_ (.inr (13, [.int x1, .ref s1, .int x3, .int 0, .int 0])) = G_ := ⟨_, rfl⟩
  have hf_9 : FR (fun q_ => q_ = a_) n G G_8 := by rw [← eG_8]; exact FR.put hf_6 (.inl rfl)
  refine g_putF hC hnm kc_X14 o_7 2 (by decide) q1423 rfl rfl rfl rfl (by show 2 < 5; decide) rfl (by omega) (G' := G_8) eG_8 dX12_init_16 ?_
  have o_10 : G_8 a_ = some (.inr (13, [.int x1, .ref s1, .int x3, .int 0, .int 0])) := by rw [← eG_8]; exact gU_s _ _ _
  refine g_aload_n hC dX12_init_19 rfl 0 rfl ?_
  refine g_iload hC dX12_init_20 4 rfl ?_
  obtain ⟨G_11, eG_11⟩ : ∃ G_, gU G_8 a_ (.inr (13, [.int x1, .ref s1, .int x3, .int x4, .int 0])) = G_ := ⟨_, rfl⟩
  have hf_12 : FR (fun q_ => q_ = a_) n G G_11 := by rw [← eG_11]; exact FR.put hf_9 (.inl rfl)
  refine g_putF hC hnm kc_X14 o_10 3 (by decide) q1426 rfl rfl rfl rfl (by show 3 < 5; decide) rfl (by omega) (G' := G_11) eG_11 dX12_init_22 ?_
  have o_13 : G_11 a_ = some (.inr (13, [.int x1, .ref s1, .int x3, .int x4, .int 0])) := by rw [← eG_11]; exact gU_s _ _ _
  refine g_aload_n hC dX12_init_25 rfl 0 rfl ?_
  refine g_iload hC dX12_init_26 5 rfl ?_
  obtain ⟨G_14, eG_14⟩ : ∃ G_, gU G_11 a_ (.inr (13, [.int x1, .ref s1, .int x3, .int x4, .int x5])) = G_ := ⟨_, rfl⟩
  have hf_15 : FR (fun q_ => q_ = a_) n G G_14 := by rw [← eG_14]; exact FR.put hf_12 (.inl rfl)
  refine g_putF hC hnm kc_X14 o_13 4 (by decide) q1430 rfl rfl rfl rfl (by show 4 < 5; decide) rfl (by omega) (G' := G_14) eG_14 dX12_init_28 ?_
  have o_16 : G_14 a_ = some (.inr (13, [.int x1, .ref s1, .int x3, .int x4, .int x5])) := by rw [← eG_14]; exact gU_s _ _ _
  refine g_vret hC hr ⟨rfl, ?_⟩ (by omega) (by omega) hE dX12_init_31
  exact ⟨o_16, hf_15, rfl, rfl⟩
set_option maxHeartbeats 1000000 in
theorem met_X12_init_X15 {Y : YT} {l : Launch} {n u : Nat} {G : AH} (a_ : Nat) (x1 : Int32) (s1 : Nat) (x3 : Int32) (x4 : Int32) (x5 : Int32)  (h1 : G a_ = some (.inr (14, [.int 0, .null, .int 0, .int 0, .int 0]))) (hz : yz Y ≤ a_) : GM Y l yX12_init (ws_ yX12_init cX12_init 6 none) 1 24 [.ref a_, .int x1, .ref s1, .int x3, .int x4, .int x5] G n u 0 0 (pV (fun G' n' u' => G' a_ = some (.inr (14, [.int x1, .ref s1, .int x3, .int x4, .int x5])) ∧ FR (fun q_ => q_ = a_) n G G' ∧ n = n' ∧ u = u')) noX := by
  refine GM.intro (own := RX12) rfl (by decide +kernel) (Nat.le_of_ble_eq_true rfl) ?_
  intro p e s m args below meth c R Q hC hr hnm hF hL hE
  have hE1 := hE.1
  have hE2 := hE.2.1
  have hnz : yz Y ≤ n := by have := hC.z; have := hC.n; omega
  show V Y p l e R s m args below meth c 6 n u G n u Q 0 [(0, .ref a_), (1, .int x1), (2, .ref s1), (3, .int x3), (4, .int x4), (5, .int x5)] []
  refine V.lts (fun hlt => ?_)
  have hl_a_ : a_ < n := hlt _ _ h1
  refine g_aload_n hC dX12_init_0 rfl 0 rfl ?_
  refine V.lts (fun lc_1 => ?_)
  refine g_objInit hC q1416 q178 q179 dX12_init_1 (by omega) (by first | (simp; omega) | (simp [Value.category]; omega)) ?_
  refine g_aload_n hC dX12_init_4 rfl 0 rfl ?_
  refine g_iload_n hC dX12_init_5 rfl 1 rfl ?_
  obtain ⟨G_2, eG_2⟩ : ∃ G_, gU G a_ (.inr (14, [.int x1, .null, .int 0, .int 0, .int 0])) = G_ := ⟨_, rfl⟩
  have hf_3 : FR (fun q_ => q_ = a_) n G G_2 := by rw [← eG_2]; exact FR.put FR.refl (.inl rfl)
  refine g_putF hC hnm kc_X15 h1 0 (by decide) q1417 rfl rfl rfl rfl (by show 0 < 5; decide) rfl (by omega) (G' := G_2) eG_2 dX12_init_6 ?_
  have o_4 : G_2 a_ = some (.inr (14, [.int x1, .null, .int 0, .int 0, .int 0])) := by rw [← eG_2]; exact gU_s _ _ _
  refine g_aload_n hC dX12_init_9 rfl 0 rfl ?_
  refine g_aload_n hC dX12_init_10 rfl 2 rfl ?_
  obtain ⟨G_5, eG_5⟩ : ∃ G_, gU G_2 a_ (.inr (14, [.int x1, .ref s1, .int 0, .int 0, .int 0])) = G_ := ⟨_, rfl⟩
  have hf_6 : FR (fun q_ => q_ = a_) n G G_5 := by rw [← eG_5]; exact FR.put hf_3 (.inl rfl)
  refine g_putF hC hnm kc_X15 o_4 1 (by decide) q1420 rfl rfl rfl rfl (by show 1 < 5; decide) rfl (by omega) (G' := G_5) eG_5 dX12_init_11 ?_
  have o_7 : G_5 a_ = some (.inr (14, [.int x1, .ref s1, .int 0, .int 0, .int 0])) := by rw [← eG_5]; exact gU_s _ _ _
  refine g_aload_n hC dX12_init_14 rfl 0 rfl ?_
  refine g_iload_n hC dX12_init_15 rfl 3 rfl ?_
  obtain ⟨G_8, eG_8⟩ : ∃ G_, gU G_5 a_ (.inr (14, [.int x1, .ref s1, .int x3, .int 0, .int 0])) = G_ := ⟨_, rfl⟩
  have hf_9 : FR (fun q_ => q_ = a_) n G G_8 := by rw [← eG_8]; exact FR.put hf_6 (.inl rfl)
  refine g_putF hC hnm kc_X15 o_7 2 (by decide) q1423 rfl rfl rfl rfl (by show 2 < 5; decide) rfl (by omega) (G' := G_8) eG_8 dX12_init_16 ?_
  have o_10 : G_8 a_ = some (.inr (14, [.int x1, .ref s1, .int x3, .int 0, .int 0])) := by rw [← eG_8]; exact gU_s _ _ _
  refine g_aload_n hC dX12_init_19 rfl 0 rfl ?_
  refine g_iload hC dX12_init_20 4 rfl ?_
  obtain ⟨G_11, eG_11⟩ : ∃ G_, gU G_8 a_ (.inr (14, [.int x1, .ref s1, .int x3, .int x4, .int 0])) = G_ := ⟨_, rfl⟩
  have hf_12 : FR (fun q_ => q_ = a_) n G G_11 := by rw [← eG_11]; exact FR.put hf_9 (.inl rfl)
  refine g_putF hC hnm kc_X15 o_10 3 (by decide) q1426 rfl rfl rfl rfl (by show 3 < 5; decide) rfl (by omega) (G' := G_11) eG_11 dX12_init_22 ?_
  have o_13 : G_11 a_ = some (.inr (14, [.int x1, .ref s1, .int x3, .int x4, .int 0])) := by rw [← eG_11]; exact gU_s _ _ _
  refine g_aload_n hC dX12_init_25 rfl 0 rfl ?_
  refine g_iload hC dX12_init_26 5 rfl ?_
  obtain ⟨G_14, eG_14⟩ : ∃ G_, gU G_11 a_ (.inr (14, [.int x1, .ref s1, .int x3, .int x4, .int x5])) = G_ := ⟨_, rfl⟩
  have hf_15 : FR (fun q_ => q_ = a_) n G G_14 := by rw [← eG_14]; exact FR.put hf_12 (.inl rfl)
  refine g_putF hC hnm kc_X15 o_13 4 (by decide) q1430 rfl rfl rfl rfl (by show 4 < 5; decide) rfl (by omega) (G' := G_14) eG_14 dX12_init_28 ?_
  have o_16 : G_14 a_ = some (.inr (14, [.int x1, .ref s1, .int x3, .int x4, .int x5])) := by rw [← eG_14]; exact gU_s _ _ _
  refine g_vret hC hr ⟨rfl, ?_⟩ (by omega) (by omega) hE dX12_init_31
  exact ⟨o_16, hf_15, rfl, rfl⟩
set_option maxHeartbeats 1000000 in
theorem met_X12_init_X16 {Y : YT} {l : Launch} {n u : Nat} {G : AH} (a_ : Nat) (x1 : Int32) (s1 : Nat) (x3 : Int32) (x4 : Int32) (x5 : Int32)  (h1 : G a_ = some (.inr (15, [.int 0, .null, .int 0, .int 0, .int 0]))) (hz : yz Y ≤ a_) : GM Y l yX12_init (ws_ yX12_init cX12_init 6 none) 1 24 [.ref a_, .int x1, .ref s1, .int x3, .int x4, .int x5] G n u 0 0 (pV (fun G' n' u' => G' a_ = some (.inr (15, [.int x1, .ref s1, .int x3, .int x4, .int x5])) ∧ FR (fun q_ => q_ = a_) n G G' ∧ n = n' ∧ u = u')) noX := by
  refine GM.intro (own := RX12) rfl (by decide +kernel) (Nat.le_of_ble_eq_true rfl) ?_
  intro p e s m args below meth c R Q hC hr hnm hF hL hE
  have hE1 := hE.1
  have hE2 := hE.2.1
  have hnz : yz Y ≤ n := by have := hC.z; have := hC.n; omega
  show V Y p l e R s m args below meth c 6 n u G n u Q 0 [(0, .ref a_), (1, .int x1), (2, .ref s1), (3, .int x3), (4, .int x4), (5, .int x5)] []
  refine V.lts (fun hlt => ?_)
  have hl_a_ : a_ < n := hlt _ _ h1
  refine g_aload_n hC dX12_init_0 rfl 0 rfl ?_
  refine V.lts (fun lc_1 => ?_)
  refine g_objInit hC q1416 q178 q179 dX12_init_1 (by omega) (by first | (simp; omega) | (simp [Value.category]; omega)) ?_
  refine g_aload_n hC dX12_init_4 rfl 0 rfl ?_
  refine g_iload_n hC dX12_init_5 rfl 1 rfl ?_
  obtain ⟨G_2, eG_2⟩ : ∃ G_, gU G a_ (.inr (15, [.int x1, .null, .int 0, .int 0, .int 0])) = G_ := ⟨_, rfl⟩
  have hf_3 : FR (fun q_ => q_ = a_) n G G_2 := by rw [← eG_2]; exact FR.put FR.refl (.inl rfl)
  refine g_putF hC hnm kc_X16 h1 0 (by decide) q1417 rfl rfl rfl rfl (by show 0 < 5; decide) rfl (by omega) (G' := G_2) eG_2 dX12_init_6 ?_
  have o_4 : G_2 a_ = some (.inr (15, [.int x1, .null, .int 0, .int 0, .int 0])) := by rw [← eG_2]; exact gU_s _ _ _
  refine g_aload_n hC dX12_init_9 rfl 0 rfl ?_
  refine g_aload_n hC dX12_init_10 rfl 2 rfl ?_
  obtain ⟨G_5, eG_5⟩ : ∃ G_, gU G_2 a_ (.inr (15, [.int x1, .ref s1, .int 0, .int 0, .int 0])) = G_ := ⟨_, rfl⟩
  have hf_6 : FR (fun q_ => q_ = a_) n G G_5 := by rw [← eG_5]; exact FR.put hf_3 (.inl rfl)
  refine g_putF hC hnm kc_X16 o_4 1 (by decide) q1420 rfl rfl rfl rfl (by show 1 < 5; decide) rfl (by omega) (G' := G_5) eG_5 dX12_init_11 ?_
  have o_7 : G_5 a_ = some (.inr (15, [.int x1, .ref s1, .int 0, .int 0, .int 0])) := by rw [← eG_5]; exact gU_s _ _ _
  refine g_aload_n hC dX12_init_14 rfl 0 rfl ?_
  refine g_iload_n hC dX12_init_15 rfl 3 rfl ?_
  obtain ⟨G_8, eG_8⟩ : ∃ G_, gU G_5 a_ (.inr (15, [.int x1, .ref s1, .int x3, .int 0, .int 0])) = G_ := ⟨_, rfl⟩
  have hf_9 : FR (fun q_ => q_ = a_) n G G_8 := by rw [← eG_8]; exact FR.put hf_6 (.inl rfl)
  refine g_putF hC hnm kc_X16 o_7 2 (by decide) q1423 rfl rfl rfl rfl (by show 2 < 5; decide) rfl (by omega) (G' := G_8) eG_8 dX12_init_16 ?_
  have o_10 : G_8 a_ = some (.inr (15, [.int x1, .ref s1, .int x3, .int 0, .int 0])) := by rw [← eG_8]; exact gU_s _ _ _
  refine g_aload_n hC dX12_init_19 rfl 0 rfl ?_
  refine g_iload hC dX12_init_20 4 rfl ?_
  obtain ⟨G_11, eG_11⟩ : ∃ G_, gU G_8 a_ (.inr (15, [.int x1, .ref s1, .int x3, .int x4, .int 0])) = G_ := ⟨_, rfl⟩
  have hf_12 : FR (fun q_ => q_ = a_) n G G_11 := by rw [← eG_11]; exact FR.put hf_9 (.inl rfl)
  refine g_putF hC hnm kc_X16 o_10 3 (by decide) q1426 rfl rfl rfl rfl (by show 3 < 5; decide) rfl (by omega) (G' := G_11) eG_11 dX12_init_22 ?_
  have o_13 : G_11 a_ = some (.inr (15, [.int x1, .ref s1, .int x3, .int x4, .int 0])) := by rw [← eG_11]; exact gU_s _ _ _
  refine g_aload_n hC dX12_init_25 rfl 0 rfl ?_
  refine g_iload hC dX12_init_26 5 rfl ?_
  obtain ⟨G_14, eG_14⟩ : ∃ G_, gU G_11 a_ (.inr (15, [.int x1, .ref s1, .int x3, .int x4, .int x5])) = G_ := ⟨_, rfl⟩
  have hf_15 : FR (fun q_ => q_ = a_) n G G_14 := by rw [← eG_14]; exact FR.put hf_12 (.inl rfl)
  refine g_putF hC hnm kc_X16 o_13 4 (by decide) q1430 rfl rfl rfl rfl (by show 4 < 5; decide) rfl (by omega) (G' := G_14) eG_14 dX12_init_28 ?_
  have o_16 : G_14 a_ = some (.inr (15, [.int x1, .ref s1, .int x3, .int x4, .int x5])) := by rw [← eG_14]; exact gU_s _ _ _
  refine g_vret hC hr ⟨rfl, ?_⟩ (by omega) (by omega) hE dX12_init_31
  exact ⟨o_16, hf_15, rfl, rfl⟩
set_option maxHeartbeats 1000000 in
theorem met_X13_init {Y : YT} {l : Launch} {n u : Nat} {G : AH} (a_ : Nat) (x1 : Int32) (s1 : Nat) (x3 : Int32) (x4 : Int32) (x5 : Int32)  (h1 : G a_ = some (.inr (12, [.int 0, .null, .int 0, .int 0, .int 0]))) (hz : yz Y ≤ a_) : GM Y l yX13_init (ws_ yX13_init cX13_init 6 none) 2 49 [.ref a_, .int x1, .ref s1, .int x3, .int x4, .int x5] G n u 0 0 (pV (fun G' n' u' => G' a_ = some (.inr (12, [.int x1, .ref s1, .int x3, .int x4, .int x5])) ∧ FR (fun q_ => q_ = a_) n G G' ∧ n = n' ∧ u = u')) noX := by
  refine GM.intro (own := RX13) rfl (by decide +kernel) (Nat.le_of_ble_eq_true rfl) ?_
  intro p e s m args below meth c R Q hC hr hnm hF hL hE
  have hE1 := hE.1
  have hE2 := hE.2.1
  have hnz : yz Y ≤ n := by have := hC.z; have := hC.n; omega
  show V Y p l e R s m args below meth c 6 n u G n u Q 0 [(0, .ref a_), (1, .int x1), (2, .ref s1), (3, .int x3), (4, .int x4), (5, .int x5)] []
  refine V.lts (fun hlt => ?_)
  have hl_a_ : a_ < n := hlt _ _ h1
  refine g_aload_n hC dX13_init_0 rfl 0 rfl ?_
  refine g_iload_n hC dX13_init_1 rfl 1 rfl ?_
  refine g_aload_n hC dX13_init_2 rfl 2 rfl ?_
  refine g_iload_n hC dX13_init_3 rfl 3 rfl ?_
  refine g_iload hC dX13_init_4 4 rfl ?_
  refine g_iload hC dX13_init_6 5 rfl ?_
  refine V.lts (fun lc_1 => ?_)
  refine g_callv0 hC (g_runI (ret := none) hC (met_X12_init_X13 (G := G) a_ x1 s1 x3 x4 x5 h1 (by omega)) (lw_meth q1415) q118 q1413 q1414 rfl md_X12_init dX13_init_8 rfl ⟨by omega, by omega⟩ (by omega) (by omega) rfl (Nat.le_of_ble_eq_true rfl)) (fun G_2 n_2 u_2 hp_2 hn_2 hm_2 hu_2 => ?_)
  obtain ⟨ho_2, hf_2, rfl, rfl⟩ := hp_2
  have hf_3 : FR (fun q_ => q_ = a_) n G G_2 := FR.refl.trans hf_2 (by omega) (fun a_ q_ => by first | exact .inl q_ | (subst q_; first | exact .inr (by omega) | exact .inl rfl))
  refine g_vret hC hr ⟨rfl, ?_⟩ (by omega) (by omega) hE dX13_init_11
  exact ⟨ho_2, hf_3, rfl, rfl⟩
set_option maxHeartbeats 1000000 in
theorem met_X13_init_X15 {Y : YT} {l : Launch} {n u : Nat} {G : AH} (a_ : Nat) (x1 : Int32) (s1 : Nat) (x3 : Int32) (x4 : Int32) (x5 : Int32)  (h1 : G a_ = some (.inr (14, [.int 0, .null, .int 0, .int 0, .int 0]))) (hz : yz Y ≤ a_) : GM Y l yX13_init (ws_ yX13_init cX13_init 6 none) 2 49 [.ref a_, .int x1, .ref s1, .int x3, .int x4, .int x5] G n u 0 0 (pV (fun G' n' u' => G' a_ = some (.inr (14, [.int x1, .ref s1, .int x3, .int x4, .int x5])) ∧ FR (fun q_ => q_ = a_) n G G' ∧ n = n' ∧ u = u')) noX := by
  refine GM.intro (own := RX13) rfl (by decide +kernel) (Nat.le_of_ble_eq_true rfl) ?_
  intro p e s m args below meth c R Q hC hr hnm hF hL hE
  have hE1 := hE.1
  have hE2 := hE.2.1
  have hnz : yz Y ≤ n := by have := hC.z; have := hC.n; omega
  show V Y p l e R s m args below meth c 6 n u G n u Q 0 [(0, .ref a_), (1, .int x1), (2, .ref s1), (3, .int x3), (4, .int x4), (5, .int x5)] []
  refine V.lts (fun hlt => ?_)
  have hl_a_ : a_ < n := hlt _ _ h1
  refine g_aload_n hC dX13_init_0 rfl 0 rfl ?_
  refine g_iload_n hC dX13_init_1 rfl 1 rfl ?_
  refine g_aload_n hC dX13_init_2 rfl 2 rfl ?_
  refine g_iload_n hC dX13_init_3 rfl 3 rfl ?_
  refine g_iload hC dX13_init_4 4 rfl ?_
  refine g_iload hC dX13_init_6 5 rfl ?_
  refine V.lts (fun lc_1 => ?_)
  refine g_callv0 hC (g_runI (ret := none) hC (met_X12_init_X15 (G := G) a_ x1 s1 x3 x4 x5 h1 (by omega)) (lw_meth q1415) q118 q1413 q1414 rfl md_X12_init dX13_init_8 rfl ⟨by omega, by omega⟩ (by omega) (by omega) rfl (Nat.le_of_ble_eq_true rfl)) (fun G_2 n_2 u_2 hp_2 hn_2 hm_2 hu_2 => ?_)
  obtain ⟨ho_2, hf_2, rfl, rfl⟩ := hp_2
  have hf_3 : FR (fun q_ => q_ = a_) n G G_2 := FR.refl.trans hf_2 (by omega) (fun a_ q_ => by first | exact .inl q_ | (subst q_; first | exact .inr (by omega) | exact .inl rfl))
  refine g_vret hC hr ⟨rfl, ?_⟩ (by omega) (by omega) hE dX13_init_11
  exact ⟨ho_2, hf_3, rfl, rfl⟩
set_option maxHeartbeats 1000000 in
theorem met_X14_init {Y : YT} {l : Launch} {n u : Nat} {G : AH} (a_ : Nat) (x1 : Int32) (s1 : Nat) (x3 : Int32) (x4 : Int32) (x5 : Int32)  (h1 : G a_ = some (.inr (13, [.int 0, .null, .int 0, .int 0, .int 0]))) (hz : yz Y ≤ a_) : GM Y l yX14_init (ws_ yX14_init cX14_init 6 none) 2 49 [.ref a_, .int x1, .ref s1, .int x3, .int x4, .int x5] G n u 0 0 (pV (fun G' n' u' => G' a_ = some (.inr (13, [.int x1, .ref s1, .int x3, .int x4, .int x5])) ∧ FR (fun q_ => q_ = a_) n G G' ∧ n = n' ∧ u = u')) noX := by
  refine GM.intro (own := RX14) rfl (by decide +kernel) (Nat.le_of_ble_eq_true rfl) ?_
  intro p e s m args below meth c R Q hC hr hnm hF hL hE
  have hE1 := hE.1
  have hE2 := hE.2.1
  have hnz : yz Y ≤ n := by have := hC.z; have := hC.n; omega
  show V Y p l e R s m args below meth c 6 n u G n u Q 0 [(0, .ref a_), (1, .int x1), (2, .ref s1), (3, .int x3), (4, .int x4), (5, .int x5)] []
  refine V.lts (fun hlt => ?_)
  have hl_a_ : a_ < n := hlt _ _ h1
  refine g_aload_n hC dX14_init_0 rfl 0 rfl ?_
  refine g_iload_n hC dX14_init_1 rfl 1 rfl ?_
  refine g_aload_n hC dX14_init_2 rfl 2 rfl ?_
  refine g_iload_n hC dX14_init_3 rfl 3 rfl ?_
  refine g_iload hC dX14_init_4 4 rfl ?_
  refine g_iload hC dX14_init_6 5 rfl ?_
  refine V.lts (fun lc_1 => ?_)
  refine g_callv0 hC (g_runI (ret := none) hC (met_X12_init_X14 (G := G) a_ x1 s1 x3 x4 x5 h1 (by omega)) (lw_meth q1415) q118 q1450 q1414 rfl md_X12_init dX14_init_8 rfl ⟨by omega, by omega⟩ (by omega) (by omega) rfl (Nat.le_of_ble_eq_true rfl)) (fun G_2 n_2 u_2 hp_2 hn_2 hm_2 hu_2 => ?_)
  obtain ⟨ho_2, hf_2, rfl, rfl⟩ := hp_2
  have hf_3 : FR (fun q_ => q_ = a_) n G G_2 := FR.refl.trans hf_2 (by omega) (fun a_ q_ => by first | exact .inl q_ | (subst q_; first | exact .inr (by omega) | exact .inl rfl))
  refine g_vret hC hr ⟨rfl, ?_⟩ (by omega) (by omega) hE dX14_init_11
  exact ⟨ho_2, hf_3, rfl, rfl⟩
set_option maxHeartbeats 1000000 in
theorem met_X14_init_X16 {Y : YT} {l : Launch} {n u : Nat} {G : AH} (a_ : Nat) (x1 : Int32) (s1 : Nat) (x3 : Int32) (x4 : Int32) (x5 : Int32)  (h1 : G a_ = some (.inr (15, [.int 0, .null, .int 0, .int 0, .int 0]))) (hz : yz Y ≤ a_) : GM Y l yX14_init (ws_ yX14_init cX14_init 6 none) 2 49 [.ref a_, .int x1, .ref s1, .int x3, .int x4, .int x5] G n u 0 0 (pV (fun G' n' u' => G' a_ = some (.inr (15, [.int x1, .ref s1, .int x3, .int x4, .int x5])) ∧ FR (fun q_ => q_ = a_) n G G' ∧ n = n' ∧ u = u')) noX := by
  refine GM.intro (own := RX14) rfl (by decide +kernel) (Nat.le_of_ble_eq_true rfl) ?_
  intro p e s m args below meth c R Q hC hr hnm hF hL hE
  have hE1 := hE.1
  have hE2 := hE.2.1
  have hnz : yz Y ≤ n := by have := hC.z; have := hC.n; omega
  show V Y p l e R s m args below meth c 6 n u G n u Q 0 [(0, .ref a_), (1, .int x1), (2, .ref s1), (3, .int x3), (4, .int x4), (5, .int x5)] []
  refine V.lts (fun hlt => ?_)
  have hl_a_ : a_ < n := hlt _ _ h1
  refine g_aload_n hC dX14_init_0 rfl 0 rfl ?_
  refine g_iload_n hC dX14_init_1 rfl 1 rfl ?_
  refine g_aload_n hC dX14_init_2 rfl 2 rfl ?_
  refine g_iload_n hC dX14_init_3 rfl 3 rfl ?_
  refine g_iload hC dX14_init_4 4 rfl ?_
  refine g_iload hC dX14_init_6 5 rfl ?_
  refine V.lts (fun lc_1 => ?_)
  refine g_callv0 hC (g_runI (ret := none) hC (met_X12_init_X16 (G := G) a_ x1 s1 x3 x4 x5 h1 (by omega)) (lw_meth q1415) q118 q1450 q1414 rfl md_X12_init dX14_init_8 rfl ⟨by omega, by omega⟩ (by omega) (by omega) rfl (Nat.le_of_ble_eq_true rfl)) (fun G_2 n_2 u_2 hp_2 hn_2 hm_2 hu_2 => ?_)
  obtain ⟨ho_2, hf_2, rfl, rfl⟩ := hp_2
  have hf_3 : FR (fun q_ => q_ = a_) n G G_2 := FR.refl.trans hf_2 (by omega) (fun a_ q_ => by first | exact .inl q_ | (subst q_; first | exact .inr (by omega) | exact .inl rfl))
  refine g_vret hC hr ⟨rfl, ?_⟩ (by omega) (by omega) hE dX14_init_11
  exact ⟨ho_2, hf_3, rfl, rfl⟩
set_option maxHeartbeats 1000000 in
theorem met_X15_init {Y : YT} {l : Launch} {n u : Nat} {G : AH} (a_ : Nat) (x1 : Int32) (s1 : Nat) (x3 : Int32) (x4 : Int32) (x5 : Int32)  (h1 : G a_ = some (.inr (14, [.int 0, .null, .int 0, .int 0, .int 0]))) (hz : yz Y ≤ a_) : GM Y l yX15_init (ws_ yX15_init cX15_init 6 none) 3 74 [.ref a_, .int x1, .ref s1, .int x3, .int x4, .int x5] G n u 0 0 (pV (fun G' n' u' => G' a_ = some (.inr (14, [.int x1, .ref s1, .int x3, .int x4, .int x5])) ∧ FR (fun q_ => q_ = a_) n G G' ∧ n = n' ∧ u = u')) noX := by
  refine GM.intro (own := RX15) rfl (by decide +kernel) (Nat.le_of_ble_eq_true rfl) ?_
  intro p e s m args below meth c R Q hC hr hnm hF hL hE
  have hE1 := hE.1
  have hE2 := hE.2.1
  have hnz : yz Y ≤ n := by have := hC.z; have := hC.n; omega
  show V Y p l e R s m args below meth c 6 n u G n u Q 0 [(0, .ref a_), (1, .int x1), (2, .ref s1), (3, .int x3), (4, .int x4), (5, .int x5)] []
  refine V.lts (fun hlt => ?_)
  have hl_a_ : a_ < n := hlt _ _ h1
  refine g_aload_n hC dX15_init_0 rfl 0 rfl ?_
  refine g_iload_n hC dX15_init_1 rfl 1 rfl ?_
  refine g_aload_n hC dX15_init_2 rfl 2 rfl ?_
  refine g_iload_n hC dX15_init_3 rfl 3 rfl ?_
  refine g_iload hC dX15_init_4 4 rfl ?_
  refine g_iload hC dX15_init_6 5 rfl ?_
  refine V.lts (fun lc_1 => ?_)
  refine g_callv0 hC (g_runI (ret := none) hC (met_X13_init_X15 (G := G) a_ x1 s1 x3 x4 x5 h1 (by omega)) (lw_meth q1412) q119 q1461 q1411 rfl md_X13_init dX15_init_8 rfl ⟨by omega, by omega⟩ (by omega) (by omega) rfl (Nat.le_of_ble_eq_true rfl)) (fun G_2 n_2 u_2 hp_2 hn_2 hm_2 hu_2 => ?_)
  obtain ⟨ho_2, hf_2, rfl, rfl⟩ := hp_2
  have hf_3 : FR (fun q_ => q_ = a_) n G G_2 := FR.refl.trans hf_2 (by omega) (fun a_ q_ => by first | exact .inl q_ | (subst q_; first | exact .inr (by omega) | exact .inl rfl))
  refine g_vret hC hr ⟨rfl, ?_⟩ (by omega) (by omega) hE dX15_init_11
  exact ⟨ho_2, hf_3, rfl, rfl⟩
set_option maxHeartbeats 1000000 in
theorem met_X16_init {Y : YT} {l : Launch} {n u : Nat} {G : AH} (a_ : Nat) (x1 : Int32) (s1 : Nat) (x3 : Int32) (x4 : Int32) (x5 : Int32)  (h1 : G a_ = some (.inr (15, [.int 0, .null, .int 0, .int 0, .int 0]))) (hz : yz Y ≤ a_) : GM Y l yX16_init (ws_ yX16_init cX16_init 6 none) 3 74 [.ref a_, .int x1, .ref s1, .int x3, .int x4, .int x5] G n u 0 0 (pV (fun G' n' u' => G' a_ = some (.inr (15, [.int x1, .ref s1, .int x3, .int x4, .int x5])) ∧ FR (fun q_ => q_ = a_) n G G' ∧ n = n' ∧ u = u')) noX := by
  refine GM.intro (own := RX16) rfl (by decide +kernel) (Nat.le_of_ble_eq_true rfl) ?_
  intro p e s m args below meth c R Q hC hr hnm hF hL hE
  have hE1 := hE.1
  have hE2 := hE.2.1
  have hnz : yz Y ≤ n := by have := hC.z; have := hC.n; omega
  show V Y p l e R s m args below meth c 6 n u G n u Q 0 [(0, .ref a_), (1, .int x1), (2, .ref s1), (3, .int x3), (4, .int x4), (5, .int x5)] []
  refine V.lts (fun hlt => ?_)
  have hl_a_ : a_ < n := hlt _ _ h1
  refine g_aload_n hC dX16_init_0 rfl 0 rfl ?_
  refine g_iload_n hC dX16_init_1 rfl 1 rfl ?_
  refine g_aload_n hC dX16_init_2 rfl 2 rfl ?_
  refine g_iload_n hC dX16_init_3 rfl 3 rfl ?_
  refine g_iload hC dX16_init_4 4 rfl ?_
  refine g_iload hC dX16_init_6 5 rfl ?_
  refine V.lts (fun lc_1 => ?_)
  refine g_callv0 hC (g_runI (ret := none) hC (met_X14_init_X16 (G := G) a_ x1 s1 x3 x4 x5 h1 (by omega)) (lw_meth q1449) q120 q1472 q1448 rfl md_X14_init dX16_init_8 rfl ⟨by omega, by omega⟩ (by omega) (by omega) rfl (Nat.le_of_ble_eq_true rfl)) (fun G_2 n_2 u_2 hp_2 hn_2 hm_2 hu_2 => ?_)
  obtain ⟨ho_2, hf_2, rfl, rfl⟩ := hp_2
  have hf_3 : FR (fun q_ => q_ = a_) n G G_2 := FR.refl.trans hf_2 (by omega) (fun a_ q_ => by first | exact .inl q_ | (subst q_; first | exact .inr (by omega) | exact .inl rfl))
  refine g_vret hC hr ⟨rfl, ?_⟩ (by omega) (by omega) hE dX16_init_11
  exact ⟨ho_2, hf_3, rfl, rfl⟩
set_option maxHeartbeats 1000000 in
theorem met_X27_init {Y : YT} {l : Launch} {n u : Nat} {G : AH} (a_ : Nat) (x0 : Int32) (x1 : Int32) (x2 : Int32) (x3 : Int32) (x4 : Int32) (x5 : Int32)  (h1 : G a_ = some (.inr (26, [.int 0, .int 0, .int 0, .int 0, .int 0, .int 0]))) (hz : yz Y ≤ a_) : GM Y l yX27_init (ws_ yX27_init cX27_init 7 none) 1 24 [.ref a_, .int x0, .int x1, .int x2, .int x3, .int x4, .int x5] G n u 0 0 (pV (fun G' n' u' => G' a_ = some (.inr (26, [.int x0, .int x1, .int x2, .int x3, .int x4, .int x5])) ∧ FR (fun q_ => q_ = a_) n G G' ∧ n = n' ∧ u = u')) noX := by
  refine GM.intro (own := RX27) rfl (by decide +kernel) (Nat.le_of_ble_eq_true rfl) ?_
  intro p e s m args below meth c R Q hC hr hnm hF hL hE
  have hE1 := hE.1
  have hE2 := hE.2.1
  have hnz : yz Y ≤ n := by have := hC.z; have := hC.n; omega
  show V Y p l e R s m args below meth c 7 n u G n u Q 0 [(0, .ref a_), (1, .int x0), (2, .int x1), (3, .int x2), (4, .int x3), (5, .int x4), (6, .int x5)] []
  refine V.lts (fun hlt => ?_)
  have hl_a_ : a_ < n := hlt _ _ h1
  refine g_aload_n hC dX27_init_0 rfl 0 rfl ?_
  refine V.lts (fun lc_1 => ?_)
  refine g_objInit hC q3064 q178 q179 dX27_init_1 (by omega) (by first | (simp; omega) | (simp [Value.category]; omega)) ?_
  refine g_aload_n hC dX27_init_4 rfl 0 rfl ?_
  refine g_iload_n hC dX27_init_5 rfl 1 rfl ?_
  obtain ⟨G_2, eG_2⟩ : ∃ G_, gU G a_ (.inr (26, [.int x0, .int 0, .int 0, .int 0, .int 0, .int 0])) = G_ := ⟨_, rfl⟩
  have hf_3 : FR (fun q_ => q_ = a_) n G G_2 := by rw [← eG_2]; exact FR.put FR.refl (.inl rfl)
  refine g_putF hC hnm kc_X27 h1 0 (by decide) q3065 rfl rfl rfl rfl (by show 0 < 6; decide) rfl (by omega) (G' := G_2) eG_2 dX27_init_6 ?_
  have o_4 : G_2 a_ = some (.inr (26, [.int x0, .int 0, .int 0, .int 0, .int 0, .int 0])) := by rw [← eG_2]; exact gU_s _ _ _
  refine g_aload_n hC dX27_init_9 rfl 0 rfl ?_
  refine g_iload_n hC dX27_init_10 rfl 2 rfl ?_
  obtain ⟨G_5, eG_5⟩ : ∃ G_, gU G_2 a_ (.inr (26, [.int x0, .int x1, .int 0, .int 0, .int 0, .int 0])) = G_ := ⟨_, rfl⟩
  have hf_6 : FR (fun q_ => q_ = a_) n G G_5 := by rw [← eG_5]; exact FR.put hf_3 (.inl rfl)
  refine g_putF hC hnm kc_X27 o_4 1 (by decide) q3069 rfl rfl rfl rfl (by show 1 < 6; decide) rfl (by omega) (G' := G_5) eG_5 dX27_init_11 ?_
  have o_7 : G_5 a_ = some (.inr (26, [.int x0, .int x1, .int 0, .int 0, .int 0, .int 0])) := by rw [← eG_5]; exact gU_s _ _ _
  refine g_aload_n hC dX27_init_14 rfl 0 rfl ?_
  refine g_iload_n hC dX27_init_15 rfl 3 rfl ?_
  obtain ⟨G_8, eG_8⟩ : ∃ G_, gU G_5 a_ (.inr (26, [.int x0, .int x1, .int x2, .int 0, .int 0, .int 0])) = G_ := ⟨_, rfl⟩
  have hf_9 : FR (fun q_ => q_ = a_) n G G_8 := by rw [← eG_8]; exact FR.put hf_6 (.inl rfl)
  refine g_putF hC hnm kc_X27 o_7 2 (by decide) q3073 rfl rfl rfl rfl (by show 2 < 6; decide) rfl (by omega) (G' := G_8) eG_8 dX27_init_16 ?_
  have o_10 : G_8 a_ = some (.inr (26, [.int x0, .int x1, .int x2, .int 0, .int 0, .int 0])) := by rw [← eG_8]; exact gU_s _ _ _
  refine g_aload_n hC dX27_init_19 rfl 0 rfl ?_
  refine g_iload hC dX27_init_20 4 rfl ?_
  obtain ⟨G_11, eG_11⟩ : ∃ G_, gU G_8 a_ (.inr (26, [.int x0, .int x1, .int x2, .int x3, .int 0, .int 0])) = G_ := ⟨_, rfl⟩
  have hf_12 : FR (fun q_ => q_ = a_) n G G_11 := by rw [← eG_11]; exact FR.put hf_9 (.inl rfl)
  refine g_putF hC hnm kc_X27 o_10 3 (by decide) q3075 rfl rfl rfl rfl (by show 3 < 6; decide) rfl (by omega) (G' := G_11) eG_11 dX27_init_22 ?_
  have o_13 : G_11 a_ = some (.inr (26, [.int x0, .int x1, .int x2, .int x3, .int 0, .int 0])) := by rw [← eG_11]; exact gU_s _ _ _
  refine g_aload_n hC dX27_init_25 rfl 0 rfl ?_
  refine g_iload hC dX27_init_26 5 rfl ?_
  obtain ⟨G_14, eG_14⟩ : ∃ G_, gU G_11 a_ (.inr (26, [.int x0, .int x1, .int x2, .int x3, .int x4, .int 0])) = G_ := ⟨_, rfl⟩
  have hf_15 : FR (fun q_ => q_ = a_) n G G_14 := by rw [← eG_14]; exact FR.put hf_12 (.inl rfl)
  refine g_putF hC hnm kc_X27 o_13 4 (by decide) q3078 rfl rfl rfl rfl (by show 4 < 6; decide) rfl (by omega) (G' := G_14) eG_14 dX27_init_28 ?_
  have o_16 : G_14 a_ = some (.inr (26, [.int x0, .int x1, .int x2, .int x3, .int x4, .int 0])) := by rw [← eG_14]; exact gU_s _ _ _
  refine g_aload_n hC dX27_init_31 rfl 0 rfl ?_
  refine g_iload hC dX27_init_32 6 rfl ?_
  obtain ⟨G_17, eG_17⟩ : ∃ G_, gU G_14 a_ (.inr (26, [.int x0, .int x1, .int x2, .int x3, .int x4, .int x5])) = G_ := ⟨_, rfl⟩
  have hf_18 : FR (fun q_ => q_ = a_) n G G_17 := by rw [← eG_17]; exact FR.put hf_15 (.inl rfl)
  refine g_putF hC hnm kc_X27 o_16 5 (by decide) q3081 rfl rfl rfl rfl (by show 5 < 6; decide) rfl (by omega) (G' := G_17) eG_17 dX27_init_34 ?_
  have o_19 : G_17 a_ = some (.inr (26, [.int x0, .int x1, .int x2, .int x3, .int x4, .int x5])) := by rw [← eG_17]; exact gU_s _ _ _
  refine g_vret hC hr ⟨rfl, ?_⟩ (by omega) (by omega) hE dX27_init_37
  exact ⟨o_19, hf_18, rfl, rfl⟩
set_option maxHeartbeats 1000000 in
theorem met_X20_init {Y : YT} {l : Launch} {n u : Nat} {G : AH} (a_ : Nat) (x0 : Int32) (x1 : Int32) (x2 : Int32)  (h1 : G a_ = some (.inr (19, [.int 0, .int 0, .int 0]))) (hz : yz Y ≤ a_) : GM Y l yX20_init (ws_ yX20_init cX20_init 4 none) 1 24 [.ref a_, .int x0, .int x1, .int x2] G n u 0 0 (pV (fun G' n' u' => G' a_ = some (.inr (19, [.int x0, .int x1, .int x2])) ∧ FR (fun q_ => q_ = a_) n G G' ∧ n = n' ∧ u = u')) noX := by
  refine GM.intro (own := RX20) rfl (by decide +kernel) (Nat.le_of_ble_eq_true rfl) ?_
  intro p e s m args below meth c R Q hC hr hnm hF hL hE
  have hE1 := hE.1
  have hE2 := hE.2.1
  have hnz : yz Y ≤ n := by have := hC.z; have := hC.n; omega
  show V Y p l e R s m args below meth c 4 n u G n u Q 0 [(0, .ref a_), (1, .int x0), (2, .int x1), (3, .int x2)] []
  refine V.lts (fun hlt => ?_)
  have hl_a_ : a_ < n := hlt _ _ h1
  refine g_aload_n hC dX20_init_0 rfl 0 rfl ?_
  refine V.lts (fun lc_1 => ?_)
  refine g_objInit hC q1813 q178 q179 dX20_init_1 (by omega) (by first | (simp; omega) | (simp [Value.category]; omega)) ?_
  refine g_aload_n hC dX20_init_4 rfl 0 rfl ?_
  refine g_iload_n hC dX20_init_5 rfl 1 rfl ?_
  obtain ⟨G_2, eG_2⟩ : ∃ G_, gU G a_ (.inr (19, [.int x0, .int 0, .int 0])) = G_ := ⟨_, rfl⟩
  have hf_3 : FR (fun q_ => q_ = a_) n G G_2 := by rw [← eG_2]; exact FR.put FR.refl (.inl rfl)
  refine g_putF hC hnm kc_X20 h1 0 (by decide) q1814 rfl rfl rfl rfl (by show 0 < 3; decide) rfl (by omega) (G' := G_2) eG_2 dX20_init_6 ?_
  have o_4 : G_2 a_ = some (.inr (19, [.int x0, .int 0, .int 0])) := by rw [← eG_2]; exact gU_s _ _ _
  refine g_aload_n hC dX20_init_9 rfl 0 rfl ?_
  refine g_iload_n hC dX20_init_10 rfl 2 rfl ?_
  obtain ⟨G_5, eG_5⟩ : ∃ G_, gU G_2 a_ (.inr (19, [.int x0, .int x1, .int 0])) = G_ := ⟨_, rfl⟩
  have hf_6 : FR (fun q_ => q_ = a_) n G G_5 := by rw [← eG_5]; exact FR.put hf_3 (.inl rfl)
  refine g_putF hC hnm kc_X20 o_4 1 (by decide) q1816 rfl rfl rfl rfl (by show 1 < 3; decide) rfl (by omega) (G' := G_5) eG_5 dX20_init_11 ?_
  have o_7 : G_5 a_ = some (.inr (19, [.int x0, .int x1, .int 0])) := by rw [← eG_5]; exact gU_s _ _ _
  refine g_aload_n hC dX20_init_14 rfl 0 rfl ?_
  refine g_iload_n hC dX20_init_15 rfl 3 rfl ?_
  obtain ⟨G_8, eG_8⟩ : ∃ G_, gU G_5 a_ (.inr (19, [.int x0, .int x1, .int x2])) = G_ := ⟨_, rfl⟩
  have hf_9 : FR (fun q_ => q_ = a_) n G G_8 := by rw [← eG_8]; exact FR.put hf_6 (.inl rfl)
  refine g_putF hC hnm kc_X20 o_7 2 (by decide) q1817 rfl rfl rfl rfl (by show 2 < 3; decide) rfl (by omega) (G' := G_8) eG_8 dX20_init_16 ?_
  have o_10 : G_8 a_ = some (.inr (19, [.int x0, .int x1, .int x2])) := by rw [← eG_8]; exact gU_s _ _ _
  refine g_vret hC hr ⟨rfl, ?_⟩ (by omega) (by omega) hE dX20_init_19
  exact ⟨o_10, hf_9, rfl, rfl⟩
set_option maxHeartbeats 1000000 in
theorem met_X32_init {Y : YT} {l : Launch} {n u : Nat} {G : AH} (a_ : Nat) (x1 : Int32)  (h1 : G a_ = some (.inr (31, [.int 0]))) (hz : yz Y ≤ a_) : GM Y l yX32_init (ws_ yX32_init cX32_init 2 none) 1 24 [.ref a_, .int x1] G n u 0 0 (pV (fun G' n' u' => G' a_ = some (.inr (31, [.int x1])) ∧ FR (fun q_ => q_ = a_) n G G' ∧ n = n' ∧ u = u')) noX := by
  refine GM.intro (own := RX32) rfl (by decide +kernel) (Nat.le_of_ble_eq_true rfl) ?_
  intro p e s m args below meth c R Q hC hr hnm hF hL hE
  have hE1 := hE.1
  have hE2 := hE.2.1
  have hnz : yz Y ≤ n := by have := hC.z; have := hC.n; omega
  show V Y p l e R s m args below meth c 2 n u G n u Q 0 [(0, .ref a_), (1, .int x1)] []
  refine V.lts (fun hlt => ?_)
  have hl_a_ : a_ < n := hlt _ _ h1
  refine g_aload_n hC dX32_init_0 rfl 0 rfl ?_
  refine V.lts (fun lc_1 => ?_)
  refine g_objInit hC q3393 q178 q179 dX32_init_1 (by omega) (by first | (simp; omega) | (simp [Value.category]; omega)) ?_
  refine g_aload_n hC dX32_init_4 rfl 0 rfl ?_
  refine g_iload_n hC dX32_init_5 rfl 1 rfl ?_
  obtain ⟨G_2, eG_2⟩ : ∃ G_, gU G a_ (.inr (31, [.int x1])) = G_ := ⟨_, rfl⟩
  have hf_3 : FR (fun q_ => q_ = a_) n G G_2 := by rw [← eG_2]; exact FR.put FR.refl (.inl rfl)
  refine g_putF hC hnm kc_X32 h1 0 (by decide) q3394 rfl rfl rfl rfl (by show 0 < 1; decide) rfl (by omega) (G' := G_2) eG_2 dX32_init_6 ?_
  have o_4 : G_2 a_ = some (.inr (31, [.int x1])) := by rw [← eG_2]; exact gU_s _ _ _
  refine g_vret hC hr ⟨rfl, ?_⟩ (by omega) (by omega) hE dX32_init_9
  exact ⟨o_4, hf_3, rfl, rfl⟩
set_option maxHeartbeats 1000000 in
theorem met_X33_init {Y : YT} {l : Launch} {n u : Nat} {G : AH} (a_ : Nat) (x1 : Int32)  (h1 : G a_ = some (.inr (32, [.int 0]))) (hz : yz Y ≤ a_) : GM Y l yX33_init (ws_ yX33_init cX33_init 2 none) 1 24 [.ref a_, .int x1] G n u 0 0 (pV (fun G' n' u' => G' a_ = some (.inr (32, [.int x1])) ∧ FR (fun q_ => q_ = a_) n G G' ∧ n = n' ∧ u = u')) noX := by
  refine GM.intro (own := RX33) rfl (by decide +kernel) (Nat.le_of_ble_eq_true rfl) ?_
  intro p e s m args below meth c R Q hC hr hnm hF hL hE
  have hE1 := hE.1
  have hE2 := hE.2.1
  have hnz : yz Y ≤ n := by have := hC.z; have := hC.n; omega
  show V Y p l e R s m args below meth c 2 n u G n u Q 0 [(0, .ref a_), (1, .int x1)] []
  refine V.lts (fun hlt => ?_)
  have hl_a_ : a_ < n := hlt _ _ h1
  refine g_aload_n hC dX33_init_0 rfl 0 rfl ?_
  refine V.lts (fun lc_1 => ?_)
  refine g_objInit hC q3404 q178 q179 dX33_init_1 (by omega) (by first | (simp; omega) | (simp [Value.category]; omega)) ?_
  refine g_aload_n hC dX33_init_4 rfl 0 rfl ?_
  refine g_iload_n hC dX33_init_5 rfl 1 rfl ?_
  obtain ⟨G_2, eG_2⟩ : ∃ G_, gU G a_ (.inr (32, [.int x1])) = G_ := ⟨_, rfl⟩
  have hf_3 : FR (fun q_ => q_ = a_) n G G_2 := by rw [← eG_2]; exact FR.put FR.refl (.inl rfl)
  refine g_putF hC hnm kc_X33 h1 0 (by decide) q3405 rfl rfl rfl rfl (by show 0 < 1; decide) rfl (by omega) (G' := G_2) eG_2 dX33_init_6 ?_
  have o_4 : G_2 a_ = some (.inr (32, [.int x1])) := by rw [← eG_2]; exact gU_s _ _ _
  refine g_vret hC hr ⟨rfl, ?_⟩ (by omega) (by omega) hE dX33_init_9
  exact ⟨o_4, hf_3, rfl, rfl⟩
set_option maxHeartbeats 1000000 in
theorem met_X34_init {Y : YT} {l : Launch} {n u : Nat} {G : AH} (a_ : Nat)  (h1 : G a_ = some (.inr (33, []))) (hz : yz Y ≤ a_) : GM Y l yX34_init (ws_ yX34_init cX34_init 1 none) 1 24 [.ref a_] G n u 0 0 (pV (fun G' n' u' => G' a_ = some (.inr (33, [])) ∧ FR (fun q_ => q_ = a_) n G G' ∧ n = n' ∧ u = u')) noX := by
  refine GM.intro (own := RX34) rfl (by decide +kernel) (Nat.le_of_ble_eq_true rfl) ?_
  intro p e s m args below meth c R Q hC hr hnm hF hL hE
  have hE1 := hE.1
  have hE2 := hE.2.1
  have hnz : yz Y ≤ n := by have := hC.z; have := hC.n; omega
  show V Y p l e R s m args below meth c 1 n u G n u Q 0 [(0, .ref a_)] []
  refine V.lts (fun hlt => ?_)
  have hl_a_ : a_ < n := hlt _ _ h1
  refine g_aload_n hC dX34_init_0 rfl 0 rfl ?_
  refine V.lts (fun lc_1 => ?_)
  refine g_objInit hC q3415 q178 q179 dX34_init_1 (by omega) (by first | (simp; omega) | (simp [Value.category]; omega)) ?_
  refine g_vret hC hr ⟨rfl, ?_⟩ (by omega) (by omega) hE dX34_init_4
  exact ⟨h1, FR.refl, rfl, rfl⟩
set_option maxHeartbeats 1000000 in
theorem met_X3_init {Y : YT} {l : Launch} {n u : Nat} {G : AH} (a_ : Nat)  (h1 : G a_ = some (.inr (3, [.null]))) (hz : yz Y ≤ a_) : GM Y l yX3_init (ws_ yX3_init cX3_init 1 none) 1 24 [.ref a_] G n u 0 0 (pV (fun G' n' u' => G' a_ = some (.inr (3, [.null])) ∧ FR (fun q_ => q_ = a_) n G G' ∧ n = n' ∧ u = u')) noX := by
  refine GM.intro (own := RX3) rfl (by decide +kernel) (Nat.le_of_ble_eq_true rfl) ?_
  intro p e s m args below meth c R Q hC hr hnm hF hL hE
  have hE1 := hE.1
  have hE2 := hE.2.1
  have hnz : yz Y ≤ n := by have := hC.z; have := hC.n; omega
  show V Y p l e R s m args below meth c 1 n u G n u Q 0 [(0, .ref a_)] []
  refine V.lts (fun hlt => ?_)
  have hl_a_ : a_ < n := hlt _ _ h1
  refine g_aload_n hC dX3_init_0 rfl 0 rfl ?_
  refine V.lts (fun lc_1 => ?_)
  refine g_objInit hC q312 q178 q179 dX3_init_1 (by omega) (by first | (simp; omega) | (simp [Value.category]; omega)) ?_
  refine g_vret hC hr ⟨rfl, ?_⟩ (by omega) (by omega) hE dX3_init_4
  exact ⟨h1, FR.refl, rfl, rfl⟩
set_option maxHeartbeats 1000000 in
theorem met_X19_init {Y : YT} {l : Launch} {n u : Nat} {G : AH} (a_ : Nat)  (h1 : G a_ = some (.inr (18, [.null]))) (hz : yz Y ≤ a_) : GM Y l yX19_init (ws_ yX19_init cX19_init 1 none) 1 24 [.ref a_] G n u 0 0 (pV (fun G' n' u' => G' a_ = some (.inr (18, [.null])) ∧ FR (fun q_ => q_ = a_) n G G' ∧ n = n' ∧ u = u')) noX := by
  refine GM.intro (own := RX19) rfl (by decide +kernel) (Nat.le_of_ble_eq_true rfl) ?_
  intro p e s m args below meth c R Q hC hr hnm hF hL hE
  have hE1 := hE.1
  have hE2 := hE.2.1
  have hnz : yz Y ≤ n := by have := hC.z; have := hC.n; omega
  show V Y p l e R s m args below meth c 1 n u G n u Q 0 [(0, .ref a_)] []
  refine V.lts (fun hlt => ?_)
  have hl_a_ : a_ < n := hlt _ _ h1
  refine g_aload_n hC dX19_init_0 rfl 0 rfl ?_
  refine V.lts (fun lc_1 => ?_)
  refine g_objInit hC q1792 q178 q179 dX19_init_1 (by omega) (by first | (simp; omega) | (simp [Value.category]; omega)) ?_
  refine g_vret hC hr ⟨rfl, ?_⟩ (by omega) (by omega) hE dX19_init_4
  exact ⟨h1, FR.refl, rfl, rfl⟩
set_option maxHeartbeats 1000000 in
theorem met_X23_init {Y : YT} {l : Launch} {n u : Nat} {G : AH} (a_ : Nat)  (h1 : G a_ = some (.inr (22, []))) (hz : yz Y ≤ a_) : GM Y l yX23_init (ws_ yX23_init cX23_init 1 none) 1 24 [.ref a_] G n u 0 0 (pV (fun G' n' u' => G' a_ = some (.inr (22, [])) ∧ FR (fun q_ => q_ = a_) n G G' ∧ n = n' ∧ u = u')) noX := by
  refine GM.intro (own := RX23) rfl (by decide +kernel) (Nat.le_of_ble_eq_true rfl) ?_
  intro p e s m args below meth c R Q hC hr hnm hF hL hE
  have hE1 := hE.1
  have hE2 := hE.2.1
  have hnz : yz Y ≤ n := by have := hC.z; have := hC.n; omega
  show V Y p l e R s m args below meth c 1 n u G n u Q 0 [(0, .ref a_)] []
  refine V.lts (fun hlt => ?_)
  have hl_a_ : a_ < n := hlt _ _ h1
  refine g_aload_n hC dX23_init_0 rfl 0 rfl ?_
  refine V.lts (fun lc_1 => ?_)
  refine g_objInit hC q1941 q178 q179 dX23_init_1 (by omega) (by first | (simp; omega) | (simp [Value.category]; omega)) ?_
  refine g_vret hC hr ⟨rfl, ?_⟩ (by omega) (by omega) hE dX23_init_4
  exact ⟨h1, FR.refl, rfl, rfl⟩
set_option maxHeartbeats 1000000 in
theorem met_X4_init {Y : YT} {l : Launch} {n u : Nat} {G : AH} (a_ : Nat) (s1 : Nat)  (h1 : G a_ = some (.inr (4, [.null]))) (hz : yz Y ≤ a_) : GM Y l yX4_init (ws_ yX4_init cX4_init 2 none) 1 24 [.ref a_, .ref s1] G n u 0 0 (pV (fun G' n' u' => G' a_ = some (.inr (4, [.ref s1])) ∧ FR (fun q_ => q_ = a_) n G G' ∧ n = n' ∧ u = u')) noX := by
  refine GM.intro (own := RX4) rfl (by decide +kernel) (Nat.le_of_ble_eq_true rfl) ?_
  intro p e s m args below meth c R Q hC hr hnm hF hL hE
  have hE1 := hE.1
  have hE2 := hE.2.1
  have hnz : yz Y ≤ n := by have := hC.z; have := hC.n; omega
  show V Y p l e R s m args below meth c 2 n u G n u Q 0 [(0, .ref a_), (1, .ref s1)] []
  refine V.lts (fun hlt => ?_)
  have hl_a_ : a_ < n := hlt _ _ h1
  refine g_aload_n hC dX4_init_0 rfl 0 rfl ?_
  refine V.lts (fun lc_1 => ?_)
  refine g_objInit hC q328 q178 q179 dX4_init_1 (by omega) (by first | (simp; omega) | (simp [Value.category]; omega)) ?_
  refine g_aload_n hC dX4_init_4 rfl 0 rfl ?_
  refine g_aload_n hC dX4_init_5 rfl 1 rfl ?_
  obtain ⟨G_2, eG_2⟩ : ∃ G_, gU G a_ (.inr (4, [.ref s1])) = G_ := ⟨_, rfl⟩
  have hf_3 : FR (fun q_ => q_ = a_) n G G_2 := by rw [← eG_2]; exact FR.put FR.refl (.inl rfl)
  refine g_putF hC hnm kc_X4 h1 0 (by decide) q329 rfl rfl rfl rfl (by show 0 < 1; decide) rfl (by omega) (G' := G_2) eG_2 dX4_init_6 ?_
  have o_4 : G_2 a_ = some (.inr (4, [.ref s1])) := by rw [← eG_2]; exact gU_s _ _ _
  refine g_vret hC hr ⟨rfl, ?_⟩ (by omega) (by omega) hE dX4_init_9
  exact ⟨o_4, hf_3, rfl, rfl⟩
set_option maxHeartbeats 1000000 in
theorem met_X24_init {Y : YT} {l : Launch} {n u : Nat} {G : AH} (a_ : Nat) (s1 : Nat)  (h1 : G a_ = some (.inr (23, [.null]))) (hz : yz Y ≤ a_) : GM Y l yX24_init (ws_ yX24_init cX24_init 2 none) 1 24 [.ref a_, .ref s1] G n u 0 0 (pV (fun G' n' u' => G' a_ = some (.inr (23, [.ref s1])) ∧ FR (fun q_ => q_ = a_) n G G' ∧ n = n' ∧ u = u')) noX := by
  refine GM.intro (own := RX24) rfl (by decide +kernel) (Nat.le_of_ble_eq_true rfl) ?_
  intro p e s m args below meth c R Q hC hr hnm hF hL hE
  have hE1 := hE.1
  have hE2 := hE.2.1
  have hnz : yz Y ≤ n := by have := hC.z; have := hC.n; omega
  show V Y p l e R s m args below meth c 2 n u G n u Q 0 [(0, .ref a_), (1, .ref s1)] []
  refine V.lts (fun hlt => ?_)
  have hl_a_ : a_ < n := hlt _ _ h1
  refine g_aload_n hC dX24_init_0 rfl 0 rfl ?_
  refine V.lts (fun lc_1 => ?_)
  refine g_objInit hC q2964 q178 q179 dX24_init_1 (by omega) (by first | (simp; omega) | (simp [Value.category]; omega)) ?_
  refine g_aload_n hC dX24_init_4 rfl 0 rfl ?_
  refine g_aload_n hC dX24_init_5 rfl 1 rfl ?_
  obtain ⟨G_2, eG_2⟩ : ∃ G_, gU G a_ (.inr (23, [.ref s1])) = G_ := ⟨_, rfl⟩
  have hf_3 : FR (fun q_ => q_ = a_) n G G_2 := by rw [← eG_2]; exact FR.put FR.refl (.inl rfl)
  refine g_putF hC hnm kc_X24 h1 0 (by decide) q2965 rfl rfl rfl rfl (by show 0 < 1; decide) rfl (by omega) (G' := G_2) eG_2 dX24_init_6 ?_
  have o_4 : G_2 a_ = some (.inr (23, [.ref s1])) := by rw [← eG_2]; exact gU_s _ _ _
  refine g_vret hC hr ⟨rfl, ?_⟩ (by omega) (by omega) hE dX24_init_9
  exact ⟨o_4, hf_3, rfl, rfl⟩
set_option maxHeartbeats 1000000 in
theorem met_X28_init {Y : YT} {l : Launch} {n u : Nat} {G : AH} (a_ : Nat) (s1 : Nat)  (h1 : G a_ = some (.inr (27, [.null]))) (hz : yz Y ≤ a_) : GM Y l yX28_init (ws_ yX28_init cX28_init 2 none) 1 24 [.ref a_, .ref s1] G n u 0 0 (pV (fun G' n' u' => G' a_ = some (.inr (27, [.ref s1])) ∧ FR (fun q_ => q_ = a_) n G G' ∧ n = n' ∧ u = u')) noX := by
  refine GM.intro (own := RX28) rfl (by decide +kernel) (Nat.le_of_ble_eq_true rfl) ?_
  intro p e s m args below meth c R Q hC hr hnm hF hL hE
  have hE1 := hE.1
  have hE2 := hE.2.1
  have hnz : yz Y ≤ n := by have := hC.z; have := hC.n; omega
  show V Y p l e R s m args below meth c 2 n u G n u Q 0 [(0, .ref a_), (1, .ref s1)] []
  refine V.lts (fun hlt => ?_)
  have hl_a_ : a_ < n := hlt _ _ h1
  refine g_aload_n hC dX28_init_0 rfl 0 rfl ?_
  refine V.lts (fun lc_1 => ?_)
  refine g_objInit hC q3113 q178 q179 dX28_init_1 (by omega) (by first | (simp; omega) | (simp [Value.category]; omega)) ?_
  refine g_aload_n hC dX28_init_4 rfl 0 rfl ?_
  refine g_aload_n hC dX28_init_5 rfl 1 rfl ?_
  obtain ⟨G_2, eG_2⟩ : ∃ G_, gU G a_ (.inr (27, [.ref s1])) = G_ := ⟨_, rfl⟩
  have hf_3 : FR (fun q_ => q_ = a_) n G G_2 := by rw [← eG_2]; exact FR.put FR.refl (.inl rfl)
  refine g_putF hC hnm kc_X28 h1 0 (by decide) q3114 rfl rfl rfl rfl (by show 0 < 1; decide) rfl (by omega) (G' := G_2) eG_2 dX28_init_6 ?_
  have o_4 : G_2 a_ = some (.inr (27, [.ref s1])) := by rw [← eG_2]; exact gU_s _ _ _
  refine g_vret hC hr ⟨rfl, ?_⟩ (by omega) (by omega) hE dX28_init_9
  exact ⟨o_4, hf_3, rfl, rfl⟩
set_option maxHeartbeats 1000000 in
theorem met_X17_init {Y : YT} {l : Launch} {n u : Nat} {G : AH} (a_ : Nat) (s1 : Nat) (s2 : Nat)  (h1 : G a_ = some (.inr (16, [.null, .null, .int 0]))) (hz : yz Y ≤ a_) : GM Y l yX17_init (ws_ yX17_init cX17_init 3 none) 1 24 [.ref a_, .ref s1, .ref s2] G n u 0 0 (pV (fun G' n' u' => G' a_ = some (.inr (16, [.ref s1, .ref s2, .int 0])) ∧ FR (fun q_ => q_ = a_) n G G' ∧ n = n' ∧ u = u')) noX := by
  refine GM.intro (own := RX17) rfl (by decide +kernel) (Nat.le_of_ble_eq_true rfl) ?_
  intro p e s m args below meth c R Q hC hr hnm hF hL hE
  have hE1 := hE.1
  have hE2 := hE.2.1
  have hnz : yz Y ≤ n := by have := hC.z; have := hC.n; omega
  show V Y p l e R s m args below meth c 3 n u G n u Q 0 [(0, .ref a_), (1, .ref s1), (2, .ref s2)] []
  refine V.lts (fun hlt => ?_)
  have hl_a_ : a_ < n := hlt _ _ h1
  refine g_aload_n hC dX17_init_0 rfl 0 rfl ?_
  refine V.lts (fun lc_1 => ?_)
  refine g_objInit hC q1610 q178 q179 dX17_init_1 (by omega) (by first | (simp; omega) | (simp [Value.category]; omega)) ?_
  refine g_aload_n hC dX17_init_4 rfl 0 rfl ?_
  refine g_aload_n hC dX17_init_5 rfl 1 rfl ?_
  obtain ⟨G_2, eG_2⟩ : ∃ G_, gU G a_ (.inr (16, [.ref s1, .null, .int 0])) = G_ := ⟨_, rfl⟩
  have hf_3 : FR (fun q_ => q_ = a_) n G G_2 := by rw [← eG_2]; exact FR.put FR.refl (.inl rfl)
  refine g_putF hC hnm kc_X17 h1 0 (by decide) q1611 rfl rfl rfl rfl (by show 0 < 3; decide) rfl (by omega) (G' := G_2) eG_2 dX17_init_6 ?_
  have o_4 : G_2 a_ = some (.inr (16, [.ref s1, .null, .int 0])) := by rw [← eG_2]; exact gU_s _ _ _
  refine g_aload_n hC dX17_init_9 rfl 0 rfl ?_
  refine g_aload_n hC dX17_init_10 rfl 2 rfl ?_
  obtain ⟨G_5, eG_5⟩ : ∃ G_, gU G_2 a_ (.inr (16, [.ref s1, .ref s2, .int 0])) = G_ := ⟨_, rfl⟩
  have hf_6 : FR (fun q_ => q_ = a_) n G G_5 := by rw [← eG_5]; exact FR.put hf_3 (.inl rfl)
  refine g_putF hC hnm kc_X17 o_4 1 (by decide) q1612 rfl rfl rfl rfl (by show 1 < 3; decide) rfl (by omega) (G' := G_5) eG_5 dX17_init_11 ?_
  have o_7 : G_5 a_ = some (.inr (16, [.ref s1, .ref s2, .int 0])) := by rw [← eG_5]; exact gU_s _ _ _
  refine g_vret hC hr ⟨rfl, ?_⟩ (by omega) (by omega) hE dX17_init_14
  exact ⟨o_7, hf_6, rfl, rfl⟩
set_option maxHeartbeats 1000000 in
theorem met_X7_init_X8 {Y : YT} {l : Launch} {n u : Nat} {G : AH} (a_ : Nat)  (h1 : G a_ = some (.inr (7, [.null]))) (hz : yz Y ≤ a_) : GM Y l yX7_init (ws_ yX7_init cX7_init 1 none) 1 24 [.ref a_] G n u 0 0 (pV (fun G' n' u' => G' a_ = some (.inr (7, [.null])) ∧ FR (fun q_ => q_ = a_) n G G' ∧ n = n' ∧ u = u')) noX := by
  refine GM.intro (own := RX7) rfl (by decide +kernel) (Nat.le_of_ble_eq_true rfl) ?_
  intro p e s m args below meth c R Q hC hr hnm hF hL hE
  have hE1 := hE.1
  have hE2 := hE.2.1
  have hnz : yz Y ≤ n := by have := hC.z; have := hC.n; omega
  show V Y p l e R s m args below meth c 1 n u G n u Q 0 [(0, .ref a_)] []
  refine V.lts (fun hlt => ?_)
  have hl_a_ : a_ < n := hlt _ _ h1
  refine g_aload_n hC dX7_init_0 rfl 0 rfl ?_
  refine V.lts (fun lc_1 => ?_)
  refine g_objInit hC q556 q178 q179 dX7_init_1 (by omega) (by first | (simp; omega) | (simp [Value.category]; omega)) ?_
  refine g_vret hC hr ⟨rfl, ?_⟩ (by omega) (by omega) hE dX7_init_4
  exact ⟨h1, FR.refl, rfl, rfl⟩
set_option maxHeartbeats 1000000 in
theorem met_X7_init_X9 {Y : YT} {l : Launch} {n u : Nat} {G : AH} (a_ : Nat)  (h1 : G a_ = some (.inr (8, [.null]))) (hz : yz Y ≤ a_) : GM Y l yX7_init (ws_ yX7_init cX7_init 1 none) 1 24 [.ref a_] G n u 0 0 (pV (fun G' n' u' => G' a_ = some (.inr (8, [.null])) ∧ FR (fun q_ => q_ = a_) n G G' ∧ n = n' ∧ u = u')) noX := by
  refine GM.intro (own := RX7) rfl (by decide +kernel) (Nat.le_of_ble_eq_true rfl) ?_
  intro p e s m args below meth c R Q hC hr hnm hF hL hE
  have hE1 := hE.1
  have hE2 := hE.2.1
  have hnz : yz Y ≤ n := by have := hC.z; have := hC.n; omega
  show V Y p l e R s m args below meth c 1 n u G n u Q 0 [(0, .ref a_)] []
  refine V.lts (fun hlt => ?_)
  have hl_a_ : a_ < n := hlt _ _ h1
  refine g_aload_n hC dX7_init_0 rfl 0 rfl ?_
  refine V.lts (fun lc_1 => ?_)
  refine g_objInit hC q556 q178 q179 dX7_init_1 (by omega) (by first | (simp; omega) | (simp [Value.category]; omega)) ?_
  refine g_vret hC hr ⟨rfl, ?_⟩ (by omega) (by omega) hE dX7_init_4
  exact ⟨h1, FR.refl, rfl, rfl⟩
set_option maxHeartbeats 1000000 in
theorem met_X7_init_X10 {Y : YT} {l : Launch} {n u : Nat} {G : AH} (a_ : Nat)  (h1 : G a_ = some (.inr (9, [.null]))) (hz : yz Y ≤ a_) : GM Y l yX7_init (ws_ yX7_init cX7_init 1 none) 1 24 [.ref a_] G n u 0 0 (pV (fun G' n' u' => G' a_ = some (.inr (9, [.null])) ∧ FR (fun q_ => q_ = a_) n G G' ∧ n = n' ∧ u = u')) noX := by
  refine GM.intro (own := RX7) rfl (by decide +kernel) (Nat.le_of_ble_eq_true rfl) ?_
  intro p e s m args below meth c R Q hC hr hnm hF hL hE
  have hE1 := hE.1
  have hE2 := hE.2.1
  have hnz : yz Y ≤ n := by have := hC.z; have := hC.n; omega
  show V Y p l e R s m args below meth c 1 n u G n u Q 0 [(0, .ref a_)] []
  refine V.lts (fun hlt => ?_)
  have hl_a_ : a_ < n := hlt _ _ h1
  refine g_aload_n hC dX7_init_0 rfl 0 rfl ?_
  refine V.lts (fun lc_1 => ?_)
  refine g_objInit hC q556 q178 q179 dX7_init_1 (by omega) (by first | (simp; omega) | (simp [Value.category]; omega)) ?_
  refine g_vret hC hr ⟨rfl, ?_⟩ (by omega) (by omega) hE dX7_init_4
  exact ⟨h1, FR.refl, rfl, rfl⟩
set_option maxHeartbeats 1000000 in
theorem met_X7_init_X11 {Y : YT} {l : Launch} {n u : Nat} {G : AH} (a_ : Nat)  (h1 : G a_ = some (.inr (10, [.null]))) (hz : yz Y ≤ a_) : GM Y l yX7_init (ws_ yX7_init cX7_init 1 none) 1 24 [.ref a_] G n u 0 0 (pV (fun G' n' u' => G' a_ = some (.inr (10, [.null])) ∧ FR (fun q_ => q_ = a_) n G G' ∧ n = n' ∧ u = u')) noX := by
  refine GM.intro (own := RX7) rfl (by decide +kernel) (Nat.le_of_ble_eq_true rfl) ?_
  intro p e s m args below meth c R Q hC hr hnm hF hL hE
  have hE1 := hE.1
  have hE2 := hE.2.1
  have hnz : yz Y ≤ n := by have := hC.z; have := hC.n; omega
  show V Y p l e R s m args below meth c 1 n u G n u Q 0 [(0, .ref a_)] []
  refine V.lts (fun hlt => ?_)
  have hl_a_ : a_ < n := hlt _ _ h1
  refine g_aload_n hC dX7_init_0 rfl 0 rfl ?_
  refine V.lts (fun lc_1 => ?_)
  refine g_objInit hC q556 q178 q179 dX7_init_1 (by omega) (by first | (simp; omega) | (simp [Value.category]; omega)) ?_
  refine g_vret hC hr ⟨rfl, ?_⟩ (by omega) (by omega) hE dX7_init_4
  exact ⟨h1, FR.refl, rfl, rfl⟩
theorem offF_has (σ : MS) (q k : Nat) : offF σ q k = hasF (tl σ 4 q) k := rfl
theorem needF_has (σ : MS) (q k : Nat) : needF σ q k = hasF (tl σ 3 q) k := rfl
def srvF (σ : MS) (q p k : Nat) : Bool := decide (¬ q = p) && decide (tl σ 0 q = 1) && offF σ q k && (!(decide (tl σ 0 p = 1)) || oldF σ q p)
set_option maxHeartbeats 1000000 in
theorem met_X0_in {Y : YT} {l : Launch} {n u : Nat} {G : AH} (v_ : Int64) (a_ : Int64) (b_ : Int64)   : GM Y l yX0_in (ws_ yX0_in cX0_in 6 (some FieldType.boolean)) 0 0 [.long v_, .long a_, .long b_] G n u 0 0 (pI (fun r G' n' u' => b2i (inL v_ a_ b_) = r ∧ G = G' ∧ n = n' ∧ u = u')) noX := by
  refine GM.intro (own := RX0) rfl (by decide +kernel) (Nat.le_of_ble_eq_true rfl) ?_
  intro p e s m args below meth c R Q hC hr hnm hF hL hE
  have hE1 := hE.1
  have hE2 := hE.2.1
  have hnz : yz Y ≤ n := by have := hC.z; have := hC.n; omega
  show V Y p l e R s m args below meth c 6 n u G n u Q 0 [(0, .long v_), (2, .long a_), (4, .long b_)] []
  refine V.lts (fun hlt => ?_)
  refine g_lload_n hC dX0_in_0 rfl 0 rfl ?_
  refine g_lload_n hC dX0_in_1 rfl 1 rfl ?_
  refine g_lcmp hC dX0_in_2 ?_
  refine g_if_lt hC dX0_in_3 (tgt := 17) (by decide) (fun c_3 => ?_) (fun c_3 => ?_)
  · refine g_iconst (v := 0) hC dX0_in_17 rfl ?_
    refine g_iret hC hr rfl ⟨_, rfl, ?_⟩ (by omega) (by omega) hE dX0_in_18
    exact ⟨by simp [b2i, inL, c_3], rfl, rfl, rfl⟩
  · refine g_lload_n hC dX0_in_6 rfl 0 rfl ?_
    refine g_lload hC dX0_in_7 2 rfl ?_
    refine g_lcmp hC dX0_in_9 ?_
    refine g_if_gt hC dX0_in_10 (tgt := 17) (by decide) (fun c_10 => ?_) (fun c_10 => ?_)
    · refine g_iconst (v := 0) hC dX0_in_17 rfl ?_
      refine g_iret hC hr rfl ⟨_, rfl, ?_⟩ (by omega) (by omega) hE dX0_in_18
      exact ⟨by simp [b2i, inL, c_3, c_10], rfl, rfl, rfl⟩
    · refine g_iconst (v := 1) hC dX0_in_13 rfl ?_
      refine g_goto (tgt := 18) hC dX0_in_14 (by decide) ?_
      refine g_iret hC hr rfl ⟨_, rfl, ?_⟩ (by omega) (by omega) hE dX0_in_18
      exact ⟨by simp [b2i, inL, c_3, c_10], rfl, rfl, rfl⟩
set_option maxHeartbeats 1000000 in
theorem met_X0_has {Y : YT} {l : Launch} {n u : Nat} {G : AH} (x_ : Int32) (k_ : Nat)   : GM Y l yX0_has (ws_ yX0_has cX0_has 2 (some FieldType.boolean)) 0 0 [.int x_, .int (nI k_)] G n u 0 0 (pI (fun r G' n' u' => b2i (hasF x_ k_) = r ∧ G = G' ∧ n = n' ∧ u = u')) noX := by
  refine GM.intro (own := RX0) rfl (by decide +kernel) (Nat.le_of_ble_eq_true rfl) ?_
  intro p e s m args below meth c R Q hC hr hnm hF hL hE
  have hE1 := hE.1
  have hE2 := hE.2.1
  have hnz : yz Y ≤ n := by have := hC.z; have := hC.n; omega
  show V Y p l e R s m args below meth c 2 n u G n u Q 0 [(0, .int x_), (1, .int (nI k_))] []
  refine V.lts (fun hlt => ?_)
  refine g_iload_n hC dX0_has_0 rfl 0 rfl ?_
  refine g_iload_n hC dX0_has_1 rfl 1 rfl ?_
  refine g_ishr hC dX0_has_2 ?_
  refine g_iconst (v := 1) hC dX0_has_3 rfl ?_
  refine g_iand hC dX0_has_4 ?_
  refine g_if_eq hC dX0_has_5 (tgt := 12) (by decide) (fun c_5 => ?_) (fun c_5 => ?_)
  · refine g_iconst (v := 0) hC dX0_has_12 rfl ?_
    refine g_iret hC hr rfl ⟨_, rfl, ?_⟩ (by omega) (by omega) hE dX0_has_13
    exact ⟨by simp [b2i, hasF, c_5], rfl, rfl, rfl⟩
  · refine g_iconst (v := 1) hC dX0_has_8 rfl ?_
    refine g_goto (tgt := 13) hC dX0_has_9 (by decide) ?_
    refine g_iret hC hr rfl ⟨_, rfl, ?_⟩ (by omega) (by omega) hE dX0_has_13
    exact ⟨by have h9 := Or.resolve_left (and1 _) c_5; simp [b2i, hasF, h9], rfl, rfl, rfl⟩
theorem wi_N {N : Nat} (hN : N ≤ 12) (x : Int32) : wi x 0 (nI N - 1) = (!(decide (x < 0)) && !(decide (nI N ≤ x))) := by
  have h : (nI N - 1).toInt = N - 1 := by
    rw [Int32.toInt_sub, nI_toInt (by omega), show (1 : Int32).toInt = 1 from rfl, Int.bmod_eq_of_le (by omega) (by omega)]
  unfold wi
  congr 1
  · rw [← decide_not]; exact decide_eq_decide.mpr Int32.not_lt.symm
  · rw [← decide_not]; apply decide_eq_decide.mpr
    rw [Int32.le_iff_toInt_le, h, Int32.not_le, Int32.lt_iff_toInt_lt, nI_toInt (by omega)]; omega
set_option maxHeartbeats 1000000 in
theorem met_X2_isPlug {Y : YT} {l : Launch} {n u : Nat} {G : AH} (h : Nat) (x_ : Int32) {N K : Nat} {σ : MS} {η : HV} (hh : sub (hM Y h N σ η) G) (hN : σ.1 0 0 = nI N) (hK : σ.1 4 0 = nI K) (hN2 : N ≤ 12) : GM Y l yX2_isPlug (ws_ yX2_isPlug cX2_isPlug 2 (some FieldType.boolean)) 0 0 [.ref h, .int x_] G n u 0 0 (pI (fun r G' n' u' => b2i (wi x_ 0 (nI N - 1)) = r ∧ G = G' ∧ n = n' ∧ u = u')) noX := by
  refine GM.intro (own := RX2) rfl (by decide +kernel) (Nat.le_of_ble_eq_true rfl) ?_
  intro p e s m args below meth c R Q hC hr hnm hF hL hE
  have hE1 := hE.1
  have hE2 := hE.2.1
  have hnz : yz Y ≤ n := by have := hC.z; have := hC.n; omega
  show V Y p l e R s m args below meth c 2 n u G n u Q 0 [(0, .ref h), (1, .int x_)] []
  refine V.lts (fun hlt => ?_)
  have hl_h : h + 6 < n := hlt _ _ (hh _ _ (hM_j 6))
  refine g_iload_n hC dX2_isPlug_0 rfl 1 rfl ?_
  refine g_if_lt hC dX2_isPlug_1 (tgt := 16) (by decide) (fun c_1 => ?_) (fun c_1 => ?_)
  · refine g_iconst (v := 0) hC dX2_isPlug_16 rfl ?_
    refine g_iret hC hr rfl ⟨_, rfl, ?_⟩ (by omega) (by omega) hE dX2_isPlug_17
    exact ⟨by rw [wi_N hN2]; simp [b2i, c_1], rfl, rfl, rfl⟩
  · refine g_iload_n hC dX2_isPlug_4 rfl 1 rfl ?_
    refine g_aload_n hC dX2_isPlug_5 rfl 0 rfl ?_
    refine g_get (v := .int (nI N)) hC kc_X2 (hh _ _ (hM_0 hN hK)) 0 (by decide) q251 rfl dX2_isPlug_6 ?_
    refine g_icmp_ge hC dX2_isPlug_9 (tgt := 16) (by decide) (fun c_9 => ?_) (fun c_9 => ?_)
    · refine g_iconst (v := 0) hC dX2_isPlug_16 rfl ?_
      refine g_iret hC hr rfl ⟨_, rfl, ?_⟩ (by omega) (by omega) hE dX2_isPlug_17
      exact ⟨by rw [wi_N hN2]; simp [b2i, c_1, c_9], rfl, rfl, rfl⟩
    · refine g_iconst (v := 1) hC dX2_isPlug_12 rfl ?_
      refine g_goto (tgt := 17) hC dX2_isPlug_13 (by decide) ?_
      refine g_iret hC hr rfl ⟨_, rfl, ?_⟩ (by omega) (by omega) hE dX2_isPlug_17
      exact ⟨by rw [wi_N hN2]; simp [b2i, c_1, c_9], rfl, rfl, rfl⟩
set_option maxHeartbeats 1000000 in
theorem met_X2_runs {Y : YT} {l : Launch} {n u : Nat} {G : AH} (h : Nat) (q_ : Nat) {N K : Nat} {σ : MS} {η : HV} (hh : sub (hM Y h N σ η) G) (hN : σ.1 0 0 = nI N) (hK : σ.1 4 0 = nI K) (hN2 : N ≤ 12) (hi0 : q_ < N) : GM Y l yX2_runs (ws_ yX2_runs cX2_runs 2 (some FieldType.boolean)) 0 0 [.ref h, .int (nI q_)] G n u 0 0 (pI (fun r G' n' u' => b2i (decide (tl σ 0 q_ = 1)) = r ∧ G = G' ∧ n = n' ∧ u = u')) noX := by
  refine GM.intro (own := RX2) rfl (by decide +kernel) (Nat.le_of_ble_eq_true rfl) ?_
  intro p e s m args below meth c R Q hC hr hnm hF hL hE
  have hE1 := hE.1
  have hE2 := hE.2.1
  have hnz : yz Y ≤ n := by have := hC.z; have := hC.n; omega
  show V Y p l e R s m args below meth c 2 n u G n u Q 0 [(0, .ref h), (1, .int (nI q_))] []
  refine V.lts (fun hlt => ?_)
  have hl_h : h + 6 < n := hlt _ _ (hh _ _ (hM_j 6))
  refine g_aload_n hC dX2_runs_0 rfl 0 rfl ?_
  refine g_get (v := .ref (h + 2)) hC kc_X2 (hh _ _ (hM_0 hN hK)) 5 (by decide) q265 rfl dX2_runs_1 ?_
  refine g_iload_n hC dX2_runs_4 rfl 1 rfl ?_
  refine g_iald hC (hh _ _ (hM_j 2)) (vin (by omega) (by omega)) dX2_runs_5 ?_
  rw [show (nI q_).toNatClampNeg = q_ from nI_clamp (by omega)]
  rw [hA_in (by omega)]
  refine g_iconst (v := 1) hC dX2_runs_6 rfl ?_
  refine g_icmp_ne hC dX2_runs_7 (tgt := 14) (by decide) (fun c_7 => ?_) (fun c_7 => ?_)
  · refine g_iconst (v := 0) hC dX2_runs_14 rfl ?_
    refine g_iret hC hr rfl ⟨_, rfl, ?_⟩ (by omega) (by omega) hE dX2_runs_15
    exact ⟨by simp [b2i, c_7], rfl, rfl, rfl⟩
  · refine g_iconst (v := 1) hC dX2_runs_10 rfl ?_
    refine g_goto (tgt := 15) hC dX2_runs_11 (by decide) ?_
    refine g_iret hC hr rfl ⟨_, rfl, ?_⟩ (by omega) (by omega) hE dX2_runs_15
    exact ⟨by simp [b2i, c_7], rfl, rfl, rfl⟩
set_option maxHeartbeats 1000000 in
theorem met_X2_isOlder {Y : YT} {l : Launch} {n u : Nat} {G : AH} (h : Nat) (p_ : Nat) (q_ : Nat) {N K : Nat} {σ : MS} {η : HV} (hh : sub (hM Y h N σ η) G) (hN : σ.1 0 0 = nI N) (hK : σ.1 4 0 = nI K) (hN2 : N ≤ 12) (hi0 : p_ < N) (hi1 : q_ < N) : GM Y l yX2_isOlder (ws_ yX2_isOlder cX2_isOlder 3 (some FieldType.boolean)) 0 0 [.ref h, .int (nI p_), .int (nI q_)] G n u 0 0 (pI (fun r G' n' u' => b2i (oldF σ p_ q_) = r ∧ G = G' ∧ n = n' ∧ u = u')) noX := by
  refine GM.intro (own := RX2) rfl (by decide +kernel) (Nat.le_of_ble_eq_true rfl) ?_
  intro p e s m args below meth c R Q hC hr hnm hF hL hE
  have hE1 := hE.1
  have hE2 := hE.2.1
  have hnz : yz Y ≤ n := by have := hC.z; have := hC.n; omega
  show V Y p l e R s m args below meth c 3 n u G n u Q 0 [(0, .ref h), (1, .int (nI p_)), (2, .int (nI q_))] []
  refine V.lts (fun hlt => ?_)
  have hl_h : h + 6 < n := hlt _ _ (hh _ _ (hM_j 6))
  refine g_aload_n hC dX2_isOlder_0 rfl 0 rfl ?_
  refine g_get (v := .ref (h + 5)) hC kc_X2 (hh _ _ (hM_0 hN hK)) 8 (by decide) q275 rfl dX2_isOlder_1 ?_
  refine g_iload_n hC dX2_isOlder_4 rfl 1 rfl ?_
  refine g_iald hC (hh _ _ (hM_j 5)) (vin (by omega) (by omega)) dX2_isOlder_5 ?_
  rw [show (nI p_).toNatClampNeg = p_ from nI_clamp (by omega)]
  rw [hA_in (by omega)]
  refine g_aload_n hC dX2_isOlder_6 rfl 0 rfl ?_
  refine g_get (v := .ref (h + 5)) hC kc_X2 (hh _ _ (hM_0 hN hK)) 8 (by decide) q275 rfl dX2_isOlder_7 ?_
  refine g_iload_n hC dX2_isOlder_10 rfl 2 rfl ?_
  refine g_iald hC (hh _ _ (hM_j 5)) (vin (by omega) (by omega)) dX2_isOlder_11 ?_
  rw [show (nI q_).toNatClampNeg = q_ from nI_clamp (by omega)]
  rw [hA_in (by omega)]
  refine g_icmp_ge hC dX2_isOlder_12 (tgt := 19) (by decide) (fun c_12 => ?_) (fun c_12 => ?_)
  · refine g_iconst (v := 0) hC dX2_isOlder_19 rfl ?_
    refine g_iret hC hr rfl ⟨_, rfl, ?_⟩ (by omega) (by omega) hE dX2_isOlder_20
    exact ⟨by simp [b2i, oldF, c_12], rfl, rfl, rfl⟩
  · refine g_iconst (v := 1) hC dX2_isOlder_15 rfl ?_
    refine g_goto (tgt := 20) hC dX2_isOlder_16 (by decide) ?_
    refine g_iret hC hr rfl ⟨_, rfl, ?_⟩ (by omega) (by omega) hE dX2_isOlder_20
    exact ⟨by simp [b2i, oldF, c_12], rfl, rfl, rfl⟩
set_option maxHeartbeats 1000000 in
theorem met_X2_serves {Y : YT} {l : Launch} {n u : Nat} {G : AH} (h : Nat) (q_ : Nat) (p_ : Nat) (k_ : Nat) {N K : Nat} {σ : MS} {η : HV} {I : AH} (hh : sub (hM Y h N σ η) G) (hN : σ.1 0 0 = nI N) (hK : σ.1 4 0 = nI K) (hN2 : N ≤ 12) (hI : sub I G) (hIh_h : ∀ a, hD h a → I a = none) (hpl : PLs Y N σ I (η.2 0)) (hi0 : q_ < N) (hi1 : p_ < N) (hk : k_ < 8) : GM Y l yX2_serves (ws_ yX2_serves cX2_serves 4 (some FieldType.boolean)) 1 22 [.ref h, .int (nI q_), .int (nI p_), .int (nI k_)] G n u 0 0 (pI (fun r G' n' u' => b2i (srvF σ q_ p_ k_) = r ∧ G = G' ∧ n = n' ∧ u = u')) noX := by
  refine GM.intro (own := RX2) rfl (by decide +kernel) (Nat.le_of_ble_eq_true rfl) ?_
  intro p e s m args below meth c R Q hC hr hnm hF hL hE
  have hE1 := hE.1
  have hE2 := hE.2.1
  have hnz : yz Y ≤ n := by have := hC.z; have := hC.n; omega
  show V Y p l e R s m args below meth c 4 n u G n u Q 0 [(0, .ref h), (1, .int (nI q_)), (2, .int (nI p_)), (3, .int (nI k_))] []
  refine V.lts (fun hlt => ?_)
  have hl_h : h + 6 < n := hlt _ _ (hh _ _ (hM_j 6))
  have hIn := sub_none hI hlt
  obtain ⟨a_q_, nm_q_, kd_q_, hr_q_, hk_q_, ht_q_, hi_q_, hnk_q_⟩ := hpl q_ (by omega)
  refine g_iload_n hC dX2_serves_0 rfl 1 rfl ?_
  refine g_iload_n hC dX2_serves_1 rfl 2 rfl ?_
  refine g_icmp_eqN hC q_ p_ (by omega) (by omega) dX2_serves_2 (tgt := 50) (by decide) (fun c_2 => ?_) (fun c_2 => ?_)
  · refine g_iconst (v := 0) hC dX2_serves_50 rfl ?_
    refine g_iret hC hr rfl ⟨_, rfl, ?_⟩ (by omega) (by omega) hE dX2_serves_51
    exact ⟨by simp [b2i, srvF, offF_has, c_2], rfl, rfl, rfl⟩
  · refine g_aload_n hC dX2_serves_5 rfl 0 rfl ?_
    refine g_iload_n hC dX2_serves_6 rfl 1 rfl ?_
    refine V.lts (fun lc_1 => ?_)
    refine g_calli0 hC (g_runV hC (met_X2_runs (G := G) h q_ (hh) (hN) (hK) (hN2) (by omega)) kc_X2 (hh _ _ (hM_0 hN hK)) (lw_V q1801 q1765 q1766 q83 q1767) rfl md_X2_runs dX2_serves_7 rfl ⟨by omega, by omega⟩ (by omega) (by omega) rfl (Nat.le_of_ble_eq_true rfl)) (fun r_2 G_2 n_2 u_2 hp_2 hn_2 hm_2 hu_2 => ?_)
    obtain ⟨rfl, rfl, rfl, rfl⟩ := hp_2
    refine g_if_eqB hC (decide (tl σ 0 q_ = 1)) dX2_serves_10 (tgt := 50) (by decide) (fun c_10 => ?_) (fun c_10 => ?_)
    · refine g_iconst (v := 0) hC dX2_serves_50 rfl ?_
      refine g_iret hC hr rfl ⟨_, rfl, ?_⟩ (by omega) (by omega) hE dX2_serves_51
      exact ⟨by simp [b2i, srvF, offF_has, c_2, c_10], rfl, rfl, rfl⟩
    · refine g_aload_n hC dX2_serves_13 rfl 0 rfl ?_
      refine g_get (v := .ref (h + 1)) hC kc_X2 (hh _ _ (hM_0 hN hK)) 4 (by decide) q262 rfl dX2_serves_14 ?_
      refine g_iload_n hC dX2_serves_17 rfl 1 rfl ?_
      refine g_aald (t0 := 6) hC (hh _ _ (hM_j 1)) rfl (vin (by omega) (by omega)) (r := some a_q_) (by rw [nI_clamp (by omega)]; exact hr_q_) dX2_serves_18 ?_
      refine g_getP (v := .int (tl σ 4 q_)) hC hk_q_ (hI _ _ hi_q_) 4 (by decide) q1433 rfl dX2_serves_19 ?_
      refine g_iload_n hC dX2_serves_22 rfl 3 rfl ?_
      refine V.lts (fun lc_3 => ?_)
      refine g_calli0 hC (g_runS hC (met_X0_has (G := G) (tl σ 4 q_) k_  ) (lw_S q1802 q1781 q81 q1782) md_X0_has dX2_serves_23 rfl ⟨by omega, by omega⟩ (by omega) (by omega) rfl (Nat.le_of_ble_eq_true rfl)) (fun r_4 G_4 n_4 u_4 hp_4 hn_4 hm_4 hu_4 => ?_)
      obtain ⟨rfl, rfl, rfl, rfl⟩ := hp_4
      refine g_if_eqB hC (hasF (tl σ 4 q_) k_) dX2_serves_26 (tgt := 50) (by decide) (fun c_26 => ?_) (fun c_26 => ?_)
      · refine g_iconst (v := 0) hC dX2_serves_50 rfl ?_
        refine g_iret hC hr rfl ⟨_, rfl, ?_⟩ (by omega) (by omega) hE dX2_serves_51
        exact ⟨by simp [b2i, srvF, offF_has, c_2, c_10, c_26], rfl, rfl, rfl⟩
      · refine g_aload_n hC dX2_serves_29 rfl 0 rfl ?_
        refine g_iload_n hC dX2_serves_30 rfl 2 rfl ?_
        refine V.lts (fun lc_5 => ?_)
        refine g_calli0 hC (g_runV hC (met_X2_runs (G := G) h p_ (hh) (hN) (hK) (hN2) (by omega)) kc_X2 (hh _ _ (hM_0 hN hK)) (lw_V q1801 q1765 q1766 q83 q1767) rfl md_X2_runs dX2_serves_31 rfl ⟨by omega, by omega⟩ (by omega) (by omega) rfl (Nat.le_of_ble_eq_true rfl)) (fun r_6 G_6 n_6 u_6 hp_6 hn_6 hm_6 hu_6 => ?_)
        obtain ⟨rfl, rfl, rfl, rfl⟩ := hp_6
        refine g_if_eqB hC (decide (tl σ 0 p_ = 1)) dX2_serves_34 (tgt := 46) (by decide) (fun c_34 => ?_) (fun c_34 => ?_)
        · refine g_iconst (v := 1) hC dX2_serves_46 rfl ?_
          refine g_goto (tgt := 51) hC dX2_serves_47 (by decide) ?_
          refine g_iret hC hr rfl ⟨_, rfl, ?_⟩ (by omega) (by omega) hE dX2_serves_51
          exact ⟨by simp [b2i, srvF, offF_has, c_2, c_10, c_26, c_34], rfl, rfl, rfl⟩
        · refine g_aload_n hC dX2_serves_37 rfl 0 rfl ?_
          refine g_iload_n hC dX2_serves_38 rfl 1 rfl ?_
          refine g_iload_n hC dX2_serves_39 rfl 2 rfl ?_
          refine V.lts (fun lc_7 => ?_)
          refine g_calli0 hC (g_runV hC (met_X2_isOlder (G := G) h q_ p_ (hh) (hN) (hK) (hN2) (by omega) (by omega)) kc_X2 (hh _ _ (hM_0 hN hK)) (lw_V q1803 q1804 q1805 q83 q1806) rfl md_X2_isOlder dX2_serves_40 rfl ⟨by omega, by omega⟩ (by omega) (by omega) rfl (Nat.le_of_ble_eq_true rfl)) (fun r_8 G_8 n_8 u_8 hp_8 hn_8 hm_8 hu_8 => ?_)
          obtain ⟨rfl, rfl, rfl, rfl⟩ := hp_8
          refine g_if_eqB hC (oldF σ q_ p_) dX2_serves_43 (tgt := 50) (by decide) (fun c_43 => ?_) (fun c_43 => ?_)
          · refine g_iconst (v := 0) hC dX2_serves_50 rfl ?_
            refine g_iret hC hr rfl ⟨_, rfl, ?_⟩ (by omega) (by omega) hE dX2_serves_51
            exact ⟨by simp [b2i, srvF, offF_has, c_2, c_10, c_26, c_34, c_43], rfl, rfl, rfl⟩
          · refine g_iconst (v := 1) hC dX2_serves_46 rfl ?_
            refine g_goto (tgt := 51) hC dX2_serves_47 (by decide) ?_
            refine g_iret hC hr rfl ⟨_, rfl, ?_⟩ (by omega) (by omega) hE dX2_serves_51
            exact ⟨by simp [b2i, srvF, offF_has, c_2, c_10, c_26, c_34, c_43], rfl, rfl, rfl⟩
