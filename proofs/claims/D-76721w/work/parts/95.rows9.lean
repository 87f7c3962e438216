set_option maxRecDepth 100000
/-! COMPONENT, 27: rows on shelves -/
set_option maxHeartbeats 1000000 in
theorem met_X8_sort {Y : YT} {l : Launch} {n u : Nat} {G : AH} (r_ : Nat)   : GM Y l yX8_sort (ws_ yX8_sort cX8_sort 1 (some FieldType.int)) 0 0 [.ref r_] G n u 0 0 (pI (fun r G' n' u' => 0 = r ∧ G = G' ∧ n = n' ∧ u = u')) noX := by
  refine GM.intro (own := RX8) rfl (by decide +kernel) (Nat.le_of_ble_eq_true rfl) ?_
  intro p e s m args below meth c R Q hC hr hnm hF hL hE
  have hE1 := hE.1
  have hE2 := hE.2.1
  have hnz : yz Y ≤ n := by have := hC.z; have := hC.n; omega
  show V Y p l e R s m args below meth c 1 n u G n u Q 0 [(0, .ref r_)] []
  refine V.lts (fun hlt => ?_)
  refine g_iconst (v := 0) hC dX8_sort_0 rfl ?_
  refine g_iret hC hr rfl ⟨_, rfl, ?_⟩ (by omega) (by omega) hE dX8_sort_1
  exact ⟨rfl, rfl, rfl, rfl⟩
set_option maxHeartbeats 1000000 in
theorem met_X8_held {Y : YT} {l : Launch} {n u : Nat} {G : AH} (r_ : Nat) {ea : Nat} (h1 : G r_ = some (.inr (7, [.ref ea]))) : GM Y l yX8_held (ws_ yX8_held cX8_held 1 (some (FieldType.object "java/lang/Object"))) 0 0 [.ref r_] G n u 0 0 (pQ (fun r G' n' u' => (some ea) = r ∧ G = G' ∧ n = n' ∧ u = u')) noX := by
  refine GM.intro (own := RX8) rfl (by decide +kernel) (Nat.le_of_ble_eq_true rfl) ?_
  intro p e s m args below meth c R Q hC hr hnm hF hL hE
  have hE1 := hE.1
  have hE2 := hE.2.1
  have hnz : yz Y ≤ n := by have := hC.z; have := hC.n; omega
  show V Y p l e R s m args below meth c 1 n u G n u Q 0 [(0, .ref r_)] []
  refine V.lts (fun hlt => ?_)
  have hl_r_ : r_ < n := hlt _ _ h1
  refine g_aload_n hC dX8_held_0 rfl 0 rfl ?_
  refine g_get (v := .ref ea) hC kc_X8 h1 0 (by decide) q557 rfl dX8_held_1 ?_
  refine g_aret (v := some ea) hC hr (by first | exact Or.inl ⟨_, rfl⟩ | exact Or.inr ⟨_, rfl⟩) ⟨_, rfl, ?_⟩ (by omega) (by omega) hE dX8_held_4
  exact ⟨rfl, rfl, rfl, rfl⟩
set_option maxHeartbeats 1000000 in
theorem met_X8_length {Y : YT} {l : Launch} {n u : Nat} {G : AH} (r_ : Nat) {ea N : Nat} {f : Nat → Int32} (h1 : G r_ = some (.inr (7, [.ref ea]))) (h2 : G ea = some (.inl (yA Y 2, N, .inl f))) : GM Y l yX8_length (ws_ yX8_length cX8_length 1 (some FieldType.int)) 0 0 [.ref r_] G n u 0 0 (pI (fun r G' n' u' => nI N = r ∧ G = G' ∧ n = n' ∧ u = u')) noX := by
  refine GM.intro (own := RX8) rfl (by decide +kernel) (Nat.le_of_ble_eq_true rfl) ?_
  intro p e s m args below meth c R Q hC hr hnm hF hL hE
  have hE1 := hE.1
  have hE2 := hE.2.1
  have hnz : yz Y ≤ n := by have := hC.z; have := hC.n; omega
  show V Y p l e R s m args below meth c 1 n u G n u Q 0 [(0, .ref r_)] []
  refine V.lts (fun hlt => ?_)
  have hl_r_ : r_ < n := hlt _ _ h1
  have hl_ea : ea < n := hlt _ _ h2
  refine g_aload_n hC dX8_length_0 rfl 0 rfl ?_
  refine g_get (v := .ref ea) hC kc_X8 h1 0 (by decide) q557 rfl dX8_length_1 ?_
  refine g_alen (v := nI N) hC h2 (t0 := 2) rfl rfl dX8_length_4 ?_
  refine g_iret hC hr rfl ⟨_, rfl, ?_⟩ (by omega) (by omega) hE dX8_length_5
  exact ⟨rfl, rfl, rfl, rfl⟩
set_option maxHeartbeats 1000000 in
theorem met_X8_get {Y : YT} {l : Launch} {n u : Nat} {G : AH} (r_ : Nat) (i_ : Nat) {ea N : Nat} {f : Nat → Int32} (h1 : G r_ = some (.inr (7, [.ref ea]))) (h2 : G ea = some (.inl (yA Y 2, N, .inl f))) (hi : i_ < N) (hN : N < 1000) : GM Y l yX8_get (ws_ yX8_get cX8_get 2 (some FieldType.long)) 0 0 [.ref r_, .int (nI i_)] G n u 0 0 (pL (fun r G' n' u' => ((f i_).toInt64) = r ∧ G = G' ∧ n = n' ∧ u = u')) noX := by
  refine GM.intro (own := RX8) rfl (by decide +kernel) (Nat.le_of_ble_eq_true rfl) ?_
  intro p e s m args below meth c R Q hC hr hnm hF hL hE
  have hE1 := hE.1
  have hE2 := hE.2.1
  have hnz : yz Y ≤ n := by have := hC.z; have := hC.n; omega
  show V Y p l e R s m args below meth c 2 n u G n u Q 0 [(0, .ref r_), (1, .int (nI i_))] []
  refine V.lts (fun hlt => ?_)
  have hl_r_ : r_ < n := hlt _ _ h1
  have hl_ea : ea < n := hlt _ _ h2
  refine g_aload_n hC dX8_get_0 rfl 0 rfl ?_
  refine g_get (v := .ref ea) hC kc_X8 h1 0 (by decide) q557 rfl dX8_get_1 ?_
  refine g_iload_n hC dX8_get_4 rfl 1 rfl ?_
  refine g_bald hC h2 (vin (by omega) (by omega)) dX8_get_5 ?_
  rw [show (nI i_).toNatClampNeg = i_ from nI_clamp (by omega)]
  refine g_i2l (v := (f i_).toInt64) hC dX8_get_6 rfl ?_
  refine g_lret hC hr ⟨_, rfl, ?_⟩ (by omega) (by omega) hE dX8_get_7
  exact ⟨rfl, rfl, rfl, rfl⟩
set_option maxHeartbeats 1000000 in
theorem met_X8_put {Y : YT} {l : Launch} {n u : Nat} {G : AH} (r_ : Nat) (i_ : Nat) (x_ : Int64) {ea N : Nat} {f : Nat → Int32} (h1 : G r_ = some (.inr (7, [.ref ea]))) (h2 : G ea = some (.inl (yA Y 2, N, .inl f))) (hi : i_ < N) (hN : N < 1000) (hz : yz Y ≤ ea) : GM Y l yX8_put (ws_ yX8_put cX8_put 4 none) 0 0 [.ref r_, .int (nI i_), .long x_] G n u 0 0 (pV (fun G' n' u' => G' ea = some (.inl (yA Y 2, N, .inl (upd f i_ (vp_nar .byte x_.toInt32.toInt8.toInt32)))) ∧ FR (fun q_ => q_ = ea) n G G' ∧ n = n' ∧ u = u')) noX := by
  refine GM.intro (own := RX8) rfl (by decide +kernel) (Nat.le_of_ble_eq_true rfl) ?_
  intro p e s m args below meth c R Q hC hr hnm hF hL hE
  have hE1 := hE.1
  have hE2 := hE.2.1
  have hnz : yz Y ≤ n := by have := hC.z; have := hC.n; omega
  show V Y p l e R s m args below meth c 4 n u G n u Q 0 [(0, .ref r_), (1, .int (nI i_)), (2, .long x_)] []
  refine V.lts (fun hlt => ?_)
  have hl_r_ : r_ < n := hlt _ _ h1
  have hl_ea : ea < n := hlt _ _ h2
  refine g_aload_n hC dX8_put_0 rfl 0 rfl ?_
  refine g_get (v := .ref ea) hC kc_X8 h1 0 (by decide) q557 rfl dX8_put_1 ?_
  refine g_iload_n hC dX8_put_4 rfl 1 rfl ?_
  refine g_lload_n hC dX8_put_5 rfl 2 rfl ?_
  refine g_l2i (v := x_.toInt32) hC dX8_put_6 rfl ?_
  refine g_i2b (v := x_.toInt32.toInt8.toInt32) hC dX8_put_7 rfl ?_
  obtain ⟨G_1, eG_1⟩ : ∃ G_, gU G ea (.inl (yA Y 2, N, .inl (upd f i_ (vp_nar .byte x_.toInt32.toInt8.toInt32)))) = G_ := ⟨_, rfl⟩
  have o_2 : G_1 r_ = some (.inr (7, [.ref ea])) := by rw [← eG_1]; exact (gU_n _ (gne_oa h1 h2)).trans h1
  have hf_3 : FR (fun q_ => q_ = ea) n G G_1 := by rw [← eG_1]; exact FR.put FR.refl (.inl rfl)
  refine g_bast hC h2 (vin (by omega) (by omega)) (by omega) (f' := (upd f i_ (vp_nar .byte x_.toInt32.toInt8.toInt32))) (by rw [nI_clamp (by omega)]) (G' := G_1) eG_1 dX8_put_8 ?_
  have a_4 : G_1 ea = some (.inl (yA Y 2, N, .inl (upd f i_ (vp_nar .byte x_.toInt32.toInt8.toInt32)))) := by rw [← eG_1]; exact gU_s _ _ _
  refine g_vret hC hr ⟨rfl, ?_⟩ (by omega) (by omega) hE dX8_put_9
  exact ⟨a_4, hf_3, rfl, rfl⟩
set_option maxHeartbeats 1000000 in
theorem met_X9_sort {Y : YT} {l : Launch} {n u : Nat} {G : AH} (r_ : Nat)   : GM Y l yX9_sort (ws_ yX9_sort cX9_sort 1 (some FieldType.int)) 0 0 [.ref r_] G n u 0 0 (pI (fun r G' n' u' => 1 = r ∧ G = G' ∧ n = n' ∧ u = u')) noX := by
  refine GM.intro (own := RX9) rfl (by decide +kernel) (Nat.le_of_ble_eq_true rfl) ?_
  intro p e s m args below meth c R Q hC hr hnm hF hL hE
  have hE1 := hE.1
  have hE2 := hE.2.1
  have hnz : yz Y ≤ n := by have := hC.z; have := hC.n; omega
  show V Y p l e R s m args below meth c 1 n u G n u Q 0 [(0, .ref r_)] []
  refine V.lts (fun hlt => ?_)
  refine g_iconst (v := 1) hC dX9_sort_0 rfl ?_
  refine g_iret hC hr rfl ⟨_, rfl, ?_⟩ (by omega) (by omega) hE dX9_sort_1
  exact ⟨rfl, rfl, rfl, rfl⟩
set_option maxHeartbeats 1000000 in
theorem met_X9_held {Y : YT} {l : Launch} {n u : Nat} {G : AH} (r_ : Nat) {ea : Nat} (h1 : G r_ = some (.inr (8, [.ref ea]))) : GM Y l yX9_held (ws_ yX9_held cX9_held 1 (some (FieldType.object "java/lang/Object"))) 0 0 [.ref r_] G n u 0 0 (pQ (fun r G' n' u' => (some ea) = r ∧ G = G' ∧ n = n' ∧ u = u')) noX := by
  refine GM.intro (own := RX9) rfl (by decide +kernel) (Nat.le_of_ble_eq_true rfl) ?_
  intro p e s m args below meth c R Q hC hr hnm hF hL hE
  have hE1 := hE.1
  have hE2 := hE.2.1
  have hnz : yz Y ≤ n := by have := hC.z; have := hC.n; omega
  show V Y p l e R s m args below meth c 1 n u G n u Q 0 [(0, .ref r_)] []
  refine V.lts (fun hlt => ?_)
  have hl_r_ : r_ < n := hlt _ _ h1
  refine g_aload_n hC dX9_held_0 rfl 0 rfl ?_
  refine g_get (v := .ref ea) hC kc_X9 h1 0 (by decide) q567 rfl dX9_held_1 ?_
  refine g_aret (v := some ea) hC hr (by first | exact Or.inl ⟨_, rfl⟩ | exact Or.inr ⟨_, rfl⟩) ⟨_, rfl, ?_⟩ (by omega) (by omega) hE dX9_held_4
  exact ⟨rfl, rfl, rfl, rfl⟩
set_option maxHeartbeats 1000000 in
theorem met_X9_length {Y : YT} {l : Launch} {n u : Nat} {G : AH} (r_ : Nat) {ea N : Nat} {f : Nat → Int32} (h1 : G r_ = some (.inr (8, [.ref ea]))) (h2 : G ea = some (.inl (yA Y 3, N, .inl f))) : GM Y l yX9_length (ws_ yX9_length cX9_length 1 (some FieldType.int)) 0 0 [.ref r_] G n u 0 0 (pI (fun r G' n' u' => nI N = r ∧ G = G' ∧ n = n' ∧ u = u')) noX := by
  refine GM.intro (own := RX9) rfl (by decide +kernel) (Nat.le_of_ble_eq_true rfl) ?_
  intro p e s m args below meth c R Q hC hr hnm hF hL hE
  have hE1 := hE.1
  have hE2 := hE.2.1
  have hnz : yz Y ≤ n := by have := hC.z; have := hC.n; omega
  show V Y p l e R s m args below meth c 1 n u G n u Q 0 [(0, .ref r_)] []
  refine V.lts (fun hlt => ?_)
  have hl_r_ : r_ < n := hlt _ _ h1
  have hl_ea : ea < n := hlt _ _ h2
  refine g_aload_n hC dX9_length_0 rfl 0 rfl ?_
  refine g_get (v := .ref ea) hC kc_X9 h1 0 (by decide) q567 rfl dX9_length_1 ?_
  refine g_alen (v := nI N) hC h2 (t0 := 3) rfl rfl dX9_length_4 ?_
  refine g_iret hC hr rfl ⟨_, rfl, ?_⟩ (by omega) (by omega) hE dX9_length_5
  exact ⟨rfl, rfl, rfl, rfl⟩
set_option maxHeartbeats 1000000 in
theorem met_X9_get {Y : YT} {l : Launch} {n u : Nat} {G : AH} (r_ : Nat) (i_ : Nat) {ea N : Nat} {f : Nat → Int32} (h1 : G r_ = some (.inr (8, [.ref ea]))) (h2 : G ea = some (.inl (yA Y 3, N, .inl f))) (hi : i_ < N) (hN : N < 1000) : GM Y l yX9_get (ws_ yX9_get cX9_get 2 (some FieldType.long)) 0 0 [.ref r_, .int (nI i_)] G n u 0 0 (pL (fun r G' n' u' => ((f i_).toInt64) = r ∧ G = G' ∧ n = n' ∧ u = u')) noX := by
  refine GM.intro (own := RX9) rfl (by decide +kernel) (Nat.le_of_ble_eq_true rfl) ?_
  intro p e s m args below meth c R Q hC hr hnm hF hL hE
  have hE1 := hE.1
  have hE2 := hE.2.1
  have hnz : yz Y ≤ n := by have := hC.z; have := hC.n; omega
  show V Y p l e R s m args below meth c 2 n u G n u Q 0 [(0, .ref r_), (1, .int (nI i_))] []
  refine V.lts (fun hlt => ?_)
  have hl_r_ : r_ < n := hlt _ _ h1
  have hl_ea : ea < n := hlt _ _ h2
  refine g_aload_n hC dX9_get_0 rfl 0 rfl ?_
  refine g_get (v := .ref ea) hC kc_X9 h1 0 (by decide) q567 rfl dX9_get_1 ?_
  refine g_iload_n hC dX9_get_4 rfl 1 rfl ?_
  refine g_sald hC h2 (vin (by omega) (by omega)) dX9_get_5 ?_
  rw [show (nI i_).toNatClampNeg = i_ from nI_clamp (by omega)]
  refine g_i2l (v := (f i_).toInt64) hC dX9_get_6 rfl ?_
  refine g_lret hC hr ⟨_, rfl, ?_⟩ (by omega) (by omega) hE dX9_get_7
  exact ⟨rfl, rfl, rfl, rfl⟩
set_option maxHeartbeats 1000000 in
theorem met_X9_put {Y : YT} {l : Launch} {n u : Nat} {G : AH} (r_ : Nat) (i_ : Nat) (x_ : Int64) {ea N : Nat} {f : Nat → Int32} (h1 : G r_ = some (.inr (8, [.ref ea]))) (h2 : G ea = some (.inl (yA Y 3, N, .inl f))) (hi : i_ < N) (hN : N < 1000) (hz : yz Y ≤ ea) : GM Y l yX9_put (ws_ yX9_put cX9_put 4 none) 0 0 [.ref r_, .int (nI i_), .long x_] G n u 0 0 (pV (fun G' n' u' => G' ea = some (.inl (yA Y 3, N, .inl (upd f i_ (vp_nar .short x_.toInt32.toInt16.toInt32)))) ∧ FR (fun q_ => q_ = ea) n G G' ∧ n = n' ∧ u = u')) noX := by
  refine GM.intro (own := RX9) rfl (by decide +kernel) (Nat.le_of_ble_eq_true rfl) ?_
  intro p e s m args below meth c R Q hC hr hnm hF hL hE
  have hE1 := hE.1
  have hE2 := hE.2.1
  have hnz : yz Y ≤ n := by have := hC.z; have := hC.n; omega
  show V Y p l e R s m args below meth c 4 n u G n u Q 0 [(0, .ref r_), (1, .int (nI i_)), (2, .long x_)] []
  refine V.lts (fun hlt => ?_)
  have hl_r_ : r_ < n := hlt _ _ h1
  have hl_ea : ea < n := hlt _ _ h2
  refine g_aload_n hC dX9_put_0 rfl 0 rfl ?_
  refine g_get (v := .ref ea) hC kc_X9 h1 0 (by decide) q567 rfl dX9_put_1 ?_
  refine g_iload_n hC dX9_put_4 rfl 1 rfl ?_
  refine g_lload_n hC dX9_put_5 rfl 2 rfl ?_
  refine g_l2i (v := x_.toInt32) hC dX9_put_6 rfl ?_
  refine g_i2s (v := x_.toInt32.toInt16.toInt32) hC dX9_put_7 rfl ?_
  obtain ⟨G_1, eG_1⟩ : ∃ G_, gU G ea (.inl (yA Y 3, N, .inl (upd f i_ (vp_nar .short x_.toInt32.toInt16.toInt32)))) = G_ := ⟨_, rfl⟩
  have o_2 : G_1 r_ = some (.inr (8, [.ref ea])) := by rw [← eG_1]; exact (gU_n _ (gne_oa h1 h2)).trans h1
  have hf_3 : FR (fun q_ => q_ = ea) n G G_1 := by rw [← eG_1]; exact FR.put FR.refl (.inl rfl)
  refine g_sast hC h2 (vin (by omega) (by omega)) (by omega) (f' := (upd f i_ (vp_nar .short x_.toInt32.toInt16.toInt32))) (by rw [nI_clamp (by omega)]) (G' := G_1) eG_1 dX9_put_8 ?_
  have a_4 : G_1 ea = some (.inl (yA Y 3, N, .inl (upd f i_ (vp_nar .short x_.toInt32.toInt16.toInt32)))) := by rw [← eG_1]; exact gU_s _ _ _
  refine g_vret hC hr ⟨rfl, ?_⟩ (by omega) (by omega) hE dX9_put_9
  exact ⟨a_4, hf_3, rfl, rfl⟩
set_option maxHeartbeats 1000000 in
theorem met_X10_sort {Y : YT} {l : Launch} {n u : Nat} {G : AH} (r_ : Nat)   : GM Y l yX10_sort (ws_ yX10_sort cX10_sort 1 (some FieldType.int)) 0 0 [.ref r_] G n u 0 0 (pI (fun r G' n' u' => 2 = r ∧ G = G' ∧ n = n' ∧ u = u')) noX := by
  refine GM.intro (own := RX10) rfl (by decide +kernel) (Nat.le_of_ble_eq_true rfl) ?_
  intro p e s m args below meth c R Q hC hr hnm hF hL hE
  have hE1 := hE.1
  have hE2 := hE.2.1
  have hnz : yz Y ≤ n := by have := hC.z; have := hC.n; omega
  show V Y p l e R s m args below meth c 1 n u G n u Q 0 [(0, .ref r_)] []
  refine V.lts (fun hlt => ?_)
  refine g_iconst (v := 2) hC dX10_sort_0 rfl ?_
  refine g_iret hC hr rfl ⟨_, rfl, ?_⟩ (by omega) (by omega) hE dX10_sort_1
  exact ⟨rfl, rfl, rfl, rfl⟩
set_option maxHeartbeats 1000000 in
theorem met_X10_held {Y : YT} {l : Launch} {n u : Nat} {G : AH} (r_ : Nat) {ea : Nat} (h1 : G r_ = some (.inr (9, [.ref ea]))) : GM Y l yX10_held (ws_ yX10_held cX10_held 1 (some (FieldType.object "java/lang/Object"))) 0 0 [.ref r_] G n u 0 0 (pQ (fun r G' n' u' => (some ea) = r ∧ G = G' ∧ n = n' ∧ u = u')) noX := by
  refine GM.intro (own := RX10) rfl (by decide +kernel) (Nat.le_of_ble_eq_true rfl) ?_
  intro p e s m args below meth c R Q hC hr hnm hF hL hE
  have hE1 := hE.1
  have hE2 := hE.2.1
  have hnz : yz Y ≤ n := by have := hC.z; have := hC.n; omega
  show V Y p l e R s m args below meth c 1 n u G n u Q 0 [(0, .ref r_)] []
  refine V.lts (fun hlt => ?_)
  have hl_r_ : r_ < n := hlt _ _ h1
  refine g_aload_n hC dX10_held_0 rfl 0 rfl ?_
  refine g_get (v := .ref ea) hC kc_X10 h1 0 (by decide) q578 rfl dX10_held_1 ?_
  refine g_aret (v := some ea) hC hr (by first | exact Or.inl ⟨_, rfl⟩ | exact Or.inr ⟨_, rfl⟩) ⟨_, rfl, ?_⟩ (by omega) (by omega) hE dX10_held_4
  exact ⟨rfl, rfl, rfl, rfl⟩
set_option maxHeartbeats 1000000 in
theorem met_X10_length {Y : YT} {l : Launch} {n u : Nat} {G : AH} (r_ : Nat) {ea N : Nat} {f : Nat → Int32} (h1 : G r_ = some (.inr (9, [.ref ea]))) (h2 : G ea = some (.inl (yA Y 0, N, .inl f))) : GM Y l yX10_length (ws_ yX10_length cX10_length 1 (some FieldType.int)) 0 0 [.ref r_] G n u 0 0 (pI (fun r G' n' u' => nI N = r ∧ G = G' ∧ n = n' ∧ u = u')) noX := by
  refine GM.intro (own := RX10) rfl (by decide +kernel) (Nat.le_of_ble_eq_true rfl) ?_
  intro p e s m args below meth c R Q hC hr hnm hF hL hE
  have hE1 := hE.1
  have hE2 := hE.2.1
  have hnz : yz Y ≤ n := by have := hC.z; have := hC.n; omega
  show V Y p l e R s m args below meth c 1 n u G n u Q 0 [(0, .ref r_)] []
  refine V.lts (fun hlt => ?_)
  have hl_r_ : r_ < n := hlt _ _ h1
  have hl_ea : ea < n := hlt _ _ h2
  refine g_aload_n hC dX10_length_0 rfl 0 rfl ?_
  refine g_get (v := .ref ea) hC kc_X10 h1 0 (by decide) q578 rfl dX10_length_1 ?_
  refine g_alen (v := nI N) hC h2 (t0 := 0) rfl rfl dX10_length_4 ?_
  refine g_iret hC hr rfl ⟨_, rfl, ?_⟩ (by omega) (by omega) hE dX10_length_5
  exact ⟨rfl, rfl, rfl, rfl⟩
set_option maxHeartbeats 1000000 in
theorem met_X10_get {Y : YT} {l : Launch} {n u : Nat} {G : AH} (r_ : Nat) (i_ : Nat) {ea N : Nat} {f : Nat → Int32} (h1 : G r_ = some (.inr (9, [.ref ea]))) (h2 : G ea = some (.inl (yA Y 0, N, .inl f))) (hi : i_ < N) (hN : N < 1000) : GM Y l yX10_get (ws_ yX10_get cX10_get 2 (some FieldType.long)) 0 0 [.ref r_, .int (nI i_)] G n u 0 0 (pL (fun r G' n' u' => ((f i_).toInt64) = r ∧ G = G' ∧ n = n' ∧ u = u')) noX := by
  refine GM.intro (own := RX10) rfl (by decide +kernel) (Nat.le_of_ble_eq_true rfl) ?_
  intro p e s m args below meth c R Q hC hr hnm hF hL hE
  have hE1 := hE.1
  have hE2 := hE.2.1
  have hnz : yz Y ≤ n := by have := hC.z; have := hC.n; omega
  show V Y p l e R s m args below meth c 2 n u G n u Q 0 [(0, .ref r_), (1, .int (nI i_))] []
  refine V.lts (fun hlt => ?_)
  have hl_r_ : r_ < n := hlt _ _ h1
  have hl_ea : ea < n := hlt _ _ h2
  refine g_aload_n hC dX10_get_0 rfl 0 rfl ?_
  refine g_get (v := .ref ea) hC kc_X10 h1 0 (by decide) q578 rfl dX10_get_1 ?_
  refine g_iload_n hC dX10_get_4 rfl 1 rfl ?_
  refine g_iald hC h2 (vin (by omega) (by omega)) dX10_get_5 ?_
  rw [show (nI i_).toNatClampNeg = i_ from nI_clamp (by omega)]
  refine g_i2l (v := (f i_).toInt64) hC dX10_get_6 rfl ?_
  refine g_lret hC hr ⟨_, rfl, ?_⟩ (by omega) (by omega) hE dX10_get_7
  exact ⟨rfl, rfl, rfl, rfl⟩
set_option maxHeartbeats 1000000 in
theorem met_X10_put {Y : YT} {l : Launch} {n u : Nat} {G : AH} (r_ : Nat) (i_ : Nat) (x_ : Int64) {ea N : Nat} {f : Nat → Int32} (h1 : G r_ = some (.inr (9, [.ref ea]))) (h2 : G ea = some (.inl (yA Y 0, N, .inl f))) (hi : i_ < N) (hN : N < 1000) (hz : yz Y ≤ ea) : GM Y l yX10_put (ws_ yX10_put cX10_put 4 none) 0 0 [.ref r_, .int (nI i_), .long x_] G n u 0 0 (pV (fun G' n' u' => G' ea = some (.inl (yA Y 0, N, .inl (upd f i_ x_.toInt32))) ∧ FR (fun q_ => q_ = ea) n G G' ∧ n = n' ∧ u = u')) noX := by
  refine GM.intro (own := RX10) rfl (by decide +kernel) (Nat.le_of_ble_eq_true rfl) ?_
  intro p e s m args below meth c R Q hC hr hnm hF hL hE
  have hE1 := hE.1
  have hE2 := hE.2.1
  have hnz : yz Y ≤ n := by have := hC.z; have := hC.n; omega
  show V Y p l e R s m args below meth c 4 n u G n u Q 0 [(0, .ref r_), (1, .int (nI i_)), (2, .long x_)] []
  refine V.lts (fun hlt => ?_)
  have hl_r_ : r_ < n := hlt _ _ h1
  have hl_ea : ea < n := hlt _ _ h2
  refine g_aload_n hC dX10_put_0 rfl 0 rfl ?_
  refine g_get (v := .ref ea) hC kc_X10 h1 0 (by decide) q578 rfl dX10_put_1 ?_
  refine g_iload_n hC dX10_put_4 rfl 1 rfl ?_
  refine g_lload_n hC dX10_put_5 rfl 2 rfl ?_
  refine g_l2i (v := x_.toInt32) hC dX10_put_6 rfl ?_
  obtain ⟨G_1, eG_1⟩ : ∃ G_, gU G ea (.inl (yA Y 0, N, .inl (upd f i_ x_.toInt32))) = G_ := ⟨_, rfl⟩
  have o_2 : G_1 r_ = some (.inr (9, [.ref ea])) := by rw [← eG_1]; exact (gU_n _ (gne_oa h1 h2)).trans h1
  have hf_3 : FR (fun q_ => q_ = ea) n G G_1 := by rw [← eG_1]; exact FR.put FR.refl (.inl rfl)
  refine g_iast hC h2 (vin (by omega) (by omega)) (by omega) (f' := (upd f i_ x_.toInt32)) (by rw [nI_clamp (by omega)]) (G' := G_1) eG_1 dX10_put_7 ?_
  have a_4 : G_1 ea = some (.inl (yA Y 0, N, .inl (upd f i_ x_.toInt32))) := by rw [← eG_1]; exact gU_s _ _ _
  refine g_vret hC hr ⟨rfl, ?_⟩ (by omega) (by omega) hE dX10_put_8
  exact ⟨a_4, hf_3, rfl, rfl⟩
set_option maxHeartbeats 1000000 in
theorem met_X11_sort {Y : YT} {l : Launch} {n u : Nat} {G : AH} (r_ : Nat)   : GM Y l yX11_sort (ws_ yX11_sort cX11_sort 1 (some FieldType.int)) 0 0 [.ref r_] G n u 0 0 (pI (fun r G' n' u' => 3 = r ∧ G = G' ∧ n = n' ∧ u = u')) noX := by
  refine GM.intro (own := RX11) rfl (by decide +kernel) (Nat.le_of_ble_eq_true rfl) ?_
  intro p e s m args below meth c R Q hC hr hnm hF hL hE
  have hE1 := hE.1
  have hE2 := hE.2.1
  have hnz : yz Y ≤ n := by have := hC.z; have := hC.n; omega
  show V Y p l e R s m args below meth c 1 n u G n u Q 0 [(0, .ref r_)] []
  refine V.lts (fun hlt => ?_)
  refine g_iconst (v := 3) hC dX11_sort_0 rfl ?_
  refine g_iret hC hr rfl ⟨_, rfl, ?_⟩ (by omega) (by omega) hE dX11_sort_1
  exact ⟨rfl, rfl, rfl, rfl⟩
set_option maxHeartbeats 1000000 in
theorem met_X11_held {Y : YT} {l : Launch} {n u : Nat} {G : AH} (r_ : Nat) {ea : Nat} (h1 : G r_ = some (.inr (10, [.ref ea]))) : GM Y l yX11_held (ws_ yX11_held cX11_held 1 (some (FieldType.object "java/lang/Object"))) 0 0 [.ref r_] G n u 0 0 (pQ (fun r G' n' u' => (some ea) = r ∧ G = G' ∧ n = n' ∧ u = u')) noX := by
  refine GM.intro (own := RX11) rfl (by decide +kernel) (Nat.le_of_ble_eq_true rfl) ?_
  intro p e s m args below meth c R Q hC hr hnm hF hL hE
  have hE1 := hE.1
  have hE2 := hE.2.1
  have hnz : yz Y ≤ n := by have := hC.z; have := hC.n; omega
  show V Y p l e R s m args below meth c 1 n u G n u Q 0 [(0, .ref r_)] []
  refine V.lts (fun hlt => ?_)
  have hl_r_ : r_ < n := hlt _ _ h1
  refine g_aload_n hC dX11_held_0 rfl 0 rfl ?_
  refine g_get (v := .ref ea) hC kc_X11 h1 0 (by decide) q588 rfl dX11_held_1 ?_
  refine g_aret (v := some ea) hC hr (by first | exact Or.inl ⟨_, rfl⟩ | exact Or.inr ⟨_, rfl⟩) ⟨_, rfl, ?_⟩ (by omega) (by omega) hE dX11_held_4
  exact ⟨rfl, rfl, rfl, rfl⟩
set_option maxHeartbeats 1000000 in
theorem met_X11_length {Y : YT} {l : Launch} {n u : Nat} {G : AH} (r_ : Nat) {ea N : Nat} {f : Nat → Int64} (h1 : G r_ = some (.inr (10, [.ref ea]))) (h2 : G ea = some (.inl (yA Y 1, N, .inr (.inl f)))) : GM Y l yX11_length (ws_ yX11_length cX11_length 1 (some FieldType.int)) 0 0 [.ref r_] G n u 0 0 (pI (fun r G' n' u' => nI N = r ∧ G = G' ∧ n = n' ∧ u = u')) noX := by
  refine GM.intro (own := RX11) rfl (by decide +kernel) (Nat.le_of_ble_eq_true rfl) ?_
  intro p e s m args below meth c R Q hC hr hnm hF hL hE
  have hE1 := hE.1
  have hE2 := hE.2.1
  have hnz : yz Y ≤ n := by have := hC.z; have := hC.n; omega
  show V Y p l e R s m args below meth c 1 n u G n u Q 0 [(0, .ref r_)] []
  refine V.lts (fun hlt => ?_)
  have hl_r_ : r_ < n := hlt _ _ h1
  have hl_ea : ea < n := hlt _ _ h2
  refine g_aload_n hC dX11_length_0 rfl 0 rfl ?_
  refine g_get (v := .ref ea) hC kc_X11 h1 0 (by decide) q588 rfl dX11_length_1 ?_
  refine g_alen (v := nI N) hC h2 (t0 := 1) rfl rfl dX11_length_4 ?_
  refine g_iret hC hr rfl ⟨_, rfl, ?_⟩ (by omega) (by omega) hE dX11_length_5
  exact ⟨rfl, rfl, rfl, rfl⟩
set_option maxHeartbeats 1000000 in
theorem met_X11_get {Y : YT} {l : Launch} {n u : Nat} {G : AH} (r_ : Nat) (i_ : Nat) {ea N : Nat} {f : Nat → Int64} (h1 : G r_ = some (.inr (10, [.ref ea]))) (h2 : G ea = some (.inl (yA Y 1, N, .inr (.inl f)))) (hi : i_ < N) (hN : N < 1000) : GM Y l yX11_get (ws_ yX11_get cX11_get 2 (some FieldType.long)) 0 0 [.ref r_, .int (nI i_)] G n u 0 0 (pL (fun r G' n' u' => (f i_) = r ∧ G = G' ∧ n = n' ∧ u = u')) noX := by
  refine GM.intro (own := RX11) rfl (by decide +kernel) (Nat.le_of_ble_eq_true rfl) ?_
  intro p e s m args below meth c R Q hC hr hnm hF hL hE
  have hE1 := hE.1
  have hE2 := hE.2.1
  have hnz : yz Y ≤ n := by have := hC.z; have := hC.n; omega
  show V Y p l e R s m args below meth c 2 n u G n u Q 0 [(0, .ref r_), (1, .int (nI i_))] []
  refine V.lts (fun hlt => ?_)
  have hl_r_ : r_ < n := hlt _ _ h1
  have hl_ea : ea < n := hlt _ _ h2
  refine g_aload_n hC dX11_get_0 rfl 0 rfl ?_
  refine g_get (v := .ref ea) hC kc_X11 h1 0 (by decide) q588 rfl dX11_get_1 ?_
  refine g_iload_n hC dX11_get_4 rfl 1 rfl ?_
  refine g_lald hC h2 (vin (by omega) (by omega)) dX11_get_5 ?_
  rw [show (nI i_).toNatClampNeg = i_ from nI_clamp (by omega)]
  refine g_lret hC hr ⟨_, rfl, ?_⟩ (by omega) (by omega) hE dX11_get_6
  exact ⟨rfl, rfl, rfl, rfl⟩
set_option maxHeartbeats 1000000 in
theorem met_X11_put {Y : YT} {l : Launch} {n u : Nat} {G : AH} (r_ : Nat) (i_ : Nat) (x_ : Int64) {ea N : Nat} {f : Nat → Int64} (h1 : G r_ = some (.inr (10, [.ref ea]))) (h2 : G ea = some (.inl (yA Y 1, N, .inr (.inl f)))) (hi : i_ < N) (hN : N < 1000) (hz : yz Y ≤ ea) : GM Y l yX11_put (ws_ yX11_put cX11_put 4 none) 0 0 [.ref r_, .int (nI i_), .long x_] G n u 0 0 (pV (fun G' n' u' => G' ea = some (.inl (yA Y 1, N, .inr (.inl (vp_updL f i_ x_)))) ∧ FR (fun q_ => q_ = ea) n G G' ∧ n = n' ∧ u = u')) noX := by
  refine GM.intro (own := RX11) rfl (by decide +kernel) (Nat.le_of_ble_eq_true rfl) ?_
  intro p e s m args below meth c R Q hC hr hnm hF hL hE
  have hE1 := hE.1
  have hE2 := hE.2.1
  have hnz : yz Y ≤ n := by have := hC.z; have := hC.n; omega
  show V Y p l e R s m args below meth c 4 n u G n u Q 0 [(0, .ref r_), (1, .int (nI i_)), (2, .long x_)] []
  refine V.lts (fun hlt => ?_)
  have hl_r_ : r_ < n := hlt _ _ h1
  have hl_ea : ea < n := hlt _ _ h2
  refine g_aload_n hC dX11_put_0 rfl 0 rfl ?_
  refine g_get (v := .ref ea) hC kc_X11 h1 0 (by decide) q588 rfl dX11_put_1 ?_
  refine g_iload_n hC dX11_put_4 rfl 1 rfl ?_
  refine g_lload_n hC dX11_put_5 rfl 2 rfl ?_
  obtain ⟨G_1, eG_1⟩ : ∃ G_, gU G ea (.inl (yA Y 1, N, .inr (.inl (vp_updL f i_ x_)))) = G_ := ⟨_, rfl⟩
  have o_2 : G_1 r_ = some (.inr (10, [.ref ea])) := by rw [← eG_1]; exact (gU_n _ (gne_oa h1 h2)).trans h1
  have hf_3 : FR (fun q_ => q_ = ea) n G G_1 := by rw [← eG_1]; exact FR.put FR.refl (.inl rfl)
  refine g_last hC h2 (vin (by omega) (by omega)) (by omega) (f' := (vp_updL f i_ x_)) (by rw [nI_clamp (by omega)]) (G' := G_1) eG_1 dX11_put_6 ?_
  have a_4 : G_1 ea = some (.inl (yA Y 1, N, .inr (.inl (vp_updL f i_ x_)))) := by rw [← eG_1]; exact gU_s _ _ _
  refine g_vret hC hr ⟨rfl, ?_⟩ (by omega) (by omega) hE dX11_put_7
  exact ⟨a_4, hf_3, rfl, rfl⟩
