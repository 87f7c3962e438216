set_option maxRecDepth 100000
/-! JDK, 4: texts of a few letters compared: the walks -/
set_option maxHeartbeats 1000000 in
theorem met_J17_mismatch {Y : YT} {l : Launch} {n u : Nat} {G : AH} (a_ : Nat) (b_ : Nat) (k_ : Nat) {N1 N2 : Nat} {f g : Nat → Int32} (h1 : G a_ = some (.inl (yA Y 2, N1, .inl f))) (h2 : G b_ = some (.inl (yA Y 2, N2, .inl g))) (hk1 : k_ ≤ N1) (hk2 : k_ ≤ N2) (hk7 : k_ ≤ 7) : GM Y l yJ17_mismatch (ws_ yJ17_mismatch cJ17_mismatch 4 (some FieldType.int)) 0 0 [.ref a_, .ref b_, .int (nI k_)] G n u 0 0 (pI (fun r G' n' u' => (oI (firstN (fun i => decide (¬ f i = g i)) k_)) = r ∧ G = G' ∧ n = n' ∧ u = u')) noX := by
  refine GM.intro (own := RJ17) rfl (by decide +kernel) (Nat.le_of_ble_eq_true rfl) ?_
  intro p e s m args below meth c R Q hC hr hnm hF hL hE
  have hE1 := hE.1
  have hE2 := hE.2.1
  show V Y p l e R s m args below meth c 4 n u G n u Q 0 [(0, .ref a_), (1, .ref b_), (2, .int (nI k_))] []
  refine g_iconst (v := 0) hC dJ17_mismatch_0 rfl ?_
  refine g_istore_n (L' := [(3, .int 0), (0, .ref a_), (1, .ref b_), (2, .int (nI k_))]) hC dJ17_mismatch_1 rfl (by decide) rfl ?_
  refine g_iload_n hC dJ17_mismatch_2 rfl 3 rfl ?_
  refine g_bipush (v := 7) hC dJ17_mismatch_3 (by decide) ?_
  refine g_icmp_leN hC k_ 7 (by omega) (by omega) dJ17_mismatch_5 (tgt := 49) (by decide) (fun c_5 => ?_) (fun c_5 => ?_)
  · have hl_49 : ∀ (kf_ : Nat) (i : Nat), (i ≤ k_) → (∀ j, j < i → (fun i => decide (¬ f i = g i)) j = false) → k_ - i < kf_ → V Y p l e R s m args below meth c 4 n u G n u Q 49 [(3, .int (nI i)), (0, .ref a_), (1, .ref b_), (2, .int (nI k_))] [] := by
      intro kf_
      induction kf_ with
      | zero => intro i hi hn hk_; exact absurd hk_ (Nat.not_lt_zero _)
      | succ kf_ ih_ =>
        intro i hi hn hk_
        refine g_iload_n hC dJ17_mismatch_49 rfl 0 rfl ?_
        refine g_iload_n hC dJ17_mismatch_50 rfl 3 rfl ?_
        refine g_icmp_geN hC i k_ (by omega) (by omega) dJ17_mismatch_51 (tgt := 71) (by decide) (fun c_51 => ?_) (fun c_51 => ?_)
        · refine g_iconst (v := (-1)) hC dJ17_mismatch_71 rfl ?_
          refine g_iret hC hr rfl ⟨_, rfl, ?_⟩ (by omega) (by omega) hE dJ17_mismatch_72
          obtain rfl : i = k_ := by omega
          exact ⟨by rw [firstN_e hn]; rfl, rfl, rfl, rfl⟩
        · refine g_aload_n hC dJ17_mismatch_54 rfl 1 rfl ?_
          refine g_iload_n hC dJ17_mismatch_55 rfl 0 rfl ?_
          refine g_bald hC h1 (vin (by omega) (by omega)) dJ17_mismatch_56 ?_
          rw [show (nI i).toNatClampNeg = i from nI_clamp (by omega)]
          refine g_aload_n hC dJ17_mismatch_57 rfl 2 rfl ?_
          refine g_iload_n hC dJ17_mismatch_58 rfl 0 rfl ?_
          refine g_bald hC h2 (vin (by omega) (by omega)) dJ17_mismatch_59 ?_
          rw [show (nI i).toNatClampNeg = i from nI_clamp (by omega)]
          refine g_icmp_eq hC dJ17_mismatch_60 (tgt := 65) (by decide) (fun c_60 => ?_) (fun c_60 => ?_)
          · refine g_iincN (L' := [(3, .int (nI (i + 1))), (0, .ref a_), (1, .ref b_), (2, .int (nI k_))]) hC 1 i dJ17_mismatch_65 (k := 0) rfl (by decide) (by decide) rfl ?_
            refine g_goto (tgt := 49) hC dJ17_mismatch_68 (by decide) ?_
            exact ih_ (i + 1) (by omega) (fun j hj => by by_cases q : j = i; (subst q; simpa using c_60); exact hn j (by omega)) (by omega)
          · refine g_iload_n hC dJ17_mismatch_63 rfl 0 rfl ?_
            refine g_iret hC hr rfl ⟨_, rfl, ?_⟩ (by omega) (by omega) hE dJ17_mismatch_64
            exact ⟨by rw [firstN_f (n := k_) hn (by omega) (by simpa using c_60)]; rfl, rfl, rfl, rfl⟩
    exact hl_49 (k_ - 0 + 1) 0 (by omega) (fun j hj => absurd hj (Nat.not_lt_zero _)) (by omega)
  · exact absurd c_5 (by omega)
set_option maxHeartbeats 1000000 in
theorem met_J19_getChar {Y : YT} {l : Launch} {n u : Nat} {G : AH} (a_ : Nat) (i_ : Nat) {N1 : Nat} {f : Nat → Int32} (h1 : G a_ = some (.inl (yA Y 2, N1, .inl f))) (hi : i_ < N1) (hi2 : i_ < 1000) : GM Y l yJ19_getChar (ws_ yJ19_getChar cJ19_getChar 2 (some FieldType.char)) 0 0 [.ref a_, .int (nI i_)] G n u 0 0 (pI (fun r G' n' u' => (cI (f i_)) = r ∧ G = G' ∧ n = n' ∧ u = u')) noX := by
  refine GM.intro (own := RJ19) rfl (by decide +kernel) (Nat.le_of_ble_eq_true rfl) ?_
  intro p e s m args below meth c R Q hC hr hnm hF hL hE
  have hE1 := hE.1
  have hE2 := hE.2.1
  show V Y p l e R s m args below meth c 2 n u G n u Q 0 [(0, .ref a_), (1, .int (nI i_))] []
  refine g_aload_n hC dJ19_getChar_0 rfl 0 rfl ?_
  refine g_iload_n hC dJ19_getChar_1 rfl 1 rfl ?_
  refine g_bald hC h1 (vin (by omega) (by omega)) dJ19_getChar_2 ?_
  rw [show (nI i_).toNatClampNeg = i_ from nI_clamp (by omega)]
  refine g_sipush (v := 255) hC dJ19_getChar_3 (by decide) ?_
  refine g_iand hC dJ19_getChar_6 ?_
  refine g_i2c (v := (((f i_) &&& 255).toUInt32 % 65536).toInt32) hC dJ19_getChar_7 rfl ?_
  refine g_iret hC hr (pk_nc _) ⟨_, rfl, ?_⟩ (by omega) (by omega) hE dJ19_getChar_8
  exact ⟨by first | rfl | (simp [*]; done), rfl, rfl, rfl⟩
set_option maxHeartbeats 1000000 in
theorem met_J19_compareTo_2 {Y : YT} {l : Launch} {n u : Nat} {G : AH} (a_ : Nat) (b_ : Nat) (c1 : Nat) (c2 : Nat) {N1 N2 : Nat} {f g : Nat → Int32} (h1 : G a_ = some (.inl (yA Y 2, N1, .inl f))) (h2 : G b_ = some (.inl (yA Y 2, N2, .inl g))) (hk1 : c1 ≤ N1) (hk2 : c2 ≤ N2) (hk7 : c1 ≤ 7) (hk8 : c2 ≤ 7) : GM Y l yJ19_compareTo_2 (ws_ yJ19_compareTo_2 cJ19_compareTo_2 6 (some FieldType.int)) 1 23 [.ref a_, .ref b_, .int (nI c1), .int (nI c2)] G n u 0 0 (pI (fun r G' n' u' => (strC f g c1 c2) = r ∧ G = G' ∧ n = n' ∧ u = u')) noX := by
  refine GM.intro (own := RJ19) rfl (by decide +kernel) (Nat.le_of_ble_eq_true rfl) ?_
  intro p e s m args below meth c R Q hC hr hnm hF hL hE
  have hE1 := hE.1
  have hE2 := hE.2.1
  show V Y p l e R s m args below meth c 6 n u G n u Q 0 [(0, .ref a_), (1, .ref b_), (2, .int (nI c1)), (3, .int (nI c2))] []
  refine g_iload_n hC dJ19_compareTo_2_0 rfl 2 rfl ?_
  refine g_iload_n hC dJ19_compareTo_2_1 rfl 3 rfl ?_
  refine g_calli0 hC (g_runS hC (met_J2_min (nI c1) (nI c2) ) (lw_S q1053 q870 q88 q871) md_J2_min dJ19_compareTo_2_2 rfl ⟨by omega, by omega⟩ (by omega) (by omega) rfl (Nat.le_of_ble_eq_true rfl)) (fun r_1 G_1 n_1 u_1 hp_1 hn_1 hm_1 hu_1 => ?_)
  obtain ⟨rfl, rfl, rfl, rfl⟩ := hp_1
  rw [imin_n (by omega) (by omega)]
  have hm1 := Nat.min_le_left c1 c2
  have hm2 := Nat.min_le_right c1 c2
  refine g_istore (L' := [(4, .int (nI (min c1 c2))), (0, .ref a_), (1, .ref b_), (2, .int (nI c1)), (3, .int (nI c2))]) hC dJ19_compareTo_2_5 (by decide) rfl ?_
  refine g_aload_n hC dJ19_compareTo_2_7 rfl 1 rfl ?_
  refine g_aload_n hC dJ19_compareTo_2_8 rfl 2 rfl ?_
  refine g_iload hC dJ19_compareTo_2_9 0 rfl ?_
  refine g_calli0 hC (g_runS hC (met_J17_mismatch (G := G) a_ b_ (min c1 c2) (h1) (h2) (by omega) (by omega) (by omega) ) (lw_S q1054 q1055 q111 q1056) md_J17_mismatch dJ19_compareTo_2_11 rfl ⟨by omega, by omega⟩ (by omega) (by omega) rfl (Nat.le_of_ble_eq_true rfl)) (fun r_2 G_2 n_2 u_2 hp_2 hn_2 hm_2 hu_2 => ?_)
  obtain ⟨rfl, rfl, rfl, rfl⟩ := hp_2
  rcases hf : firstN (fun i => decide (¬ f i = g i)) (min c1 c2) with _ | k
  · refine g_istore (L' := [(5, .int (-1)), (4, .int (nI (min c1 c2))), (0, .ref a_), (1, .ref b_), (2, .int (nI c1)), (3, .int (nI c2))]) hC dJ19_compareTo_2_14 (by decide) rfl ?_
    refine g_iload hC dJ19_compareTo_2_16 0 rfl ?_
    refine g_if_ge hC dJ19_compareTo_2_18 (tgt := 27) (by decide) (fun c_18 => ?_) (fun c_18 => ?_)
    · first | exact absurd c_18 (by decide) | exact absurd c_18 (by omega)
    · refine g_iload_n hC dJ19_compareTo_2_21 rfl 4 rfl ?_
      refine g_iload_n hC dJ19_compareTo_2_22 rfl 5 rfl ?_
      refine g_isub hC dJ19_compareTo_2_23 ?_
      refine g_goto (tgt := 40) hC dJ19_compareTo_2_24 (by decide) ?_
      refine g_iret hC hr rfl ⟨_, rfl, ?_⟩ (by omega) (by omega) hE dJ19_compareTo_2_40
      exact ⟨by unfold strC; rw [hf], rfl, rfl, rfl⟩
  · obtain ⟨hk9, _, _⟩ := firstN_sp.1 k hf
    refine g_istore (L' := [(5, .int (nI k)), (4, .int (nI (min c1 c2))), (0, .ref a_), (1, .ref b_), (2, .int (nI c1)), (3, .int (nI c2))]) hC dJ19_compareTo_2_14 (by decide) rfl ?_
    refine g_iload hC dJ19_compareTo_2_16 0 rfl ?_
    refine g_if_geN hC k (by omega) dJ19_compareTo_2_18 (tgt := 27) (by decide) (fun c_18 => ?_) (fun c_18 => ?_)
    · refine g_aload_n hC dJ19_compareTo_2_27 rfl 2 rfl ?_
      refine g_iload hC dJ19_compareTo_2_28 0 rfl ?_
      refine g_calli0 hC (g_runS hC (met_J19_getChar (G := G) a_ k (h1) (by omega) (by omega) ) (lw_S q1158 q1159 q113 q1160) md_J19_getChar dJ19_compareTo_2_30 rfl ⟨by omega, by omega⟩ (by omega) (by omega) rfl (Nat.le_of_ble_eq_true rfl)) (fun r_3 G_3 n_3 u_3 hp_3 hn_3 hm_3 hu_3 => ?_)
      obtain ⟨rfl, rfl, rfl, rfl⟩ := hp_3
      refine g_aload_n hC dJ19_compareTo_2_33 rfl 3 rfl ?_
      refine g_iload hC dJ19_compareTo_2_34 0 rfl ?_
      refine g_calli0 hC (g_runS hC (met_J19_getChar (G := G) b_ k (h2) (by omega) (by omega) (f := g) (N1 := N2)) (lw_S q1158 q1159 q113 q1160) md_J19_getChar dJ19_compareTo_2_36 rfl ⟨by omega, by omega⟩ (by omega) (by omega) rfl (Nat.le_of_ble_eq_true rfl)) (fun r_4 G_4 n_4 u_4 hp_4 hn_4 hm_4 hu_4 => ?_)
      obtain ⟨rfl, rfl, rfl, rfl⟩ := hp_4
      refine g_isub hC dJ19_compareTo_2_39 ?_
      refine g_iret hC hr rfl ⟨_, rfl, ?_⟩ (by omega) (by omega) hE dJ19_compareTo_2_40
      exact ⟨by unfold strC; rw [hf], rfl, rfl, rfl⟩
    · exact absurd c_18 (by omega)
set_option maxHeartbeats 1000000 in
theorem met_J19_compareTo {Y : YT} {l : Launch} {n u : Nat} {G : AH} (a_ : Nat) (b_ : Nat) {N1 N2 : Nat} {f g : Nat → Int32} (h1 : G a_ = some (.inl (yA Y 2, N1, .inl f))) (h2 : G b_ = some (.inl (yA Y 2, N2, .inl g))) (hk7 : N1 ≤ 7) (hk8 : N2 ≤ 7) : GM Y l yJ19_compareTo (ws_ yJ19_compareTo cJ19_compareTo 4 (some FieldType.int)) 2 48 [.ref a_, .ref b_] G n u 0 0 (pI (fun r G' n' u' => (strC f g N1 N2) = r ∧ G = G' ∧ n = n' ∧ u = u')) noX := by
  refine GM.intro (own := RJ19) rfl (by decide +kernel) (Nat.le_of_ble_eq_true rfl) ?_
  intro p e s m args below meth c R Q hC hr hnm hF hL hE
  have hE1 := hE.1
  have hE2 := hE.2.1
  show V Y p l e R s m args below meth c 4 n u G n u Q 0 [(0, .ref a_), (1, .ref b_)] []
  refine g_aload_n hC dJ19_compareTo_0 rfl 0 rfl ?_
  refine g_alen (v := nI N1) hC h1 (t0 := 2) rfl rfl dJ19_compareTo_1 ?_
  refine g_istore_n (L' := [(2, .int (nI N1)), (0, .ref a_), (1, .ref b_)]) hC dJ19_compareTo_2 rfl (by decide) rfl ?_
  refine g_aload_n hC dJ19_compareTo_3 rfl 2 rfl ?_
  refine g_alen (v := nI N2) hC h2 (t0 := 2) rfl rfl dJ19_compareTo_4 ?_
  refine g_istore_n (L' := [(3, .int (nI N2)), (2, .int (nI N1)), (0, .ref a_), (1, .ref b_)]) hC dJ19_compareTo_5 rfl (by decide) rfl ?_
  refine g_aload_n hC dJ19_compareTo_6 rfl 2 rfl ?_
  refine g_aload_n hC dJ19_compareTo_7 rfl 3 rfl ?_
  refine g_iload_n hC dJ19_compareTo_8 rfl 1 rfl ?_
  refine g_iload_n hC dJ19_compareTo_9 rfl 0 rfl ?_
  refine g_calli0 hC (g_runS hC (met_J19_compareTo_2 (G := G) a_ b_ N1 N2 (h1) (h2) (by omega) (by omega) (by omega) (by omega) ) (lw_S q1050 q1051 q113 q1052) md_J19_compareTo_2 dJ19_compareTo_10 rfl ⟨by omega, by omega⟩ (by omega) (by omega) rfl (Nat.le_of_ble_eq_true rfl)) (fun r_1 G_1 n_1 u_1 hp_1 hn_1 hm_1 hu_1 => ?_)
  obtain ⟨rfl, rfl, rfl, rfl⟩ := hp_1
  refine g_iret hC hr rfl ⟨_, rfl, ?_⟩ (by omega) (by omega) hE dJ19_compareTo_13
  exact ⟨by first | rfl | (simp [*]; done), rfl, rfl, rfl⟩
set_option maxHeartbeats 1000000 in
theorem met_J8_coder {Y : YT} {l : Launch} {n u : Nat} {G : AH} (a_ : Nat) {x y : Int32} {va : Nat} (h1 : G a_ = some (.inr (37, [.ref va, .int 0, .int x, .int y]))) : GM Y l yJ8_coder (ws_ yJ8_coder cJ8_coder 1 (some FieldType.byte)) 0 0 [.ref a_] G n u 0 0 (pI (fun r G' n' u' => 0 = r ∧ G = G' ∧ n = n' ∧ u = u')) noX := by
  refine GM.intro (own := RJ8) rfl (by decide +kernel) (Nat.le_of_ble_eq_true rfl) ?_
  intro p e s m args below meth c R Q hC hr hnm hF hL hE
  have hE1 := hE.1
  have hE2 := hE.2.1
  show V Y p l e R s m args below meth c 1 n u G n u Q 0 [(0, .ref a_)] []
  refine g_gets (v := .int 1) hC (hC.K.stI q787 q95 sn_COMPACT_STRINGS) q957 dJ8_coder_0 ?_
  refine g_if_eqN hC 1 (by omega) dJ8_coder_3 (tgt := 13) (by decide) (fun c_3 => ?_) (fun c_3 => ?_)
  · first | exact absurd c_3 (by decide) | exact absurd c_3 (by omega)
  · refine g_aload_n hC dJ8_coder_6 rfl 0 rfl ?_
    refine g_get (v := .int 0) hC kc_J8 h1 1 (by decide) q972 rfl dJ8_coder_7 ?_
    refine g_goto (tgt := 14) hC dJ8_coder_10 (by decide) ?_
    refine g_iret hC hr rfl ⟨_, rfl, ?_⟩ (by omega) (by omega) hE dJ8_coder_14
    exact ⟨by first | rfl | (simp [*]; done), rfl, rfl, rfl⟩
