set_option maxRecDepth 100000
/-! JDK, 1: boxed ints -/
theorem gne_c {G : AH} {a b c1 c2 : Nat} {f1 f2 : List Value} (h1 : G b = some (.inr (c1, f1))) (h2 : G a = some (.inr (c2, f2))) (h : c1 ≠ c2) : b ≠ a := fun q => by
  subst q; rw [h1] at h2; exact h (congrArg (fun z : va_E => match z with | .inr x => x.1 | .inl _ => 0) (Option.some.inj h2))
theorem gne_oa {G : AH} {a b c1 : Nat} {f1 : List Value} {x : ClassId × vp_A} (h1 : G b = some (.inr (c1, f1))) (h2 : G a = some (.inl x)) : b ≠ a := fun q => by
  subst q; rw [h1] at h2; cases h2
theorem gne_ao {G : AH} {a b c1 : Nat} {f1 : List Value} {x : ClassId × vp_A} (h2 : G b = some (.inl x)) (h1 : G a = some (.inr (c1, f1))) : b ≠ a := fun q => by
  subst q; rw [h1] at h2; cases h2
theorem vin {i N : Nat} (h : i < N) (hi : i < 2 ^ 31) : vp_in (nI i) N := by
  intro q
  rcases q with q | q
  · exact absurd q (Int32.not_lt.mpr (nI_pos' hi))
  · rw [nI_clamp hi] at q; omega
def cmpI (x y : Int32) : Int32 := if x < y then -1 else if x = y then 0 else 1
theorem i_tri {x y : Int32} (h1 : y ≤ x) (h2 : ¬ x = y) : ¬ x < y := Int32.not_lt.mpr h1
set_option maxHeartbeats 1000000 in
theorem met_J12_compare {Y : YT} {l : Launch} {n u : Nat} {G : AH} (x_ : Int32) (y_ : Int32)   : GM Y l yJ12_compare (ws_ yJ12_compare cJ12_compare 2 (some FieldType.int)) 0 0 [.int x_, .int y_] G n u 0 0 (pI (fun r G' n' u' => (cmpI x_ y_) = r ∧ G = G' ∧ n = n' ∧ u = u')) noX := by
  refine GM.intro (own := RJ12) rfl (by decide +kernel) (Nat.le_of_ble_eq_true rfl) ?_
  intro p e s m args below meth c R Q hC hr hnm hF hL hE
  have hE1 := hE.1
  have hE2 := hE.2.1
  show V Y p l e R s m args below meth c 2 n u G n u Q 0 [(0, .int x_), (1, .int y_)] []
  refine g_iload_n hC dJ12_compare_0 rfl 0 rfl ?_
  refine g_iload_n hC dJ12_compare_1 rfl 1 rfl ?_
  refine g_icmp_ge hC dJ12_compare_2 (tgt := 9) (by decide) (fun c_2 => ?_) (fun c_2 => ?_)
  · refine g_iload_n hC dJ12_compare_9 rfl 0 rfl ?_
    refine g_iload_n hC dJ12_compare_10 rfl 1 rfl ?_
    refine g_icmp_ne hC dJ12_compare_11 (tgt := 18) (by decide) (fun c_11 => ?_) (fun c_11 => ?_)
    · refine g_iconst (v := 1) hC dJ12_compare_18 rfl ?_
      refine g_iret hC hr rfl ⟨_, rfl, ?_⟩ (by omega) (by omega) hE dJ12_compare_19
      exact ⟨by unfold cmpI; rw [if_neg (Int32.not_lt.mpr c_2), if_neg c_11], rfl, rfl, rfl⟩
    · refine g_iconst (v := 0) hC dJ12_compare_14 rfl ?_
      refine g_goto (tgt := 19) hC dJ12_compare_15 (by decide) ?_
      refine g_iret hC hr rfl ⟨_, rfl, ?_⟩ (by omega) (by omega) hE dJ12_compare_19
      exact ⟨by unfold cmpI; rw [if_neg (Int32.not_lt.mpr c_2), if_pos c_11], rfl, rfl, rfl⟩
  · refine g_iconst (v := (-1)) hC dJ12_compare_5 rfl ?_
    refine g_goto (tgt := 19) hC dJ12_compare_6 (by decide) ?_
    refine g_iret hC hr rfl ⟨_, rfl, ?_⟩ (by omega) (by omega) hE dJ12_compare_19
    exact ⟨by unfold cmpI; rw [if_pos (Int32.not_le.mp c_2)], rfl, rfl, rfl⟩
set_option maxHeartbeats 1000000 in
theorem met_J12_intValue {Y : YT} {l : Launch} {n u : Nat} {G : AH} (a_ : Nat) {x_ : Int32} (h1 : G a_ = some (.inr (40, [.int x_]))) : GM Y l yJ12_intValue (ws_ yJ12_intValue cJ12_intValue 1 (some FieldType.int)) 0 0 [.ref a_] G n u 0 0 (pI (fun r G' n' u' => x_ = r ∧ G = G' ∧ n = n' ∧ u = u')) noX := by
  refine GM.intro (own := RJ12) rfl (by decide +kernel) (Nat.le_of_ble_eq_true rfl) ?_
  intro p e s m args below meth c R Q hC hr hnm hF hL hE
  have hE1 := hE.1
  have hE2 := hE.2.1
  show V Y p l e R s m args below meth c 1 n u G n u Q 0 [(0, .ref a_)] []
  refine g_aload_n hC dJ12_intValue_0 rfl 0 rfl ?_
  refine g_get (v := .int x_) hC kc_J12 h1 0 (by decide) q1501 rfl dJ12_intValue_1 ?_
  refine g_iret hC hr rfl ⟨_, rfl, ?_⟩ (by omega) (by omega) hE dJ12_intValue_4
  exact ⟨by first | rfl | (simp [*]; done), rfl, rfl, rfl⟩
set_option maxHeartbeats 1000000 in
theorem met_J12_compareTo_2 {Y : YT} {l : Launch} {n u : Nat} {G : AH} (a_ : Nat) (b_ : Nat) {x_ y_ : Int32} (h1 : G a_ = some (.inr (40, [.int x_]))) (h2 : G b_ = some (.inr (40, [.int y_]))) : GM Y l yJ12_compareTo_2 (ws_ yJ12_compareTo_2 cJ12_compareTo_2 2 (some FieldType.int)) 1 21 [.ref a_, .ref b_] G n u 0 0 (pI (fun r G' n' u' => (cmpI x_ y_) = r ∧ G = G' ∧ n = n' ∧ u = u')) noX := by
  refine GM.intro (own := RJ12) rfl (by decide +kernel) (Nat.le_of_ble_eq_true rfl) ?_
  intro p e s m args below meth c R Q hC hr hnm hF hL hE
  have hE1 := hE.1
  have hE2 := hE.2.1
  show V Y p l e R s m args below meth c 2 n u G n u Q 0 [(0, .ref a_), (1, .ref b_)] []
  refine g_aload_n hC dJ12_compareTo_2_0 rfl 0 rfl ?_
  refine g_get (v := .int x_) hC kc_J12 h1 0 (by decide) q1501 rfl dJ12_compareTo_2_1 ?_
  refine g_aload_n hC dJ12_compareTo_2_4 rfl 1 rfl ?_
  refine g_get (v := .int y_) hC kc_J12 h2 0 (by decide) q1501 rfl dJ12_compareTo_2_5 ?_
  refine g_calli0 hC (g_runS hC (met_J12_compare (G := G) x_ y_  ) (lw_S q1244 q1245 q106 q1246) md_J12_compare dJ12_compareTo_2_8 rfl ⟨by omega, by omega⟩ (by omega) (by omega) rfl (Nat.le_of_ble_eq_true rfl)) (fun r_1 G_1 n_1 u_1 hp_1 hn_1 hm_1 hu_1 => ?_)
  obtain ⟨rfl, rfl, rfl, rfl⟩ := hp_1
  refine g_iret hC hr rfl ⟨_, rfl, ?_⟩ (by omega) (by omega) hE dJ12_compareTo_2_11
  exact ⟨by first | rfl | (simp [*]; done), rfl, rfl, rfl⟩
set_option maxHeartbeats 1000000 in
theorem met_J12_compareTo {Y : YT} {l : Launch} {n u : Nat} {G : AH} (a_ : Nat) (b_ : Nat) {x_ y_ : Int32} (h1 : G a_ = some (.inr (40, [.int x_]))) (h2 : G b_ = some (.inr (40, [.int y_]))) : GM Y l yJ12_compareTo (ws_ yJ12_compareTo cJ12_compareTo 2 (some FieldType.int)) 2 42 [.ref a_, .ref b_] G n u 0 0 (pI (fun r G' n' u' => (cmpI x_ y_) = r ∧ G = G' ∧ n = n' ∧ u = u')) noX := by
  refine GM.intro (own := RJ12) rfl (by decide +kernel) (Nat.le_of_ble_eq_true rfl) ?_
  intro p e s m args below meth c R Q hC hr hnm hF hL hE
  have hE1 := hE.1
  have hE2 := hE.2.1
  show V Y p l e R s m args below meth c 2 n u G n u Q 0 [(0, .ref a_), (1, .ref b_)] []
  refine g_aload_n hC dJ12_compareTo_0 rfl 0 rfl ?_
  refine g_aload_n hC dJ12_compareTo_1 rfl 1 rfl ?_
  refine g_castS hC kc_J12 h2 q1239 dJ12_compareTo_2 ?_
  refine g_calli0 hC (g_runV hC (met_J12_compareTo_2 (G := G) a_ b_ (h1) (h2) ) kc_J12 h1 (lw_V q1240 q1241 q1242 q106 q1243) rfl md_J12_compareTo_2 dJ12_compareTo_5 rfl ⟨by omega, by omega⟩ (by omega) (by omega) rfl (Nat.le_of_ble_eq_true rfl)) (fun r_1 G_1 n_1 u_1 hp_1 hn_1 hm_1 hu_1 => ?_)
  obtain ⟨rfl, rfl, rfl, rfl⟩ := hp_1
  refine g_iret hC hr rfl ⟨_, rfl, ?_⟩ (by omega) (by omega) hE dJ12_compareTo_8
  exact ⟨by first | rfl | (simp [*]; done), rfl, rfl, rfl⟩
set_option maxHeartbeats 1000000 in
theorem met_J22_requireNonNull {Y : YT} {l : Launch} {n u : Nat} {G : AH} (a_ : Nat)   : GM Y l yJ22_requireNonNull (ws_ yJ22_requireNonNull cJ22_requireNonNull 1 (some (FieldType.object "java/lang/Object"))) 0 0 [.ref a_] G n u 0 0 (pQ (fun r G' n' u' => (some a_) = r ∧ G = G' ∧ n = n' ∧ u = u')) noX := by
  refine GM.intro (own := RJ22) rfl (by decide +kernel) (Nat.le_of_ble_eq_true rfl) ?_
  intro p e s m args below meth c R Q hC hr hnm hF hL hE
  have hE1 := hE.1
  have hE2 := hE.2.1
  show V Y p l e R s m args below meth c 1 n u G n u Q 0 [(0, .ref a_)] []
  refine g_aload_n hC dJ22_requireNonNull_0 rfl 0 rfl ?_
  refine g_ifnonnull (tgt := 12) hC dJ22_requireNonNull_1 (by decide) ?_
  refine g_aload_n hC dJ22_requireNonNull_12 rfl 0 rfl ?_
  refine g_aret (v := some a_) hC hr (by first | exact Or.inl ⟨_, rfl⟩ | exact Or.inr ⟨_, rfl⟩) ⟨_, rfl, ?_⟩ (by omega) (by omega) hE dJ22_requireNonNull_13
  exact ⟨by first | rfl | (simp [*]; done), rfl, rfl, rfl⟩
