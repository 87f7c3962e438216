set_option maxRecDepth 100000
/-! JDK, 5: Strings compared -/
set_option maxHeartbeats 1000000 in
theorem met_J8_compareTo {Y : YT} {l : Launch} {n u : Nat} {G : AH} (a_ : Nat) (b_ : Nat) {N1 N2 va vb : Nat} {f g : Nat → Int32} {x1 x2 y1 y2 : Int32} (h1 : G a_ = some (.inr (37, [.ref va, .int 0, .int x1, .int x2]))) (h3 : G va = some (.inl (yA Y 2, N1, .inl f))) (h2 : G b_ = some (.inr (37, [.ref vb, .int 0, .int y1, .int y2]))) (h4 : G vb = some (.inl (yA Y 2, N2, .inl g))) (hk7 : N1 ≤ 7) (hk8 : N2 ≤ 7) : GM Y l yJ8_compareTo (ws_ yJ8_compareTo cJ8_compareTo 5 (some FieldType.int)) 3 71 [.ref a_, .ref b_] G n u 0 0 (pI (fun r G' n' u' => (strC f g N1 N2) = r ∧ G = G' ∧ n = n' ∧ u = u')) noX := by
  refine GM.intro (own := RJ8) rfl (by decide +kernel) (Nat.le_of_ble_eq_true rfl) ?_
  intro p e s m args below meth c R Q hC hr hnm hF hL hE
  have hE1 := hE.1
  have hE2 := hE.2.1
  show V Y p l e R s m args below meth c 5 n u G n u Q 0 [(0, .ref a_), (1, .ref b_)] []
  refine g_aload_n hC dJ8_compareTo_0 rfl 0 rfl ?_
  refine g_get (v := .ref va) hC kc_J8 h1 0 (by decide) q971 rfl dJ8_compareTo_1 ?_
  refine g_astore_n (L' := [(2, .ref va), (0, .ref a_), (1, .ref b_)]) hC dJ8_compareTo_4 rfl (by decide) rfl ?_
  refine g_aload_n hC dJ8_compareTo_5 rfl 2 rfl ?_
  refine g_get (v := .ref vb) hC kc_J8 h2 0 (by decide) q971 rfl dJ8_compareTo_6 ?_
  refine g_astore_n (L' := [(3, .ref vb), (2, .ref va), (0, .ref a_), (1, .ref b_)]) hC dJ8_compareTo_9 rfl (by decide) rfl ?_
  refine g_aload_n hC dJ8_compareTo_10 rfl 2 rfl ?_
  refine g_calli0 hC (g_runV hC (met_J8_coder (G := G) a_ (h1) ) kc_J8 h1 (lw_V q982 q983 q984 q95 q985) rfl md_J8_coder dJ8_compareTo_11 rfl ⟨by omega, by omega⟩ (by omega) (by omega) rfl (Nat.le_of_ble_eq_true rfl)) (fun r_1 G_1 n_1 u_1 hp_1 hn_1 hm_1 hu_1 => ?_)
  obtain ⟨rfl, rfl, rfl, rfl⟩ := hp_1
  refine g_istore (L' := [(4, .int 0), (3, .ref vb), (2, .ref va), (0, .ref a_), (1, .ref b_)]) hC dJ8_compareTo_14 (by decide) rfl ?_
  refine g_iload hC dJ8_compareTo_16 0 rfl ?_
  refine g_aload_n hC dJ8_compareTo_18 rfl 4 rfl ?_
  refine g_calli0 hC (g_runV hC (met_J8_coder (G := G) b_ (h2) ) kc_J8 h2 (lw_V q982 q983 q984 q95 q985) rfl md_J8_coder dJ8_compareTo_19 rfl ⟨by omega, by omega⟩ (by omega) (by omega) rfl (Nat.le_of_ble_eq_true rfl)) (fun r_2 G_2 n_2 u_2 hp_2 hn_2 hm_2 hu_2 => ?_)
  obtain ⟨rfl, rfl, rfl, rfl⟩ := hp_2
  refine g_icmp_ne hC dJ8_compareTo_22 (tgt := 44) (by decide) (fun c_22 => ?_) (fun c_22 => ?_)
  · exact absurd rfl c_22
  · refine g_iload hC dJ8_compareTo_25 0 rfl ?_
    refine g_if_ne hC dJ8_compareTo_27 (tgt := 38) (by decide) (fun c_27 => ?_) (fun c_27 => ?_)
    · first | exact absurd c_27 (by decide) | exact absurd c_27 (by omega)
    · refine g_aload_n hC dJ8_compareTo_30 rfl 2 rfl ?_
      refine g_aload_n hC dJ8_compareTo_31 rfl 1 rfl ?_
      refine g_calli0 hC (g_runS hC (met_J19_compareTo (G := G) va vb (h3) (h4) (by omega) (by omega) ) (lw_S q1047 q1048 q113 q1049) md_J19_compareTo dJ8_compareTo_32 rfl ⟨by omega, by omega⟩ (by omega) (by omega) rfl (Nat.le_of_ble_eq_true rfl)) (fun r_3 G_3 n_3 u_3 hp_3 hn_3 hm_3 hu_3 => ?_)
      obtain ⟨rfl, rfl, rfl, rfl⟩ := hp_3
      refine g_goto (tgt := 43) hC dJ8_compareTo_35 (by decide) ?_
      refine g_iret hC hr rfl ⟨_, rfl, ?_⟩ (by omega) (by omega) hE dJ8_compareTo_43
      exact ⟨by first | rfl | (simp [*]; done), rfl, rfl, rfl⟩
set_option maxHeartbeats 1000000 in
theorem met_J8_compareTo_2 {Y : YT} {l : Launch} {n u : Nat} {G : AH} (a_ : Nat) (b_ : Nat) {N1 N2 va vb : Nat} {f g : Nat → Int32} {x1 x2 y1 y2 : Int32} (h1 : G a_ = some (.inr (37, [.ref va, .int 0, .int x1, .int x2]))) (h3 : G va = some (.inl (yA Y 2, N1, .inl f))) (h2 : G b_ = some (.inr (37, [.ref vb, .int 0, .int y1, .int y2]))) (h4 : G vb = some (.inl (yA Y 2, N2, .inl g))) (hk7 : N1 ≤ 7) (hk8 : N2 ≤ 7) : GM Y l yJ8_compareTo_2 (ws_ yJ8_compareTo_2 cJ8_compareTo_2 2 (some FieldType.int)) 4 95 [.ref a_, .ref b_] G n u 0 0 (pI (fun r G' n' u' => (strC f g N1 N2) = r ∧ G = G' ∧ n = n' ∧ u = u')) noX := by
  refine GM.intro (own := RJ8) rfl (by decide +kernel) (Nat.le_of_ble_eq_true rfl) ?_
  intro p e s m args below meth c R Q hC hr hnm hF hL hE
  have hE1 := hE.1
  have hE2 := hE.2.1
  show V Y p l e R s m args below meth c 2 n u G n u Q 0 [(0, .ref a_), (1, .ref b_)] []
  refine g_aload_n hC dJ8_compareTo_2_0 rfl 0 rfl ?_
  refine g_aload_n hC dJ8_compareTo_2_1 rfl 1 rfl ?_
  refine g_castS hC kc_J8 h2 q1253 dJ8_compareTo_2_2 ?_
  refine g_calli0 hC (g_runV hC (met_J8_compareTo (G := G) a_ b_ (h1) (h3) (h2) (h4) (hk7) (hk8) ) kc_J8 h1 (lw_V q1254 q1044 q1045 q95 q1046) rfl md_J8_compareTo dJ8_compareTo_2_5 rfl ⟨by omega, by omega⟩ (by omega) (by omega) rfl (Nat.le_of_ble_eq_true rfl)) (fun r_1 G_1 n_1 u_1 hp_1 hn_1 hm_1 hu_1 => ?_)
  obtain ⟨rfl, rfl, rfl, rfl⟩ := hp_1
  refine g_iret hC hr rfl ⟨_, rfl, ?_⟩ (by omega) (by omega) hE dJ8_compareTo_2_8
  exact ⟨by first | rfl | (simp [*]; done), rfl, rfl, rfl⟩
/-- k: a text of one to four letters; x: its rank -/
def KS (Y : YT) (G : AH) (k : Nat) (x : Int) : Prop := ∃ (va N : Nat) (f : Nat → Int32) (d : Nat → Nat) (x1 x2 : Int32), G k = some (.inr (37, [.ref va, .int 0, .int x1, .int x2])) ∧ G va = some (.inl (yA Y 2, N, .inl f)) ∧ 1 ≤ N ∧ N ≤ 4 ∧ (∀ i, i < N → f i = nI (96 + d i) ∧ 1 ≤ d i ∧ d i ≤ 26) ∧ x = (nmR d N : Nat)
theorem met_J8_cmpK {Y : YT} {l : Launch} {n u : Nat} {G : AH} (a b : Nat) (x y : Int) (h1 : KS Y G a x) (h2 : KS Y G b y) : GM Y l yJ8_compareTo_2 (ws_ yJ8_compareTo_2 cJ8_compareTo_2 2 (some FieldType.int)) 4 95 [.ref a, .ref b] G n u 0 0 (pI (fun r G' n' u' => (r < 0 ↔ x < y) ∧ (0 < r ↔ y < x) ∧ G = G' ∧ n = n' ∧ u = u')) noX := by
  obtain ⟨va, N1, f, d, x1, x2, a1, a2, a3, a4, a5, a6⟩ := h1
  obtain ⟨vb, N2, g, e, y1, y2, b1, b2, b3, b4, b5, b6⟩ := h2
  have hs := strC_ok ⟨a3, a4⟩ ⟨b3, b4⟩ a5 b5
  refine (met_J8_compareTo_2 a b a1 a2 b1 b2 (by omega) (by omega)).weaken (Nat.le_refl _) (Nat.le_refl _) (fun v G' n' u' hp => ?_) (fun _ _ _ _ _ h => h)
  obtain ⟨r, e1, e2, e3⟩ := hp
  refine ⟨r, e1, ?_, ?_, e3⟩
  · rw [← e2, hs.1, a6, b6]; omega
  · rw [← e2, hs.2, a6, b6]; omega
