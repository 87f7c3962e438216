set_option maxRecDepth 100000
/-! TREE MAPS, 21: sets of Integers -/
theorem KK.stX {Y : YT} {U : State} (h : KK Y U) {C n d nm : String} (hl : Cond.laysStatic C n d ∈ lw_tbl) (hi : Cond.initialized C ∈ lw_all) (he : Cond.exactly (.static C n d) nm ∈ flatC narrow_1) : ∃ a, va_Z C n d (.ref a) (fun q => yz Y ≤ q) (yS Y) (yH Y) ∧ a < yz Y := by
  obtain ⟨b, h1, h2⟩ := h.2.2
  have h3 := flat_of_before _ h2 _ (show Cond.exactly (.static C n d) nm ∈ flatC given_1 ++ flatC narrow_1 from List.mem_append_right _ he)
  obtain ⟨a, c, cA, kA, q1, q2, q3, q4, q5, q6, -⟩ := Cond.exactly_spec (args := #[Value.ref b]) (first := yS Y) (o := none) (s := yS Y) (idx := []) h3
  exact ⟨a, va_Zof (h1 _ hl) (h1 _ (lw_all_tbl hi)) q1 (fun a ha q => absurd ha (Nat.not_lt.mpr q)), (Array.getElem?_eq_some_iff.mp q3).1⟩
theorem sn_PRESENT : Cond.exactly (.static "java/util/TreeSet" "PRESENT" "Ljava/lang/Object;") "java/lang/Object" ∈ flatC narrow_1 := by decide +kernel
theorem sn_UNBOUNDED : Cond.exactly (.static "java/util/TreeMap" "UNBOUNDED" "Ljava/lang/Object;") "java/lang/Object" ∈ flatC narrow_1 := by decide +kernel
set_option maxHeartbeats 1000000 in
theorem met_J0_isEmpty {Y : YT} {l : Launch} {t n u : Nat} {τ : TS} {B : AH} (hT : TQ_ Y t τ)    : GM Y l yJ0_isEmpty (ws_ yJ0_isEmpty cJ0_isEmpty 1 (some FieldType.boolean)) 1 20 [.ref t] (tG t τ B) n u 0 0 (pI (fun r G' n' u' => b2i (decide (τ.2.2.1 0 = 0)) = r ∧ tG t τ B = G' ∧ n = n' ∧ u = u')) noX := by
  refine GM.intro (own := RJ0) rfl (by decide +kernel) (Nat.le_of_ble_eq_true rfl) ?_
  intro p e s m args below meth c R Q hC hr hnm hF hL hE
  have hE1 := hE.1
  have hE2 := hE.2.1
  show V Y p l e R s m args below meth c 1 n u (tG t τ B) n u Q 0 [(0, .ref t)] []
  refine g_aload_n hC dJ0_isEmpty_0 rfl 0 rfl ?_
  refine g_calli0 hC (g_runA (n := 0) (owner := "java/util/AbstractMap") (x := ⟨"java/util/AbstractMap", "size", "()I"⟩) hC (met_J1_size (τ := τ) (B := B) hT) kc_J1 tG_h (lw_U q2530 q2532 q2533 q2033 q85 q2035) q2536 ⟨by decide, by decide, by decide +kernel⟩ dJ0_isEmpty_1 rfl ⟨by omega, by omega⟩ (by omega) (by omega) rfl (Nat.le_of_ble_eq_true rfl)) (fun r_1 G_1 n_1 u_1 hp_1 hn_1 hm_1 hu_1 => ?_)
  obtain ⟨rfl, rfl, rfl, rfl⟩ := hp_1
  refine g_if_ne hC dJ0_isEmpty_4 (tgt := 11) (by decide) (fun c_4 => ?_) (fun c_4 => ?_)
  · refine g_iconst (v := 0) hC dJ0_isEmpty_11 rfl ?_
    refine g_iret hC hr rfl ⟨_, rfl, ?_⟩ (by omega) (by omega) hE dJ0_isEmpty_12
    exact ⟨by rw [decide_eq_false c_4]; rfl, rfl, rfl, rfl⟩
  · refine g_iconst (v := 1) hC dJ0_isEmpty_7 rfl ?_
    refine g_goto (tgt := 12) hC dJ0_isEmpty_8 (by decide) ?_
    refine g_iret hC hr rfl ⟨_, rfl, ?_⟩ (by omega) (by omega) hE dJ0_isEmpty_12
    exact ⟨by rw [decide_eq_true c_4]; rfl, rfl, rfl, rfl⟩
set_option maxHeartbeats 1000000 in
theorem met_J35_isEmpty {Y : YT} {l : Launch} {t n u : Nat} {τ : TS} {B : AH} (hT : TQ_ Y t τ) (i_ : Nat)  (h1 : B i_ = some (.inr (47, [.ref t]))) (ho : i_ ≠ t ∧ τ.2.2.2 i_ = false) : GM Y l yJ35_isEmpty (ws_ yJ35_isEmpty cJ35_isEmpty 1 (some FieldType.boolean)) 2 40 [.ref i_] (tG t τ B) n u 0 0 (pI (fun r G' n' u' => b2i (decide (τ.2.2.1 0 = 0)) = r ∧ tG t τ B = G' ∧ n = n' ∧ u = u')) noX := by
  refine GM.intro (own := RJ35) rfl (by decide +kernel) (Nat.le_of_ble_eq_true rfl) ?_
  intro p e s m args below meth c R Q hC hr hnm hF hL hE
  have hE1 := hE.1
  have hE2 := hE.2.1
  show V Y p l e R s m args below meth c 1 n u (tG t τ B) n u Q 0 [(0, .ref i_)] []
  refine g_aload_n hC dJ35_isEmpty_0 rfl 0 rfl ?_
  refine g_get (v := .ref t) hC kc_J35 ((tG_b (τ := τ) ho.1 ho.2).trans h1) 0 (by decide) q2488 rfl dJ35_isEmpty_1 ?_
  refine g_calli0 hC (g_runFI (n := 0) (owner := "java/util/Map") (x := ⟨"java/util/NavigableMap", "isEmpty", "()Z"⟩) hC (met_J0_isEmpty (τ := τ) (B := B) hT) kc_J1 tG_h nw_l57 nw_f57 q2525 q2527 q84 q2529 q2524 q2528 q2526 q2338 ⟨by decide, by decide, by decide +kernel⟩ dJ35_isEmpty_4 rfl ⟨by omega, by omega⟩ (by omega) (by omega) rfl (Nat.le_of_ble_eq_true rfl)) (fun r_1 G_1 n_1 u_1 hp_1 hn_1 hm_1 hu_1 => ?_)
  obtain ⟨rfl, rfl, rfl, rfl⟩ := hp_1
  refine g_iret hC hr (nar_b2i _) ⟨_, rfl, ?_⟩ (by omega) (by omega) hE dJ35_isEmpty_9
  exact ⟨rfl, rfl, rfl, rfl⟩
set_option maxHeartbeats 1000000 in
theorem met_J35_size {Y : YT} {l : Launch} {t n u : Nat} {τ : TS} {B : AH} (hT : TQ_ Y t τ) (i_ : Nat)  (h1 : B i_ = some (.inr (47, [.ref t]))) (ho : i_ ≠ t ∧ τ.2.2.2 i_ = false) : GM Y l yJ35_size (ws_ yJ35_size cJ35_size 1 (some FieldType.int)) 1 20 [.ref i_] (tG t τ B) n u 0 0 (pI (fun r G' n' u' => τ.2.2.1 0 = r ∧ tG t τ B = G' ∧ n = n' ∧ u = u')) noX := by
  refine GM.intro (own := RJ35) rfl (by decide +kernel) (Nat.le_of_ble_eq_true rfl) ?_
  intro p e s m args below meth c R Q hC hr hnm hF hL hE
  have hE1 := hE.1
  have hE2 := hE.2.1
  show V Y p l e R s m args below meth c 1 n u (tG t τ B) n u Q 0 [(0, .ref i_)] []
  refine g_aload_n hC dJ35_size_0 rfl 0 rfl ?_
  refine g_get (v := .ref t) hC kc_J35 ((tG_b (τ := τ) ho.1 ho.2).trans h1) 0 (by decide) q2488 rfl dJ35_size_1 ?_
  refine g_calli0 hC (g_runFI (n := 0) (owner := "java/util/Map") (x := ⟨"java/util/NavigableMap", "size", "()I"⟩) hC (met_J1_size (τ := τ) (B := B) hT) kc_J1 tG_h nw_l53 nw_f53 q2339 q2033 q85 q2035 q2337 q2341 q2340 q2338 ⟨by decide, by decide, by decide +kernel⟩ dJ35_size_4 rfl ⟨by omega, by omega⟩ (by omega) (by omega) rfl (Nat.le_of_ble_eq_true rfl)) (fun r_1 G_1 n_1 u_1 hp_1 hn_1 hm_1 hu_1 => ?_)
  obtain ⟨rfl, rfl, rfl, rfl⟩ := hp_1
  refine g_iret hC hr rfl ⟨_, rfl, ?_⟩ (by omega) (by omega) hE dJ35_size_9
  exact ⟨rfl, rfl, rfl, rfl⟩
set_option maxHeartbeats 1000000 in
theorem met_J35_clear {Y : YT} {l : Launch} {t n u : Nat} {τ : TS} {B : AH} (hT : TQ_ Y t τ) (i_ : Nat) {q : TQ} {LO HI : Int} (h1 : B i_ = some (.inr (47, [.ref t]))) (ho : i_ ≠ t ∧ τ.2.2.2 i_ = false) : GM Y l yJ35_clear (ws_ yJ35_clear cJ35_clear 1 none) 1 20 [.ref i_] (tG t τ B) n u 0 0 (pV (fun G' n' u' => ∃ τ', TM τ' q LO HI [] ∧ (∀ k, 5 < k → τ'.1 k 0 = τ.1 k 0) ∧ τ'.2.2.2 = (fun _ => false) ∧ tG t τ' (tG t τ B) = G' ∧ n = n' ∧ u = u')) noX := by
  refine GM.intro (own := RJ35) rfl (by decide +kernel) (Nat.le_of_ble_eq_true rfl) ?_
  intro p e s m args below meth c R Q hC hr hnm hF hL hE
  have hE1 := hE.1
  have hE2 := hE.2.1
  show V Y p l e R s m args below meth c 1 n u (tG t τ B) n u Q 0 [(0, .ref i_)] []
  refine g_aload_n hC dJ35_clear_0 rfl 0 rfl ?_
  refine g_get (v := .ref t) hC kc_J35 ((tG_b (τ := τ) ho.1 ho.2).trans h1) 0 (by decide) q2488 rfl dJ35_clear_1 ?_
  refine g_callv0 hC (g_runFI (n := 0) (owner := "java/util/Map") (x := ⟨"java/util/NavigableMap", "clear", "()V"⟩) hC (met_J1_clear (τ := τ) (B := B) hT (q := q) (LO := LO) (HI := HI)) kc_J1 tG_h nw_l77 nw_f77 q2580 q1602 q85 q1604 q2579 q2582 q2581 q2338 ⟨by decide, by decide, by decide +kernel⟩ dJ35_clear_4 rfl ⟨by omega, by omega⟩ (by omega) (by omega) rfl (Nat.le_of_ble_eq_true rfl)) (fun G_1 n_1 u_1 hp_1 hn_1 hm_1 hu_1 => ?_)
  obtain ⟨z, hz1, hz2, hz3, rfl, rfl, rfl⟩ := hp_1
  refine g_vret hC hr ⟨rfl, ?_⟩ (by omega) (by omega) hE dJ35_clear_9
  exact ⟨z, hz1, hz2, hz3, rfl, rfl, rfl⟩
set_option maxHeartbeats 1000000 in
theorem met_J35_addI {Y : YT} {l : Launch} {t n u : Nat} {τ : TS} {B : AH} (hT : TQ_ Y t τ) (i_ : Nat) (k_ : Nat) {q : TQ} {LO HI : Int} {M : MP} (X : Int) (hM : TM τ q LO HI M) (hX : ∀ e, e ∈ M → e.1 ≠ X) (h1X : LO < X) (h2X : X < HI) (hcm : τ.1 6 0 = none) (hKk : KI (tG t τ B) k_ X) (hKO : ∀ a k, τ.2.2.2 a = true → τ.1 0 a = some k → KI (tG t τ B) k (q.1 a)) (h1 : B i_ = some (.inr (47, [.ref t]))) (ho : i_ ≠ t ∧ τ.2.2.2 i_ = false) : GM Y l yJ35_add (ws_ yJ35_add cJ35_add 2 (some FieldType.boolean)) 7 158 [.ref i_, .ref k_] (tG t τ B) n u 1 6 (pI (fun r G' n' u' => 1 = r ∧ ∃ pv τ' q', TM τ' q' LO HI (mput X k_ (some pv) M) ∧ TP τ q n k_ X τ' q' ∧ tG t τ' B = G' ∧ n + 1 = n' ∧ u + 6 = u')) noX := by
  refine GM.intro (own := RJ35) rfl (by decide +kernel) (Nat.le_of_ble_eq_true rfl) ?_
  intro p e s m args below meth c R Q hC hr hnm hF hL hE
  have hE1 := hE.1
  have hE2 := hE.2.1
  show V Y p l e R s m args below meth c 2 n u (tG t τ B) n u Q 0 [(0, .ref i_), (1, .ref k_)] []
  refine g_aload_n hC dJ35_add_0 rfl 0 rfl ?_
  refine g_get (v := .ref t) hC kc_J35 ((tG_b (τ := τ) ho.1 ho.2).trans h1) 0 (by decide) q2488 rfl dJ35_add_1 ?_
  refine g_aload_n hC dJ35_add_4 rfl 1 rfl ?_
  obtain ⟨sa_PRESENT, hZ_PRESENT, hlt_PRESENT⟩ := hC.K.stX q2497 q143 sn_PRESENT
  refine g_gets (v := .ref sa_PRESENT) hC hZ_PRESENT q2496 dJ35_add_5 ?_
  refine g_callq0 hC (g_runFI (n := 2) (owner := "java/util/Map") (x := ⟨"java/util/NavigableMap", "put", "(Ljava/lang/Object;Ljava/lang/Object;)Ljava/lang/Object;"⟩) hC (met_J1_putI (τ := τ) (B := B) hT k_ sa_PRESENT X hM hX h1X h2X hcm hKk hKO) kc_J1 tG_h nw_l69 nw_f69 q2501 q1506 q85 q1508 q2500 q2503 q2502 q2338 ⟨by decide, by decide, by decide +kernel⟩ dJ35_add_8 rfl ⟨by omega, by omega⟩ (by omega) (by omega) rfl (Nat.le_of_ble_eq_true rfl)) (fun r_1 G_1 n_1 u_1 hp_1 hn_1 hm_1 hu_1 => ?_)
  obtain ⟨rfl, z, q3, r1, r2, rfl, rfl, rfl⟩ := hp_1
  refine g_ifnonnullN hC dJ35_add_13 ?_
  refine g_iconst (v := 1) hC dJ35_add_16 rfl ?_
  refine g_goto (tgt := 21) hC dJ35_add_17 (by decide) ?_
  refine g_iret hC hr rfl ⟨_, rfl, ?_⟩ (by omega) (by omega) hE dJ35_add_21
  exact ⟨rfl, sa_PRESENT, z, q3, r1, r2, rfl, rfl, rfl⟩
