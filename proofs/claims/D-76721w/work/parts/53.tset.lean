set_option maxRecDepth 100000
/-! TREE MAPS, 19: key iterators, key sets, sets -/
set_option maxHeartbeats 1000000 in
theorem met_J41_next {Y : YT} {l : Launch} {t n u : Nat} {τ : TS} {B : AH} (hT : TQ_ Y t τ) (i_ : Nat) {q : TQ} {LO HI : Int} {M : MP} {x kk : Nat} {lr : Option Nat} (hM : TM τ q LO HI M) (hx : τ.2.2.2 x = true) (hkk : τ.1 0 x = some kk) (h1 : B i_ = some (itE t (some x) lr (τ.2.2.1 1))) (ho : i_ ≠ t ∧ τ.2.2.2 i_ = false) (hz : yz Y ≤ i_) : GM Y l yJ41_next (ws_ yJ41_next cJ41_next 1 (some (FieldType.object "java/lang/Object"))) 2 43 [.ref i_] (tG t τ B) n u 0 0 (pQ (fun r G' n' u' => some kk = r ∧ ∃ nx, NX τ q (q.1 x) nx ∧ tG t τ (gU B i_ (itE t nx (some x) (τ.2.2.1 1))) = G' ∧ n = n' ∧ u = u')) noX := by
  refine GM.intro (own := RJ41) rfl (by decide +kernel) (Nat.le_of_ble_eq_true rfl) ?_
  intro p e s m args below meth c R Q hC hr hnm hF hL hE
  have hE1 := hE.1
  have hE2 := hE.2.1
  show V Y p l e R s m args below meth c 1 n u (tG t τ B) n u Q 0 [(0, .ref i_)] []
  refine g_aload_n hC dJ41_next_0 rfl 0 rfl ?_
  refine g_callq0 hC (g_runU (n := 0) (owner := "java/util/TreeMap$PrivateEntryIterator") (x := ⟨"java/util/TreeMap$KeyIterator", "nextEntry", "()Ljava/util/TreeMap$Entry;"⟩) hC (met_J39_nextEntry (τ := τ) (B := B) hT i_ hM hx h1 ho hz) kc_J41 ((tG_b (τ := τ) ho.1 ho.2).trans h1) (lw_U q2274 q2275 q2276 q2264 q147 q2265) rfl ⟨by decide, by decide, by decide +kernel⟩ dJ41_next_1 rfl ⟨by omega, by omega⟩ (by omega) (by omega) rfl (Nat.le_of_ble_eq_true rfl)) (fun r_1 G_1 n_1 u_1 hp_1 hn_1 hm_1 hu_1 => ?_)
  obtain ⟨rfl, nx, hnx, rfl, rfl, rfl⟩ := hp_1
  refine t_getN (τ := τ) (v := .ref kk) hC hT 0 (by decide) hx q1529 (congrArg (fun z => some (va_rf z)) hkk) dJ41_next_4 ?_
  refine g_aret (v := some kk) hC hr (by first | exact Or.inl ⟨_, rfl⟩ | exact Or.inr ⟨_, rfl⟩) ⟨_, rfl, ?_⟩ (by omega) (by omega) hE dJ41_next_7
  exact ⟨rfl, nx, hnx, gU_u _ _ _ _ ▸ rfl, rfl, rfl⟩
set_option maxHeartbeats 1000000 in
theorem met_J39_init {Y : YT} {l : Launch} {t n u : Nat} {τ : TS} {B : AH} (hT : TQ_ Y t τ) (i_ : Nat) (e_ : Option Nat)  (h1 : B i_ = some (.inr (52, [.null, .null, .int 0, .null]))) (ho : i_ ≠ t ∧ τ.2.2.2 i_ = false) (hz : yz Y ≤ i_) : GM Y l yJ39_init (ws_ yJ39_init cJ39_init 3 none) 1 24 [.ref i_, .ref t, va_rf e_] (tG t τ B) n u 0 0 (pV (fun G' n' u' => tG t τ (gU B i_ (itE t e_ none (τ.2.2.1 1))) = G' ∧ n = n' ∧ u = u')) noX := by
  rcases e_ with _ | e_
  · refine GM.intro (own := RJ39) rfl (by decide +kernel) (Nat.le_of_ble_eq_true rfl) ?_
    intro p e s m args below meth c R Q hC hr hnm hF hL hE
    have hE1 := hE.1
    have hE2 := hE.2.1
    show V Y p l e R s m args below meth c 3 n u (tG t τ B) n u Q 0 [(0, .ref i_), (1, .ref t), (2, .null)] []
    refine g_aload_n hC dJ39_init_0 rfl 0 rfl ?_
    refine g_aload_n hC dJ39_init_1 rfl 1 rfl ?_
    refine t_putOF (τ := τ) hC hnm kc_J41 h1 ho 3 (by decide) q2675 rfl rfl rfl rfl (by show 3 < 4; decide) rfl (by omega) dJ39_init_2 ?_
    refine g_aload_n hC dJ39_init_5 rfl 0 rfl ?_
    refine g_objInit hC q2671 q178 q179 dJ39_init_6 (by omega) (by first | (simp; omega) | (simp [Value.category]; omega)) ?_
    refine g_aload_n hC dJ39_init_9 rfl 0 rfl ?_
    refine g_aload_n hC dJ39_init_10 rfl 1 rfl ?_
    refine g_getN (v := .int (τ.2.2.1 1)) hC kc_J1 (tG_h (τ := τ)) 5 (by decide) q225 (fun _ h => h) (congrArg (fun z => some (Value.int z)) rfl) dJ39_init_11 ?_
    refine t_putO (τ := τ) hC kc_J41 (gU_s _ _ _) ho 2 (by decide) q2674 rfl rfl rfl (by show 2 < 4; decide) rfl (by omega) dJ39_init_14 ?_
    refine g_aload_n hC dJ39_init_17 rfl 0 rfl ?_
    refine g_null hC dJ39_init_18 ?_
    refine t_putO (τ := τ) hC kc_J41 (gU_s _ _ _) ho 1 (by decide) q2673 rfl rfl rfl (by show 1 < 4; decide) rfl (by omega) dJ39_init_19 ?_
    refine g_aload_n hC dJ39_init_22 rfl 0 rfl ?_
    refine g_aload_nN hC dJ39_init_23 rfl 2 rfl ?_
    refine t_putO (τ := τ) hC kc_J41 (gU_s _ _ _) ho 0 (by decide) q2672 rfl rfl rfl (by show 0 < 4; decide) rfl (by omega) dJ39_init_24 ?_
    refine g_vret hC hr ⟨rfl, ?_⟩ (by omega) (by omega) hE dJ39_init_27
    exact ⟨by unfold itE; simp only [gU_u]; rfl, rfl, rfl⟩
  · refine GM.intro (own := RJ39) rfl (by decide +kernel) (Nat.le_of_ble_eq_true rfl) ?_
    intro p e s m args below meth c R Q hC hr hnm hF hL hE
    have hE1 := hE.1
    have hE2 := hE.2.1
    show V Y p l e R s m args below meth c 3 n u (tG t τ B) n u Q 0 [(0, .ref i_), (1, .ref t), (2, .ref e_)] []
    refine g_aload_n hC dJ39_init_0 rfl 0 rfl ?_
    refine g_aload_n hC dJ39_init_1 rfl 1 rfl ?_
    refine t_putOF (τ := τ) hC hnm kc_J41 h1 ho 3 (by decide) q2675 rfl rfl rfl rfl (by show 3 < 4; decide) rfl (by omega) dJ39_init_2 ?_
    refine g_aload_n hC dJ39_init_5 rfl 0 rfl ?_
    refine g_objInit hC q2671 q178 q179 dJ39_init_6 (by omega) (by first | (simp; omega) | (simp [Value.category]; omega)) ?_
    refine g_aload_n hC dJ39_init_9 rfl 0 rfl ?_
    refine g_aload_n hC dJ39_init_10 rfl 1 rfl ?_
    refine g_getN (v := .int (τ.2.2.1 1)) hC kc_J1 (tG_h (τ := τ)) 5 (by decide) q225 (fun _ h => h) (congrArg (fun z => some (Value.int z)) rfl) dJ39_init_11 ?_
    refine t_putO (τ := τ) hC kc_J41 (gU_s _ _ _) ho 2 (by decide) q2674 rfl rfl rfl (by show 2 < 4; decide) rfl (by omega) dJ39_init_14 ?_
    refine g_aload_n hC dJ39_init_17 rfl 0 rfl ?_
    refine g_null hC dJ39_init_18 ?_
    refine t_putO (τ := τ) hC kc_J41 (gU_s _ _ _) ho 1 (by decide) q2673 rfl rfl rfl (by show 1 < 4; decide) rfl (by omega) dJ39_init_19 ?_
    refine g_aload_n hC dJ39_init_22 rfl 0 rfl ?_
    refine g_aload_n hC dJ39_init_23 rfl 2 rfl ?_
    refine t_putO (τ := τ) hC kc_J41 (gU_s _ _ _) ho 0 (by decide) q2672 rfl rfl rfl (by show 0 < 4; decide) rfl (by omega) dJ39_init_24 ?_
    refine g_vret hC hr ⟨rfl, ?_⟩ (by omega) (by omega) hE dJ39_init_27
    exact ⟨by unfold itE; simp only [gU_u]; rfl, rfl, rfl⟩
set_option maxHeartbeats 1000000 in
theorem met_J41_init {Y : YT} {l : Launch} {t n u : Nat} {τ : TS} {B : AH} (hT : TQ_ Y t τ) (i_ : Nat) (e_ : Option Nat)  (h1 : B i_ = some (.inr (52, [.null, .null, .int 0, .null]))) (ho : i_ ≠ t ∧ τ.2.2.2 i_ = false) (hz : yz Y ≤ i_) : GM Y l yJ41_init (ws_ yJ41_init cJ41_init 3 none) 2 46 [.ref i_, .ref t, va_rf e_] (tG t τ B) n u 0 0 (pV (fun G' n' u' => tG t τ (gU B i_ (itE t e_ none (τ.2.2.1 1))) = G' ∧ n = n' ∧ u = u')) noX := by
  rcases e_ with _ | e_
  · refine GM.intro (own := RJ41) rfl (by decide +kernel) (Nat.le_of_ble_eq_true rfl) ?_
    intro p e s m args below meth c R Q hC hr hnm hF hL hE
    have hE1 := hE.1
    have hE2 := hE.2.1
    show V Y p l e R s m args below meth c 3 n u (tG t τ B) n u Q 0 [(0, .ref i_), (1, .ref t), (2, .null)] []
    refine g_aload_n hC dJ41_init_0 rfl 0 rfl ?_
    refine g_aload_n hC dJ41_init_1 rfl 1 rfl ?_
    refine g_aload_nN hC dJ41_init_2 rfl 2 rfl ?_
    refine g_callv0 hC (g_runI (ret := none) hC (met_J39_init (τ := τ) (B := B) hT i_ (none) h1 ho (by omega)) (lw_meth q2670) q147 q2698 q2669 rfl md_J39_init dJ41_init_3 rfl ⟨by omega, by omega⟩ (by omega) (by omega) rfl (Nat.le_of_ble_eq_true rfl)) (fun G_1 n_1 u_1 hp_1 hn_1 hm_1 hu_1 => ?_)
    obtain ⟨rfl, rfl, rfl⟩ := hp_1
    refine g_vret hC hr ⟨rfl, ?_⟩ (by omega) (by omega) hE dJ41_init_6
    exact ⟨rfl, rfl, rfl⟩
  · refine GM.intro (own := RJ41) rfl (by decide +kernel) (Nat.le_of_ble_eq_true rfl) ?_
    intro p e s m args below meth c R Q hC hr hnm hF hL hE
    have hE1 := hE.1
    have hE2 := hE.2.1
    show V Y p l e R s m args below meth c 3 n u (tG t τ B) n u Q 0 [(0, .ref i_), (1, .ref t), (2, .ref e_)] []
    refine g_aload_n hC dJ41_init_0 rfl 0 rfl ?_
    refine g_aload_n hC dJ41_init_1 rfl 1 rfl ?_
    refine g_aload_n hC dJ41_init_2 rfl 2 rfl ?_
    refine g_callv0 hC (g_runI (ret := none) hC (met_J39_init (τ := τ) (B := B) hT i_ (some e_) h1 ho (by omega)) (lw_meth q2670) q147 q2698 q2669 rfl md_J39_init dJ41_init_3 rfl ⟨by omega, by omega⟩ (by omega) (by omega) rfl (Nat.le_of_ble_eq_true rfl)) (fun G_1 n_1 u_1 hp_1 hn_1 hm_1 hu_1 => ?_)
    obtain ⟨rfl, rfl, rfl⟩ := hp_1
    refine g_vret hC hr ⟨rfl, ?_⟩ (by omega) (by omega) hE dJ41_init_6
    exact ⟨rfl, rfl, rfl⟩
set_option maxHeartbeats 1000000 in
theorem met_J1_keyIterator {Y : YT} {l : Launch} {t n u : Nat} {τ : TS} {B : AH} (hT : TQ_ Y t τ)  {q : TQ} {LO HI : Int} {M : MP} (hM : TM τ q LO HI M) : GM Y l yJ1_keyIterator (ws_ yJ1_keyIterator cJ1_keyIterator 1 (some (FieldType.object "java/util/Iterator"))) 3 68 [.ref t] (tG t τ B) n u 1 4 (pQ (fun r G' n' u' => some n = r ∧ ∃ nx, NX τ q LO nx ∧ tG t τ (gU B n (itE t nx none (τ.2.2.1 1))) = G' ∧ n + 1 = n' ∧ u + 4 = u')) noX := by
  refine GM.intro (own := RJ1) rfl (by decide +kernel) (Nat.le_of_ble_eq_true rfl) ?_
  intro p e s m args below meth c R Q hC hr hnm hF hL hE
  have hE1 := hE.1
  have hE2 := hE.2.1
  show V Y p l e R s m args below meth c 1 n u (tG t τ B) n u Q 0 [(0, .ref t)] []
  refine V.lt tG_h (fun htn => ?_)
  have hnt : n ≠ t := Nat.ne_of_gt htn
  have hnz : yz Y ≤ n := by have := hC.z; have := hC.n; omega
  rcases hnS : τ.2.2.2 n with _ | _
  case' true => refine V.lt (tG_n hnS hT.1) (fun hq => absurd hq (Nat.lt_irrefl _))
  refine t_newO (τ := τ) hC kc_J41 q2692 q2693 q149 (fs := [.null, .null, .int 0, .null]) rfl ⟨hnt, hnS⟩ (by omega) (by omega) dJ1_keyIterator_0 ?_
  refine g_dup hC dJ1_keyIterator_3 rfl ?_
  refine g_aload_n hC dJ1_keyIterator_4 rfl 0 rfl ?_
  refine g_aload_n hC dJ1_keyIterator_5 rfl 0 rfl ?_
  refine g_callq0 hC (g_runV hC (met_J1_getFirstEntry (τ := τ) (B := (gU B n (.inr (52, [.null, .null, .int 0, .null])))) hT (q := q) (LO := LO) (HI := HI) hM.tw) kc_J1 tG_h (lw_V q2694 q2051 q2052 q85 q2053) rfl md_J1_getFirstEntry dJ1_keyIterator_6 rfl ⟨by omega, by omega⟩ (by omega) (by omega) rfl (Nat.le_of_ble_eq_true rfl)) (fun r_1 G_1 n_1 u_1 hp_1 hn_1 hm_1 hu_1 => ?_)
  obtain ⟨hnx, rfl, rfl, rfl⟩ := hp_1
  obtain ⟨nx, hnxe⟩ : ∃ x, r_1 = x := ⟨_, rfl⟩
  rw [hnxe] at hnx ⊢
  refine g_callv0 hC (g_runI (ret := none) hC (met_J41_init (τ := τ) (B := (gU B n (.inr (52, [.null, .null, .int 0, .null])))) hT n (nx) (gU_s _ _ _) (⟨hnt, hnS⟩) (by omega)) (lw_meth q2697) q149 q2695 q2696 rfl md_J41_init dJ1_keyIterator_9 rfl ⟨by omega, by omega⟩ (by omega) (by omega) rfl (Nat.le_of_ble_eq_true rfl)) (fun G_2 n_2 u_2 hp_2 hn_2 hm_2 hu_2 => ?_)
  obtain ⟨rfl, rfl, rfl⟩ := hp_2
  refine g_aret (v := some n) hC hr (by first | exact Or.inl ⟨_, rfl⟩ | exact Or.inr ⟨_, rfl⟩) ⟨_, rfl, ?_⟩ (by omega) (by omega) hE dJ1_keyIterator_12
  exact ⟨rfl, nx, hnx, by rw [gU_u], rfl, rfl⟩
