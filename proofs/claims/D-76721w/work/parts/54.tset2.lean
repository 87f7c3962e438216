set_option maxRecDepth 100000
/-! TREE MAPS, 20: key sets, sets -/
/-- the key set of t told: τ', B' behind it -/
def KSR (t n : Nat) (τ : TS) (B : AH) (τ' : TS) (B' : AH) (ks : Nat) : Prop := τ'.2 = τ.2 ∧ (∀ k a, ¬ (k = 7 ∧ a = 0) → τ'.1 k a = τ.1 k a) ∧ τ'.1 7 0 = some ks ∧ B' ks = some (.inr (54, [.ref t])) ∧ (ks ≠ t ∧ τ.2.2.2 ks = false) ∧ ∀ b, b < n → B' b = B b
def KSI (t : Nat) (τ : TS) (B : AH) : Prop := ∀ a, τ.1 7 0 = some a → B a = some (.inr (54, [.ref t])) ∧ a ≠ t ∧ τ.2.2.2 a = false
theorem TM.h7 {τ τ' : TS} {q : TQ} {LO HI : Int} {M : MP} (h : TM τ q LO HI M) (h2 : τ'.2 = τ.2) (h1 : ∀ k a, ¬ (k = 7 ∧ a = 0) → τ'.1 k a = τ.1 k a) : TM τ' q LO HI M := by
  obtain ⟨a1, a2, a3, a4, a5, a6⟩ := h
  have e : ∀ k a, k < 6 → τ'.1 k a = τ.1 k a := fun k a hk => h1 k a (by omega)
  refine ⟨a1.cong (fun k a _ hk => e k a hk) (by rw [h2]), fun r hr => by rw [h2]; exact a2 r ((e 5 0 (by decide)).symm.trans hr), a3, fun x k v => ?_, fun a ha => ?_, by rw [h2]; exact a6⟩
  · rw [a4]; simp only [h2, e 0 _ (by decide), e 1 _ (by decide)]
  · rw [h2] at ha; rw [e 0 a (by decide)]; exact a5 a ha
theorem NX.h7 {τ τ' : TS} {q : TQ} {x : Int} {r : Option Nat} (h2 : τ'.2 = τ.2) (h : NX τ' q x r) : NX τ q x r := by
  unfold NX at h ⊢
  rw [h2] at h
  exact h
set_option maxHeartbeats 1000000 in
theorem met_J24_init {Y : YT} {l : Launch} {n u : Nat} {G : AH} (a_ : Nat)   : GM Y l yJ24_init (ws_ yJ24_init cJ24_init 1 none) 1 24 [.ref a_] G n u 0 0 (pV (fun G' n' u' => G = G' ∧ n = n' ∧ u = u')) noX := by
  refine GM.intro (own := RJ24) rfl (by decide +kernel) (Nat.le_of_ble_eq_true rfl) ?_
  intro p e s m args below meth c R Q hC hr hnm hF hL hE
  have hE1 := hE.1
  have hE2 := hE.2.1
  show V Y p l e R s m args below meth c 1 n u G n u Q 0 [(0, .ref a_)] []
  refine g_aload_n hC dJ24_init_0 rfl 0 rfl ?_
  refine g_objInit hC q1955 q178 q179 dJ24_init_1 (by omega) (by first | (simp; omega) | (simp [Value.category]; omega)) ?_
  refine g_vret hC hr ⟨rfl, ?_⟩ (by omega) (by omega) hE dJ24_init_4
  exact ⟨rfl, rfl, rfl⟩
set_option maxHeartbeats 1000000 in
theorem met_J31_init {Y : YT} {l : Launch} {n u : Nat} {G : AH} (a_ : Nat)   : GM Y l yJ31_init (ws_ yJ31_init cJ31_init 1 none) 2 44 [.ref a_] G n u 0 0 (pV (fun G' n' u' => G = G' ∧ n = n' ∧ u = u')) noX := by
  refine GM.intro (own := RJ31) rfl (by decide +kernel) (Nat.le_of_ble_eq_true rfl) ?_
  intro p e s m args below meth c R Q hC hr hnm hF hL hE
  have hE1 := hE.1
  have hE2 := hE.2.1
  show V Y p l e R s m args below meth c 1 n u G n u Q 0 [(0, .ref a_)] []
  refine g_aload_n hC dJ31_init_0 rfl 0 rfl ?_
  refine g_callv0 hC (g_runI (ret := none) hC (met_J24_init (G := G) a_  ) (lw_meth q1954) q131 q2366 q1953 rfl md_J24_init dJ31_init_1 rfl ⟨by omega, by omega⟩ (by omega) (by omega) rfl (Nat.le_of_ble_eq_true rfl)) (fun G_1 n_1 u_1 hp_1 hn_1 hm_1 hu_1 => ?_)
  obtain ⟨rfl, rfl, rfl⟩ := hp_1
  refine g_vret hC hr ⟨rfl, ?_⟩ (by omega) (by omega) hE dJ31_init_4
  exact ⟨rfl, rfl, rfl⟩
set_option maxHeartbeats 1000000 in
theorem met_J44_init {Y : YT} {l : Launch} {t n u : Nat} {τ : TS} {B : AH} (hT : TQ_ Y t τ) (i_ : Nat)  (h1 : B i_ = some (.inr (54, [.null]))) (ho : i_ ≠ t ∧ τ.2.2.2 i_ = false) (hz : yz Y ≤ i_) : GM Y l yJ44_init (ws_ yJ44_init cJ44_init 2 none) 3 64 [.ref i_, .ref t] (tG t τ B) n u 0 0 (pV (fun G' n' u' => tG t τ (gU B i_ (.inr (54, [.ref t]))) = G' ∧ n = n' ∧ u = u')) noX := by
  refine GM.intro (own := RJ44) rfl (by decide +kernel) (Nat.le_of_ble_eq_true rfl) ?_
  intro p e s m args below meth c R Q hC hr hnm hF hL hE
  have hE1 := hE.1
  have hE2 := hE.2.1
  show V Y p l e R s m args below meth c 2 n u (tG t τ B) n u Q 0 [(0, .ref i_), (1, .ref t)] []
  refine g_aload_n hC dJ44_init_0 rfl 0 rfl ?_
  refine g_callv0 hC (g_runI (ret := none) hC (met_J31_init (G := (tG t τ B)) i_  ) (lw_meth q2365) q139 q2761 q2364 rfl md_J31_init dJ44_init_1 rfl ⟨by omega, by omega⟩ (by omega) (by omega) rfl (Nat.le_of_ble_eq_true rfl)) (fun G_1 n_1 u_1 hp_1 hn_1 hm_1 hu_1 => ?_)
  obtain ⟨rfl, rfl, rfl⟩ := hp_1
  refine g_aload_n hC dJ44_init_4 rfl 0 rfl ?_
  refine g_aload_n hC dJ44_init_5 rfl 1 rfl ?_
  refine t_putOF (τ := τ) hC hnm kc_J44 h1 ho 0 (by decide) q2762 rfl rfl rfl rfl (by show 0 < 1; decide) rfl (by omega) dJ44_init_6 ?_
  refine g_vret hC hr ⟨rfl, ?_⟩ (by omega) (by omega) hE dJ44_init_9
  exact ⟨rfl, rfl, rfl⟩
set_option maxHeartbeats 1000000 in
theorem met_J1_navigableKeySet {Y : YT} {l : Launch} {t n u : Nat} {τ : TS} {B : AH} (hT : TQ_ Y t τ)   (hks : KSI t τ B) : GM Y l yJ1_navigableKeySet (ws_ yJ1_navigableKeySet cJ1_navigableKeySet 2 (some (FieldType.object "java/util/NavigableSet"))) 4 85 [.ref t] (tG t τ B) n u 1 1 (pQ (fun r G' n' u' => ∃ τ' B' ks, some ks = r ∧ KSR t n τ B τ' B' ks ∧ ks < n' ∧ tG t τ' B' = G')) noX := by
  refine GM.intro (own := RJ1) rfl (by decide +kernel) (Nat.le_of_ble_eq_true rfl) ?_
  intro p e s m args below meth c R Q hC hr hnm hF hL hE
  have hE1 := hE.1
  have hE2 := hE.2.1
  show V Y p l e R s m args below meth c 2 n u (tG t τ B) n u Q 0 [(0, .ref t)] []
  refine V.lt tG_h (fun htn => ?_)
  have hnt : n ≠ t := Nat.ne_of_gt htn
  have hnz : yz Y ≤ n := by have := hC.z; have := hC.n; omega
  rcases hnS : τ.2.2.2 n with _ | _
  case' true => refine V.lt (tG_n hnS hT.1) (fun hq => absurd hq (Nat.lt_irrefl _))
  refine g_aload_n hC dJ1_navigableKeySet_0 rfl 0 rfl ?_
  refine t_getH (v := va_rf (τ.1 7 0)) hC 7 (by decide) q229 (congrArg (fun z => some (va_rf z)) rfl) dJ1_navigableKeySet_1 ?_
  refine g_qastore_n (L' := [(1, va_rf (τ.1 7 0)), (0, .ref t)]) hC dJ1_navigableKeySet_4 rfl (by decide) rfl ?_
  refine g_qaload_n hC dJ1_navigableKeySet_5 rfl 0 rfl ?_
  rcases h_6 : τ.1 7 0 with _ | s9
  · refine g_ifnullN (tgt := 13) hC dJ1_navigableKeySet_6 (by decide) ?_
    refine g_aload_n hC dJ1_navigableKeySet_13 rfl 1 rfl ?_
    refine t_newO (τ := τ) hC kc_J44 q2756 q2757 q152 (fs := [.null]) rfl ⟨hnt, hnS⟩ (by omega) (by omega) dJ1_navigableKeySet_14 ?_
    refine g_dup hC dJ1_navigableKeySet_17 rfl ?_
    refine g_aload_n hC dJ1_navigableKeySet_18 rfl 1 rfl ?_
    refine g_callv0 hC (g_runI (ret := none) hC (met_J44_init (τ := τ) (B := (gU B n (.inr (54, [.null])))) hT n (gU_s _ _ _) (⟨hnt, hnS⟩) (by omega)) (lw_meth q2760) q152 q2758 q2759 rfl md_J44_init dJ1_navigableKeySet_19 rfl ⟨by omega, by omega⟩ (by omega) (by omega) rfl (Nat.le_of_ble_eq_true rfl)) (fun G_1 n_1 u_1 hp_1 hn_1 hm_1 hu_1 => ?_)
    obtain ⟨rfl, rfl, rfl⟩ := hp_1
    refine g_dup_x1 hC dJ1_navigableKeySet_22 rfl rfl ?_
    refine t_putR (τ := τ) hC hT 7 (by decide) (some n) q229 dJ1_navigableKeySet_23 ?_
    refine g_aret (v := some n) hC hr (by first | exact Or.inl ⟨_, rfl⟩ | exact Or.inr ⟨_, rfl⟩) ⟨_, rfl, ?_⟩ (by omega) (by omega) hE dJ1_navigableKeySet_26
    exact ⟨(tr τ 7 0 (some n)), (gU (gU B n (.inr (54, [.null]))) n (.inr (54, [.ref t]))), n, rfl, ⟨rfl, fun k_ a_ hk => if_neg hk, tr_hit, gU_s _ _ _, ⟨hnt, hnS⟩, fun b hb => (gU_n _ (by omega)).trans (gU_n _ (by omega))⟩, by omega, rfl⟩
  · obtain ⟨k1, k2, k3⟩ := hks s9 h_6
    refine V.lt ((tG_b k2 k3).trans k1) (fun hlt9 => ?_)
    refine g_ifnull hC dJ1_navigableKeySet_6 ?_
    refine g_aload_n hC dJ1_navigableKeySet_9 rfl 0 rfl ?_
    refine g_goto (tgt := 26) hC dJ1_navigableKeySet_10 (by decide) ?_
    refine g_aret (v := some s9) hC hr (by first | exact Or.inl ⟨_, rfl⟩ | exact Or.inr ⟨_, rfl⟩) ⟨_, rfl, ?_⟩ (by omega) (by omega) hE dJ1_navigableKeySet_26
    exact ⟨τ, B, s9, rfl, ⟨rfl, fun _ _ _ => rfl, h_6, k1, ⟨k2, k3⟩, fun _ _ => rfl⟩, hlt9, rfl⟩
set_option maxHeartbeats 1000000 in
theorem met_J44_iterator {Y : YT} {l : Launch} {t n u : Nat} {τ : TS} {B : AH} (hT : TQ_ Y t τ) (i_ : Nat) {q : TQ} {LO HI : Int} {M : MP} (hM : TM τ q LO HI M) (h1 : B i_ = some (.inr (54, [.ref t]))) (ho : i_ ≠ t ∧ τ.2.2.2 i_ = false) : GM Y l yJ44_iterator (ws_ yJ44_iterator cJ44_iterator 1 (some (FieldType.object "java/util/Iterator"))) 4 88 [.ref i_] (tG t τ B) n u 1 4 (pQ (fun r G' n' u' => some n = r ∧ ∃ nx, NX τ q LO nx ∧ tG t τ (gU B n (itE t nx none (τ.2.2.1 1))) = G' ∧ n + 1 = n' ∧ u + 4 = u')) noX := by
  refine GM.intro (own := RJ44) rfl (by decide +kernel) (Nat.le_of_ble_eq_true rfl) ?_
  intro p e s m args below meth c R Q hC hr hnm hF hL hE
  have hE1 := hE.1
  have hE2 := hE.2.1
  show V Y p l e R s m args below meth c 1 n u (tG t τ B) n u Q 0 [(0, .ref i_)] []
  refine g_aload_n hC dJ44_iterator_0 rfl 0 rfl ?_
  refine g_get (v := .ref t) hC kc_J44 ((tG_b (τ := τ) ho.1 ho.2).trans h1) 0 (by decide) q2762 rfl dJ44_iterator_1 ?_
  refine g_instS hC kc_J1 tG_h q2687 dJ44_iterator_4 ?_
  refine g_if_eqN hC 1 (by omega) dJ44_iterator_7 (tgt := 21) (by decide) (fun c_7 => ?_) (fun c_7 => ?_)
  · first | exact absurd c_7 (by decide) | exact absurd c_7 (by omega)
  · refine g_aload_n hC dJ44_iterator_10 rfl 0 rfl ?_
    refine g_get (v := .ref t) hC kc_J44 ((tG_b (τ := τ) ho.1 ho.2).trans h1) 0 (by decide) q2762 rfl dJ44_iterator_11 ?_
    refine g_castS hC kc_J1 tG_h q2687 dJ44_iterator_14 ?_
    refine g_callq0 hC (g_runV hC (met_J1_keyIterator (τ := τ) (B := B) hT (q := q) (LO := LO) (HI := HI) (M := M) hM) kc_J1 tG_h (lw_V q2688 q2689 q2690 q85 q2691) rfl md_J1_keyIterator dJ44_iterator_17 rfl ⟨by omega, by omega⟩ (by omega) (by omega) rfl (Nat.le_of_ble_eq_true rfl)) (fun r_1 G_1 n_1 u_1 hp_1 hn_1 hm_1 hu_1 => ?_)
    obtain ⟨rfl, nx, hnx, rfl, rfl, rfl⟩ := hp_1
    refine g_aret (v := some n) hC hr (by first | exact Or.inl ⟨_, rfl⟩ | exact Or.inr ⟨_, rfl⟩) ⟨_, rfl, ?_⟩ (by omega) (by omega) hE dJ44_iterator_20
    exact ⟨rfl, nx, hnx, rfl, rfl, rfl⟩
set_option maxHeartbeats 1000000 in
theorem met_J35_iterator {Y : YT} {l : Launch} {t n u : Nat} {τ : TS} {B : AH} (hT : TQ_ Y t τ) (i_ : Nat) {q : TQ} {LO HI : Int} {M : MP} (hM : TM τ q LO HI M) (hks : KSI t τ B) (h1 : B i_ = some (.inr (47, [.ref t]))) (ho : i_ ≠ t ∧ τ.2.2.2 i_ = false) : GM Y l yJ35_iterator (ws_ yJ35_iterator cJ35_iterator 1 (some (FieldType.object "java/util/Iterator"))) 5 108 [.ref i_] (tG t τ B) n u 2 5 (pQ (fun r G' n' u' => ∃ it τ' B' ks nx, some it = r ∧ KSR t n τ B τ' B' ks ∧ NX τ q LO nx ∧ B' it = some (itE t nx none (τ'.2.2.1 1)) ∧ n ≤ it ∧ tG t τ' B' = G')) noX := by
  refine GM.intro (own := RJ35) rfl (by decide +kernel) (Nat.le_of_ble_eq_true rfl) ?_
  intro p e s m args below meth c R Q hC hr hnm hF hL hE
  have hE1 := hE.1
  have hE2 := hE.2.1
  show V Y p l e R s m args below meth c 1 n u (tG t τ B) n u Q 0 [(0, .ref i_)] []
  refine g_aload_n hC dJ35_iterator_0 rfl 0 rfl ?_
  refine g_get (v := .ref t) hC kc_J35 ((tG_b (τ := τ) ho.1 ho.2).trans h1) 0 (by decide) q2488 rfl dJ35_iterator_1 ?_
  refine g_callq0 hC (g_runF (n := 0) hC (met_J1_navigableKeySet (τ := τ) (B := B) hT hks) kc_J1 tG_h (lw_F q2748 q2751 q2753 q85 q2755) q2750 q2749 q2754 q2752 q2338 (x := ⟨"java/util/NavigableMap", "navigableKeySet", "()Ljava/util/NavigableSet;"⟩) ⟨by decide, by decide, by decide +kernel⟩ dJ35_iterator_4 rfl ⟨by omega, by omega⟩ (by omega) (by omega) rfl (Nat.le_of_ble_eq_true rfl)) (fun r_1 G_1 n_1 u_1 hp_1 hn_1 hm_1 hu_1 => ?_)
  obtain ⟨τ2, B2, ks, rfl, hR, hkn, rfl⟩ := hp_1
  have hko : ks ≠ t ∧ τ2.2.2.2 ks = false := by rw [hR.1]; exact hR.2.2.2.2.1
  have hT2 : TQ_ Y t τ2 := by unfold TQ_; rw [hR.1]; exact hT
  refine g_callq0 hC (g_runF (n := 0) hC (met_J44_iterator (τ := τ2) (B := B2) hT2 ks (q := q) (LO := LO) (HI := HI) (M := M) (hM.h7 hR.1 hR.2.1) hR.2.2.2.1 hko) kc_J44 ((tG_b (τ := τ2) hko.1 hko.2).trans hR.2.2.2.1) (lw_F q2776 q2780 q2685 q152 q2686) q2778 q2777 q2782 q2781 q2779 (x := ⟨"java/util/NavigableSet", "iterator", "()Ljava/util/Iterator;"⟩) ⟨by decide, by decide, by decide +kernel⟩ dJ35_iterator_9 rfl ⟨by omega, by omega⟩ (by omega) (by omega) rfl (Nat.le_of_ble_eq_true rfl)) (fun r_2 G_2 n_2 u_2 hp_2 hn_2 hm_2 hu_2 => ?_)
  obtain ⟨rfl, nx, hnx, rfl, rfl, rfl⟩ := hp_2
  refine g_aret (v := some n_1) hC hr (by first | exact Or.inl ⟨_, rfl⟩ | exact Or.inr ⟨_, rfl⟩) ⟨_, rfl, ?_⟩ (by omega) (by omega) hE dJ35_iterator_14
  exact ⟨_, τ2, _, ks, nx, rfl, ⟨hR.1, hR.2.1, hR.2.2.1, (gU_n _ (by omega)).trans hR.2.2.2.1, hR.2.2.2.2.1, fun b hb => (gU_n _ (by omega)).trans (hR.2.2.2.2.2 b hb)⟩, NX.h7 hR.1 hnx, gU_s _ _ _, by omega, rfl⟩
