set_option maxRecDepth 100000
/-! COMPONENT, 23: the descending iterator of a set -/
set_option maxHeartbeats 1000000 in
theorem met_J44_iterator_d {Y : YT} {l : Launch} {n u : Nat} {G : AH} (kd : Nat) {τ : TS} {q : TQ} {M : MP} {K : AH → Nat → Int → Prop} {J : AH} {c : Option Nat} {t d rc : Nat} (hT : TMI K Y t c J τ q M) (hps : sub (TZ t τ) G) (hd : G d = some (.inr (55, [.null, .null, .ref t, .null, .null, .int 1, .int 1, .int 1, .int 1, .null, .null, .ref kd, .ref rc]))) (hkd : G kd = some (.inr (54, [.ref d]))) : GM Y l yJ44_iterator (ws_ yJ44_iterator cJ44_iterator 1 (some (FieldType.object "java/util/Iterator"))) 4 90 [.ref kd] G n u 1 5 (pQ (fun r G' n' u' => some n = r ∧ (∃ pv ub, IRr τ q M pv M.reverse ∧ ub < yz Y ∧ G' n = some (.inr (53, [.null, va_rf pv, .ref ub, .int (τ.2.2.1 1), .ref d]))) ∧ FR noD n G G' ∧ n + 1 = n' ∧ u + 5 = u')) noX := by
  refine GM.intro (own := RJ44) rfl (by decide +kernel) (Nat.le_of_ble_eq_true rfl) ?_
  intro p e s m args below meth c R Q hC hr hnm hF hL hE
  have hE1 := hE.1
  have hE2 := hE.2.1
  have hnz : yz Y ≤ n := by have := hC.z; have := hC.n; omega
  show V Y p l e R s m args below meth c 1 n u G n u Q 0 [(0, .ref kd)] []
  refine V.lts (fun hlt => ?_)
  have hl_d : d < n := hlt _ _ hd
  have hl_kd : kd < n := hlt _ _ hkd
  refine g_aload_n hC dJ44_iterator_0 rfl 0 rfl ?_
  refine g_get (v := .ref d) hC kc_J44 hkd 0 (by decide) q2762 rfl dJ44_iterator_1 ?_
  refine g_instNo hC kc_J46 hd q2687 nc_J46_J1 dJ44_iterator_4 ?_
  refine g_if_eqN hC 0 (by omega) dJ44_iterator_7 (tgt := 21) (by decide) (fun c_7 => ?_) (fun c_7 => ?_)
  · refine g_aload_n hC dJ44_iterator_21 rfl 0 rfl ?_
    refine g_get (v := .ref d) hC kc_J44 hkd 0 (by decide) q2762 rfl dJ44_iterator_22 ?_
    refine g_castY hC kc_J46 hd q2704 q4042 dJ44_iterator_25 ?_
    refine V.lts (fun lc_1 => ?_)
    refine g_callq0 hC (g_runA (n := 0) (owner := "java/util/TreeMap$NavigableSubMap") (x := ⟨"java/util/TreeMap$NavigableSubMap", "keyIterator", "()Ljava/util/Iterator;"⟩) hC (met_J46_keyIterator (G := G) d hT hps hd) kc_J46 hd (lw_U q2705 q2707 q2728 q2729 q162 q2730) q2706 ⟨by decide, by decide, by decide +kernel⟩ dJ44_iterator_28 rfl ⟨by omega, by omega⟩ (by omega) (by omega) rfl (Nat.le_of_ble_eq_true rfl)) (fun r_2 G_2 n_2 u_2 hp_2 hn_2 hm_2 hu_2 => ?_)
    obtain ⟨rfl, ⟨pv_2, ub_2, hir_2, hub_2, ho_2⟩, hf_2, rfl, rfl⟩ := hp_2
    have o_3 : G_2 d = some (.inr (55, [.null, .null, .ref t, .null, .null, .int 1, .int 1, .int 1, .int 1, .null, .null, .ref kd, .ref rc])) := (hf_2 _ (lc_1 _ _ hd) (fun q => q)).trans hd
    have o_4 : G_2 kd = some (.inr (54, [.ref d])) := (hf_2 _ (lc_1 _ _ hkd) (fun q => q)).trans hkd
    have hx_5 : sub (TZ t τ) G_2 := hf_2.subs hps lc_1 (fun a q => False.elim q)
    have hf_6 : FR noD n G G_2 := FR.refl.trans hf_2 (by omega) (fun a_ q_ => by first | exact .inl q_ | exact False.elim q_ | exact .inl (.inl q_) | exact .inl (.inr q_) | (subst q_; first | exact .inr (by omega) | exact .inl rfl))
    refine g_aret (v := some n) hC hr (by first | exact Or.inl ⟨_, rfl⟩ | exact Or.inr ⟨_, rfl⟩) ⟨_, rfl, ?_⟩ (by omega) (by omega) hE dJ44_iterator_31
    exact ⟨rfl, ⟨_, _, hir_2, hub_2, ho_2⟩, hf_6, rfl, rfl⟩
  · first | exact absurd c_7 (by decide) | exact absurd c_7 (by omega)
set_option maxHeartbeats 1000000 in
theorem met_J1_descendingKeySet_a {Y : YT} {l : Launch} {n u : Nat} {G : AH} (t : Nat) {τ : TS} {q : TQ} {M : MP} {K : AH → Nat → Int → Prop} {J : AH} {cm h : Nat} (hT : TMI K Y t (some cm) J τ q M) (hps : sub (TZ t τ) G) (hcm : G cm = some (.inr (27, [.ref h]))) (hzc : yz Y ≤ cm) (h8 : τ.1 8 0 = none) : GM Y l yJ1_descendingKeySet (ws_ yJ1_descendingKeySet cJ1_descendingKeySet 1 (some (FieldType.object "java/util/NavigableSet"))) 5 119 [.ref t] G n u 3 15 (pQ (fun r G' n' u' => some (n + 2) = r ∧ TMI K Y t (some cm) J (tr τ 8 0 (some n)) q M ∧ sub (TZ t (tr τ 8 0 (some n))) G' ∧ G' n = some (.inr (55, [.null, .null, .ref t, .null, .null, .int 1, .int 1, .int 1, .int 1, .null, .null, .ref (n + 2), .ref (n + 1)])) ∧ G' (n + 2) = some (.inr (54, [.ref n])) ∧ FR (TD t τ) n G G' ∧ n + 3 = n' ∧ u + 15 = u')) noX := by
  refine GM.intro (own := RJ1) rfl (by decide +kernel) (Nat.le_of_ble_eq_true rfl) ?_
  intro p e s m args below meth c R Q hC hr hnm hF hL hE
  have hE1 := hE.1
  have hE2 := hE.2.1
  have hnz : yz Y ≤ n := by have := hC.z; have := hC.n; omega
  show V Y p l e R s m args below meth c 1 n u G n u Q 0 [(0, .ref t)] []
  refine V.lts (fun hlt => ?_)
  have hl_cm : cm < n := hlt _ _ hcm
  have hzt : yz Y ≤ t := hT.1.2.1
  have hTf : ∀ a, TD t τ a → TD t τ a ∨ n ≤ a := fun a q => .inl q
  refine g_aload_n hC dJ1_descendingKeySet_0 rfl 0 rfl ?_
  refine V.lts (fun lc_1 => ?_)
  refine g_callq0 hC (g_runV hC (met_J1_descendingMap_a (G := G) t hT hps hcm (by omega) h8) kc_J1 (hps _ _ (TZ_h hT.2.2.2.1)) (lw_V q3210 q3211 q3212 q85 q3213) rfl md_J1_descendingMap dJ1_descendingKeySet_1 rfl ⟨by omega, by omega⟩ (by omega) (by omega) rfl (Nat.le_of_ble_eq_true rfl)) (fun r_2 G_2 n_2 u_2 hp_2 hn_2 hm_2 hu_2 => ?_)
  obtain ⟨rfl, hT_2, hps_2, hod_2, hf_2, rfl, rfl⟩ := hp_2
  have o_3 : G_2 cm = some (.inr (27, [.ref h])) := (hf_2 _ (lc_1 _ _ hcm) (fun q => (TZ_out hT.2.2.2.1 hT.1.1 hps hcm (by decide) (by decide)) (.inl q))).trans hcm
  have hf_4 : FR (TD t τ) n G G_2 := FR.refl.trans hf_2 (by omega) (fun a_ q_ => hTf a_ (.inl q_))
  refine V.lts (fun lc_5 => ?_)
  refine g_callq0 hC (g_runF (n := 0) hC (met_J45_navigableKeySet_a (G := G_2) n hod_2 (by omega)) kc_J46 hod_2 (lw_F q3318 q2773 q2768 q161 q2770) q2750 q2749 q2769 q2774 q2422 (x := ⟨"java/util/NavigableMap", "navigableKeySet", "()Ljava/util/NavigableSet;"⟩) ⟨by decide, by decide, by decide +kernel⟩ dJ1_descendingKeySet_4 rfl ⟨by omega, by omega⟩ (by omega) (by omega) rfl (Nat.le_of_ble_eq_true rfl)) (fun r_6 G_6 n_6 u_6 hp_6 hn_6 hm_6 hu_6 => ?_)
  obtain ⟨rfl, hok_6, hod_6, hf_6, rfl, rfl⟩ := hp_6
  have o_7 : G_6 cm = some (.inr (27, [.ref h])) := (hf_6 _ (lc_5 _ _ o_3) (fun q => (gne_c o_3 hod_2 (by decide)) q)).trans o_3
  have hx_8 : sub (TZ t (tr τ 8 0 (some n))) G_6 := hf_6.subs hps_2 lc_5 (fun a q => by subst q; exact (TZ_none hT_2.2.2.2.1 hT_2.1.1 hps_2 hod_2 (by decide) (by decide) (by decide)))
  have hf_9 : FR (TD t τ) n G G_6 := hf_4.trans hf_6 (by omega) (fun a_ q_ => by first | exact .inl q_ | exact .inl (.inl q_) | exact .inl (.inr q_) | (subst q_; first | exact .inr (by omega) | exact .inl rfl))
  refine g_aret (v := some (n + 2)) hC hr (by first | exact Or.inl ⟨_, rfl⟩ | exact Or.inr ⟨_, rfl⟩) ⟨_, rfl, ?_⟩ (by omega) (by omega) hE dJ1_descendingKeySet_9
  exact ⟨rfl, hT_2, hx_8, hod_6, hok_6, hf_9, rfl, rfl⟩
set_option maxHeartbeats 1000000 in
theorem met_J1_descendingKeySet_b {Y : YT} {l : Launch} {n u : Nat} {G : AH} (t : Nat) {τ : TS} {q : TQ} {M : MP} {K : AH → Nat → Int → Prop} {J : AH} {cm : Nat} {d rc kd : Nat} (hT : TMI K Y t (some cm) J τ q M) (hps : sub (TZ t τ) G) (h8 : τ.1 8 0 = some d) (hd : G d = some (.inr (55, [.null, .null, .ref t, .null, .null, .int 1, .int 1, .int 1, .int 1, .null, .null, .ref kd, .ref rc]))) : GM Y l yJ1_descendingKeySet (ws_ yJ1_descendingKeySet cJ1_descendingKeySet 1 (some (FieldType.object "java/util/NavigableSet"))) 1 21 [.ref t] G n u 0 0 (pQ (fun r G' n' u' => some kd = r ∧ G = G' ∧ n = n' ∧ u = u')) noX := by
  refine GM.intro (own := RJ1) rfl (by decide +kernel) (Nat.le_of_ble_eq_true rfl) ?_
  intro p e s m args below meth c R Q hC hr hnm hF hL hE
  have hE1 := hE.1
  have hE2 := hE.2.1
  have hnz : yz Y ≤ n := by have := hC.z; have := hC.n; omega
  show V Y p l e R s m args below meth c 1 n u G n u Q 0 [(0, .ref t)] []
  refine V.lts (fun hlt => ?_)
  have hl_d : d < n := hlt _ _ hd
  have hzt : yz Y ≤ t := hT.1.2.1
  refine g_aload_n hC dJ1_descendingKeySet_0 rfl 0 rfl ?_
  refine V.lts (fun lc_1 => ?_)
  refine g_callq0 hC (g_runV hC (met_J1_descendingMap_b (G := G) t (h := 0) hT hps h8) kc_J1 (hps _ _ (TZ_h hT.2.2.2.1)) (lw_V q3210 q3211 q3212 q85 q3213) rfl md_J1_descendingMap dJ1_descendingKeySet_1 rfl ⟨by omega, by omega⟩ (by omega) (by omega) rfl (Nat.le_of_ble_eq_true rfl)) (fun r_2 G_2 n_2 u_2 hp_2 hn_2 hm_2 hu_2 => ?_)
  obtain ⟨rfl, rfl, rfl, rfl⟩ := hp_2
  refine V.lts (fun lc_3 => ?_)
  refine g_callq0 hC (g_runF (n := 0) hC (met_J45_navigableKeySet_b (G := G) d hd) kc_J46 hd (lw_F q3318 q2773 q2768 q161 q2770) q2750 q2749 q2769 q2774 q2422 (x := ⟨"java/util/NavigableMap", "navigableKeySet", "()Ljava/util/NavigableSet;"⟩) ⟨by decide, by decide, by decide +kernel⟩ dJ1_descendingKeySet_4 rfl ⟨by omega, by omega⟩ (by omega) (by omega) rfl (Nat.le_of_ble_eq_true rfl)) (fun r_4 G_4 n_4 u_4 hp_4 hn_4 hm_4 hu_4 => ?_)
  obtain ⟨rfl, rfl, rfl, rfl⟩ := hp_4
  refine g_aret (v := some kd) hC hr (by first | exact Or.inl ⟨_, rfl⟩ | exact Or.inr ⟨_, rfl⟩) ⟨_, rfl, ?_⟩ (by omega) (by omega) hE dJ1_descendingKeySet_9
  exact ⟨rfl, rfl, rfl, rfl⟩
set_option maxHeartbeats 1000000 in
theorem met_J35_descendingIterator_a {Y : YT} {l : Launch} {n u : Nat} {G : AH} (i_ : Nat) {τ : TS} {q : TQ} {M : MP} {K : AH → Nat → Int → Prop} {J : AH} {cm h : Nat} {t : Nat} (hT : TMI K Y t (some cm) J τ q M) (hps : sub (TZ t τ) G) (hcm : G cm = some (.inr (27, [.ref h]))) (hzc : yz Y ≤ cm) (h8 : τ.1 8 0 = none) (hi : G i_ = some (.inr (47, [.ref t]))) : GM Y l yJ35_descendingIterator (ws_ yJ35_descendingIterator cJ35_descendingIterator 1 (some (FieldType.object "java/util/Iterator"))) 6 139 [.ref i_] G n u 4 20 (pQ (fun r G' n' u' => ∃ it τ' d kd rc pv ub, some it = r ∧ TMI K Y t (some cm) J τ' q M ∧ sub (TZ t τ') G' ∧ τ'.1 8 0 = some d ∧ G' d = some (.inr (55, [.null, .null, .ref t, .null, .null, .int 1, .int 1, .int 1, .int 1, .null, .null, .ref kd, .ref rc])) ∧ G' kd = some (.inr (54, [.ref d])) ∧ IRr τ' q M pv M.reverse ∧ ub < yz Y ∧ G' it = some (.inr (53, [.null, va_rf pv, .ref ub, .int (τ'.2.2.1 1), .ref d])) ∧ n ≤ it ∧ yz Y ≤ it ∧ FR (TD t τ) n G G' ∧ (∀ a, TD t τ' a ↔ TD t τ a) ∧ n ≤ n')) noX := by
  refine GM.intro (own := RJ35) rfl (by decide +kernel) (Nat.le_of_ble_eq_true rfl) ?_
  intro p e s m args below meth c R Q hC hr hnm hF hL hE
  have hE1 := hE.1
  have hE2 := hE.2.1
  have hnz : yz Y ≤ n := by have := hC.z; have := hC.n; omega
  show V Y p l e R s m args below meth c 1 n u G n u Q 0 [(0, .ref i_)] []
  refine V.lts (fun hlt => ?_)
  have hl_cm : cm < n := hlt _ _ hcm
  have hl_i_ : i_ < n := hlt _ _ hi
  have hzt : yz Y ≤ t := hT.1.2.1
  have hTf : ∀ a, TD t τ a → TD t τ a ∨ n ≤ a := fun a q => .inl q
  refine g_aload_n hC dJ35_descendingIterator_0 rfl 0 rfl ?_
  refine g_get (v := .ref t) hC kc_J35 hi 0 (by decide) q2488 rfl dJ35_descendingIterator_1 ?_
  refine V.lts (fun lc_1 => ?_)
  refine g_callq0 hC (g_runF (n := 0) hC (met_J1_descendingKeySet_a (G := G) t hT hps hcm (by omega) h8) kc_J1 (hps _ _ (TZ_h hT.2.2.2.1)) (lw_F q3202 q3205 q3207 q85 q3209) q3204 q3203 q3208 q3206 q2338 (x := ⟨"java/util/NavigableMap", "descendingKeySet", "()Ljava/util/NavigableSet;"⟩) ⟨by decide, by decide, by decide +kernel⟩ dJ35_descendingIterator_4 rfl ⟨by omega, by omega⟩ (by omega) (by omega) rfl (Nat.le_of_ble_eq_true rfl)) (fun r_2 G_2 n_2 u_2 hp_2 hn_2 hm_2 hu_2 => ?_)
  obtain ⟨rfl, hT_2, hps_2, hod_2, hok_2, hf_2, rfl, rfl⟩ := hp_2
  have o_3 : G_2 cm = some (.inr (27, [.ref h])) := (hf_2 _ (lc_1 _ _ hcm) (TZ_out hT.2.2.2.1 hT.1.1 hps hcm (by decide) (by decide))).trans hcm
  have o_4 : G_2 i_ = some (.inr (47, [.ref t])) := (hf_2 _ (lc_1 _ _ hi) (TZ_out hT.2.2.2.1 hT.1.1 hps hi (by decide) (by decide))).trans hi
  have hf_5 : FR (TD t τ) n G G_2 := FR.refl.trans hf_2 (by omega) (fun a_ q_ => hTf a_ q_)
  refine V.lts (fun lc_6 => ?_)
  refine g_callq0 hC (g_runF (n := 0) hC (met_J44_iterator_d (G := G_2) (n + 2) hT_2 hps_2 hod_2 hok_2) kc_J44 hok_2 (lw_F q2776 q2780 q2685 q152 q2686) q2778 q2777 q2782 q2781 q2779 (x := ⟨"java/util/NavigableSet", "iterator", "()Ljava/util/Iterator;"⟩) ⟨by decide, by decide, by decide +kernel⟩ dJ35_descendingIterator_9 rfl ⟨by omega, by omega⟩ (by omega) (by omega) rfl (Nat.le_of_ble_eq_true rfl)) (fun r_7 G_7 n_7 u_7 hp_7 hn_7 hm_7 hu_7 => ?_)
  obtain ⟨rfl, ⟨pv_7, ub_7, hir_7, hub_7, ho_7⟩, hf_7, rfl, rfl⟩ := hp_7
  have o_8 : G_7 cm = some (.inr (27, [.ref h])) := (hf_7 _ (lc_6 _ _ o_3) (fun q => q)).trans o_3
  have o_9 : G_7 i_ = some (.inr (47, [.ref t])) := (hf_7 _ (lc_6 _ _ o_4) (fun q => q)).trans o_4
  have o_10 : G_7 n = some (.inr (55, [.null, .null, .ref t, .null, .null, .int 1, .int 1, .int 1, .int 1, .null, .null, .ref (n + 2), .ref (n + 1)])) := (hf_7 _ (lc_6 _ _ hod_2) (fun q => q)).trans hod_2
  have o_11 : G_7 (n + 2) = some (.inr (54, [.ref n])) := (hf_7 _ (lc_6 _ _ hok_2) (fun q => q)).trans hok_2
  have hx_12 : sub (TZ t (tr τ 8 0 (some n))) G_7 := hf_7.subs hps_2 lc_6 (fun a q => False.elim q)
  have hf_13 : FR (TD t τ) n G G_7 := hf_5.trans hf_7 (by omega) (fun a_ q_ => by first | exact .inl q_ | exact False.elim q_ | exact .inl (.inl q_) | exact .inl (.inr q_) | (subst q_; first | exact .inr (by omega) | exact .inl rfl))
  refine g_aret (v := some (n + 3)) hC hr (by first | exact Or.inl ⟨_, rfl⟩ | exact Or.inr ⟨_, rfl⟩) ⟨_, rfl, ?_⟩ (by omega) (by omega) hE dJ35_descendingIterator_14
  exact ⟨n + 3, _, n, n + 2, n + 1, _, _, rfl, hT_2, hx_12, tr_hit, o_10, o_11, hir_7, hub_7, ho_7, by omega, by omega, hf_13, fun a => Iff.rfl, by omega⟩
set_option maxHeartbeats 1000000 in
theorem met_J35_descendingIterator_b {Y : YT} {l : Launch} {n u : Nat} {G : AH} (i_ : Nat) {τ : TS} {q : TQ} {M : MP} {K : AH → Nat → Int → Prop} {J : AH} {cm : Nat} {t d rc kd : Nat} (hT : TMI K Y t (some cm) J τ q M) (hps : sub (TZ t τ) G) (h8 : τ.1 8 0 = some d) (hd : G d = some (.inr (55, [.null, .null, .ref t, .null, .null, .int 1, .int 1, .int 1, .int 1, .null, .null, .ref kd, .ref rc]))) (hkd : G kd = some (.inr (54, [.ref d]))) (hi : G i_ = some (.inr (47, [.ref t]))) : GM Y l yJ35_descendingIterator (ws_ yJ35_descendingIterator cJ35_descendingIterator 1 (some (FieldType.object "java/util/Iterator"))) 5 110 [.ref i_] G n u 1 5 (pQ (fun r G' n' u' => ∃ it τ' d kd rc pv ub, some it = r ∧ TMI K Y t (some cm) J τ' q M ∧ sub (TZ t τ') G' ∧ τ'.1 8 0 = some d ∧ G' d = some (.inr (55, [.null, .null, .ref t, .null, .null, .int 1, .int 1, .int 1, .int 1, .null, .null, .ref kd, .ref rc])) ∧ G' kd = some (.inr (54, [.ref d])) ∧ IRr τ' q M pv M.reverse ∧ ub < yz Y ∧ G' it = some (.inr (53, [.null, va_rf pv, .ref ub, .int (τ'.2.2.1 1), .ref d])) ∧ n ≤ it ∧ yz Y ≤ it ∧ FR (TD t τ) n G G' ∧ (∀ a, TD t τ' a ↔ TD t τ a) ∧ n ≤ n')) noX := by
  refine GM.intro (own := RJ35) rfl (by decide +kernel) (Nat.le_of_ble_eq_true rfl) ?_
  intro p e s m args below meth c R Q hC hr hnm hF hL hE
  have hE1 := hE.1
  have hE2 := hE.2.1
  have hnz : yz Y ≤ n := by have := hC.z; have := hC.n; omega
  show V Y p l e R s m args below meth c 1 n u G n u Q 0 [(0, .ref i_)] []
  refine V.lts (fun hlt => ?_)
  have hl_d : d < n := hlt _ _ hd
  have hl_i_ : i_ < n := hlt _ _ hi
  have hl_kd : kd < n := hlt _ _ hkd
  have hzt : yz Y ≤ t := hT.1.2.1
  have hTf : ∀ a, TD t τ a → TD t τ a ∨ n ≤ a := fun a q => .inl q
  refine g_aload_n hC dJ35_descendingIterator_0 rfl 0 rfl ?_
  refine g_get (v := .ref t) hC kc_J35 hi 0 (by decide) q2488 rfl dJ35_descendingIterator_1 ?_
  refine V.lts (fun lc_1 => ?_)
  refine g_callq0 hC (g_runF (n := 0) hC (met_J1_descendingKeySet_b (G := G) t (cm := cm) hT hps h8 hd) kc_J1 (hps _ _ (TZ_h hT.2.2.2.1)) (lw_F q3202 q3205 q3207 q85 q3209) q3204 q3203 q3208 q3206 q2338 (x := ⟨"java/util/NavigableMap", "descendingKeySet", "()Ljava/util/NavigableSet;"⟩) ⟨by decide, by decide, by decide +kernel⟩ dJ35_descendingIterator_4 rfl ⟨by omega, by omega⟩ (by omega) (by omega) rfl (Nat.le_of_ble_eq_true rfl)) (fun r_2 G_2 n_2 u_2 hp_2 hn_2 hm_2 hu_2 => ?_)
  obtain ⟨rfl, rfl, rfl, rfl⟩ := hp_2
  refine V.lts (fun lc_3 => ?_)
  refine g_callq0 hC (g_runF (n := 0) hC (met_J44_iterator_d (G := G) kd hT hps hd hkd) kc_J44 hkd (lw_F q2776 q2780 q2685 q152 q2686) q2778 q2777 q2782 q2781 q2779 (x := ⟨"java/util/NavigableSet", "iterator", "()Ljava/util/Iterator;"⟩) ⟨by decide, by decide, by decide +kernel⟩ dJ35_descendingIterator_9 rfl ⟨by omega, by omega⟩ (by omega) (by omega) rfl (Nat.le_of_ble_eq_true rfl)) (fun r_4 G_4 n_4 u_4 hp_4 hn_4 hm_4 hu_4 => ?_)
  obtain ⟨rfl, ⟨pv_4, ub_4, hir_4, hub_4, ho_4⟩, hf_4, rfl, rfl⟩ := hp_4
  have o_5 : G_4 d = some (.inr (55, [.null, .null, .ref t, .null, .null, .int 1, .int 1, .int 1, .int 1, .null, .null, .ref kd, .ref rc])) := (hf_4 _ (lc_3 _ _ hd) (fun q => q)).trans hd
  have o_6 : G_4 i_ = some (.inr (47, [.ref t])) := (hf_4 _ (lc_3 _ _ hi) (fun q => q)).trans hi
  have o_7 : G_4 kd = some (.inr (54, [.ref d])) := (hf_4 _ (lc_3 _ _ hkd) (fun q => q)).trans hkd
  have hx_8 : sub (TZ t τ) G_4 := hf_4.subs hps lc_3 (fun a q => False.elim q)
  have hf_9 : FR (TD t τ) n G G_4 := FR.refl.trans hf_4 (by omega) (fun a_ q_ => by first | exact .inl q_ | exact False.elim q_ | exact .inl (.inl q_) | exact .inl (.inr q_) | (subst q_; first | exact .inr (by omega) | exact .inl rfl))
  refine g_aret (v := some n) hC hr (by first | exact Or.inl ⟨_, rfl⟩ | exact Or.inr ⟨_, rfl⟩) ⟨_, rfl, ?_⟩ (by omega) (by omega) hE dJ35_descendingIterator_14
  exact ⟨n, _, d, kd, rc, _, _, rfl, hT, hx_8, h8, o_5, o_7, hir_4, hub_4, ho_4, by omega, by omega, hf_9, fun a => Iff.rfl, by omega⟩
