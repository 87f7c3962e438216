set_option maxRecDepth 100000
/-! COMPONENT, 24: walking back -/
set_option maxHeartbeats 1000000 in
theorem met_J28_hasNext {Y : YT} {l : Launch} {n u : Nat} {G : AH} (it : Nat) {τ : TS} {q : TQ} {M : MP} {K : AH → Nat → Int → Prop} {J : AH} {c : Option Nat} {t d rc kd ub : Nat} {lr pv : Option Nat} {R9 : MP} (hT : TMI K Y t c J τ q M) (hps : sub (TZ t τ) G) (hd : G d = some (.inr (55, [.null, .null, .ref t, .null, .null, .int 1, .int 1, .int 1, .int 1, .null, .null, .ref kd, .ref rc]))) (hit : G it = some (.inr (53, [va_rf lr, va_rf pv, .ref ub, .int (τ.2.2.1 1), .ref d]))) (hub : ub < yz Y) (hR : IRr τ q M pv R9) (hkz : ∀ X k v, (X, k, v) ∈ R9 → yz Y ≤ k) : GM Y l yJ28_hasNext (ws_ yJ28_hasNext cJ28_hasNext 1 (some FieldType.boolean)) 0 0 [.ref it] G n u 0 0 (pI (fun r G' n' u' => b2i (!R9.isEmpty) = r ∧ G = G' ∧ n = n' ∧ u = u')) noX := by
  refine GM.intro (own := RJ28) rfl (by decide +kernel) (Nat.le_of_ble_eq_true rfl) ?_
  intro p e s m args below meth c R Q hC hr hnm hF hL hE
  have hE1 := hE.1
  have hE2 := hE.2.1
  have hnz : yz Y ≤ n := by have := hC.z; have := hC.n; omega
  show V Y p l e R s m args below meth c 1 n u G n u Q 0 [(0, .ref it)] []
  refine V.lts (fun hlt => ?_)
  have hl_d : d < n := hlt _ _ hd
  have hl_it : it < n := hlt _ _ hit
  rcases pv with _ | s9
  · obtain rfl := hR.2
    refine g_aload_n hC dJ28_hasNext_0 rfl 0 rfl ?_
    refine g_get (v := .null) hC kc_J43 hit 1 (by decide) q2085 rfl dJ28_hasNext_1 ?_
    refine g_ifnullN (tgt := 25) hC dJ28_hasNext_4 (by decide) ?_
    refine g_iconst (v := 0) hC dJ28_hasNext_25 rfl ?_
    refine g_iret hC hr rfl ⟨_, rfl, ?_⟩ (by omega) (by omega) hE dJ28_hasNext_26
    exact ⟨rfl, rfl, rfl, rfl⟩
  · obtain ⟨-, hs9, k9, v9, R8, rfl, hk9⟩ := hR
    have hkz9 := hkz _ k9 _ List.mem_cons_self
    refine g_aload_n hC dJ28_hasNext_0 rfl 0 rfl ?_
    refine g_get (v := .ref s9) hC kc_J43 hit 1 (by decide) q2085 rfl dJ28_hasNext_1 ?_
    refine g_ifnull hC dJ28_hasNext_4 ?_
    refine g_aload_n hC dJ28_hasNext_7 rfl 0 rfl ?_
    refine g_get (v := .ref s9) hC kc_J43 hit 1 (by decide) q2085 rfl dJ28_hasNext_8 ?_
    refine g_get (v := .ref k9) hC kc_J23 (hps _ _ (TZ_n hT.2.2.2.1 hT.1.1 hs9)) 0 (by decide) q1528 (congrArg (fun z => some (va_rf z)) hk9) dJ28_hasNext_11 ?_
    refine g_aload_n hC dJ28_hasNext_14 rfl 0 rfl ?_
    refine g_get (v := .ref ub) hC kc_J43 hit 2 (by decide) q2086 rfl dJ28_hasNext_15 ?_
    refine g_acmp_eq (rx := some k9) (ry := some ub) hC dJ28_hasNext_18 (tgt := 25) (by decide) (fun c_18 => ?_) (fun c_18 => ?_)
    · exact absurd (Option.some.inj c_18) (Nat.ne_of_gt (Nat.lt_of_lt_of_le hub hkz9))
    · refine g_iconst (v := 1) hC dJ28_hasNext_21 rfl ?_
      refine g_goto (tgt := 26) hC dJ28_hasNext_22 (by decide) ?_
      refine g_iret hC hr rfl ⟨_, rfl, ?_⟩ (by omega) (by omega) hE dJ28_hasNext_26
      exact ⟨rfl, rfl, rfl, rfl⟩
set_option maxHeartbeats 1000000 in
theorem met_J28_prevEntry {Y : YT} {l : Launch} {n u : Nat} {G : AH} (it : Nat) {τ : TS} {q : TQ} {M : MP} {K : AH → Nat → Int → Prop} {J : AH} {c : Option Nat} {t d rc kd ub : Nat} {lr : Option Nat} {s9 k9 : Nat} (hT : TMI K Y t c J τ q M) (hps : sub (TZ t τ) G) (hd : G d = some (.inr (55, [.null, .null, .ref t, .null, .null, .int 1, .int 1, .int 1, .int 1, .null, .null, .ref kd, .ref rc]))) (hit : G it = some (.inr (53, [va_rf lr, .ref s9, .ref ub, .int (τ.2.2.1 1), .ref d]))) (hub : ub < yz Y) (hs9 : τ.2.2.2 s9 = true) (hk9 : τ.1 0 s9 = some k9) (hkz9 : yz Y ≤ k9) (hz : yz Y ≤ it) : GM Y l yJ28_prevEntry (ws_ yJ28_prevEntry cJ28_prevEntry 2 (some (FieldType.object "java/util/TreeMap$Entry"))) 1 22 [.ref it] G n u 0 0 (pQ (fun r G' n' u' => some s9 = r ∧ (∃ pv', PV τ q (q.1 s9) pv' ∧ G' it = some (.inr (53, [.ref s9, va_rf pv', .ref ub, .int (τ.2.2.1 1), .ref d]))) ∧ sub (TZ t τ) G' ∧ FR (fun q_ => q_ = it) n G G' ∧ n = n' ∧ u = u')) noX := by
  refine GM.intro (own := RJ28) rfl (by decide +kernel) (Nat.le_of_ble_eq_true rfl) ?_
  intro p e s m args below meth c R Q hC hr hnm hF hL hE
  have hE1 := hE.1
  have hE2 := hE.2.1
  have hnz : yz Y ≤ n := by have := hC.z; have := hC.n; omega
  show V Y p l e R s m args below meth c 2 n u G n u Q 0 [(0, .ref it)] []
  refine V.lts (fun hlt => ?_)
  have hl_d : d < n := hlt _ _ hd
  have hl_it : it < n := hlt _ _ hit
  refine g_aload_n hC dJ28_prevEntry_0 rfl 0 rfl ?_
  refine g_get (v := .ref s9) hC kc_J43 hit 1 (by decide) q2085 rfl dJ28_prevEntry_1 ?_
  refine g_astore_n (L' := [(1, .ref s9), (0, .ref it)]) hC dJ28_prevEntry_4 rfl (by decide) rfl ?_
  refine g_aload_n hC dJ28_prevEntry_5 rfl 0 rfl ?_
  refine g_ifnull hC dJ28_prevEntry_6 ?_
  refine g_aload_n hC dJ28_prevEntry_9 rfl 0 rfl ?_
  refine g_get (v := .ref k9) hC kc_J23 (hps _ _ (TZ_n hT.2.2.2.1 hT.1.1 hs9)) 0 (by decide) q1528 (congrArg (fun z => some (va_rf z)) hk9) dJ28_prevEntry_10 ?_
  refine g_aload_n hC dJ28_prevEntry_13 rfl 1 rfl ?_
  refine g_get (v := .ref ub) hC kc_J43 hit 2 (by decide) q2086 rfl dJ28_prevEntry_14 ?_
  refine g_acmp_ne (rx := some k9) (ry := some ub) hC dJ28_prevEntry_17 (tgt := 28) (by decide) (fun c_17 => ?_) (fun c_17 => ?_)
  · refine g_aload_n hC dJ28_prevEntry_28 rfl 1 rfl ?_
    refine g_get (v := .ref d) hC kc_J43 hit 4 (by decide) q2088 rfl dJ28_prevEntry_29 ?_
    refine g_get (v := .ref t) hC kc_J46 hd 2 (by decide) q3244 rfl dJ28_prevEntry_32 ?_
    refine g_getN (v := .int (τ.2.2.1 1)) hC kc_J1 (hps _ _ (TZ_h hT.2.2.2.1)) 5 (by decide) q226 (fun _ h => h) rfl dJ28_prevEntry_35 ?_
    refine g_aload_n hC dJ28_prevEntry_38 rfl 1 rfl ?_
    refine g_get (v := .int (τ.2.2.1 1)) hC kc_J43 hit 3 (by decide) q2087 rfl dJ28_prevEntry_39 ?_
    refine g_icmp_eq hC dJ28_prevEntry_42 (tgt := 53) (by decide) (fun c_42 => ?_) (fun c_42 => ?_)
    · refine g_aload_n hC dJ28_prevEntry_53 rfl 1 rfl ?_
      refine g_aload_n hC dJ28_prevEntry_54 rfl 0 rfl ?_
      refine V.lts (fun lc_1 => ?_)
      refine g_callq0 hC (g_runS hC (mp_pred (G := G) hT hps s9 hs9) (lw_S q2292 q2293 q85 q2294) md_J1_predecessor dJ28_prevEntry_55 rfl ⟨by omega, by omega⟩ (by omega) (by omega) rfl (Nat.le_of_ble_eq_true rfl)) (fun r_2 G_2 n_2 u_2 hp_2 hn_2 hm_2 hu_2 => ?_)
      obtain ⟨hpv, rfl, rfl, rfl⟩ := hp_2
      obtain ⟨G_3, eG_3⟩ : ∃ G_, gU G it (.inr (53, [va_rf lr, va_rf r_2, .ref ub, .int (τ.2.2.1 1), .ref d])) = G_ := ⟨_, rfl⟩
      have o_4 : G_3 d = some (.inr (55, [.null, .null, .ref t, .null, .null, .int 1, .int 1, .int 1, .int 1, .null, .null, .ref kd, .ref rc])) := by rw [← eG_3]; exact (gU_n _ (fun q => by subst q; rw [hd] at hit; cases hit)).trans hd
      have hx_5 : sub (TZ t τ) G_3 := by rw [← eG_3]; exact sub_away hps (TZ_none hT.2.2.2.1 hT.1.1 hps hit (by decide) (by decide) (by decide))
      have hf_6 : FR (fun q_ => q_ = it) n G G_3 := by rw [← eG_3]; exact FR.put FR.refl (.inl rfl)
      refine g_put hC kc_J43 hit 1 (by decide) q2085 rfl (rf_nar _) (rf_fit _) (by show 1 < 5; decide) rfl (by omega) (G' := G_3) eG_3 dJ28_prevEntry_58 ?_
      have o_7 : G_3 it = some (.inr (53, [va_rf lr, va_rf r_2, .ref ub, .int (τ.2.2.1 1), .ref d])) := by rw [← eG_3]; exact gU_s _ _ _
      refine g_aload_n hC dJ28_prevEntry_61 rfl 1 rfl ?_
      refine g_aload_n hC dJ28_prevEntry_62 rfl 0 rfl ?_
      obtain ⟨G_8, eG_8⟩ : ∃ G_, gU G_3 it (.inr (53, [.ref s9, va_rf r_2, .ref ub, .int (τ.2.2.1 1), .ref d])) = G_ := ⟨_, rfl⟩
      have o_9 : G_8 d = some (.inr (55, [.null, .null, .ref t, .null, .null, .int 1, .int 1, .int 1, .int 1, .null, .null, .ref kd, .ref rc])) := by rw [← eG_8]; exact (gU_n _ (fun q => by subst q; rw [hd] at hit; cases hit)).trans o_4
      have hx_10 : sub (TZ t τ) G_8 := by rw [← eG_8]; exact sub_away hx_5 (TZ_none hT.2.2.2.1 hT.1.1 hx_5 o_7 (by decide) (by decide) (by decide))
      have hf_11 : FR (fun q_ => q_ = it) n G G_8 := by rw [← eG_8]; exact FR.put hf_6 (.inl rfl)
      refine g_put hC kc_J43 o_7 0 (by decide) q2084 rfl rfl rfl (by show 0 < 5; decide) rfl (by omega) (G' := G_8) eG_8 dJ28_prevEntry_63 ?_
      have o_12 : G_8 it = some (.inr (53, [.ref s9, va_rf r_2, .ref ub, .int (τ.2.2.1 1), .ref d])) := by rw [← eG_8]; exact gU_s _ _ _
      refine g_aload_n hC dJ28_prevEntry_66 rfl 0 rfl ?_
      refine g_aret (v := some s9) hC hr (by first | exact Or.inl ⟨_, rfl⟩ | exact Or.inr ⟨_, rfl⟩) ⟨_, rfl, ?_⟩ (by omega) (by omega) hE dJ28_prevEntry_67
      exact ⟨rfl, ⟨_, hpv, o_12⟩, hx_10, hf_11, rfl, rfl⟩
    · exact absurd rfl c_42
  · exact absurd (Option.some.inj c_17) (Nat.ne_of_gt (Nat.lt_of_lt_of_le hub hkz9))
set_option maxHeartbeats 1000000 in
theorem met_J43_next {Y : YT} {l : Launch} {n u : Nat} {G : AH} (it : Nat) {τ : TS} {q : TQ} {M : MP} {K : AH → Nat → Int → Prop} {J : AH} {c : Option Nat} {t d rc kd ub : Nat} {lr pv : Option Nat} {R9 : MP} {X : Int} {k9_ : Nat} {v : Option Nat} (hT : TMI K Y t c J τ q M) (hps : sub (TZ t τ) G) (hd : G d = some (.inr (55, [.null, .null, .ref t, .null, .null, .int 1, .int 1, .int 1, .int 1, .null, .null, .ref kd, .ref rc]))) (hit : G it = some (.inr (53, [va_rf lr, va_rf pv, .ref ub, .int (τ.2.2.1 1), .ref d]))) (hub : ub < yz Y) (hR : IRr τ q M pv ((X, k9_, v) :: R9)) (hkz : yz Y ≤ k9_) (hz : yz Y ≤ it) : GM Y l yJ43_next (ws_ yJ43_next cJ43_next 1 (some (FieldType.object "java/lang/Object"))) 2 43 [.ref it] G n u 0 0 (pQ (fun r G' n' u' => some k9_ = r ∧ (∃ lr' pv', IRr τ q M pv' R9 ∧ G' it = some (.inr (53, [va_rf lr', va_rf pv', .ref ub, .int (τ.2.2.1 1), .ref d]))) ∧ sub (TZ t τ) G' ∧ FR (fun q_ => q_ = it) n G G' ∧ n = n' ∧ u = u')) noX := by
  refine GM.intro (own := RJ43) rfl (by decide +kernel) (Nat.le_of_ble_eq_true rfl) ?_
  intro p e s m args below meth c R Q hC hr hnm hF hL hE
  have hE1 := hE.1
  have hE2 := hE.2.1
  have hnz : yz Y ≤ n := by have := hC.z; have := hC.n; omega
  show V Y p l e R s m args below meth c 1 n u G n u Q 0 [(0, .ref it)] []
  refine V.lts (fun hlt => ?_)
  have hl_d : d < n := hlt _ _ hd
  have hl_it : it < n := hlt _ _ hit
  cases pv with
  | none => exact absurd hR.2 (by simp)
  | some s9 =>
    have hR0 := hR
    obtain ⟨-, hs9, k9, v9', R8, r1, hk9⟩ := hR
    rw [List.cons.injEq, Prod.mk.injEq, Prod.mk.injEq] at r1
    obtain ⟨⟨rfl, rfl, rfl⟩, rfl⟩ := r1
    have hkz9 := hkz
    refine g_aload_n hC dJ43_next_0 rfl 0 rfl ?_
    refine V.lts (fun lc_1 => ?_)
    refine g_callq0 hC (g_runU (n := 0) (owner := "java/util/TreeMap$NavigableSubMap$SubMapIterator") (x := ⟨"java/util/TreeMap$NavigableSubMap$DescendingSubMapKeyIterator", "prevEntry", "()Ljava/util/TreeMap$Entry;"⟩) hC (met_J28_prevEntry (G := G) it hT hps hd hit hub hs9 hk9 hkz9 (by omega)) kc_J43 hit (lw_U q2300 q2301 q2302 q2290 q136 q2291) rfl ⟨by decide, by decide, by decide +kernel⟩ dJ43_next_1 rfl ⟨by omega, by omega⟩ (by omega) (by omega) rfl (Nat.le_of_ble_eq_true rfl)) (fun r_2 G_2 n_2 u_2 hp_2 hn_2 hm_2 hu_2 => ?_)
    obtain ⟨rfl, ⟨pv_2, hpv_2, hoi_2⟩, hps_2, hf_2, rfl, rfl⟩ := hp_2
    have o_3 : G_2 d = some (.inr (55, [.null, .null, .ref t, .null, .null, .int 1, .int 1, .int 1, .int 1, .null, .null, .ref kd, .ref rc])) := (hf_2 _ (lc_1 _ _ hd) (fun q => (fun q => by subst q; rw [hd] at hit; cases hit) q)).trans hd
    have hf_4 : FR (fun q_ => q_ = it) n G G_2 := FR.refl.trans hf_2 (by omega) (fun a_ q_ => by first | exact .inl q_ | exact .inl (.inl q_) | exact .inl (.inr q_) | (subst q_; first | exact .inr (by omega) | exact .inl rfl))
    refine g_get (v := .ref k9_) hC kc_J23 (hps_2 _ _ (TZ_n hT.2.2.2.1 hT.1.1 hs9)) 0 (by decide) q1530 (congrArg (fun z => some (va_rf z)) hk9) dJ43_next_4 ?_
    refine g_aret (v := some k9_) hC hr (by first | exact Or.inl ⟨_, rfl⟩ | exact Or.inr ⟨_, rfl⟩) ⟨_, rfl, ?_⟩ (by omega) (by omega) hE dJ43_next_7
    exact ⟨rfl, ⟨some s9, _, hpv_2.irS hT.2.1 hR0, hoi_2⟩, hps_2, hf_4, rfl, rfl⟩
