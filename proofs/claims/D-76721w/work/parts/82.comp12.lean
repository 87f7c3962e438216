set_option maxRecDepth 100000
/-! COMPONENT, 16: a host made -/
def HRAW (Y : YT) (t : Nat) (G : AH) : Prop := G t = some (.inr (2, [.int 0, .int 0, .int 0, .int 1, .ref (t + 1), .ref (t + 2), .ref (t + 3), .ref (t + 4), .ref (t + 5), .ref (t + 6), .ref (t + 7)])) ∧ G (t + 1) = some (.inl (yA Y 6, 12, .inr (.inr (.inr (.inr (fun _ => none)))))) ∧ G (t + 2) = some (.inl (yA Y 0, 12, .inl (fun _ => 0))) ∧ G (t + 3) = some (.inl (yA Y 0, 12, .inl (fun _ => 0))) ∧ G (t + 4) = some (.inl (yA Y 0, 12, .inl (fun _ => 0))) ∧ G (t + 5) = some (.inl (yA Y 0, 12, .inl (fun _ => 0))) ∧ G (t + 6) = some (.inl (yA Y 7, 24, .inr (.inr (.inr (.inr (fun _ => none))))))
theorem hM_of {Y : YT} {h N : Nat} {σ : MS} {η : HV} {G : AH} (h0 : G h = hE Y h N σ η 0) (h1 : G (h + 1) = hE Y h N σ η 1) (h2 : G (h + 2) = hE Y h N σ η 2) (h3 : G (h + 3) = hE Y h N σ η 3) (h4 : G (h + 4) = hE Y h N σ η 4) (h5 : G (h + 5) = hE Y h N σ η 5) (h6 : G (h + 6) = hE Y h N σ η 6) : sub (hM Y h N σ η) G := by
  intro a e ha
  by_cases hd : hD h a
  · obtain ⟨d1, d2⟩ := hd
    obtain ⟨j, rfl⟩ : ∃ j, a = h + j := ⟨a - h, by omega⟩
    rw [hM_j] at ha
    have hj : j < 7 := by omega
    rcases j with _ | _ | _ | _ | _ | _ | _ | j
    · exact h0.trans ha
    · exact h1.trans ha
    · exact h2.trans ha
    · exact h3.trans ha
    · exact h4.trans ha
    · exact h5.trans ha
    · exact h6.trans ha
    · omega
  · rw [hM_none hd] at ha; cases ha
/-- what stands behind a host that took another's state -/
def ηT (N K : Nat) (η : HV) : HV := (fun _ _ => 0, fun k i => if k = 0 then (if i < N then η.2 0 i else none) else if i < K then η.2 1 i else none)
theorem cpA {N wh : Nat} {σ : MS} {g : Nat → Nat → Int32} : va_cpy (hA N wh σ g) (fun _ => 0) 0 0 N = hA N wh σ (fun _ _ => 0) := by
  funext i
  unfold va_cpy hA
  by_cases h : i < N
  · rw [if_pos ⟨Nat.zero_le _, by omega⟩, if_pos (by omega), if_pos h]; congr 1; omega
  · rw [if_neg (by omega), if_neg h]
theorem cpP {N : Nat} {f : Nat → Option Nat} {i : Nat} : va_cpy f (fun _ => none) 0 0 N i = if i < N then f i else none := by
  unfold va_cpy
  by_cases h : i < N
  · rw [if_pos ⟨Nat.zero_le _, by omega⟩, if_pos h]; congr 1; omega
  · rw [if_neg (by omega), if_neg h]
theorem hM_T {Y : YT} {t N K : Nat} {σ : MS} {η : HV} {G : AH} (hN : σ.1 0 0 = nI N) (hK : σ.1 4 0 = nI K) (h0 : G t = some (.inr (2, [.int (nI N), .int (nI K), .int (σ.1 2 0), .int (σ.1 3 0), .ref (t + 1), .ref (t + 2), .ref (t + 3), .ref (t + 4), .ref (t + 5), .ref (t + 6), .ref (t + 7)])))
    (h1 : G (t + 1) = some (.inl (yA Y 6, 12, .inr (.inr (.inr (.inr (va_cpy (η.2 0) (fun _ => none) 0 0 N))))))) (h2 : G (t + 2) = some (.inl (yA Y 0, 12, .inl (va_cpy (hA N 0 σ η.1) (fun _ => 0) 0 0 N)))) (h3 : G (t + 3) = some (.inl (yA Y 0, 12, .inl (va_cpy (hA N 5 σ η.1) (fun _ => 0) 0 0 N)))) (h4 : G (t + 4) = some (.inl (yA Y 0, 12, .inl (va_cpy (hA N 8 σ η.1) (fun _ => 0) 0 0 N)))) (h5 : G (t + 5) = some (.inl (yA Y 0, 12, .inl (va_cpy (hA N 7 σ η.1) (fun _ => 0) 0 0 N))))
    (h6 : G (t + 6) = some (.inl (yA Y 7, 24, .inr (.inr (.inr (.inr (va_cpy (η.2 1) (fun _ => none) 0 0 K))))))) : sub (hM Y t N σ (ηT N K η)) G := by
  rw [cpA] at h2 h3 h4 h5
  rw [show va_cpy (η.2 0) (fun _ => none) 0 0 N = (ηT N K η).2 0 from funext fun i => cpP] at h1
  rw [show va_cpy (η.2 1) (fun _ => none) 0 0 K = (ηT N K η).2 1 from funext fun i => cpP] at h6
  refine hM_of ?_ h1 h2 h3 h4 h5 h6
  rw [h0]; unfold hE; rw [hN, hK]; rfl
/-- a map of names: the plug-ins that are not removed, by rank -/
def NMs (N : Nat) (σ : MS) (M : MP) : Prop := ∀ X : Int, (∃ e, e ∈ M ∧ e.1 = X) ↔ ∃ q, q < N ∧ ¬ tl σ 0 q = 3 ∧ X = (keyN σ q : Int)
theorem NMs.no {N : Nat} {σ : MS} {M : MP} (h : NMs N σ M) {X : Int} (hx : ∀ q, q < N → ¬ tl σ 0 q = 3 → X ≠ (keyN σ q : Int)) : ∀ e, e ∈ M → e.1 ≠ X := fun e he hX => by
  obtain ⟨q, h1, h2, h3⟩ := (h X).mp ⟨e, he, hX⟩
  exact hx q h1 h2 h3
theorem NMs.put {N : Nat} {σ : MS} {M : MP} (h : NMs N σ M) (hq : ¬ tl σ 0 N = 3) {k : Nat} {v : Option Nat} (hx : ∀ e, e ∈ M → e.1 ≠ (keyN σ N : Int)) : NMs (N + 1) σ (mput (keyN σ N : Int) k v M) := fun X => by
  have hm := mput_mem (k := k) (v := v) M hx
  constructor
  · rintro ⟨e, he, rfl⟩
    rcases (hm e).mp he with rfl | he
    · exact ⟨N, by omega, hq, rfl⟩
    · obtain ⟨q, h1, h2, h3⟩ := (h _).mp ⟨e, he, rfl⟩
      exact ⟨q, by omega, h2, h3⟩
  · rintro ⟨q, h1, h2, h3⟩
    by_cases e : q = N
    · subst e; exact ⟨_, (hm _).mpr (.inl rfl), h3.symm⟩
    · obtain ⟨e, he, h4⟩ := (h X).mpr ⟨q, by omega, h2, h3⟩
      exact ⟨e, (hm e).mpr (.inr he), h4⟩
theorem NMs.skip {N : Nat} {σ : MS} {M : MP} (h : NMs N σ M) (hq : tl σ 0 N = 3) : NMs (N + 1) σ M := fun X => by
  rw [h X]
  constructor
  · rintro ⟨q, h1, h2, h3⟩; exact ⟨q, by omega, h2, h3⟩
  · rintro ⟨q, h1, h2, h3⟩
    by_cases e : q = N
    · subst e; exact absurd hq h2
    · exact ⟨q, by omega, h2, h3⟩
theorem NMs_0 {σ : MS} : NMs 0 σ [] := fun X => ⟨fun ⟨e, he, _⟩ => (nomatch he), fun ⟨q, h, _⟩ => absurd h (Nat.not_lt_zero _)⟩
theorem mget_is {X : Int} : ∀ {M : MP}, (mget X M).isSome = true ↔ ∃ e, e ∈ M ∧ e.1 = X
  | [] => ⟨fun h => (by cases h), fun ⟨e, he, _⟩ => (nomatch he)⟩
  | d :: M => by
    unfold mget
    by_cases h : d.1 = X
    · rw [if_pos h]; exact ⟨fun _ => ⟨d, List.mem_cons_self, h⟩, fun _ => rfl⟩
    · rw [if_neg h, mget_is (M := M)]
      exact ⟨fun ⟨e, he, h2⟩ => ⟨e, List.mem_cons_of_mem _ he, h2⟩, fun ⟨e, he, h2⟩ => by
        rcases List.mem_cons.mp he with q | q
        · subst q; exact absurd h2 h
        · exact ⟨e, q, h2⟩⟩
theorem PLs.key {Y : YT} {N q : Nat} {σ : MS} {I : AH} {pr : Nat → Option Nat} (hpl : PLs Y N σ I pr) (hq : q < N) : ∃ a nm kd, pr q = some a ∧ kd ≤ 4 ∧ tl σ 1 q = nI kd ∧ I a = some (.inr (11 + kd, [.int (nI q), .ref nm, .int (tl σ 2 q), .int (tl σ 3 q), .int (tl σ 4 q)])) ∧ KS Y I nm (keyN σ q : Int) ∧ keyN σ q < 1000000 := by
  obtain ⟨a, nm, kd, h1, h2, h3, h4, h5⟩ := hpl q hq
  obtain ⟨X, x1, x2, x3⟩ := h5.KS
  have : keyN σ q = X := x2.symm
  exact ⟨a, nm, kd, h1, h2, h3, h4, by rw [this]; exact x1, by omega⟩
set_option maxHeartbeats 1000000 in
theorem met_X2_init {Y : YT} {l : Launch} {n u : Nat} {G : AH} (h : Nat) {I : AH} (h1 : G h = some (.inr (2, [.int 0, .int 0, .int 0, .int 0, .null, .null, .null, .null, .null, .null, .null]))) (hz : yz Y ≤ h) (hn : n = h + 1) (hI : sub I G) (hIh : I h = none) : GM Y l yX2_init (ws_ yX2_init cX2_init 1 none) 3 64 [.ref h] G n u 7 93 (pV (fun G' n' u' => HRAW Y h G' ∧ (∃ τ q, TMI (KS Y) Y (h + 7) none I τ q [] ∧ sub (TZ (h + 7) τ) G' ∧ (∀ a, TD (h + 7) τ a → a = h + 7)) ∧ FR (fun q_ => q_ = h) n G G' ∧ n' = n + 7 ∧ u' = u + 93)) noX := by
  refine GM.intro (own := RX2) rfl (by decide +kernel) (Nat.le_of_ble_eq_true rfl) ?_
  intro p e s m args below meth c R Q hC hr hnm hF hL hE
  have hE1 := hE.1
  have hE2 := hE.2.1
  have hnz : yz Y ≤ n := by have := hC.z; have := hC.n; omega
  show V Y p l e R s m args below meth c 1 n u G n u Q 0 [(0, .ref h)] []
  refine V.lts (fun hlt => ?_)
  have hl_h : h < n := hlt _ _ h1
  have hIn := sub_none hI hlt
  refine g_aload_n hC dX2_init_0 rfl 0 rfl ?_
  refine V.lts (fun lc_1 => ?_)
  refine g_objInit hC q206 q178 q179 dX2_init_1 (by omega) (by first | (simp; omega) | (simp [Value.category]; omega)) ?_
  refine g_aload_n hC dX2_init_4 rfl 0 rfl ?_
  refine g_iconst (v := 1) hC dX2_init_5 rfl ?_
  obtain ⟨G_2, eG_2⟩ : ∃ G_, gU G h (.inr (2, [.int 0, .int 0, .int 0, .int 1, .null, .null, .null, .null, .null, .null, .null])) = G_ := ⟨_, rfl⟩
  have hi_3 : sub I G_2 := by rw [← eG_2]; exact sub_away hI hIh
  have hf_4 : FR (fun q_ => q_ = h) n G G_2 := by rw [← eG_2]; exact FR.put FR.refl (.inl rfl)
  refine g_put hC kc_X2 h1 3 (by decide) q260 rfl rfl rfl (by show 3 < 11; decide) rfl (by omega) (G' := G_2) eG_2 dX2_init_6 ?_
  have o_5 : G_2 h = some (.inr (2, [.int 0, .int 0, .int 0, .int 1, .null, .null, .null, .null, .null, .null, .null])) := by rw [← eG_2]; exact gU_s _ _ _
  refine g_aload_n hC dX2_init_9 rfl 0 rfl ?_
  refine g_bipush (v := 12) hC dX2_init_10 (by decide) ?_
  obtain ⟨G_6, eG_6⟩ : ∃ G_, gU G_2 n (.inl (yA Y 6, 12, .inr (.inr (.inr (.inr (fun _ => none)))))) = G_ := ⟨_, rfl⟩
  refine V.lts (fun ltG_6 => ?_)
  have o_7 : G_6 h = some (.inr (2, [.int 0, .int 0, .int 0, .int 1, .null, .null, .null, .null, .null, .null, .null])) := by rw [← eG_6]; exact (gU_n _ (Nat.ne_of_lt (ltG_6 _ _ o_5))).trans o_5
  have hi_8 : sub I G_6 := by rw [← eG_6]; exact sub_new hi_3 ltG_6
  have hf_9 : FR (fun q_ => q_ = h) n G G_6 := by rw [← eG_6]; exact FR.put hf_4 (.inr (by omega))
  refine g_anew hC q207 q208 (t0 := 6) rfl (by decide) (N := 12) rfl (by omega) (G' := G_6) eG_6 (by omega) (by omega) dX2_init_12 ?_
  have a_10 : G_6 n = some (.inl (yA Y 6, 12, .inr (.inr (.inr (.inr (fun _ => none)))))) := by rw [← eG_6]; exact gU_s _ _ _
  obtain ⟨G_11, eG_11⟩ : ∃ G_, gU G_6 h (.inr (2, [.int 0, .int 0, .int 0, .int 1, .ref n, .null, .null, .null, .null, .null, .null])) = G_ := ⟨_, rfl⟩
  have a_12 : G_11 n = some (.inl (yA Y 6, 12, .inr (.inr (.inr (.inr (fun _ => none)))))) := by rw [← eG_11]; exact (gU_n _ (gne_ao a_10 o_7)).trans a_10
  have hi_13 : sub I G_11 := by rw [← eG_11]; exact sub_away hi_8 hIh
  have hf_14 : FR (fun q_ => q_ = h) n G G_11 := by rw [← eG_11]; exact FR.put hf_9 (.inl rfl)
  refine g_putF hC hnm kc_X2 o_7 4 (by decide) q262 rfl rfl rfl rfl (by show 4 < 11; decide) rfl (by omega) (G' := G_11) eG_11 dX2_init_15 ?_
  have o_15 : G_11 h = some (.inr (2, [.int 0, .int 0, .int 0, .int 1, .ref n, .null, .null, .null, .null, .null, .null])) := by rw [← eG_11]; exact gU_s _ _ _
  refine g_aload_n hC dX2_init_18 rfl 0 rfl ?_
  refine g_bipush (v := 12) hC dX2_init_19 (by decide) ?_
  obtain ⟨G_16, eG_16⟩ : ∃ G_, gU G_11 (n + 1) (.inl (yA Y 0, 12, .inl (fun _ => 0))) = G_ := ⟨_, rfl⟩
  refine V.lts (fun ltG_16 => ?_)
  have o_17 : G_16 h = some (.inr (2, [.int 0, .int 0, .int 0, .int 1, .ref n, .null, .null, .null, .null, .null, .null])) := by rw [← eG_16]; exact (gU_n _ (Nat.ne_of_lt (ltG_16 _ _ o_15))).trans o_15
  have a_18 : G_16 n = some (.inl (yA Y 6, 12, .inr (.inr (.inr (.inr (fun _ => none)))))) := by rw [← eG_16]; exact (gU_n _ (Nat.ne_of_lt (ltG_16 _ _ a_12))).trans a_12
  have hi_19 : sub I G_16 := by rw [← eG_16]; exact sub_new hi_13 ltG_16
  have hf_20 : FR (fun q_ => q_ = h) n G G_16 := by rw [← eG_16]; exact FR.put hf_14 (.inr (by omega))
  refine g_newa hC (atype := .int) 0 rfl rfl rfl q198 (a0 := (12, .inl (fun _ => 0))) (fun _ => rfl) (by decide) rfl (by simp only [componentBytes]; omega) (G' := G_16) eG_16 (by omega) (by omega) dX2_init_21 ?_
  have a_21 : G_16 (n + 1) = some (.inl (yA Y 0, 12, .inl (fun _ => 0))) := by rw [← eG_16]; exact gU_s _ _ _
  obtain ⟨G_22, eG_22⟩ : ∃ G_, gU G_16 h (.inr (2, [.int 0, .int 0, .int 0, .int 1, .ref n, .ref (n + 1), .null, .null, .null, .null, .null])) = G_ := ⟨_, rfl⟩
  have a_23 : G_22 n = some (.inl (yA Y 6, 12, .inr (.inr (.inr (.inr (fun _ => none)))))) := by rw [← eG_22]; exact (gU_n _ (gne_ao a_18 o_17)).trans a_18
  have a_24 : G_22 (n + 1) = some (.inl (yA Y 0, 12, .inl (fun _ => 0))) := by rw [← eG_22]; exact (gU_n _ (gne_ao a_21 o_17)).trans a_21
  have hi_25 : sub I G_22 := by rw [← eG_22]; exact sub_away hi_19 hIh
  have hf_26 : FR (fun q_ => q_ = h) n G G_22 := by rw [← eG_22]; exact FR.put hf_20 (.inl rfl)
  refine g_putF hC hnm kc_X2 o_17 5 (by decide) q265 rfl rfl rfl rfl (by show 5 < 11; decide) rfl (by omega) (G' := G_22) eG_22 dX2_init_23 ?_
  have o_27 : G_22 h = some (.inr (2, [.int 0, .int 0, .int 0, .int 1, .ref n, .ref (n + 1), .null, .null, .null, .null, .null])) := by rw [← eG_22]; exact gU_s _ _ _
  refine g_aload_n hC dX2_init_26 rfl 0 rfl ?_
  refine g_bipush (v := 12) hC dX2_init_27 (by decide) ?_
  obtain ⟨G_28, eG_28⟩ : ∃ G_, gU G_22 (n + 1 + 1) (.inl (yA Y 0, 12, .inl (fun _ => 0))) = G_ := ⟨_, rfl⟩
  refine V.lts (fun ltG_28 => ?_)
  have o_29 : G_28 h = some (.inr (2, [.int 0, .int 0, .int 0, .int 1, .ref n, .ref (n + 1), .null, .null, .null, .null, .null])) := by rw [← eG_28]; exact (gU_n _ (Nat.ne_of_lt (ltG_28 _ _ o_27))).trans o_27
  have a_30 : G_28 n = some (.inl (yA Y 6, 12, .inr (.inr (.inr (.inr (fun _ => none)))))) := by rw [← eG_28]; exact (gU_n _ (Nat.ne_of_lt (ltG_28 _ _ a_23))).trans a_23
  have a_31 : G_28 (n + 1) = some (.inl (yA Y 0, 12, .inl (fun _ => 0))) := by rw [← eG_28]; exact (gU_n _ (Nat.ne_of_lt (ltG_28 _ _ a_24))).trans a_24
  have hi_32 : sub I G_28 := by rw [← eG_28]; exact sub_new hi_25 ltG_28
  have hf_33 : FR (fun q_ => q_ = h) n G G_28 := by rw [← eG_28]; exact FR.put hf_26 (.inr (by omega))
  refine g_newa hC (atype := .int) 0 rfl rfl rfl q198 (a0 := (12, .inl (fun _ => 0))) (fun _ => rfl) (by decide) rfl (by simp only [componentBytes]; omega) (G' := G_28) eG_28 (by omega) (by omega) dX2_init_29 ?_
  have a_34 : G_28 (n + 1 + 1) = some (.inl (yA Y 0, 12, .inl (fun _ => 0))) := by rw [← eG_28]; exact gU_s _ _ _
  obtain ⟨G_35, eG_35⟩ : ∃ G_, gU G_28 h (.inr (2, [.int 0, .int 0, .int 0, .int 1, .ref n, .ref (n + 1), .ref (n + 1 + 1), .null, .null, .null, .null])) = G_ := ⟨_, rfl⟩
  have a_36 : G_35 n = some (.inl (yA Y 6, 12, .inr (.inr (.inr (.inr (fun _ => none)))))) := by rw [← eG_35]; exact (gU_n _ (gne_ao a_30 o_29)).trans a_30
  have a_37 : G_35 (n + 1) = some (.inl (yA Y 0, 12, .inl (fun _ => 0))) := by rw [← eG_35]; exact (gU_n _ (gne_ao a_31 o_29)).trans a_31
  have a_38 : G_35 (n + 1 + 1) = some (.inl (yA Y 0, 12, .inl (fun _ => 0))) := by rw [← eG_35]; exact (gU_n _ (gne_ao a_34 o_29)).trans a_34
  have hi_39 : sub I G_35 := by rw [← eG_35]; exact sub_away hi_32 hIh
  have hf_40 : FR (fun q_ => q_ = h) n G G_35 := by rw [← eG_35]; exact FR.put hf_33 (.inl rfl)
  refine g_putF hC hnm kc_X2 o_29 6 (by decide) q268 rfl rfl rfl rfl (by show 6 < 11; decide) rfl (by omega) (G' := G_35) eG_35 dX2_init_31 ?_
  have o_41 : G_35 h = some (.inr (2, [.int 0, .int 0, .int 0, .int 1, .ref n, .ref (n + 1), .ref (n + 1 + 1), .null, .null, .null, .null])) := by rw [← eG_35]; exact gU_s _ _ _
  refine g_aload_n hC dX2_init_34 rfl 0 rfl ?_
  refine g_bipush (v := 12) hC dX2_init_35 (by decide) ?_
  obtain ⟨G_42, eG_42⟩ : ∃ G_, gU G_35 (n + 1 + 1 + 1) (.inl (yA Y 0, 12, .inl (fun _ => 0))) = G_ := ⟨_, rfl⟩
  refine V.lts (fun ltG_42 => ?_)
  have o_43 : G_42 h = some (.inr (2, [.int 0, .int 0, .int 0, .int 1, .ref n, .ref (n + 1), .ref (n + 1 + 1), .null, .null, .null, .null])) := by rw [← eG_42]; exact (gU_n _ (Nat.ne_of_lt (ltG_42 _ _ o_41))).trans o_41
  have a_44 : G_42 n = some (.inl (yA Y 6, 12, .inr (.inr (.inr (.inr (fun _ => none)))))) := by rw [← eG_42]; exact (gU_n _ (Nat.ne_of_lt (ltG_42 _ _ a_36))).trans a_36
  have a_45 : G_42 (n + 1) = some (.inl (yA Y 0, 12, .inl (fun _ => 0))) := by rw [← eG_42]; exact (gU_n _ (Nat.ne_of_lt (ltG_42 _ _ a_37))).trans a_37
  have a_46 : G_42 (n + 1 + 1) = some (.inl (yA Y 0, 12, .inl (fun _ => 0))) := by rw [← eG_42]; exact (gU_n _ (Nat.ne_of_lt (ltG_42 _ _ a_38))).trans a_38
  have hi_47 : sub I G_42 := by rw [← eG_42]; exact sub_new hi_39 ltG_42
  have hf_48 : FR (fun q_ => q_ = h) n G G_42 := by rw [← eG_42]; exact FR.put hf_40 (.inr (by omega))
  refine g_newa hC (atype := .int) 0 rfl rfl rfl q198 (a0 := (12, .inl (fun _ => 0))) (fun _ => rfl) (by decide) rfl (by simp only [componentBytes]; omega) (G' := G_42) eG_42 (by omega) (by omega) dX2_init_37 ?_
  have a_49 : G_42 (n + 1 + 1 + 1) = some (.inl (yA Y 0, 12, .inl (fun _ => 0))) := by rw [← eG_42]; exact gU_s _ _ _
  obtain ⟨G_50, eG_50⟩ : ∃ G_, gU G_42 h (.inr (2, [.int 0, .int 0, .int 0, .int 1, .ref n, .ref (n + 1), .ref (n + 1 + 1), .ref (n + 1 + 1 + 1), .null, .null, .null])) = G_ := ⟨_, rfl⟩
  have a_51 : G_50 n = some (.inl (yA Y 6, 12, .inr (.inr (.inr (.inr (fun _ => none)))))) := by rw [← eG_50]; exact (gU_n _ (gne_ao a_44 o_43)).trans a_44
  have a_52 : G_50 (n + 1) = some (.inl (yA Y 0, 12, .inl (fun _ => 0))) := by rw [← eG_50]; exact (gU_n _ (gne_ao a_45 o_43)).trans a_45
  have a_53 : G_50 (n + 1 + 1) = some (.inl (yA Y 0, 12, .inl (fun _ => 0))) := by rw [← eG_50]; exact (gU_n _ (gne_ao a_46 o_43)).trans a_46
  have a_54 : G_50 (n + 1 + 1 + 1) = some (.inl (yA Y 0, 12, .inl (fun _ => 0))) := by rw [← eG_50]; exact (gU_n _ (gne_ao a_49 o_43)).trans a_49
  have hi_55 : sub I G_50 := by rw [← eG_50]; exact sub_away hi_47 hIh
  have hf_56 : FR (fun q_ => q_ = h) n G G_50 := by rw [← eG_50]; exact FR.put hf_48 (.inl rfl)
  refine g_putF hC hnm kc_X2 o_43 7 (by decide) q271 rfl rfl rfl rfl (by show 7 < 11; decide) rfl (by omega) (G' := G_50) eG_50 dX2_init_39 ?_
  have o_57 : G_50 h = some (.inr (2, [.int 0, .int 0, .int 0, .int 1, .ref n, .ref (n + 1), .ref (n + 1 + 1), .ref (n + 1 + 1 + 1), .null, .null, .null])) := by rw [← eG_50]; exact gU_s _ _ _
  refine g_aload_n hC dX2_init_42 rfl 0 rfl ?_
  refine g_bipush (v := 12) hC dX2_init_43 (by decide) ?_
  obtain ⟨G_58, eG_58⟩ : ∃ G_, gU G_50 (n + 1 + 1 + 1 + 1) (.inl (yA Y 0, 12, .inl (fun _ => 0))) = G_ := ⟨_, rfl⟩
  refine V.lts (fun ltG_58 => ?_)
  have o_59 : G_58 h = some (.inr (2, [.int 0, .int 0, .int 0, .int 1, .ref n, .ref (n + 1), .ref (n + 1 + 1), .ref (n + 1 + 1 + 1), .null, .null, .null])) := by rw [← eG_58]; exact (gU_n _ (Nat.ne_of_lt (ltG_58 _ _ o_57))).trans o_57
  have a_60 : G_58 n = some (.inl (yA Y 6, 12, .inr (.inr (.inr (.inr (fun _ => none)))))) := by rw [← eG_58]; exact (gU_n _ (Nat.ne_of_lt (ltG_58 _ _ a_51))).trans a_51
  have a_61 : G_58 (n + 1) = some (.inl (yA Y 0, 12, .inl (fun _ => 0))) := by rw [← eG_58]; exact (gU_n _ (Nat.ne_of_lt (ltG_58 _ _ a_52))).trans a_52
  have a_62 : G_58 (n + 1 + 1) = some (.inl (yA Y 0, 12, .inl (fun _ => 0))) := by rw [← eG_58]; exact (gU_n _ (Nat.ne_of_lt (ltG_58 _ _ a_53))).trans a_53
  have a_63 : G_58 (n + 1 + 1 + 1) = some (.inl (yA Y 0, 12, .inl (fun _ => 0))) := by rw [← eG_58]; exact (gU_n _ (Nat.ne_of_lt (ltG_58 _ _ a_54))).trans a_54
  have hi_64 : sub I G_58 := by rw [← eG_58]; exact sub_new hi_55 ltG_58
  have hf_65 : FR (fun q_ => q_ = h) n G G_58 := by rw [← eG_58]; exact FR.put hf_56 (.inr (by omega))
  refine g_newa hC (atype := .int) 0 rfl rfl rfl q198 (a0 := (12, .inl (fun _ => 0))) (fun _ => rfl) (by decide) rfl (by simp only [componentBytes]; omega) (G' := G_58) eG_58 (by omega) (by omega) dX2_init_45 ?_
  have a_66 : G_58 (n + 1 + 1 + 1 + 1) = some (.inl (yA Y 0, 12, .inl (fun _ => 0))) := by rw [← eG_58]; exact gU_s _ _ _
  obtain ⟨G_67, eG_67⟩ : ∃ G_, gU G_58 h (.inr (2, [.int 0, .int 0, .int 0, .int 1, .ref n, .ref (n + 1), .ref (n + 1 + 1), .ref (n + 1 + 1 + 1), .ref (n + 1 + 1 + 1 + 1), .null, .null])) = G_ := ⟨_, rfl⟩
  have a_68 : G_67 n = some (.inl (yA Y 6, 12, .inr (.inr (.inr (.inr (fun _ => none)))))) := by rw [← eG_67]; exact (gU_n _ (gne_ao a_60 o_59)).trans a_60
  have a_69 : G_67 (n + 1) = some (.inl (yA Y 0, 12, .inl (fun _ => 0))) := by rw [← eG_67]; exact (gU_n _ (gne_ao a_61 o_59)).trans a_61
  have a_70 : G_67 (n + 1 + 1) = some (.inl (yA Y 0, 12, .inl (fun _ => 0))) := by rw [← eG_67]; exact (gU_n _ (gne_ao a_62 o_59)).trans a_62
  have a_71 : G_67 (n + 1 + 1 + 1) = some (.inl (yA Y 0, 12, .inl (fun _ => 0))) := by rw [← eG_67]; exact (gU_n _ (gne_ao a_63 o_59)).trans a_63
  have a_72 : G_67 (n + 1 + 1 + 1 + 1) = some (.inl (yA Y 0, 12, .inl (fun _ => 0))) := by rw [← eG_67]; exact (gU_n _ (gne_ao a_66 o_59)).trans a_66
  have hi_73 : sub I G_67 := by rw [← eG_67]; exact sub_away hi_64 hIh
  have hf_74 : FR (fun q_ => q_ = h) n G G_67 := by rw [← eG_67]; exact FR.put hf_65 (.inl rfl)
  refine g_putF hC hnm kc_X2 o_59 8 (by decide) q275 rfl rfl rfl rfl (by show 8 < 11; decide) rfl (by omega) (G' := G_67) eG_67 dX2_init_47 ?_
  have o_75 : G_67 h = some (.inr (2, [.int 0, .int 0, .int 0, .int 1, .ref n, .ref (n + 1), .ref (n + 1 + 1), .ref (n + 1 + 1 + 1), .ref (n + 1 + 1 + 1 + 1), .null, .null])) := by rw [← eG_67]; exact gU_s _ _ _
  refine g_aload_n hC dX2_init_50 rfl 0 rfl ?_
  refine g_bipush (v := 24) hC dX2_init_51 (by decide) ?_
  obtain ⟨G_76, eG_76⟩ : ∃ G_, gU G_67 (n + 1 + 1 + 1 + 1 + 1) (.inl (yA Y 7, 24, .inr (.inr (.inr (.inr (fun _ => none)))))) = G_ := ⟨_, rfl⟩
  refine V.lts (fun ltG_76 => ?_)
  have o_77 : G_76 h = some (.inr (2, [.int 0, .int 0, .int 0, .int 1, .ref n, .ref (n + 1), .ref (n + 1 + 1), .ref (n + 1 + 1 + 1), .ref (n + 1 + 1 + 1 + 1), .null, .null])) := by rw [← eG_76]; exact (gU_n _ (Nat.ne_of_lt (ltG_76 _ _ o_75))).trans o_75
  have a_78 : G_76 n = some (.inl (yA Y 6, 12, .inr (.inr (.inr (.inr (fun _ => none)))))) := by rw [← eG_76]; exact (gU_n _ (Nat.ne_of_lt (ltG_76 _ _ a_68))).trans a_68
  have a_79 : G_76 (n + 1) = some (.inl (yA Y 0, 12, .inl (fun _ => 0))) := by rw [← eG_76]; exact (gU_n _ (Nat.ne_of_lt (ltG_76 _ _ a_69))).trans a_69
  have a_80 : G_76 (n + 1 + 1) = some (.inl (yA Y 0, 12, .inl (fun _ => 0))) := by rw [← eG_76]; exact (gU_n _ (Nat.ne_of_lt (ltG_76 _ _ a_70))).trans a_70
  have a_81 : G_76 (n + 1 + 1 + 1) = some (.inl (yA Y 0, 12, .inl (fun _ => 0))) := by rw [← eG_76]; exact (gU_n _ (Nat.ne_of_lt (ltG_76 _ _ a_71))).trans a_71
  have a_82 : G_76 (n + 1 + 1 + 1 + 1) = some (.inl (yA Y 0, 12, .inl (fun _ => 0))) := by rw [← eG_76]; exact (gU_n _ (Nat.ne_of_lt (ltG_76 _ _ a_72))).trans a_72
  have hi_83 : sub I G_76 := by rw [← eG_76]; exact sub_new hi_73 ltG_76
  have hf_84 : FR (fun q_ => q_ = h) n G G_76 := by rw [← eG_76]; exact FR.put hf_74 (.inr (by omega))
  refine g_anew hC q209 q210 (t0 := 7) rfl (by decide) (N := 24) rfl (by omega) (G' := G_76) eG_76 (by omega) (by omega) dX2_init_53 ?_
  have a_85 : G_76 (n + 1 + 1 + 1 + 1 + 1) = some (.inl (yA Y 7, 24, .inr (.inr (.inr (.inr (fun _ => none)))))) := by rw [← eG_76]; exact gU_s _ _ _
  obtain ⟨G_86, eG_86⟩ : ∃ G_, gU G_76 h (.inr (2, [.int 0, .int 0, .int 0, .int 1, .ref n, .ref (n + 1), .ref (n + 1 + 1), .ref (n + 1 + 1 + 1), .ref (n + 1 + 1 + 1 + 1), .ref (n + 1 + 1 + 1 + 1 + 1), .null])) = G_ := ⟨_, rfl⟩
  have a_87 : G_86 n = some (.inl (yA Y 6, 12, .inr (.inr (.inr (.inr (fun _ => none)))))) := by rw [← eG_86]; exact (gU_n _ (gne_ao a_78 o_77)).trans a_78
  have a_88 : G_86 (n + 1) = some (.inl (yA Y 0, 12, .inl (fun _ => 0))) := by rw [← eG_86]; exact (gU_n _ (gne_ao a_79 o_77)).trans a_79
  have a_89 : G_86 (n + 1 + 1) = some (.inl (yA Y 0, 12, .inl (fun _ => 0))) := by rw [← eG_86]; exact (gU_n _ (gne_ao a_80 o_77)).trans a_80
  have a_90 : G_86 (n + 1 + 1 + 1) = some (.inl (yA Y 0, 12, .inl (fun _ => 0))) := by rw [← eG_86]; exact (gU_n _ (gne_ao a_81 o_77)).trans a_81
  have a_91 : G_86 (n + 1 + 1 + 1 + 1) = some (.inl (yA Y 0, 12, .inl (fun _ => 0))) := by rw [← eG_86]; exact (gU_n _ (gne_ao a_82 o_77)).trans a_82
  have a_92 : G_86 (n + 1 + 1 + 1 + 1 + 1) = some (.inl (yA Y 7, 24, .inr (.inr (.inr (.inr (fun _ => none)))))) := by rw [← eG_86]; exact (gU_n _ (gne_ao a_85 o_77)).trans a_85
  have hi_93 : sub I G_86 := by rw [← eG_86]; exact sub_away hi_83 hIh
  have hf_94 : FR (fun q_ => q_ = h) n G G_86 := by rw [← eG_86]; exact FR.put hf_84 (.inl rfl)
  refine g_putF hC hnm kc_X2 o_77 9 (by decide) q280 rfl rfl rfl rfl (by show 9 < 11; decide) rfl (by omega) (G' := G_86) eG_86 dX2_init_56 ?_
  have o_95 : G_86 h = some (.inr (2, [.int 0, .int 0, .int 0, .int 1, .ref n, .ref (n + 1), .ref (n + 1 + 1), .ref (n + 1 + 1 + 1), .ref (n + 1 + 1 + 1 + 1), .ref (n + 1 + 1 + 1 + 1 + 1), .null])) := by rw [← eG_86]; exact gU_s _ _ _
  refine g_aload_n hC dX2_init_59 rfl 0 rfl ?_
  obtain ⟨G_96, eG_96⟩ : ∃ G_, gU G_86 (n + 1 + 1 + 1 + 1 + 1 + 1) (.inr (34, [.null, .null, .null, .null, .int 0, .int 0, .null, .null, .null])) = G_ := ⟨_, rfl⟩
  refine V.lts (fun ltG_96 => ?_)
  have o_97 : G_96 h = some (.inr (2, [.int 0, .int 0, .int 0, .int 1, .ref n, .ref (n + 1), .ref (n + 1 + 1), .ref (n + 1 + 1 + 1), .ref (n + 1 + 1 + 1 + 1), .ref (n + 1 + 1 + 1 + 1 + 1), .null])) := by rw [← eG_96]; exact (gU_n _ (Nat.ne_of_lt (ltG_96 _ _ o_95))).trans o_95
  have a_98 : G_96 n = some (.inl (yA Y 6, 12, .inr (.inr (.inr (.inr (fun _ => none)))))) := by rw [← eG_96]; exact (gU_n _ (Nat.ne_of_lt (ltG_96 _ _ a_87))).trans a_87
  have a_99 : G_96 (n + 1) = some (.inl (yA Y 0, 12, .inl (fun _ => 0))) := by rw [← eG_96]; exact (gU_n _ (Nat.ne_of_lt (ltG_96 _ _ a_88))).trans a_88
  have a_100 : G_96 (n + 1 + 1) = some (.inl (yA Y 0, 12, .inl (fun _ => 0))) := by rw [← eG_96]; exact (gU_n _ (Nat.ne_of_lt (ltG_96 _ _ a_89))).trans a_89
  have a_101 : G_96 (n + 1 + 1 + 1) = some (.inl (yA Y 0, 12, .inl (fun _ => 0))) := by rw [← eG_96]; exact (gU_n _ (Nat.ne_of_lt (ltG_96 _ _ a_90))).trans a_90
  have a_102 : G_96 (n + 1 + 1 + 1 + 1) = some (.inl (yA Y 0, 12, .inl (fun _ => 0))) := by rw [← eG_96]; exact (gU_n _ (Nat.ne_of_lt (ltG_96 _ _ a_91))).trans a_91
  have a_103 : G_96 (n + 1 + 1 + 1 + 1 + 1) = some (.inl (yA Y 7, 24, .inr (.inr (.inr (.inr (fun _ => none)))))) := by rw [← eG_96]; exact (gU_n _ (Nat.ne_of_lt (ltG_96 _ _ a_92))).trans a_92
  have hi_104 : sub I G_96 := by rw [← eG_96]; exact sub_new hi_93 ltG_96
  have hf_105 : FR (fun q_ => q_ = h) n G G_96 := by rw [← eG_96]; exact FR.put hf_94 (.inr (by omega))
  refine g_new hC kc_J1 q211 q212 q85 (fs := [.null, .null, .null, .null, .int 0, .int 0, .null, .null, .null]) rfl (G' := G_96) eG_96 (by omega) (by omega) dX2_init_60 ?_
  have o_106 : G_96 (n + 1 + 1 + 1 + 1 + 1 + 1) = some (.inr (34, [.null, .null, .null, .null, .int 0, .int 0, .null, .null, .null])) := by rw [← eG_96]; exact gU_s _ _ _
  refine g_dup hC dX2_init_63 rfl ?_
  refine V.lts (fun lc_107 => ?_)
  refine g_callv0 hC (g_runI (ret := none) hC (mp_new (G := G_96) (t := n + 1 + 1 + 1 + 1 + 1 + 1) (J := I) (KS Y) o_106 (by omega) (hIn _ (by omega))) (lw_meth q215) q85 q213 q214 rfl md_J1_init dX2_init_64 rfl ⟨by omega, by omega⟩ (by omega) (by omega) rfl (Nat.le_of_ble_eq_true rfl)) (fun G_108 n_108 u_108 hp_108 hn_108 hm_108 hu_108 => ?_)
  obtain ⟨τ_108, q_108, hT_108, hps_108, hf_108, hD_108, h8_108, rfl, rfl⟩ := hp_108
  have o_109 : G_108 h = some (.inr (2, [.int 0, .int 0, .int 0, .int 1, .ref n, .ref (n + 1), .ref (n + 1 + 1), .ref (n + 1 + 1 + 1), .ref (n + 1 + 1 + 1 + 1), .ref (n + 1 + 1 + 1 + 1 + 1), .null])) := (hf_108 _ (lc_107 _ _ o_97) (fun q => (gne_c o_97 o_106 (by decide)) q)).trans o_97
  have a_110 : G_108 n = some (.inl (yA Y 6, 12, .inr (.inr (.inr (.inr (fun _ => none)))))) := (hf_108 _ (lc_107 _ _ a_98) (fun q => (gne_ao a_98 o_106) q)).trans a_98
  have a_111 : G_108 (n + 1) = some (.inl (yA Y 0, 12, .inl (fun _ => 0))) := (hf_108 _ (lc_107 _ _ a_99) (fun q => (gne_ao a_99 o_106) q)).trans a_99
  have a_112 : G_108 (n + 1 + 1) = some (.inl (yA Y 0, 12, .inl (fun _ => 0))) := (hf_108 _ (lc_107 _ _ a_100) (fun q => (gne_ao a_100 o_106) q)).trans a_100
  have a_113 : G_108 (n + 1 + 1 + 1) = some (.inl (yA Y 0, 12, .inl (fun _ => 0))) := (hf_108 _ (lc_107 _ _ a_101) (fun q => (gne_ao a_101 o_106) q)).trans a_101
  have a_114 : G_108 (n + 1 + 1 + 1 + 1) = some (.inl (yA Y 0, 12, .inl (fun _ => 0))) := (hf_108 _ (lc_107 _ _ a_102) (fun q => (gne_ao a_102 o_106) q)).trans a_102
  have a_115 : G_108 (n + 1 + 1 + 1 + 1 + 1) = some (.inl (yA Y 7, 24, .inr (.inr (.inr (.inr (fun _ => none)))))) := (hf_108 _ (lc_107 _ _ a_103) (fun q => (gne_ao a_103 o_106) q)).trans a_103
  have hi_116 : sub I G_108 := hf_108.subs hi_104 lc_107 (fun a q => by subst q; exact hIn _ (by omega))
  have hf_117 : FR (fun q_ => q_ = h) n G G_108 := hf_105.trans hf_108 (by omega) (fun a_ q_ => by first | exact .inl q_ | exact .inl (.inl q_) | exact .inl (.inr q_) | (subst q_; first | exact .inr (by omega) | exact .inl rfl))
  have hTn_118 : ∀ a, TD (n + 1 + 1 + 1 + 1 + 1 + 1) τ_108 a → (fun q_ => q_ = h) a ∨ n ≤ a := fun a q => .inr (by have := hD_108 a q; omega)
  obtain ⟨G_119, eG_119⟩ : ∃ G_, gU G_108 h (.inr (2, [.int 0, .int 0, .int 0, .int 1, .ref n, .ref (n + 1), .ref (n + 1 + 1), .ref (n + 1 + 1 + 1), .ref (n + 1 + 1 + 1 + 1), .ref (n + 1 + 1 + 1 + 1 + 1), .ref (n + 1 + 1 + 1 + 1 + 1 + 1)])) = G_ := ⟨_, rfl⟩
  have a_120 : G_119 n = some (.inl (yA Y 6, 12, .inr (.inr (.inr (.inr (fun _ => none)))))) := by rw [← eG_119]; exact (gU_n _ (gne_ao a_110 o_109)).trans a_110
  have a_121 : G_119 (n + 1) = some (.inl (yA Y 0, 12, .inl (fun _ => 0))) := by rw [← eG_119]; exact (gU_n _ (gne_ao a_111 o_109)).trans a_111
  have a_122 : G_119 (n + 1 + 1) = some (.inl (yA Y 0, 12, .inl (fun _ => 0))) := by rw [← eG_119]; exact (gU_n _ (gne_ao a_112 o_109)).trans a_112
  have a_123 : G_119 (n + 1 + 1 + 1) = some (.inl (yA Y 0, 12, .inl (fun _ => 0))) := by rw [← eG_119]; exact (gU_n _ (gne_ao a_113 o_109)).trans a_113
  have a_124 : G_119 (n + 1 + 1 + 1 + 1) = some (.inl (yA Y 0, 12, .inl (fun _ => 0))) := by rw [← eG_119]; exact (gU_n _ (gne_ao a_114 o_109)).trans a_114
  have a_125 : G_119 (n + 1 + 1 + 1 + 1 + 1) = some (.inl (yA Y 7, 24, .inr (.inr (.inr (.inr (fun _ => none)))))) := by rw [← eG_119]; exact (gU_n _ (gne_ao a_115 o_109)).trans a_115
  have hi_126 : sub I G_119 := by rw [← eG_119]; exact sub_away hi_116 hIh
  have hx_127 : sub (TZ (n + 1 + 1 + 1 + 1 + 1 + 1) τ_108) G_119 := by rw [← eG_119]; exact sub_away hps_108 (TZ_none hT_108.2.2.2.1 hT_108.1.1 hps_108 o_109 (by decide) (by decide) (by decide))
  have hf_128 : FR (fun q_ => q_ = h) n G G_119 := by rw [← eG_119]; exact FR.put hf_117 (.inl rfl)
  refine g_putF hC hnm kc_X2 o_109 10 (by decide) q282 rfl rfl rfl rfl (by show 10 < 11; decide) rfl (by omega) (G' := G_119) eG_119 dX2_init_67 ?_
  have o_129 : G_119 h = some (.inr (2, [.int 0, .int 0, .int 0, .int 1, .ref n, .ref (n + 1), .ref (n + 1 + 1), .ref (n + 1 + 1 + 1), .ref (n + 1 + 1 + 1 + 1), .ref (n + 1 + 1 + 1 + 1 + 1), .ref (n + 1 + 1 + 1 + 1 + 1 + 1)])) := by rw [← eG_119]; exact gU_s _ _ _
  refine g_vret hC hr ⟨rfl, ?_⟩ (by omega) (by omega) hE dX2_init_70
  subst hn
  exact ⟨⟨o_129, a_120, a_121, a_122, a_123, a_124, a_125⟩, ⟨_, _, hT_108, hx_127, fun a q => hD_108 a q⟩, hf_128, rfl, rfl⟩
set_option maxHeartbeats 1000000 in
theorem met_X2_take {Y : YT} {l : Launch} {n u : Nat} {G : AH} (t : Nat) (h : Nat) {N K : Nat} {σ : MS} {η : HV} {I : AH} {τ : TS} {q : TQ} {M : MP} (hraw : HRAW Y t G) (hh : sub (hM Y h N σ η) G) (hN : σ.1 0 0 = nI N) (hK : σ.1 4 0 = nI K) (hN2 : N ≤ 12) (hK2 : K ≤ 24) (hI : sub I G) (hIh_h : ∀ a, hD h a → I a = none) (hpl : PLs Y N σ I (η.2 0)) (hhk : HKs K σ I (η.2 1)) (hIo : sub (oM Y) I) (hT : TMI (KS Y) Y (t + 7) none I τ q M) (hps : sub (TZ (t + 7) τ) G) (hdt : ∀ a, hD t a → I a = none) (hdd : ∀ a, hD t a → ¬ hD h a) (hzt : yz Y ≤ t) (hns_ : ∀ q q', q < N → q' < N → ¬ tl σ 0 q = 3 → ¬ tl σ 0 q' = 3 → keyN σ q = keyN σ q' → q = q') : GM Y l yX2_take (ws_ yX2_take cX2_take 3 (some (FieldType.object "PluginChains$Host"))) 9 211 [.ref t, .ref h] G n u 12 72 (pQ (fun r G' n' u' => some t = r ∧ sub (hM Y t N σ (ηT N K η)) G' ∧ (∃ τ' q' M', TMI (KS Y) Y (t + 7) none I τ' q' M' ∧ sub (TZ (t + 7) τ') G' ∧ (∀ a, TD (t + 7) τ' a → (hD t a ∨ TD (t + 7) τ a) ∨ n ≤ a) ∧ NMs N σ M') ∧ FR (fun a => hD t a ∨ TD (t + 7) τ a) n G G' ∧ n ≤ n' ∧ u' ≤ u + 6 * N)) noX := by
  refine GM.intro (own := RX2) rfl (by decide +kernel) (Nat.le_of_ble_eq_true rfl) ?_
  intro p e s m args below meth c R Q hC hr hnm hF hL hE
  have hE1 := hE.1
  have hE2 := hE.2.1
  have hnz : yz Y ≤ n := by have := hC.z; have := hC.n; omega
  show V Y p l e R s m args below meth c 3 n u G n u Q 0 [(0, .ref t), (1, .ref h)] []
  refine V.lts (fun hlt => ?_)
  have hl_h : h + 6 < n := hlt _ _ (hh _ _ (hM_j 6))
  have hIn := sub_none hI hlt
  have hTf : ∀ a, TD (t + 7) τ a → (hD t a ∨ TD (t + 7) τ a) ∨ n ≤ a := fun a q => .inl (.inr q)
  obtain ⟨t0, t1, t2, t3, t4, t5, t6⟩ := hraw
  have hl_t : t < n := hlt _ _ t0
  have hl_t6 : t + 6 < n := hlt _ _ t6
  have hl_t7 : t + 7 < n := hlt _ _ (hps _ _ (TZ_h hT.2.2.2.1))
  have hl_h6 : h + 6 < n := hlt _ _ (hh _ _ (hM_j 6))
  refine g_aload_n hC dX2_take_0 rfl 0 rfl ?_
  refine g_aload_n hC dX2_take_1 rfl 1 rfl ?_
  refine g_get (v := .int (nI N)) hC kc_X2 (hh _ _ (hM_0 hN hK)) 0 (by decide) q251 rfl dX2_take_2 ?_
  obtain ⟨G_1, eG_1⟩ : ∃ G_, gU G t (.inr (2, [.int (nI N), .int 0, .int 0, .int 1, .ref (t + 1), .ref (t + 2), .ref (t + 3), .ref (t + 4), .ref (t + 5), .ref (t + 6), .ref (t + 7)])) = G_ := ⟨_, rfl⟩
  have a_2 : G_1 (t + 1) = some (.inl (yA Y 6, 12, .inr (.inr (.inr (.inr (fun _ => none)))))) := by rw [← eG_1]; exact (gU_n _ (by omega)).trans t1
  have a_3 : G_1 (t + 6) = some (.inl (yA Y 7, 24, .inr (.inr (.inr (.inr (fun _ => none)))))) := by rw [← eG_1]; exact (gU_n _ (by omega)).trans t6
  have a_4 : G_1 (t + 2) = some (.inl (yA Y 0, 12, .inl (fun _ => 0))) := by rw [← eG_1]; exact (gU_n _ (by omega)).trans t2
  have a_5 : G_1 (t + 3) = some (.inl (yA Y 0, 12, .inl (fun _ => 0))) := by rw [← eG_1]; exact (gU_n _ (by omega)).trans t3
  have a_6 : G_1 (t + 4) = some (.inl (yA Y 0, 12, .inl (fun _ => 0))) := by rw [← eG_1]; exact (gU_n _ (by omega)).trans t4
  have a_7 : G_1 (t + 5) = some (.inl (yA Y 0, 12, .inl (fun _ => 0))) := by rw [← eG_1]; exact (gU_n _ (by omega)).trans t5
  have hs_8 : sub (hM Y h N σ η) G_1 := by rw [← eG_1]; exact sub_away hh (hM_none (hdd _ ⟨by omega, by omega⟩))
  have hi_9 : sub I G_1 := by rw [← eG_1]; exact sub_away hI (hdt _ ⟨by omega, by omega⟩)
  have hx_10 : sub (TZ (t + 7) τ) G_1 := by rw [← eG_1]; exact sub_away hps (TZ_none hT.2.2.2.1 hT.1.1 hps t0 (by decide) (by decide) (by decide))
  have hf_11 : FR (fun a => hD t a ∨ TD (t + 7) τ a) n G G_1 := by rw [← eG_1]; exact FR.put FR.refl (.inl (.inl ⟨by omega, by omega⟩))
  refine g_put hC kc_X2 t0 0 (by decide) q251 rfl rfl rfl (by show 0 < 11; decide) rfl (by omega) (G' := G_1) eG_1 dX2_take_5 ?_
  have o_12 : G_1 t = some (.inr (2, [.int (nI N), .int 0, .int 0, .int 1, .ref (t + 1), .ref (t + 2), .ref (t + 3), .ref (t + 4), .ref (t + 5), .ref (t + 6), .ref (t + 7)])) := by rw [← eG_1]; exact gU_s _ _ _
  refine g_aload_n hC dX2_take_8 rfl 0 rfl ?_
  refine g_aload_n hC dX2_take_9 rfl 1 rfl ?_
  refine g_get (v := .int (nI K)) hC kc_X2 (hs_8 _ _ (hM_0 hN hK)) 1 (by decide) q255 rfl dX2_take_10 ?_
  obtain ⟨G_13, eG_13⟩ : ∃ G_, gU G_1 t (.inr (2, [.int (nI N), .int (nI K), .int 0, .int 1, .ref (t + 1), .ref (t + 2), .ref (t + 3), .ref (t + 4), .ref (t + 5), .ref (t + 6), .ref (t + 7)])) = G_ := ⟨_, rfl⟩
  have a_14 : G_13 (t + 1) = some (.inl (yA Y 6, 12, .inr (.inr (.inr (.inr (fun _ => none)))))) := by rw [← eG_13]; exact (gU_n _ (by omega)).trans a_2
  have a_15 : G_13 (t + 6) = some (.inl (yA Y 7, 24, .inr (.inr (.inr (.inr (fun _ => none)))))) := by rw [← eG_13]; exact (gU_n _ (by omega)).trans a_3
  have a_16 : G_13 (t + 2) = some (.inl (yA Y 0, 12, .inl (fun _ => 0))) := by rw [← eG_13]; exact (gU_n _ (by omega)).trans a_4
  have a_17 : G_13 (t + 3) = some (.inl (yA Y 0, 12, .inl (fun _ => 0))) := by rw [← eG_13]; exact (gU_n _ (by omega)).trans a_5
  have a_18 : G_13 (t + 4) = some (.inl (yA Y 0, 12, .inl (fun _ => 0))) := by rw [← eG_13]; exact (gU_n _ (by omega)).trans a_6
  have a_19 : G_13 (t + 5) = some (.inl (yA Y 0, 12, .inl (fun _ => 0))) := by rw [← eG_13]; exact (gU_n _ (by omega)).trans a_7
  have hs_20 : sub (hM Y h N σ η) G_13 := by rw [← eG_13]; exact sub_away hs_8 (hM_none (hdd _ ⟨by omega, by omega⟩))
  have hi_21 : sub I G_13 := by rw [← eG_13]; exact sub_away hi_9 (hdt _ ⟨by omega, by omega⟩)
  have hx_22 : sub (TZ (t + 7) τ) G_13 := by rw [← eG_13]; exact sub_away hx_10 (TZ_none hT.2.2.2.1 hT.1.1 hx_10 o_12 (by decide) (by decide) (by decide))
  have hf_23 : FR (fun a => hD t a ∨ TD (t + 7) τ a) n G G_13 := by rw [← eG_13]; exact FR.put hf_11 (.inl (.inl ⟨by omega, by omega⟩))
  refine g_put hC kc_X2 o_12 1 (by decide) q255 rfl rfl rfl (by show 1 < 11; decide) rfl (by omega) (G' := G_13) eG_13 dX2_take_13 ?_
  have o_24 : G_13 t = some (.inr (2, [.int (nI N), .int (nI K), .int 0, .int 1, .ref (t + 1), .ref (t + 2), .ref (t + 3), .ref (t + 4), .ref (t + 5), .ref (t + 6), .ref (t + 7)])) := by rw [← eG_13]; exact gU_s _ _ _
  refine g_aload_n hC dX2_take_16 rfl 0 rfl ?_
  refine g_aload_n hC dX2_take_17 rfl 1 rfl ?_
  refine g_get (v := .int (σ.1 2 0)) hC kc_X2 (hs_20 _ _ (hM_0 hN hK)) 2 (by decide) q257 rfl dX2_take_18 ?_
  obtain ⟨G_25, eG_25⟩ : ∃ G_, gU G_13 t (.inr (2, [.int (nI N), .int (nI K), .int (σ.1 2 0), .int 1, .ref (t + 1), .ref (t + 2), .ref (t + 3), .ref (t + 4), .ref (t + 5), .ref (t + 6), .ref (t + 7)])) = G_ := ⟨_, rfl⟩
  have a_26 : G_25 (t + 1) = some (.inl (yA Y 6, 12, .inr (.inr (.inr (.inr (fun _ => none)))))) := by rw [← eG_25]; exact (gU_n _ (by omega)).trans a_14
  have a_27 : G_25 (t + 6) = some (.inl (yA Y 7, 24, .inr (.inr (.inr (.inr (fun _ => none)))))) := by rw [← eG_25]; exact (gU_n _ (by omega)).trans a_15
  have a_28 : G_25 (t + 2) = some (.inl (yA Y 0, 12, .inl (fun _ => 0))) := by rw [← eG_25]; exact (gU_n _ (by omega)).trans a_16
  have a_29 : G_25 (t + 3) = some (.inl (yA Y 0, 12, .inl (fun _ => 0))) := by rw [← eG_25]; exact (gU_n _ (by omega)).trans a_17
  have a_30 : G_25 (t + 4) = some (.inl (yA Y 0, 12, .inl (fun _ => 0))) := by rw [← eG_25]; exact (gU_n _ (by omega)).trans a_18
  have a_31 : G_25 (t + 5) = some (.inl (yA Y 0, 12, .inl (fun _ => 0))) := by rw [← eG_25]; exact (gU_n _ (by omega)).trans a_19
  have hs_32 : sub (hM Y h N σ η) G_25 := by rw [← eG_25]; exact sub_away hs_20 (hM_none (hdd _ ⟨by omega, by omega⟩))
  have hi_33 : sub I G_25 := by rw [← eG_25]; exact sub_away hi_21 (hdt _ ⟨by omega, by omega⟩)
  have hx_34 : sub (TZ (t + 7) τ) G_25 := by rw [← eG_25]; exact sub_away hx_22 (TZ_none hT.2.2.2.1 hT.1.1 hx_22 o_24 (by decide) (by decide) (by decide))
  have hf_35 : FR (fun a => hD t a ∨ TD (t + 7) τ a) n G G_25 := by rw [← eG_25]; exact FR.put hf_23 (.inl (.inl ⟨by omega, by omega⟩))
  refine g_put hC kc_X2 o_24 2 (by decide) q257 rfl rfl rfl (by show 2 < 11; decide) rfl (by omega) (G' := G_25) eG_25 dX2_take_21 ?_
  have o_36 : G_25 t = some (.inr (2, [.int (nI N), .int (nI K), .int (σ.1 2 0), .int 1, .ref (t + 1), .ref (t + 2), .ref (t + 3), .ref (t + 4), .ref (t + 5), .ref (t + 6), .ref (t + 7)])) := by rw [← eG_25]; exact gU_s _ _ _
  refine g_aload_n hC dX2_take_24 rfl 0 rfl ?_
  refine g_aload_n hC dX2_take_25 rfl 1 rfl ?_
  refine g_get (v := .int (σ.1 3 0)) hC kc_X2 (hs_32 _ _ (hM_0 hN hK)) 3 (by decide) q260 rfl dX2_take_26 ?_
  obtain ⟨G_37, eG_37⟩ : ∃ G_, gU G_25 t (.inr (2, [.int (nI N), .int (nI K), .int (σ.1 2 0), .int (σ.1 3 0), .ref (t + 1), .ref (t + 2), .ref (t + 3), .ref (t + 4), .ref (t + 5), .ref (t + 6), .ref (t + 7)])) = G_ := ⟨_, rfl⟩
  have a_38 : G_37 (t + 1) = some (.inl (yA Y 6, 12, .inr (.inr (.inr (.inr (fun _ => none)))))) := by rw [← eG_37]; exact (gU_n _ (by omega)).trans a_26
  have a_39 : G_37 (t + 6) = some (.inl (yA Y 7, 24, .inr (.inr (.inr (.inr (fun _ => none)))))) := by rw [← eG_37]; exact (gU_n _ (by omega)).trans a_27
  have a_40 : G_37 (t + 2) = some (.inl (yA Y 0, 12, .inl (fun _ => 0))) := by rw [← eG_37]; exact (gU_n _ (by omega)).trans a_28
  have a_41 : G_37 (t + 3) = some (.inl (yA Y 0, 12, .inl (fun _ => 0))) := by rw [← eG_37]; exact (gU_n _ (by omega)).trans a_29
  have a_42 : G_37 (t + 4) = some (.inl (yA Y 0, 12, .inl (fun _ => 0))) := by rw [← eG_37]; exact (gU_n _ (by omega)).trans a_30
  have a_43 : G_37 (t + 5) = some (.inl (yA Y 0, 12, .inl (fun _ => 0))) := by rw [← eG_37]; exact (gU_n _ (by omega)).trans a_31
  have hs_44 : sub (hM Y h N σ η) G_37 := by rw [← eG_37]; exact sub_away hs_32 (hM_none (hdd _ ⟨by omega, by omega⟩))
  have hi_45 : sub I G_37 := by rw [← eG_37]; exact sub_away hi_33 (hdt _ ⟨by omega, by omega⟩)
  have hx_46 : sub (TZ (t + 7) τ) G_37 := by rw [← eG_37]; exact sub_away hx_34 (TZ_none hT.2.2.2.1 hT.1.1 hx_34 o_36 (by decide) (by decide) (by decide))
  have hf_47 : FR (fun a => hD t a ∨ TD (t + 7) τ a) n G G_37 := by rw [← eG_37]; exact FR.put hf_35 (.inl (.inl ⟨by omega, by omega⟩))
  refine g_put hC kc_X2 o_36 3 (by decide) q260 rfl rfl rfl (by show 3 < 11; decide) rfl (by omega) (G' := G_37) eG_37 dX2_take_29 ?_
  have o_48 : G_37 t = some (.inr (2, [.int (nI N), .int (nI K), .int (σ.1 2 0), .int (σ.1 3 0), .ref (t + 1), .ref (t + 2), .ref (t + 3), .ref (t + 4), .ref (t + 5), .ref (t + 6), .ref (t + 7)])) := by rw [← eG_37]; exact gU_s _ _ _
  refine g_aload_n hC dX2_take_32 rfl 1 rfl ?_
  refine g_get (v := .ref (h + 1)) hC kc_X2 (hs_44 _ _ (hM_0 hN hK)) 4 (by decide) q262 rfl dX2_take_33 ?_
  refine g_iconst (v := 0) hC dX2_take_36 rfl ?_
  refine g_aload_n hC dX2_take_37 rfl 0 rfl ?_
  refine g_get (v := .ref (t + 1)) hC kc_X2 o_48 4 (by decide) q262 rfl dX2_take_38 ?_
  refine g_iconst (v := 0) hC dX2_take_41 rfl ?_
  refine g_aload_n hC dX2_take_42 rfl 0 rfl ?_
  refine g_get (v := .int (nI N)) hC kc_X2 o_48 0 (by decide) q251 rfl dX2_take_43 ?_
  obtain ⟨G_49, eG_49⟩ : ∃ G_, gU G_37 (t + 1) (.inl (yA Y 6, 12, .inr (.inr (.inr (.inr (va_cpy (η.2 0) (fun _ => none) 0 0 N)))))) = G_ := ⟨_, rfl⟩
  have o_50 : G_49 t = some (.inr (2, [.int (nI N), .int (nI K), .int (σ.1 2 0), .int (σ.1 3 0), .ref (t + 1), .ref (t + 2), .ref (t + 3), .ref (t + 4), .ref (t + 5), .ref (t + 6), .ref (t + 7)])) := by rw [← eG_49]; exact (gU_n _ (by omega)).trans o_48
  have a_51 : G_49 (t + 6) = some (.inl (yA Y 7, 24, .inr (.inr (.inr (.inr (fun _ => none)))))) := by rw [← eG_49]; exact (gU_n _ (by omega)).trans a_39
  have a_52 : G_49 (t + 2) = some (.inl (yA Y 0, 12, .inl (fun _ => 0))) := by rw [← eG_49]; exact (gU_n _ (by omega)).trans a_40
  have a_53 : G_49 (t + 3) = some (.inl (yA Y 0, 12, .inl (fun _ => 0))) := by rw [← eG_49]; exact (gU_n _ (by omega)).trans a_41
  have a_54 : G_49 (t + 4) = some (.inl (yA Y 0, 12, .inl (fun _ => 0))) := by rw [← eG_49]; exact (gU_n _ (by omega)).trans a_42
  have a_55 : G_49 (t + 5) = some (.inl (yA Y 0, 12, .inl (fun _ => 0))) := by rw [← eG_49]; exact (gU_n _ (by omega)).trans a_43
  have hs_56 : sub (hM Y h N σ η) G_49 := by rw [← eG_49]; exact sub_away hs_44 (hM_none (hdd _ ⟨by omega, by omega⟩))
  have hi_57 : sub I G_49 := by rw [← eG_49]; exact sub_away hi_45 (hdt _ ⟨by omega, by omega⟩)
  have hx_58 : sub (TZ (t + 7) τ) G_49 := by rw [← eG_49]; exact sub_away hx_46 (TZ_noneA hx_46 a_38)
  have hf_59 : FR (fun a => hD t a ∨ TD (t + 7) τ a) n G G_49 := by rw [← eG_49]; exact FR.put hf_47 (.inl (.inl ⟨by omega, by omega⟩))
  refine g_copyq hC (t0 := 6) rfl (t1 := 6) rfl rfl rfl (hs_44 _ _ (hM_j 1)) a_38 (by omega) (sp := 0) (dp := 0) (k := N) (by omega) (by omega) (by omega) (by omega) (fun H_ g_ i_ hi_ y_ hy_ => by rw [Nat.zero_add] at hy_; obtain ⟨a9, nm9, kd9, r1, r2, r3, r4, r5, r6⟩ := hpl.key (q := i_) (by omega); rw [r1] at hy_; cases hy_; exact any_P hC g_ r2 (hi_45 _ _ r4)) rfl (G' := G_49) eG_49 q1600 dX2_take_46 (by omega) (by first | (simp; omega) | (simp [Value.category]; omega)) ?_
  have a_60 : G_49 (t + 1) = some (.inl (yA Y 6, 12, .inr (.inr (.inr (.inr (va_cpy (η.2 0) (fun _ => none) 0 0 N)))))) := by rw [← eG_49]; exact gU_s _ _ _
  refine g_aload_n hC dX2_take_49 rfl 1 rfl ?_
  refine g_get (v := .ref (h + 2)) hC kc_X2 (hs_56 _ _ (hM_0 hN hK)) 5 (by decide) q265 rfl dX2_take_50 ?_
  refine g_iconst (v := 0) hC dX2_take_53 rfl ?_
  refine g_aload_n hC dX2_take_54 rfl 0 rfl ?_
  refine g_get (v := .ref (t + 2)) hC kc_X2 o_50 5 (by decide) q265 rfl dX2_take_55 ?_
  refine g_iconst (v := 0) hC dX2_take_58 rfl ?_
  refine g_aload_n hC dX2_take_59 rfl 0 rfl ?_
  refine g_get (v := .int (nI N)) hC kc_X2 o_50 0 (by decide) q251 rfl dX2_take_60 ?_
  obtain ⟨G_61, eG_61⟩ : ∃ G_, gU G_49 (t + 2) (.inl (yA Y 0, 12, .inl (va_cpy (hA N 0 σ η.1) (fun _ => 0) 0 0 N))) = G_ := ⟨_, rfl⟩
  have o_62 : G_61 t = some (.inr (2, [.int (nI N), .int (nI K), .int (σ.1 2 0), .int (σ.1 3 0), .ref (t + 1), .ref (t + 2), .ref (t + 3), .ref (t + 4), .ref (t + 5), .ref (t + 6), .ref (t + 7)])) := by rw [← eG_61]; exact (gU_n _ (by omega)).trans o_50
  have a_63 : G_61 (t + 1) = some (.inl (yA Y 6, 12, .inr (.inr (.inr (.inr (va_cpy (η.2 0) (fun _ => none) 0 0 N)))))) := by rw [← eG_61]; exact (gU_n _ (by omega)).trans a_60
  have a_64 : G_61 (t + 6) = some (.inl (yA Y 7, 24, .inr (.inr (.inr (.inr (fun _ => none)))))) := by rw [← eG_61]; exact (gU_n _ (by omega)).trans a_51
  have a_65 : G_61 (t + 3) = some (.inl (yA Y 0, 12, .inl (fun _ => 0))) := by rw [← eG_61]; exact (gU_n _ (by omega)).trans a_53
  have a_66 : G_61 (t + 4) = some (.inl (yA Y 0, 12, .inl (fun _ => 0))) := by rw [← eG_61]; exact (gU_n _ (by omega)).trans a_54
  have a_67 : G_61 (t + 5) = some (.inl (yA Y 0, 12, .inl (fun _ => 0))) := by rw [← eG_61]; exact (gU_n _ (by omega)).trans a_55
  have hs_68 : sub (hM Y h N σ η) G_61 := by rw [← eG_61]; exact sub_away hs_56 (hM_none (hdd _ ⟨by omega, by omega⟩))
  have hi_69 : sub I G_61 := by rw [← eG_61]; exact sub_away hi_57 (hdt _ ⟨by omega, by omega⟩)
  have hx_70 : sub (TZ (t + 7) τ) G_61 := by rw [← eG_61]; exact sub_away hx_58 (TZ_noneA hx_58 a_52)
  have hf_71 : FR (fun a => hD t a ∨ TD (t + 7) τ a) n G G_61 := by rw [← eG_61]; exact FR.put hf_59 (.inl (.inl ⟨by omega, by omega⟩))
  refine g_copyi hC (t0 := 0) rfl (t1 := 0) rfl rfl rfl (hs_56 _ _ (hM_j 2)) a_52 (by omega) (sp := 0) (dp := 0) (k := N) (by omega) (by omega) (by omega) (by omega) (fun _ _ => rfl) rfl (G' := G_61) eG_61 q1600 dX2_take_63 (by omega) (by first | (simp; omega) | (simp [Value.category]; omega)) ?_
  have a_72 : G_61 (t + 2) = some (.inl (yA Y 0, 12, .inl (va_cpy (hA N 0 σ η.1) (fun _ => 0) 0 0 N))) := by rw [← eG_61]; exact gU_s _ _ _
  refine g_aload_n hC dX2_take_66 rfl 1 rfl ?_
  refine g_get (v := .ref (h + 3)) hC kc_X2 (hs_68 _ _ (hM_0 hN hK)) 6 (by decide) q268 rfl dX2_take_67 ?_
  refine g_iconst (v := 0) hC dX2_take_70 rfl ?_
  refine g_aload_n hC dX2_take_71 rfl 0 rfl ?_
  refine g_get (v := .ref (t + 3)) hC kc_X2 o_62 6 (by decide) q268 rfl dX2_take_72 ?_
  refine g_iconst (v := 0) hC dX2_take_75 rfl ?_
  refine g_aload_n hC dX2_take_76 rfl 0 rfl ?_
  refine g_get (v := .int (nI N)) hC kc_X2 o_62 0 (by decide) q251 rfl dX2_take_77 ?_
  obtain ⟨G_73, eG_73⟩ : ∃ G_, gU G_61 (t + 3) (.inl (yA Y 0, 12, .inl (va_cpy (hA N 5 σ η.1) (fun _ => 0) 0 0 N))) = G_ := ⟨_, rfl⟩
  have o_74 : G_73 t = some (.inr (2, [.int (nI N), .int (nI K), .int (σ.1 2 0), .int (σ.1 3 0), .ref (t + 1), .ref (t + 2), .ref (t + 3), .ref (t + 4), .ref (t + 5), .ref (t + 6), .ref (t + 7)])) := by rw [← eG_73]; exact (gU_n _ (by omega)).trans o_62
  have a_75 : G_73 (t + 1) = some (.inl (yA Y 6, 12, .inr (.inr (.inr (.inr (va_cpy (η.2 0) (fun _ => none) 0 0 N)))))) := by rw [← eG_73]; exact (gU_n _ (by omega)).trans a_63
  have a_76 : G_73 (t + 6) = some (.inl (yA Y 7, 24, .inr (.inr (.inr (.inr (fun _ => none)))))) := by rw [← eG_73]; exact (gU_n _ (by omega)).trans a_64
  have a_77 : G_73 (t + 2) = some (.inl (yA Y 0, 12, .inl (va_cpy (hA N 0 σ η.1) (fun _ => 0) 0 0 N))) := by rw [← eG_73]; exact (gU_n _ (by omega)).trans a_72
  have a_78 : G_73 (t + 4) = some (.inl (yA Y 0, 12, .inl (fun _ => 0))) := by rw [← eG_73]; exact (gU_n _ (by omega)).trans a_66
  have a_79 : G_73 (t + 5) = some (.inl (yA Y 0, 12, .inl (fun _ => 0))) := by rw [← eG_73]; exact (gU_n _ (by omega)).trans a_67
  have hs_80 : sub (hM Y h N σ η) G_73 := by rw [← eG_73]; exact sub_away hs_68 (hM_none (hdd _ ⟨by omega, by omega⟩))
  have hi_81 : sub I G_73 := by rw [← eG_73]; exact sub_away hi_69 (hdt _ ⟨by omega, by omega⟩)
  have hx_82 : sub (TZ (t + 7) τ) G_73 := by rw [← eG_73]; exact sub_away hx_70 (TZ_noneA hx_70 a_65)
  have hf_83 : FR (fun a => hD t a ∨ TD (t + 7) τ a) n G G_73 := by rw [← eG_73]; exact FR.put hf_71 (.inl (.inl ⟨by omega, by omega⟩))
  refine g_copyi hC (t0 := 0) rfl (t1 := 0) rfl rfl rfl (hs_68 _ _ (hM_j 3)) a_65 (by omega) (sp := 0) (dp := 0) (k := N) (by omega) (by omega) (by omega) (by omega) (fun _ _ => rfl) rfl (G' := G_73) eG_73 q1600 dX2_take_80 (by omega) (by first | (simp; omega) | (simp [Value.category]; omega)) ?_
  have a_84 : G_73 (t + 3) = some (.inl (yA Y 0, 12, .inl (va_cpy (hA N 5 σ η.1) (fun _ => 0) 0 0 N))) := by rw [← eG_73]; exact gU_s _ _ _
  refine g_aload_n hC dX2_take_83 rfl 1 rfl ?_
  refine g_get (v := .ref (h + 4)) hC kc_X2 (hs_80 _ _ (hM_0 hN hK)) 7 (by decide) q271 rfl dX2_take_84 ?_
  refine g_iconst (v := 0) hC dX2_take_87 rfl ?_
  refine g_aload_n hC dX2_take_88 rfl 0 rfl ?_
  refine g_get (v := .ref (t + 4)) hC kc_X2 o_74 7 (by decide) q271 rfl dX2_take_89 ?_
  refine g_iconst (v := 0) hC dX2_take_92 rfl ?_
  refine g_aload_n hC dX2_take_93 rfl 0 rfl ?_
  refine g_get (v := .int (nI N)) hC kc_X2 o_74 0 (by decide) q251 rfl dX2_take_94 ?_
  obtain ⟨G_85, eG_85⟩ : ∃ G_, gU G_73 (t + 4) (.inl (yA Y 0, 12, .inl (va_cpy (hA N 8 σ η.1) (fun _ => 0) 0 0 N))) = G_ := ⟨_, rfl⟩
  have o_86 : G_85 t = some (.inr (2, [.int (nI N), .int (nI K), .int (σ.1 2 0), .int (σ.1 3 0), .ref (t + 1), .ref (t + 2), .ref (t + 3), .ref (t + 4), .ref (t + 5), .ref (t + 6), .ref (t + 7)])) := by rw [← eG_85]; exact (gU_n _ (by omega)).trans o_74
  have a_87 : G_85 (t + 1) = some (.inl (yA Y 6, 12, .inr (.inr (.inr (.inr (va_cpy (η.2 0) (fun _ => none) 0 0 N)))))) := by rw [← eG_85]; exact (gU_n _ (by omega)).trans a_75
  have a_88 : G_85 (t + 6) = some (.inl (yA Y 7, 24, .inr (.inr (.inr (.inr (fun _ => none)))))) := by rw [← eG_85]; exact (gU_n _ (by omega)).trans a_76
  have a_89 : G_85 (t + 2) = some (.inl (yA Y 0, 12, .inl (va_cpy (hA N 0 σ η.1) (fun _ => 0) 0 0 N))) := by rw [← eG_85]; exact (gU_n _ (by omega)).trans a_77
  have a_90 : G_85 (t + 3) = some (.inl (yA Y 0, 12, .inl (va_cpy (hA N 5 σ η.1) (fun _ => 0) 0 0 N))) := by rw [← eG_85]; exact (gU_n _ (by omega)).trans a_84
  have a_91 : G_85 (t + 5) = some (.inl (yA Y 0, 12, .inl (fun _ => 0))) := by rw [← eG_85]; exact (gU_n _ (by omega)).trans a_79
  have hs_92 : sub (hM Y h N σ η) G_85 := by rw [← eG_85]; exact sub_away hs_80 (hM_none (hdd _ ⟨by omega, by omega⟩))
  have hi_93 : sub I G_85 := by rw [← eG_85]; exact sub_away hi_81 (hdt _ ⟨by omega, by omega⟩)
  have hx_94 : sub (TZ (t + 7) τ) G_85 := by rw [← eG_85]; exact sub_away hx_82 (TZ_noneA hx_82 a_78)
  have hf_95 : FR (fun a => hD t a ∨ TD (t + 7) τ a) n G G_85 := by rw [← eG_85]; exact FR.put hf_83 (.inl (.inl ⟨by omega, by omega⟩))
  refine g_copyi hC (t0 := 0) rfl (t1 := 0) rfl rfl rfl (hs_80 _ _ (hM_j 4)) a_78 (by omega) (sp := 0) (dp := 0) (k := N) (by omega) (by omega) (by omega) (by omega) (fun _ _ => rfl) rfl (G' := G_85) eG_85 q1600 dX2_take_97 (by omega) (by first | (simp; omega) | (simp [Value.category]; omega)) ?_
  have a_96 : G_85 (t + 4) = some (.inl (yA Y 0, 12, .inl (va_cpy (hA N 8 σ η.1) (fun _ => 0) 0 0 N))) := by rw [← eG_85]; exact gU_s _ _ _
  refine g_aload_n hC dX2_take_100 rfl 1 rfl ?_
  refine g_get (v := .ref (h + 5)) hC kc_X2 (hs_92 _ _ (hM_0 hN hK)) 8 (by decide) q275 rfl dX2_take_101 ?_
  refine g_iconst (v := 0) hC dX2_take_104 rfl ?_
  refine g_aload_n hC dX2_take_105 rfl 0 rfl ?_
  refine g_get (v := .ref (t + 5)) hC kc_X2 o_86 8 (by decide) q275 rfl dX2_take_106 ?_
  refine g_iconst (v := 0) hC dX2_take_109 rfl ?_
  refine g_aload_n hC dX2_take_110 rfl 0 rfl ?_
  refine g_get (v := .int (nI N)) hC kc_X2 o_86 0 (by decide) q251 rfl dX2_take_111 ?_
  obtain ⟨G_97, eG_97⟩ : ∃ G_, gU G_85 (t + 5) (.inl (yA Y 0, 12, .inl (va_cpy (hA N 7 σ η.1) (fun _ => 0) 0 0 N))) = G_ := ⟨_, rfl⟩
  have o_98 : G_97 t = some (.inr (2, [.int (nI N), .int (nI K), .int (σ.1 2 0), .int (σ.1 3 0), .ref (t + 1), .ref (t + 2), .ref (t + 3), .ref (t + 4), .ref (t + 5), .ref (t + 6), .ref (t + 7)])) := by rw [← eG_97]; exact (gU_n _ (by omega)).trans o_86
  have a_99 : G_97 (t + 1) = some (.inl (yA Y 6, 12, .inr (.inr (.inr (.inr (va_cpy (η.2 0) (fun _ => none) 0 0 N)))))) := by rw [← eG_97]; exact (gU_n _ (by omega)).trans a_87
  have a_100 : G_97 (t + 6) = some (.inl (yA Y 7, 24, .inr (.inr (.inr (.inr (fun _ => none)))))) := by rw [← eG_97]; exact (gU_n _ (by omega)).trans a_88
  have a_101 : G_97 (t + 2) = some (.inl (yA Y 0, 12, .inl (va_cpy (hA N 0 σ η.1) (fun _ => 0) 0 0 N))) := by rw [← eG_97]; exact (gU_n _ (by omega)).trans a_89
  have a_102 : G_97 (t + 3) = some (.inl (yA Y 0, 12, .inl (va_cpy (hA N 5 σ η.1) (fun _ => 0) 0 0 N))) := by rw [← eG_97]; exact (gU_n _ (by omega)).trans a_90
  have a_103 : G_97 (t + 4) = some (.inl (yA Y 0, 12, .inl (va_cpy (hA N 8 σ η.1) (fun _ => 0) 0 0 N))) := by rw [← eG_97]; exact (gU_n _ (by omega)).trans a_96
  have hs_104 : sub (hM Y h N σ η) G_97 := by rw [← eG_97]; exact sub_away hs_92 (hM_none (hdd _ ⟨by omega, by omega⟩))
  have hi_105 : sub I G_97 := by rw [← eG_97]; exact sub_away hi_93 (hdt _ ⟨by omega, by omega⟩)
  have hx_106 : sub (TZ (t + 7) τ) G_97 := by rw [← eG_97]; exact sub_away hx_94 (TZ_noneA hx_94 a_91)
  have hf_107 : FR (fun a => hD t a ∨ TD (t + 7) τ a) n G G_97 := by rw [← eG_97]; exact FR.put hf_95 (.inl (.inl ⟨by omega, by omega⟩))
  refine g_copyi hC (t0 := 0) rfl (t1 := 0) rfl rfl rfl (hs_92 _ _ (hM_j 5)) a_91 (by omega) (sp := 0) (dp := 0) (k := N) (by omega) (by omega) (by omega) (by omega) (fun _ _ => rfl) rfl (G' := G_97) eG_97 q1600 dX2_take_114 (by omega) (by first | (simp; omega) | (simp [Value.category]; omega)) ?_
  have a_108 : G_97 (t + 5) = some (.inl (yA Y 0, 12, .inl (va_cpy (hA N 7 σ η.1) (fun _ => 0) 0 0 N))) := by rw [← eG_97]; exact gU_s _ _ _
  refine g_aload_n hC dX2_take_117 rfl 1 rfl ?_
  refine g_get (v := .ref (h + 6)) hC kc_X2 (hs_104 _ _ (hM_0 hN hK)) 9 (by decide) q280 rfl dX2_take_118 ?_
  refine g_iconst (v := 0) hC dX2_take_121 rfl ?_
  refine g_aload_n hC dX2_take_122 rfl 0 rfl ?_
  refine g_get (v := .ref (t + 6)) hC kc_X2 o_98 9 (by decide) q280 rfl dX2_take_123 ?_
  refine g_iconst (v := 0) hC dX2_take_126 rfl ?_
  refine g_aload_n hC dX2_take_127 rfl 0 rfl ?_
  refine g_get (v := .int (nI K)) hC kc_X2 o_98 1 (by decide) q255 rfl dX2_take_128 ?_
  obtain ⟨G_109, eG_109⟩ : ∃ G_, gU G_97 (t + 6) (.inl (yA Y 7, 24, .inr (.inr (.inr (.inr (va_cpy (η.2 1) (fun _ => none) 0 0 K)))))) = G_ := ⟨_, rfl⟩
  have o_110 : G_109 t = some (.inr (2, [.int (nI N), .int (nI K), .int (σ.1 2 0), .int (σ.1 3 0), .ref (t + 1), .ref (t + 2), .ref (t + 3), .ref (t + 4), .ref (t + 5), .ref (t + 6), .ref (t + 7)])) := by rw [← eG_109]; exact (gU_n _ (by omega)).trans o_98
  have a_111 : G_109 (t + 1) = some (.inl (yA Y 6, 12, .inr (.inr (.inr (.inr (va_cpy (η.2 0) (fun _ => none) 0 0 N)))))) := by rw [← eG_109]; exact (gU_n _ (by omega)).trans a_99
  have a_112 : G_109 (t + 2) = some (.inl (yA Y 0, 12, .inl (va_cpy (hA N 0 σ η.1) (fun _ => 0) 0 0 N))) := by rw [← eG_109]; exact (gU_n _ (by omega)).trans a_101
  have a_113 : G_109 (t + 3) = some (.inl (yA Y 0, 12, .inl (va_cpy (hA N 5 σ η.1) (fun _ => 0) 0 0 N))) := by rw [← eG_109]; exact (gU_n _ (by omega)).trans a_102
  have a_114 : G_109 (t + 4) = some (.inl (yA Y 0, 12, .inl (va_cpy (hA N 8 σ η.1) (fun _ => 0) 0 0 N))) := by rw [← eG_109]; exact (gU_n _ (by omega)).trans a_103
  have a_115 : G_109 (t + 5) = some (.inl (yA Y 0, 12, .inl (va_cpy (hA N 7 σ η.1) (fun _ => 0) 0 0 N))) := by rw [← eG_109]; exact (gU_n _ (by omega)).trans a_108
  have hs_116 : sub (hM Y h N σ η) G_109 := by rw [← eG_109]; exact sub_away hs_104 (hM_none (hdd _ ⟨by omega, by omega⟩))
  have hi_117 : sub I G_109 := by rw [← eG_109]; exact sub_away hi_105 (hdt _ ⟨by omega, by omega⟩)
  have hx_118 : sub (TZ (t + 7) τ) G_109 := by rw [← eG_109]; exact sub_away hx_106 (TZ_noneA hx_106 a_100)
  have hf_119 : FR (fun a => hD t a ∨ TD (t + 7) τ a) n G G_109 := by rw [← eG_109]; exact FR.put hf_107 (.inl (.inl ⟨by omega, by omega⟩))
  refine g_copyq hC (t0 := 7) rfl (t1 := 7) rfl rfl rfl (hs_104 _ _ (hM_j 6)) a_100 (by omega) (sp := 0) (dp := 0) (k := K) (by omega) (by omega) (by omega) (by omega) (fun H_ g_ i_ hi_ y_ hy_ => by rw [Nat.zero_add] at hy_; obtain ⟨a9, r1, r2⟩ := hhk i_ (by omega); rw [r1] at hy_; cases hy_; exact any_o hC.K g_ kc_X27 (hi_105 _ _ r2) (asgS hC.K kc_X27)) rfl (G' := G_109) eG_109 q1600 dX2_take_131 (by omega) (by first | (simp; omega) | (simp [Value.category]; omega)) ?_
  have a_120 : G_109 (t + 6) = some (.inl (yA Y 7, 24, .inr (.inr (.inr (.inr (va_cpy (η.2 1) (fun _ => none) 0 0 K)))))) := by rw [← eG_109]; exact gU_s _ _ _
  refine g_aload_n hC dX2_take_134 rfl 0 rfl ?_
  refine g_get (v := .ref (t + 7)) hC kc_X2 o_110 10 (by decide) q282 rfl dX2_take_135 ?_
  refine V.lts (fun lc_121 => ?_)
  refine g_callv0 hC (g_runV hC (mp_clear (G := G_109) hT hx_118) kc_J1 (hx_118 _ _ (TZ_h hT.2.2.2.1)) (lw_V q1601 q1602 q1603 q85 q1604) rfl md_J1_clear dX2_take_138 rfl ⟨by omega, by omega⟩ (by omega) (by omega) rfl (Nat.le_of_ble_eq_true rfl)) (fun G_122 n_122 u_122 hp_122 hn_122 hm_122 hu_122 => ?_)
  obtain ⟨τ_122, hT_122, hps_122, hf_122, hD_122, rfl, rfl⟩ := hp_122
  have o_123 : G_122 t = some (.inr (2, [.int (nI N), .int (nI K), .int (σ.1 2 0), .int (σ.1 3 0), .ref (t + 1), .ref (t + 2), .ref (t + 3), .ref (t + 4), .ref (t + 5), .ref (t + 6), .ref (t + 7)])) := (hf_122 _ (lc_121 _ _ o_110) (fun q => (TZ_out hT.2.2.2.1 hT.1.1 hx_118 o_110 (by decide) (by decide)) (.inl q))).trans o_110
  have a_124 : G_122 (t + 1) = some (.inl (yA Y 6, 12, .inr (.inr (.inr (.inr (va_cpy (η.2 0) (fun _ => none) 0 0 N)))))) := (hf_122 _ (lc_121 _ _ a_111) (fun q => (TZ_outA hT.2.2.2.1 hT.1.1 hx_118 a_111) (.inl q))).trans a_111
  have a_125 : G_122 (t + 6) = some (.inl (yA Y 7, 24, .inr (.inr (.inr (.inr (va_cpy (η.2 1) (fun _ => none) 0 0 K)))))) := (hf_122 _ (lc_121 _ _ a_120) (fun q => (TZ_outA hT.2.2.2.1 hT.1.1 hx_118 a_120) (.inl q))).trans a_120
  have a_126 : G_122 (t + 2) = some (.inl (yA Y 0, 12, .inl (va_cpy (hA N 0 σ η.1) (fun _ => 0) 0 0 N))) := (hf_122 _ (lc_121 _ _ a_112) (fun q => (TZ_outA hT.2.2.2.1 hT.1.1 hx_118 a_112) (.inl q))).trans a_112
  have a_127 : G_122 (t + 3) = some (.inl (yA Y 0, 12, .inl (va_cpy (hA N 5 σ η.1) (fun _ => 0) 0 0 N))) := (hf_122 _ (lc_121 _ _ a_113) (fun q => (TZ_outA hT.2.2.2.1 hT.1.1 hx_118 a_113) (.inl q))).trans a_113
  have a_128 : G_122 (t + 4) = some (.inl (yA Y 0, 12, .inl (va_cpy (hA N 8 σ η.1) (fun _ => 0) 0 0 N))) := (hf_122 _ (lc_121 _ _ a_114) (fun q => (TZ_outA hT.2.2.2.1 hT.1.1 hx_118 a_114) (.inl q))).trans a_114
  have a_129 : G_122 (t + 5) = some (.inl (yA Y 0, 12, .inl (va_cpy (hA N 7 σ η.1) (fun _ => 0) 0 0 N))) := (hf_122 _ (lc_121 _ _ a_115) (fun q => (TZ_outA hT.2.2.2.1 hT.1.1 hx_118 a_115) (.inl q))).trans a_115
  have hs_130 : sub (hM Y h N σ η) G_122 := hf_122.subs hs_116 lc_121 (fun a q => (TZ_hM hT.2.2.2.1 hT.1.1 hx_118 hs_116) a (.inl q))
  have hi_131 : sub I G_122 := hf_122.subs hi_117 lc_121 (fun a q => (fun a q => hT.2.2.2.2.2 a q) a (.inl q))
  have hf_132 : FR (fun a => hD t a ∨ TD (t + 7) τ a) n G G_122 := hf_119.trans hf_122 (by omega) (fun a_ q_ => hTf a_ (.inl q_))
  have hTn_133 : ∀ a, TD (t + 7) τ_122 a → (fun a => hD t a ∨ TD (t + 7) τ a) a ∨ n ≤ a := fun a q => hTf a (.inl (hD_122 a q))
  refine g_iconst (v := 0) hC dX2_take_141 rfl ?_
  refine g_istore_n (L' := [(2, .int 0), (0, .ref t), (1, .ref h)]) hC dX2_take_142 rfl (by decide) rfl ?_
  have hl_143 : ∀ (kf_ : Nat) (Ga : AH) (na : Nat) (ua : Nat) (i : Nat) (τa : TS) (qa : TQ) (Ma : MP), (sub (hM Y h N σ η) Ga) → (sub I Ga) → (FR (fun a => hD t a ∨ TD (t + 7) τ a) n G Ga) → (Ga t = some (.inr (2, [.int (nI N), .int (nI K), .int (σ.1 2 0), .int (σ.1 3 0), .ref (t + 1), .ref (t + 2), .ref (t + 3), .ref (t + 4), .ref (t + 5), .ref (t + 6), .ref (t + 7)]))) → (Ga (t + 1) = some (.inl (yA Y 6, 12, .inr (.inr (.inr (.inr (va_cpy (η.2 0) (fun _ => none) 0 0 N))))))) → (Ga (t + 2) = some (.inl (yA Y 0, 12, .inl (va_cpy (hA N 0 σ η.1) (fun _ => 0) 0 0 N)))) → (Ga (t + 3) = some (.inl (yA Y 0, 12, .inl (va_cpy (hA N 5 σ η.1) (fun _ => 0) 0 0 N)))) → (Ga (t + 4) = some (.inl (yA Y 0, 12, .inl (va_cpy (hA N 8 σ η.1) (fun _ => 0) 0 0 N)))) → (Ga (t + 5) = some (.inl (yA Y 0, 12, .inl (va_cpy (hA N 7 σ η.1) (fun _ => 0) 0 0 N)))) → (Ga (t + 6) = some (.inl (yA Y 7, 24, .inr (.inr (.inr (.inr (va_cpy (η.2 1) (fun _ => none) 0 0 K))))))) → (TMI (KS Y) Y (t + 7) none I τa qa Ma) → (sub (TZ (t + 7) τa) Ga) → (∀ a, TD (t + 7) τa a → (hD t a ∨ TD (t + 7) τ a) ∨ n ≤ a) → (NMs i σ Ma) → (i ≤ N) → (n ≤ na ∧ na ≤ n + i) → (ua ≤ u + 6 * i) → N - i < kf_ → V Y p l e R s m args below meth c 3 n u Ga na ua Q 143 [(0, .ref t), (1, .ref h), (2, .int (nI i))] [] := by
    intro kf_
    induction kf_ with
    | zero => intro Ga na ua i τa qa Ma jh jI jf j0 j1 j2 j3 j4 j5 j6 jT jp jt jM ji jn ju hk_; exact absurd hk_ (Nat.not_lt_zero _)
    | succ kf_ ih_ =>
      intro Ga na ua i τa qa Ma jh jI jf j0 j1 j2 j3 j4 j5 j6 jT jp jt jM ji jn ju hk_
      refine V.lts (fun lta => ?_)
      obtain ⟨jn1, jn2⟩ := jn
      refine g_iload_n hC dX2_take_143 rfl 2 rfl ?_
      refine g_aload_n hC dX2_take_144 rfl 0 rfl ?_
      refine g_get (v := .int (nI N)) hC kc_X2 j0 0 (by decide) q251 rfl dX2_take_145 ?_
      refine g_icmp_geN hC i N (by omega) (by omega) dX2_take_148 (tgt := 188) (by decide) (fun c_148 => ?_) (fun c_148 => ?_)
      · refine g_aload_n hC dX2_take_188 rfl 0 rfl ?_
        refine g_aret (v := some t) hC hr (by first | exact Or.inl ⟨_, rfl⟩ | exact Or.inr ⟨_, rfl⟩) ⟨_, rfl, ?_⟩ (by omega) (by omega) hE dX2_take_189
        obtain rfl : N = i := by omega
        refine ⟨rfl, hM_T hN hK j0 j1 j2 j3 j4 j5 j6, ⟨_, _, _, jT, jp, jt, jM⟩, jf, by omega, by omega⟩
      · refine g_aload_n hC dX2_take_151 rfl 0 rfl ?_
        refine g_get (v := .ref (t + 2)) hC kc_X2 j0 5 (by decide) q265 rfl dX2_take_152 ?_
        refine g_iload_n hC dX2_take_155 rfl 2 rfl ?_
        refine g_iald hC j2 (vin (by omega) (by omega)) dX2_take_156 ?_
        rw [show (nI i).toNatClampNeg = i from nI_clamp (by omega)]
        rw [cpA, hA_in (by omega)]
        refine g_iconst (v := 3) hC dX2_take_157 rfl ?_
        refine g_icmp_eq hC dX2_take_158 (tgt := 182) (by decide) (fun c_158 => ?_) (fun c_158 => ?_)
        · have hns : tl σ 0 i = 3 := c_158
          refine g_iincN (L' := [(2, .int (nI (i + 1))), (0, .ref t), (1, .ref h)]) hC 1 i dX2_take_182 (k := 2) rfl (by decide) (by decide) rfl ?_
          refine g_goto (tgt := 143) hC dX2_take_185 (by decide) ?_
          refine V.sub [1, 2, 0] rfl ?_
          exact ih_ Ga na ua (i + 1) τa qa Ma (jh) (jI) (jf) (j0) (j1) (j2) (j3) (j4) (j5) (j6) (jT) (jp) (jt) (NMs.skip jM hns) (by omega) (⟨by omega, by omega⟩) (by omega) (by omega)
        · have hns : ¬ tl σ 0 i = 3 := c_158
          refine g_aload_n hC dX2_take_161 rfl 0 rfl ?_
          refine g_get (v := .ref (t + 7)) hC kc_X2 j0 10 (by decide) q282 rfl dX2_take_162 ?_
          refine g_aload_n hC dX2_take_165 rfl 0 rfl ?_
          refine g_get (v := .ref (t + 1)) hC kc_X2 j0 4 (by decide) q262 rfl dX2_take_166 ?_
          refine g_iload_n hC dX2_take_169 rfl 2 rfl ?_
          obtain ⟨a_i, nm_i, kd_i, hr_i, hk_i, ht_i, hi_i, hK_i, hKb_i⟩ := hpl.key (q := i) (by omega)
          refine g_aald (t0 := 6) hC j1 rfl (vin (by omega) (by omega)) (r := some a_i) (by rw [nI_clamp (by omega)]; exact (cpP.trans ((if_pos (by omega)).trans hr_i))) dX2_take_170 ?_
          refine g_getP (v := .ref nm_i) hC hk_i (jI _ _ hi_i) 1 (by decide) q1421 rfl dX2_take_171 ?_
          refine g_iload_n hC dX2_take_174 rfl 2 rfl ?_
          refine V.lts (fun lc_134 => ?_)
          refine g_callq0 hC (g_runS hC (met_J12_valueOf (G := Ga) (nI i) ((hIo).trans jI)) (lw_S q1486 q1487 q106 q1488) md_J12_valueOf dX2_take_175 rfl ⟨by omega, by omega⟩ (by omega) (by omega) rfl (Nat.le_of_ble_eq_true rfl)) (fun r_135 G_135 n_135 u_135 hp_135 hn_135 hm_135 hu_135 => ?_)
          obtain ⟨bx_135, rfl, ho_135, hf_135, hq_135, hv_135, hsm_135⟩ := hp_135
          obtain ⟨rfl, rfl, rfl, hob_135'⟩ := hsm_135 i (by omega) rfl
          have hob_135 := ((hIo).trans jI) _ _ hob_135'
          refine V.lts (fun lc_136 => ?_)
          have hX : ∀ e, e ∈ Ma → e.1 ≠ (keyN σ i : Int) := jM.no (fun q hq hq3 e => by have := hns_ q i (by omega) (by omega) hq3 hns (by omega); omega)
          refine g_callq0 hC (g_runV hC (mp_putS (G := Ga) jT jp jI (by omega) lc_136 nm_i bx_135 (keyN σ i : Int) hK_i hX (by unfold ZL; omega) (by unfold ZH; omega)) kc_J1 (jp _ _ (TZ_h jT.2.2.2.1)) (lw_V q1505 q1506 q1507 q85 q1508) rfl md_J1_put dX2_take_178 rfl ⟨by omega, by omega⟩ (by omega) (by omega) rfl (Nat.le_of_ble_eq_true rfl)) (fun r_137 G_137 n_137 u_137 hp_137 hn_137 hm_137 hu_137 => ?_)
          obtain ⟨rfl, τ_137, q_137, hT_137, hps_137, hf_137, hD_137, rfl, rfl⟩ := hp_137
          have o_138 : G_137 t = some (.inr (2, [.int (nI N), .int (nI K), .int (σ.1 2 0), .int (σ.1 3 0), .ref (t + 1), .ref (t + 2), .ref (t + 3), .ref (t + 4), .ref (t + 5), .ref (t + 6), .ref (t + 7)])) := (hf_137 _ (lc_136 _ _ j0) (TZ_out jT.2.2.2.1 jT.1.1 jp j0 (by decide) (by decide))).trans j0
          have o_139 : G_137 bx_135 = some (.inr (40, [.int (nI i)])) := (hf_137 _ (lc_136 _ _ hob_135) (TZ_out jT.2.2.2.1 jT.1.1 jp hob_135 (by decide) (by decide))).trans hob_135
          have a_140 : G_137 (t + 1) = some (.inl (yA Y 6, 12, .inr (.inr (.inr (.inr (va_cpy (η.2 0) (fun _ => none) 0 0 N)))))) := (hf_137 _ (lc_136 _ _ j1) (TZ_outA jT.2.2.2.1 jT.1.1 jp j1)).trans j1
          have a_141 : G_137 (t + 6) = some (.inl (yA Y 7, 24, .inr (.inr (.inr (.inr (va_cpy (η.2 1) (fun _ => none) 0 0 K)))))) := (hf_137 _ (lc_136 _ _ j6) (TZ_outA jT.2.2.2.1 jT.1.1 jp j6)).trans j6
          have a_142 : G_137 (t + 2) = some (.inl (yA Y 0, 12, .inl (va_cpy (hA N 0 σ η.1) (fun _ => 0) 0 0 N))) := (hf_137 _ (lc_136 _ _ j2) (TZ_outA jT.2.2.2.1 jT.1.1 jp j2)).trans j2
          have a_143 : G_137 (t + 3) = some (.inl (yA Y 0, 12, .inl (va_cpy (hA N 5 σ η.1) (fun _ => 0) 0 0 N))) := (hf_137 _ (lc_136 _ _ j3) (TZ_outA jT.2.2.2.1 jT.1.1 jp j3)).trans j3
          have a_144 : G_137 (t + 4) = some (.inl (yA Y 0, 12, .inl (va_cpy (hA N 8 σ η.1) (fun _ => 0) 0 0 N))) := (hf_137 _ (lc_136 _ _ j4) (TZ_outA jT.2.2.2.1 jT.1.1 jp j4)).trans j4
          have a_145 : G_137 (t + 5) = some (.inl (yA Y 0, 12, .inl (va_cpy (hA N 7 σ η.1) (fun _ => 0) 0 0 N))) := (hf_137 _ (lc_136 _ _ j5) (TZ_outA jT.2.2.2.1 jT.1.1 jp j5)).trans j5
          have hs_146 : sub (hM Y h N σ η) G_137 := hf_137.subs jh lc_136 (TZ_hM jT.2.2.2.1 jT.1.1 jp jh)
          have hi_147 : sub I G_137 := hf_137.subs jI lc_136 (fun a q => jT.2.2.2.2.2 a q)
          have hf_148 : FR (fun a => hD t a ∨ TD (t + 7) τ a) n G G_137 := jf.trans hf_137 (by omega) (fun a_ q_ => jt a_ q_)
          have hTn_149 : ∀ a, TD (t + 7) τ_137 a → (fun a => hD t a ∨ TD (t + 7) τ a) a ∨ n ≤ a := fun a q => (hD_137 a q).elim (jt a) (fun e => .inr (by omega))
          refine g_pop hC dX2_take_181 rfl ?_
          refine g_iincN (L' := [(2, .int (nI (i + 1))), (0, .ref t), (1, .ref h)]) hC 1 i dX2_take_182 (k := 2) rfl (by decide) (by decide) rfl ?_
          refine g_goto (tgt := 143) hC dX2_take_185 (by decide) ?_
          refine V.sub [1, 2, 0] rfl ?_
          exact ih_ G_137 (na + 1) (ua + 6) (i + 1) τ_137 q_137 (mput (keyN σ i : Int) nm_i (some bx_135) Ma) (hs_146) (hi_147) (hf_148) (o_138) (a_140) (a_142) (a_143) (a_144) (a_145) (a_141) (hT_137) (hps_137) (hTn_149) (NMs.put jM hns hX) (by omega) (⟨by omega, by omega⟩) (by omega) (by omega)
  refine V.sub [1, 2, 0] rfl ?_
  exact hl_143 (N - 0 + 1) G_122 n u 0 τ_122 q ([]) (hs_130) (hi_131) (hf_132) (o_123) (a_124) (a_126) (a_127) (a_128) (a_129) (a_125) (hT_122) (hps_122) (hTn_133) (NMs_0) (by omega) (⟨by omega, by omega⟩) (by omega) (by omega)
