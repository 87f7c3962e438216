set_option maxRecDepth 100000
/-! COMPONENT, 14: waves -/
theorem anyN_cg {P Q : Nat → Bool} : ∀ {n : Nat}, (∀ i, i < n → P i = Q i) → anyN P n = anyN Q n
  | 0, _ => rfl
  | n + 1, h => by unfold anyN; rw [anyN_cg (fun i hi => h i (by omega)), h n (by omega)]
theorem PW_lk {N q : Nat} {σ z : MS} {wv : Nat → Int32} (hz : ∀ k i, k ≠ 22 → z.1 k i = σ.1 k i) (hw : ∀ q, q < 12 → wv q = z.1 22 q) (hN : N ≤ 12) (hq : q < N) : PW N z q = (decide (tl σ 0 q = 1) && decide (wv q = -1) && anyN (lkF N σ wv q) 8) := by
  have et : ∀ w i, tl z w i = tl σ w i := fun w i => hz 1 _ (by decide)
  unfold PW heldF
  rw [Bool.not_not, et, hw q (by omega)]
  cases hr : decide (tl σ 0 q = 1) with
  | false => rfl
  | true =>
    refine congrArg (fun b => true && decide (z.1 22 q = -1) && b) (anyN_cg fun k _ => ?_)
    unfold lackF lkF
    rw [show needF z q k = needF σ q k by unfold needF; rw [et]]
    refine congrArg (fun b => needF σ q k && !b) (anyN_cg fun o ho => ?_)
    unfold hO srvF
    rw [et, show offF z o k = offF σ o k by unfold offF; rw [et], show oldF z o q = oldF σ o q by unfold oldF; rw [et, et], hw o (by omega), hr]
    by_cases e : o = q
    · subst e
      have : oldF σ o o = false := by unfold oldF; simp
      simp [this]
    · cases decide (tl σ 0 o = 1) <;> cases decide (z.1 22 o = -1) <;> cases offF σ o k <;> cases oldF σ o q <;> simp [e]
def selL (N : Nat) (z : MS) (i : Nat) : List Nat := (List.range i).filter (PW N z)
theorem selL_s {N i : Nat} {z : MS} : selL N z (i + 1) = selL N z i ++ (if PW N z i = true then [i] else []) := by
  unfold selL
  rw [List.range_succ, List.filter_append]
  congr 1
  cases h : PW N z i <;> simp [h]
theorem selL_m {N i x : Nat} {z : MS} : x ∈ selL N z i ↔ x < i ∧ PW N z x = true := by
  unfold selL; simp
theorem selL_le {N i n : Nat} {z : MS} (h : i ≤ n) : (selL N z i).length ≤ (selL N z n).length := by
  induction n with
  | zero => rw [show i = 0 by omega]; exact Nat.le_refl _
  | succ n ih =>
    by_cases e : i = n + 1
    · rw [e]; exact Nat.le_refl _
    · rw [selL_s, List.length_append]; have := ih (by omega); omega
theorem cntB_sel (N : Nat) (z : MS) : ∀ i, cntB (PW N z) i = (selL N z i).length
  | 0 => rfl
  | i + 1 => by
    rw [selL_s, List.length_append, ← cntB_sel N z i]
    show (if PW N z i = true then cntB (PW N z) i + 1 else cntB (PW N z) i) = _
    split <;> rfl
theorem selL_len {N : Nat} {z : MS} : (selL N z N).length ≤ N := by rw [← cntB_sel]; exact cntB_n _ _
theorem cntB_add {P A B : Nat → Bool} : ∀ n, (∀ q, q < n → P q = (A q || B q) ∧ ¬ (A q = true ∧ B q = true)) → cntB P n = cntB A n + cntB B n
  | 0, _ => rfl
  | n + 1, h => by
    have ih := cntB_add n (fun q hq => h q (by omega))
    obtain ⟨h1, h2⟩ := h n (by omega)
    show (if P n = true then cntB P n + 1 else cntB P n) = (if A n = true then cntB A n + 1 else cntB A n) + (if B n = true then cntB B n + 1 else cntB B n)
    rw [h1]
    cases hA : A n <;> cases hB : B n <;> simp [hA, hB] at h2 ⊢ <;> omega
def uN (N : Nat) (z : MS) : Nat := cntB (fun q => decide (z.1 22 q = -1)) N
theorem rnd_at {N k q : Nat} {z : MS} : (rnd N z k).1 22 q = if q < N ∧ PW N z q = true then nI k else z.1 22 q := apf_at N
theorem rnd_u {N k : Nat} {z : MS} (hk : k < 2 ^ 31) : uN N z = (selL N z N).length + uN N (rnd N z k) := by
  rw [← cntB_sel]
  unfold uN
  refine cntB_add N (fun q hq => ?_)
  rw [rnd_at]
  by_cases h : PW N z q = true
  · have h2 : z.1 22 q = -1 := by unfold PW at h; simp at h; exact h.1.2
    rw [if_pos ⟨hq, h⟩, h, h2]
    have := nI_m1 hk
    simp [this]
  · rw [if_neg (fun c => h c.2)]
    simp [h]
theorem rnd_0 {N k : Nat} {z : MS} (h : selL N z N = []) : rnd N z k = z := by
  have hp : ∀ q, q < N → PW N z q = false := fun q hq => by
    cases e : PW N z q with
    | false => rfl
    | true => have := selL_m.mpr ⟨hq, e⟩; rw [h] at this; cases this
  have : ∀ n, n ≤ N → foldN (apS N z k) z n = z := by
    intro n
    induction n with
    | zero => intro _; rfl
    | succ n ih =>
      intro hn
      rw [foldN_sc, ih (by omega)]
      unfold apS
      rw [if_neg (by rw [hp n (by omega)]; decide)]
  exact this N (Nat.le_refl _)
theorem sel_any {N : Nat} {z : MS} : (selL N z N ≠ []) ↔ anyN (PW N z) N = true := by
  rw [anyN_iff]
  constructor
  · intro h
    obtain ⟨x, hx⟩ := List.exists_mem_of_ne_nil _ h
    exact ⟨x, selL_m.mp hx⟩
  · rintro ⟨i, hi⟩ h
    have := selL_m.mpr hi
    rw [h] at this; cases this
def wset (wv : Nat → Int32) (L : List Nat) (k : Nat) : Nat → Int32 := fun q => if q ∈ L then nI k else wv q
theorem wset_s {wv : Nat → Int32} {L : List Nat} {k q : Nat} : upd (wset wv L k) q (nI k) = wset wv (L ++ [q]) k := by
  funext x
  unfold upd wset
  by_cases h : x = q
  · subst h; simp
  · simp [h]
theorem wset_0 {wv : Nat → Int32} {k : Nat} : wset wv [] k = wv := by funext x; unfold wset; simp
abbrev WVS (N p : Nat) (σ z : MS) (L : List Nat) (f k : Nat) : Prop := (L ≠ [] → wavesF N σ p = wvI N f k z ∧ uN N z + 1 ≤ f ∧ k + uN N z ≤ 14) ∧ (L = [] → wavesF N σ p = z)
theorem wave_step {N p f k : Nat} {σ z : MS} {L : List Nat} (h : WVS N p σ z L f k) (hL : L ≠ []) : WVS N p σ (rnd N z k) (selL N z N) (f - 1) (k + 1) := by
  obtain ⟨h1, h2, h3⟩ := h.1 hL
  obtain ⟨f', rfl⟩ : ∃ f', f = f' + 1 := ⟨f - 1, by omega⟩
  have hu := rnd_u (N := N) (z := z) (k := k) (by omega)
  refine ⟨fun q => ?_, fun q => ?_⟩
  · have hlen : 1 ≤ (selL N z N).length := by cases e : selL N z N with | nil => exact absurd e q | cons a b => simp
    refine ⟨?_, by omega, by omega⟩
    rw [h1]
    show (if anyN (PW N z) N = true then wvI N f' (k + 1) (rnd N z k) else z) = _
    rw [if_pos (sel_any.mp q)]; rfl
  · rw [rnd_0 q, h1]
    show (if anyN (PW N z) N = true then wvI N f' (k + 1) (rnd N z k) else z) = _
    exact if_neg (fun c => sel_any.mpr c q)
theorem wv0_at {σ : MS} {p q : Nat} (hq : q < 12) : (wv0 σ p).1 22 q = upd (flI (fun _ => 0) 12 (-1)) p 0 q := by
  unfold wv0 upd
  by_cases h : q = p
  · subst h; rw [if_pos rfl]; exact mu_hit
  · rw [if_neg h, mu_ni h]
    have : ∀ n, (foldN wvS σ n).1 22 q = if q < n then -1 else σ.1 22 q := by
      intro n
      induction n with
      | zero => rfl
      | succ n ih =>
        rw [foldN_sc]
        unfold wvS
        by_cases e : q = n
        · subst e; rw [mu_hit, if_pos (by omega)]
        · rw [mu_ni e]
          refine ih.trans ?_
          by_cases e2 : q < n
          · rw [if_pos e2, if_pos (by omega)]
          · rw [if_neg e2, if_neg (by omega)]
    rw [this 12, if_pos hq]
    unfold flI; rw [if_pos hq]
theorem uN_0 {N p : Nat} {σ : MS} (hN : N ≤ 12) (hp : p < N) : uN N (wv0 σ p) ≤ 11 := by
  have h1 := cntB_lt (P := fun _ => true) (Q := fun q => decide ((wv0 σ p).1 22 q = -1)) N (fun _ _ _ => rfl) ⟨p, hp, rfl, by rw [show (wv0 σ p).1 22 p = 0 from mu_hit]; decide⟩
  have h2 := cntB_n (fun _ => true) N
  unfold uN; omega

set_option maxHeartbeats 1000000 in
theorem met_X2_waves {Y : YT} {l : Launch} {n u : Nat} {G : AH} (h : Nat) (p_ : Nat) {N K : Nat} {σ : MS} {η : HV} {I : AH} (hh : sub (hM Y h N σ η) G) (hN : σ.1 0 0 = nI N) (hK : σ.1 4 0 = nI K) (hN2 : N ≤ 12) (hI : sub I G) (hIh_h : ∀ a, hD h a → I a = none) (hpl : PLs Y N σ I (η.2 0)) (hIo : sub (oM Y) I) (hp : p_ < N) : GM Y l yX2_waves (ws_ yX2_waves cX2_waves 7 (some (FieldType.array FieldType.int))) 8 179 [.ref h, .int (nI p_)] G n u 42 160 (pQ (fun r G' n' u' => ∃ a wv, some a = r ∧ G' a = some (.inl (yA Y 0, 12, .inl wv)) ∧ (∀ q, q < 12 → wv q = (wavesF N σ p_).1 22 q) ∧ n ≤ a ∧ FR noD n G G' ∧ n ≤ n')) noX := by
  refine GM.intro (own := RX2) rfl (by decide +kernel) (Nat.le_of_ble_eq_true rfl) ?_
  intro p e s m args below meth c R Q hC hr hnm hF hL hE
  have hE1 := hE.1
  have hE2 := hE.2.1
  have hnz : yz Y ≤ n := by have := hC.z; have := hC.n; omega
  show V Y p l e R s m args below meth c 7 n u G n u Q 0 [(0, .ref h), (1, .int (nI p_))] []
  refine V.lts (fun hlt => ?_)
  have hl_h : h + 6 < n := hlt _ _ (hh _ _ (hM_j 6))
  have hIn := sub_none hI hlt
  refine g_bipush (v := 12) hC dX2_waves_0 (by decide) ?_
  obtain ⟨G_1, eG_1⟩ : ∃ G_, gU G n (.inl (yA Y 0, 12, .inl (fun _ => 0))) = G_ := ⟨_, rfl⟩
  refine V.lts (fun ltG_1 => ?_)
  have hs_2 : sub (hM Y h N σ η) G_1 := by rw [← eG_1]; exact sub_new hh ltG_1
  have hi_3 : sub I G_1 := by rw [← eG_1]; exact sub_new hI ltG_1
  have hf_4 : FR noD n G G_1 := by rw [← eG_1]; exact FR.put FR.refl (.inr (by omega))
  refine g_newa hC (atype := .int) 0 rfl rfl rfl q198 (a0 := (12, .inl (fun _ => 0))) (fun _ => rfl) (by decide) rfl (by simp only [componentBytes]; omega) (G' := G_1) eG_1 (by omega) (by omega) dX2_waves_2 ?_
  have a_5 : G_1 n = some (.inl (yA Y 0, 12, .inl (fun _ => 0))) := by rw [← eG_1]; exact gU_s _ _ _
  refine g_astore_n (L' := [(2, .ref n), (0, .ref h), (1, .int (nI p_))]) hC dX2_waves_4 rfl (by decide) rfl ?_
  refine g_aload_n hC dX2_waves_5 rfl 0 rfl ?_
  refine g_iconst (v := (-1)) hC dX2_waves_6 rfl ?_
  refine V.lts (fun lc_6 => ?_)
  refine g_callv0 hC (g_runS hC (met_J18_fill (G := G_1) n (-1) a_5 (by omega) (by omega)) (lw_S q2474 q2475 q112 q2476) md_J18_fill dX2_waves_7 rfl ⟨by omega, by omega⟩ (by omega) (by omega) rfl (Nat.le_of_ble_eq_true rfl)) (fun G_7 n_7 u_7 hp_7 hn_7 hm_7 hu_7 => ?_)
  obtain ⟨hoa_7, hf_7, rfl, rfl⟩ := hp_7
  have hs_8 : sub (hM Y h N σ η) G_7 := hf_7.subs hs_2 lc_6 (fun a q => (fun q : a = _ => by subst q; exact hM_none (by unfold hD; omega)) q)
  have hi_9 : sub I G_7 := hf_7.subs hi_3 lc_6 (fun a q => (fun q : a = _ => by subst q; exact hIn _ (by omega)) q)
  have hf_10 : FR noD n G G_7 := hf_4.trans hf_7 (by omega) (fun a_ q_ => by first | exact .inl q_ | exact False.elim q_ | exact .inl (.inl q_) | exact .inl (.inr q_) | (subst q_; first | exact .inr (by omega) | exact .inl rfl))
  refine g_aload_n hC dX2_waves_10 rfl 0 rfl ?_
  refine g_iload_n hC dX2_waves_11 rfl 2 rfl ?_
  refine g_iconst (v := 0) hC dX2_waves_12 rfl ?_
  obtain ⟨G_11, eG_11⟩ : ∃ G_, gU G_7 n (.inl (yA Y 0, 12, .inl (upd (flI (fun _ => 0) 12 (-1)) p_ 0))) = G_ := ⟨_, rfl⟩
  have hs_12 : sub (hM Y h N σ η) G_11 := by rw [← eG_11]; exact sub_away hs_8 (hM_none (by unfold hD; omega))
  have hi_13 : sub I G_11 := by rw [← eG_11]; exact sub_away hi_9 (hIn _ (by omega))
  have hf_14 : FR noD n G G_11 := by rw [← eG_11]; exact FR.put hf_10 (.inr (by omega))
  refine g_iast hC hoa_7 (vin (by omega) (by omega)) (by omega) (f' := (upd (flI (fun _ => 0) 12 (-1)) p_ 0)) (by rw [nI_clamp (by omega)]) (G' := G_11) eG_11 dX2_waves_13 ?_
  have a_15 : G_11 n = some (.inl (yA Y 0, 12, .inl (upd (flI (fun _ => 0) 12 (-1)) p_ 0))) := by rw [← eG_11]; exact gU_s _ _ _
  obtain ⟨G_16, eG_16⟩ : ∃ G_, gU G_11 (n + 1) (.inr (47, [.null])) = G_ := ⟨_, rfl⟩
  refine V.lts (fun ltG_16 => ?_)
  have a_17 : G_16 n = some (.inl (yA Y 0, 12, .inl (upd (flI (fun _ => 0) 12 (-1)) p_ 0))) := by rw [← eG_16]; exact (gU_n _ (Nat.ne_of_lt (ltG_16 _ _ a_15))).trans a_15
  have hs_18 : sub (hM Y h N σ η) G_16 := by rw [← eG_16]; exact sub_new hs_12 ltG_16
  have hi_19 : sub I G_16 := by rw [← eG_16]; exact sub_new hi_13 ltG_16
  have hf_20 : FR noD n G G_16 := by rw [← eG_16]; exact FR.put hf_14 (.inr (by omega))
  refine g_new hC kc_J35 q2477 q2478 q143 (fs := [.null]) rfl (G' := G_16) eG_16 (by omega) (by omega) dX2_waves_14 ?_
  have o_21 : G_16 (n + 1) = some (.inr (47, [.null])) := by rw [← eG_16]; exact gU_s _ _ _
  refine g_dup hC dX2_waves_17 rfl ?_
  refine V.lts (fun lc_22 => ?_)
  refine g_callv0 hC (g_runI (ret := none) hC (met_J35_init (G := G_16) (n + 1)  (K := KI) o_21 (by omega) hi_19 (hIn _ (by omega))) (lw_meth q2481) q143 q2479 q2480 rfl md_J35_init dX2_waves_18 rfl ⟨by omega, by omega⟩ (by omega) (by omega) rfl (Nat.le_of_ble_eq_true rfl)) (fun G_23 n_23 u_23 hp_23 hn_23 hm_23 hu_23 => ?_)
  obtain ⟨τ_23, q_23, hT_23, hps_23, ho_23, hf_23, hD_23, h8_23, rfl, rfl⟩ := hp_23
  have a_24 : G_23 n = some (.inl (yA Y 0, 12, .inl (upd (flI (fun _ => 0) 12 (-1)) p_ 0))) := (hf_23 _ (lc_22 _ _ a_17) (fun q => (gne_ao a_17 o_21) q)).trans a_17
  have hs_25 : sub (hM Y h N σ η) G_23 := hf_23.subs hs_18 lc_22 (fun a q => by subst q; exact hM_none (by unfold hD; omega))
  have hi_26 : sub I G_23 := hf_23.subs hi_19 lc_22 (fun a q => by subst q; exact hIn _ (by omega))
  have hf_27 : FR noD n G G_23 := hf_20.trans hf_23 (by omega) (fun a_ q_ => by first | exact .inl q_ | exact .inl (.inl q_) | exact .inl (.inr q_) | (subst q_; first | exact .inr (by omega) | exact .inl rfl))
  have hTn_28 : ∀ a, TD (n + 1 + 1) τ_23 a → noD a ∨ n ≤ a := fun a q => .inr (by have := hD_23 a q; omega)
  refine g_astore_n (L' := [(3, .ref (n + 1)), (2, .ref n), (0, .ref h), (1, .int (nI p_))]) hC dX2_waves_21 rfl (by decide) rfl ?_
  refine g_aload_n hC dX2_waves_22 rfl 0 rfl ?_
  refine g_iload_n hC dX2_waves_23 rfl 3 rfl ?_
  refine V.lts (fun lc_29 => ?_)
  refine g_callq0 hC (g_runS hC (met_J12_valueOf (G := G_23) (nI p_) ((hIo).trans hi_26)) (lw_S q1486 q1487 q106 q1488) md_J12_valueOf dX2_waves_24 rfl ⟨by omega, by omega⟩ (by omega) (by omega) rfl (Nat.le_of_ble_eq_true rfl)) (fun r_30 G_30 n_30 u_30 hp_30 hn_30 hm_30 hu_30 => ?_)
  obtain ⟨bx_30, rfl, ho_30, hf_30, hq_30, hv_30, hsm_30⟩ := hp_30
  obtain ⟨rfl, rfl, rfl, hob_30'⟩ := hsm_30 p_ (by omega) rfl
  have hob_30 := ((hIo).trans hi_26) _ _ hob_30'
  refine V.lts (fun lc_31 => ?_)
  refine g_calli0 hC (g_runV hC (st_add (G := G_23) hT_23 hps_23 hi_26 (by omega) lc_31 (n + 1) bx_30 ho_23 ((p_ : Nat) : Int) ⟨nI p_, hIo _ _ hob_30', nI_toInt (by omega)⟩ (fun e he => nomatch he) (by unfold ZL; omega) (by unfold ZH; omega)) kc_J35 ho_23 (lw_V q2492 q2493 q2494 q143 q2495) rfl md_J35_add dX2_waves_27 rfl ⟨by omega, by omega⟩ (by omega) (by omega) rfl (Nat.le_of_ble_eq_true rfl)) (fun r_32 G_32 n_32 u_32 hp_32 hn_32 hm_32 hu_32 => ?_)
  obtain ⟨rfl, pv_32, τ_32, q_32, hT_32, hps_32, hf_32, hD_32, rfl, rfl⟩ := hp_32
  have o_33 : G_32 (n + 1) = some (.inr (47, [.ref (n + 1 + 1)])) := (hf_32 _ (lc_31 _ _ ho_23) (TZ_out hT_23.2.2.2.1 hT_23.1.1 hps_23 ho_23 (by decide) (by decide))).trans ho_23
  have o_34 : G_32 bx_30 = some (.inr (40, [.int (nI p_)])) := (hf_32 _ (lc_31 _ _ hob_30) (TZ_out hT_23.2.2.2.1 hT_23.1.1 hps_23 hob_30 (by decide) (by decide))).trans hob_30
  have a_35 : G_32 n = some (.inl (yA Y 0, 12, .inl (upd (flI (fun _ => 0) 12 (-1)) p_ 0))) := (hf_32 _ (lc_31 _ _ a_24) (TZ_outA hT_23.2.2.2.1 hT_23.1.1 hps_23 a_24)).trans a_24
  have hs_36 : sub (hM Y h N σ η) G_32 := hf_32.subs hs_25 lc_31 (TZ_hM hT_23.2.2.2.1 hT_23.1.1 hps_23 hs_25)
  have hi_37 : sub I G_32 := hf_32.subs hi_26 lc_31 (fun a q => hT_23.2.2.2.2.2 a q)
  have hf_38 : FR noD n G G_32 := hf_27.trans hf_32 (by omega) (fun a_ q_ => hTn_28 a_ q_)
  have hTn_39 : ∀ a, TD (n + 1 + 1) τ_32 a → noD a ∨ n ≤ a := fun a q => (hD_32 a q).elim (hTn_28 a) (fun e => .inr (by omega))
  refine g_pop hC dX2_waves_30 rfl ?_
  refine g_iconst (v := 1) hC dX2_waves_31 rfl ?_
  refine g_istore (L' := [(4, .int 1), (3, .ref (n + 1)), (2, .ref n), (0, .ref h), (1, .int (nI p_))]) hC dX2_waves_32 (by decide) rfl ?_
  have hl_34 : ∀ (kf_ : Nat) (Ga : AH) (na : Nat) (ua : Nat) (k : Nat) (z : MS) (wv : Nat → Int32) (τa : TS) (qa : TQ) (Ma : MP) (L : List Nat) (f : Nat), (sub (hM Y h N σ η) Ga) → (sub I Ga) → (FR noD n G Ga) → (Ga (n + 1) = some (.inr (47, [.ref (n + 1 + 1)]))) → (Ga n = some (.inl (yA Y 0, 12, .inl wv))) → (TMI KI Y (n + 1 + 1) none I τa qa Ma) → (sub (TZ (n + 1 + 1) τa) Ga) → (∀ a, TD (n + 1 + 1) τa a → noD a ∨ n ≤ a) → (keysN Ma L) → (L.length ≤ 12) → (WVS N p_ σ z L f k) → (∀ a i, a ≠ 22 → z.1 a i = σ.1 a i) → (∀ q, q < 12 → wv q = z.1 22 q) → (n + 3 ≤ na ∧ na + 3 * uN N z + (if L = [] then 0 else 2) ≤ n + 42) → (ua + 11 * uN N z + (if L = [] then 0 else 5) ≤ u + 160) → f < kf_ → V Y p l e R s m args below meth c 7 n u Ga na ua Q 34 [(3, .ref (n + 1)), (2, .ref n), (0, .ref h), (1, .int (nI p_)), (4, .int (nI k))] [] := by
    intro kf_
    induction kf_ with
    | zero => intro Ga na ua k z wv τa qa Ma L f jha jIa jfa jsa jwa jTa jpa jta jka jLl jc jz jwz jn ju hk_; exact absurd hk_ (Nat.not_lt_zero _)
    | succ kf_ ih_ =>
      intro Ga na ua k z wv τa qa Ma L f jha jIa jfa jsa jwa jTa jpa jta jka jLl jc jz jwz jn ju hk_
      refine V.lts (fun lta => ?_)
      refine g_aload_n hC dX2_waves_34 rfl 0 rfl ?_
      refine V.lts (fun lc_40 => ?_)
      refine g_calli0 hC (g_runV hC (st_isEmpty (G := Ga) jTa jpa (n + 1) jsa) kc_J35 jsa (lw_V q2518 q2519 q2520 q143 q2521) rfl md_J35_isEmpty dX2_waves_35 rfl ⟨by omega, by omega⟩ (by omega) (by omega) rfl (Nat.le_of_ble_eq_true rfl)) (fun r_41 G_41 n_41 u_41 hp_41 hn_41 hm_41 hu_41 => ?_)
      obtain ⟨rfl, rfl, rfl, rfl⟩ := hp_41
      refine g_if_neB hC (decide (nI (List.length Ma) = 0)) dX2_waves_38 (tgt := 146) (by decide) (fun c_38 => ?_) (fun c_38 => ?_)
      · have hLe : L = [] := by
          have h1 := keysN_len jka
          cases L with
          | nil => rfl
          | cons a b =>
            rw [h1] at c_38
            exact absurd ((nI_eq (b := 0) (by omega) (by omega)).mp (of_decide_eq_true c_38)) (by simp)
        refine g_aload_n hC dX2_waves_146 rfl 1 rfl ?_
        refine g_aret (v := some n) hC hr (by first | exact Or.inl ⟨_, rfl⟩ | exact Or.inr ⟨_, rfl⟩) ⟨_, rfl, ?_⟩ (by omega) (by omega) hE dX2_waves_147
        refine ⟨n, wv, rfl, jwa, fun q hq => ?_, Nat.le_refl _, jfa, by omega⟩
        rw [jwz q hq, jc.2 hLe]
      · have hLn : L ≠ [] := fun e => by
          have h1 := keysN_len jka
          rw [e] at h1
          rw [h1] at c_38; cases c_38
        obtain ⟨jn1, jn2⟩ := jn
        have ju2 := ju
        have hmO := hk_
        rw [if_neg hLn] at jn2 ju2
        obtain ⟨jc1, jc2, jc3⟩ := jc.1 hLn
        have hur := rnd_u (N := N) (z := z) (k := k) (by omega)
        refine g_aload_n hC dX2_waves_41 rfl 0 rfl ?_
        refine V.lts (fun lc_42 => ?_)
        refine g_callv0 hC (g_runV hC (st_clear (G := Ga) jTa jpa (n + 1) jsa) kc_J35 jsa (lw_V q2573 q2574 q2575 q143 q2576) rfl md_J35_clear dX2_waves_42 rfl ⟨by omega, by omega⟩ (by omega) (by omega) rfl (Nat.le_of_ble_eq_true rfl)) (fun G_43 n_43 u_43 hp_43 hn_43 hm_43 hu_43 => ?_)
        obtain ⟨τ_43, hT_43, hps_43, hf_43, hD_43, rfl, rfl⟩ := hp_43
        have o_44 : G_43 (n + 1) = some (.inr (47, [.ref (n + 1 + 1)])) := (hf_43 _ (lc_42 _ _ jsa) (fun q => (TZ_out jTa.2.2.2.1 jTa.1.1 jpa jsa (by decide) (by decide)) (.inl q))).trans jsa
        have a_45 : G_43 n = some (.inl (yA Y 0, 12, .inl wv)) := (hf_43 _ (lc_42 _ _ jwa) (fun q => (TZ_outA jTa.2.2.2.1 jTa.1.1 jpa jwa) (.inl q))).trans jwa
        have hs_46 : sub (hM Y h N σ η) G_43 := hf_43.subs jha lc_42 (fun a q => (TZ_hM jTa.2.2.2.1 jTa.1.1 jpa jha) a (.inl q))
        have hi_47 : sub I G_43 := hf_43.subs jIa lc_42 (fun a q => (fun a q => jTa.2.2.2.2.2 a q) a (.inl q))
        have hf_48 : FR noD n G G_43 := jfa.trans hf_43 (by omega) (fun a_ q_ => jta a_ (.inl q_))
        have hTn_49 : ∀ a, TD (n + 1 + 1) τ_43 a → noD a ∨ n ≤ a := fun a q => jta a (.inl (hD_43 a q))
        refine g_iconst (v := 0) hC dX2_waves_45 rfl ?_
        refine g_istore (L' := [(5, .int 0), (3, .ref (n + 1)), (2, .ref n), (0, .ref h), (1, .int (nI p_)), (4, .int (nI k))]) hC dX2_waves_46 (by decide) rfl ?_
        have hl_48 : ∀ (kf_ : Nat) (Gb : AH) (nb : Nat) (ub : Nat) (i : Nat) (τb : TS) (qb : TQ) (Mb : MP), (sub (hM Y h N σ η) Gb) → (sub I Gb) → (FR noD n G Gb) → (Gb (n + 1) = some (.inr (47, [.ref (n + 1 + 1)]))) → (Gb n = some (.inl (yA Y 0, 12, .inl wv))) → (TMI KI Y (n + 1 + 1) none I τb qb Mb) → (sub (TZ (n + 1 + 1) τb) Gb) → (∀ a, TD (n + 1 + 1) τb a → noD a ∨ n ≤ a) → (keysN Mb (selL N z i)) → (i ≤ N) → (nb = na + (selL N z i).length) → (ub = ua + 6 * (selL N z i).length) → N - i < kf_ → V Y p l e R s m args below meth c 7 n u Gb nb ub Q 48 [(3, .ref (n + 1)), (2, .ref n), (0, .ref h), (1, .int (nI p_)), (4, .int (nI k)), (5, .int (nI i))] [] := by
          intro kf_
          induction kf_ with
          | zero => intro Gb nb ub i τb qb Mb jhb jIb jfb jsb jwb jTb jpb jtb jkb jib jnb jub hk_; exact absurd hk_ (Nat.not_lt_zero _)
          | succ kf_ ih_b =>
            intro Gb nb ub i τb qb Mb jhb jIb jfb jsb jwb jTb jpb jtb jkb jib jnb jub hk_
            refine V.lts (fun ltb => ?_)
            have hsi := selL_le (N := N) (z := z) (i := i) (n := N) jib
            refine g_iload hC dX2_waves_48 5 rfl ?_
            refine g_aload_n hC dX2_waves_50 rfl 2 rfl ?_
            refine g_get (v := .int (nI N)) hC kc_X2 (jhb _ _ (hM_0 hN hK)) 0 (by decide) q251 rfl dX2_waves_51 ?_
            refine g_icmp_geN hC i N (by omega) (by omega) dX2_waves_54 (tgt := 100) (by decide) (fun c_54 => ?_) (fun c_54 => ?_)
            · refine g_aload_n hC dX2_waves_100 rfl 0 rfl ?_
              obtain rfl : N = i := by omega
              refine V.lts (fun lc_50 => ?_)
              refine g_callq0 hC (g_runV hC (st_iterator (G := Gb) jTb jpb lc_50 (n + 1) jsb) kc_J35 jsb (lw_V q2951 q2745 q4025 q143 q2746) rfl md_J35_iterator dX2_waves_101 rfl ⟨by omega, by omega⟩ (by omega) (by omega) rfl (Nat.le_of_ble_eq_true rfl)) (fun r_51 G_51 n_51 u_51 hp_51 hn_51 hm_51 hu_51 => ?_)
              obtain ⟨it_51, τ_51, nx_51, rfl, hT_51, hps_51, hR_51, hit_51, hin_51, hf_51, hD_51⟩ := hp_51
              refine V.lts (fun lti_51 => ?_)
              have o_52 : G_51 (n + 1) = some (.inr (47, [.ref (n + 1 + 1)])) := (hf_51 _ (lc_50 _ _ jsb) (fun q => (TZ_out jTb.2.2.2.1 jTb.1.1 jpb jsb (by decide) (by decide)) (.inl q))).trans jsb
              have a_53 : G_51 n = some (.inl (yA Y 0, 12, .inl wv)) := (hf_51 _ (lc_50 _ _ jwb) (fun q => (TZ_outA jTb.2.2.2.1 jTb.1.1 jpb jwb) (.inl q))).trans jwb
              have hs_54 : sub (hM Y h N σ η) G_51 := hf_51.subs jhb lc_50 (fun a q => (TZ_hM jTb.2.2.2.1 jTb.1.1 jpb jhb) a (.inl q))
              have hi_55 : sub I G_51 := hf_51.subs jIb lc_50 (fun a q => (fun a q => jTb.2.2.2.2.2 a q) a (.inl q))
              have hf_56 : FR noD n G G_51 := jfb.trans hf_51 (by omega) (fun a_ q_ => jtb a_ (.inl q_))
              have hTn_57 : ∀ a, TD (n + 1 + 1) τ_51 a → noD a ∨ n ≤ a := fun a q => jtb a ((hD_51 a).mp q)
              have hil_51 : it_51 < n_51 := lti_51 _ _ hit_51
              refine g_astore (L' := [(5, .ref it_51), (3, .ref (n + 1)), (2, .ref n), (0, .ref h), (1, .int (nI p_)), (4, .int (nI k))]) hC dX2_waves_104 (by decide) rfl ?_
              have hl_106 : ∀ (kf_ : Nat) (Gc : AH) (nxc : Option Nat) (lrc : Option Nat) (Rc : MP) (L1 : List Nat) (L2 : List Nat), (sub (hM Y h N σ η) Gc) → (sub I Gc) → (FR noD n G Gc) → (Gc (n + 1) = some (.inr (47, [.ref (n + 1 + 1)]))) → (Gc n = some (.inl (yA Y 0, 12, .inl (wset wv L1 k)))) → (sub (TZ (n + 1 + 1) τ_51) Gc) → (Gc it_51 = some (.inr (52, [va_rf nxc, va_rf lrc, .int (τ_51.2.2.1 1), .ref (n + 1 + 1)]))) → (IR τ_51 qb Mb nxc Rc) → (keysN Rc L2) → (selL N z N = L1 ++ L2) → L2.length < kf_ → V Y p l e R s m args below meth c 7 n u Gc n_51 u_51 Q 106 [(5, .ref it_51), (3, .ref (n + 1)), (2, .ref n), (0, .ref h), (1, .int (nI p_)), (4, .int (nI k))] [] := by
                intro kf_
                induction kf_ with
                | zero => intro Gc nxc lrc Rc L1 L2 jhc jIc jfc jsc jwc jpc jitc jRc jkc jLc hk_; exact absurd hk_ (Nat.not_lt_zero _)
                | succ kf_ ih_c =>
                  intro Gc nxc lrc Rc L1 L2 jhc jIc jfc jsc jwc jpc jitc jRc jkc jLc hk_
                  refine V.lts (fun ltc => ?_)
                  rcases L2 with _ | ⟨q9, L9⟩
                  · obtain rfl : Rc = [] := by
                      cases Rc with
                      | nil => rfl
                      | cons a b => cases jkc
                    refine g_aload hC dX2_waves_106 0 rfl ?_
                    refine V.lts (fun lc_58 => ?_)
                    refine g_calli0 hC (g_runF (n := 0) hC (it_hasNext (G := Gc) hT_51 jpc it_51 jRc jitc) kc_J41 jitc (lw_F q2953 q2178 q2174 q147 q2176) q2148 q2147 q2175 q2179 q2177 (x := ⟨"java/util/Iterator", "hasNext", "()Z"⟩) ⟨by decide, by decide, by decide +kernel⟩ dX2_waves_108 rfl ⟨by omega, by omega⟩ (by omega) (by omega) rfl (Nat.le_of_ble_eq_true rfl)) (fun r_59 G_59 n_59 u_59 hp_59 hn_59 hm_59 hu_59 => ?_)
                    obtain ⟨rfl, rfl, rfl, rfl⟩ := hp_59
                    refine g_if_eqN hC 0 (by omega) dX2_waves_113 (tgt := 140) (by decide) (fun c_113 => ?_) (fun c_113 => ?_)
                    · refine g_iincN (L' := [(4, .int (nI (k + 1))), (5, .ref it_51), (3, .ref (n + 1)), (2, .ref n), (0, .ref h), (1, .int (nI p_))]) hC 1 k dX2_waves_140 (k := 5) rfl (by decide) (by decide) rfl ?_
                      have hkE : keysN Mb (selL N z N) := jkb
                      have hL1 : L1 = selL N z N := by rw [jLc, List.append_nil]
                      have hwE : ∀ q, q < 12 → wset wv L1 k q = (rnd N z k).1 22 q := fun q hq => by
                        rw [hL1, rnd_at]; unfold wset
                        by_cases c : q ∈ selL N z N
                        · rw [if_pos c, if_pos (selL_m.mp c)]
                        · rw [if_neg c, if_neg (fun d => c (selL_m.mpr d))]; exact jwz q hq
                      have hlen : selL N z N = [] ∨ 1 ≤ (selL N z N).length := by
                        cases selL N z N with
                        | nil => exact .inl rfl
                        | cons a b => right; simp
                      have hnE : n + 3 ≤ n_51 ∧ n_51 + 3 * uN N (rnd N z k) + (if selL N z N = [] then 0 else 2) ≤ n + 42 := by
                        rcases hlen with hl | hl
                        · rw [if_pos hl]; have hl0 : (selL N z N).length = 0 := by rw [hl]; rfl
                          constructor <;> omega
                        · rw [if_neg (fun c => by rw [c] at hl; simp at hl)]; constructor <;> omega
                      have huE : u_51 + 11 * uN N (rnd N z k) + (if selL N z N = [] then 0 else 5) ≤ u + 160 := by
                        rcases hlen with hl | hl
                        · rw [if_pos hl]; have hl0 : (selL N z N).length = 0 := by rw [hl]; rfl
                          omega
                        · rw [if_neg (fun c => by rw [c] at hl; simp at hl)]; omega
                      refine g_goto (tgt := 34) hC dX2_waves_143 (by decide) ?_
                      refine V.sub [2, 3, 4, 5, 0] rfl ?_
                      exact ih_ Gc n_51 u_51 (k + 1) (rnd N z k) (wset wv L1 k) τ_51 qb Mb (selL N z N) (f - 1) (jhc) (jIc) (jfc) (jsc) (jwc) (hT_51) (jpc) (hTn_57) (hkE) (by have := selL_len (N := N) (z := z); omega) (wave_step jc hLn) (fun a i h => (rnd_ne h).trans (jz a i h)) (hwE) (hnE) (huE) (by omega)
                    · first | exact absurd c_113 (by decide) | exact absurd c_113 (by omega)
                  · obtain ⟨X9, k9, v9, R9, q8, L8, hc1, hc2, hc3, hk9⟩ := keysN_cons jkc (by simp)
                    rw [List.cons.injEq] at hc2
                    obtain ⟨rfl, rfl⟩ := hc2
                    subst hc1 hc3
                    have hq9 : q9 < N := (selL_m.mp (by rw [jLc]; simp)).1
                    have hmem : ((q9 : Int), k9, v9) ∈ Mb := by
                      obtain ⟨⟨P9, hP9⟩, -⟩ := jRc
                      rw [hP9]; simp
                    have hk9I := KI_nI (hT_51.key hmem) (by omega)
                    refine g_aload hC dX2_waves_106 0 rfl ?_
                    refine V.lts (fun lc_60 => ?_)
                    refine g_calli0 hC (g_runF (n := 0) hC (it_hasNext (G := Gc) hT_51 jpc it_51 jRc jitc) kc_J41 jitc (lw_F q2953 q2178 q2174 q147 q2176) q2148 q2147 q2175 q2179 q2177 (x := ⟨"java/util/Iterator", "hasNext", "()Z"⟩) ⟨by decide, by decide, by decide +kernel⟩ dX2_waves_108 rfl ⟨by omega, by omega⟩ (by omega) (by omega) rfl (Nat.le_of_ble_eq_true rfl)) (fun r_61 G_61 n_61 u_61 hp_61 hn_61 hm_61 hu_61 => ?_)
                    obtain ⟨rfl, rfl, rfl, rfl⟩ := hp_61
                    refine g_if_eqN hC 1 (by omega) dX2_waves_113 (tgt := 140) (by decide) (fun c_113 => ?_) (fun c_113 => ?_)
                    · first | exact absurd c_113 (by decide) | exact absurd c_113 (by omega)
                    · refine g_aload hC dX2_waves_116 0 rfl ?_
                      refine V.lts (fun lc_62 => ?_)
                      refine g_callq0 hC (g_runF (n := 0) hC (it_next (G := Gc) hT_51 jpc it_51 jRc jitc (by omega)) kc_J41 jitc (lw_F q2955 q2269 q2271 q149 q2273) q2198 q2197 q2272 q2270 q2177 (x := ⟨"java/util/Iterator", "next", "()Ljava/lang/Object;"⟩) ⟨by decide, by decide, by decide +kernel⟩ dX2_waves_118 rfl ⟨by omega, by omega⟩ (by omega) (by omega) rfl (Nat.le_of_ble_eq_true rfl)) (fun r_63 G_63 n_63 u_63 hp_63 hn_63 hm_63 hu_63 => ?_)
                      obtain ⟨rfl, ⟨nx_63, lr_63, hR_63, hit_63⟩, hps_63, hf_63, rfl, rfl⟩ := hp_63
                      have o_64 : G_63 (n + 1) = some (.inr (47, [.ref (n + 1 + 1)])) := (hf_63 _ (lc_62 _ _ jsc) (fun q => (gne_c jsc jitc (by decide)) q)).trans jsc
                      have a_65 : G_63 n = some (.inl (yA Y 0, 12, .inl (wset wv L1 k))) := (hf_63 _ (lc_62 _ _ jwc) (fun q => (gne_ao jwc jitc) q)).trans jwc
                      have hs_66 : sub (hM Y h N σ η) G_63 := hf_63.subs jhc lc_62 (fun a q => by subst q; exact hM_none (by unfold hD; omega))
                      have hi_67 : sub I G_63 := hf_63.subs jIc lc_62 (fun a q => by subst q; exact hIn _ (by omega))
                      have hf_68 : FR noD n G G_63 := jfc.trans hf_63 (by omega) (fun a_ q_ => by first | exact .inl q_ | exact .inl (.inl q_) | exact .inl (.inr q_) | (subst q_; first | exact .inr (by omega) | exact .inl rfl))
                      refine g_castS hC kc_J12 (hi_67 _ _ hk9I) q2956 dX2_waves_123 ?_
                      refine V.lts (fun lc_69 => ?_)
                      refine g_calli0 hC (g_runV hC (met_J12_intValue (G := G_63) k9 (hi_67 _ _ hk9I)) kc_J12 (hi_67 _ _ hk9I) (lw_V q2957 q1195 q1196 q106 q1197) rfl md_J12_intValue dX2_waves_126 rfl ⟨by omega, by omega⟩ (by omega) (by omega) rfl (Nat.le_of_ble_eq_true rfl)) (fun r_70 G_70 n_70 u_70 hp_70 hn_70 hm_70 hu_70 => ?_)
                      obtain ⟨rfl, rfl, rfl, rfl⟩ := hp_70
                      refine g_istore (L' := [(6, .int (nI q9)), (5, .ref it_51), (3, .ref (n + 1)), (2, .ref n), (0, .ref h), (1, .int (nI p_)), (4, .int (nI k))]) hC dX2_waves_129 (by decide) rfl ?_
                      refine g_aload_n hC dX2_waves_131 rfl 3 rfl ?_
                      refine g_iload hC dX2_waves_132 0 rfl ?_
                      refine g_iload hC dX2_waves_134 6 rfl ?_
                      obtain ⟨G_71, eG_71⟩ : ∃ G_, gU G_63 n (.inl (yA Y 0, 12, .inl (upd (wset wv L1 k) q9 (nI k)))) = G_ := ⟨_, rfl⟩
                      have o_72 : G_71 (n + 1) = some (.inr (47, [.ref (n + 1 + 1)])) := by rw [← eG_71]; exact (gU_n _ (gne_oa o_64 a_65)).trans o_64
                      have o_73 : G_71 it_51 = some (.inr (52, [va_rf nx_63, va_rf lr_63, .int (τ_51.2.2.1 1), .ref (n + 1 + 1)])) := by rw [← eG_71]; exact (gU_n _ (gne_oa hit_63 a_65)).trans hit_63
                      have hs_74 : sub (hM Y h N σ η) G_71 := by rw [← eG_71]; exact sub_away hs_66 (hM_none (by unfold hD; omega))
                      have hi_75 : sub I G_71 := by rw [← eG_71]; exact sub_away hi_67 (hIn _ (by omega))
                      have hx_76 : sub (TZ (n + 1 + 1) τ_51) G_71 := by rw [← eG_71]; exact sub_away hps_63 (TZ_noneA hps_63 a_65)
                      have hf_77 : FR noD n G G_71 := by rw [← eG_71]; exact FR.put hf_68 (.inr (by omega))
                      refine g_iast hC a_65 (vin (by omega) (by omega)) (by omega) (f' := (upd (wset wv L1 k) q9 (nI k))) (by rw [nI_clamp (by omega)]) (G' := G_71) eG_71 dX2_waves_136 ?_
                      have a_78 : G_71 n = some (.inl (yA Y 0, 12, .inl (upd (wset wv L1 k) q9 (nI k)))) := by rw [← eG_71]; exact gU_s _ _ _
                      refine g_goto (tgt := 106) hC dX2_waves_137 (by decide) ?_
                      refine V.sub [1, 2, 3, 4, 5, 6] rfl ?_
                      exact ih_c G_71 nx_63 lr_63 R9 (L1 ++ [q9]) L9 (hs_74) (hi_75) (hf_77) (o_72) (by rw [← wset_s]; exact a_78) (hx_76) (o_73) (hR_63) (hk9) (by rw [jLc]; simp) (by simp at hk_; omega)
              exact hl_106 ((selL N z N).length + 1) G_51 nx_51 none Mb ([]) (selL N z N) (hs_54) (hi_55) (hf_56) (o_52) (by rw [wset_0]; exact a_53) (hps_51) (hit_51) (hR_51) (jkb) (rfl) (by omega)
            · refine g_aload_n hC dX2_waves_57 rfl 2 rfl ?_
              refine g_iload hC dX2_waves_58 5 rfl ?_
              refine V.lts (fun lc_79 => ?_)
              refine g_calli0 hC (g_runV hC (met_X2_runs (G := Gb) h i (jhb) (hN) (hK) (hN2) (by omega)) kc_X2 (jhb _ _ (hM_0 hN hK)) (lw_V q1801 q1765 q1766 q83 q1767) rfl md_X2_runs dX2_waves_60 rfl ⟨by omega, by omega⟩ (by omega) (by omega) rfl (Nat.le_of_ble_eq_true rfl)) (fun r_80 G_80 n_80 u_80 hp_80 hn_80 hm_80 hu_80 => ?_)
              obtain ⟨rfl, rfl, rfl, rfl⟩ := hp_80
              refine g_if_eqB hC (decide (tl σ 0 i = 1)) dX2_waves_63 (tgt := 94) (by decide) (fun c_63 => ?_) (fun c_63 => ?_)
              · have hPw : PW N z i = false := by rw [PW_lk jz jwz hN2 (by omega)]; simp [c_63]
                refine g_iincN (L' := [(5, .int (nI (i + 1))), (3, .ref (n + 1)), (2, .ref n), (0, .ref h), (1, .int (nI p_)), (4, .int (nI k))]) hC 1 i dX2_waves_94 (k := 5) rfl (by decide) (by decide) rfl ?_
                refine g_goto (tgt := 48) hC dX2_waves_97 (by decide) ?_
                refine V.sub [1, 2, 3, 4, 5, 0] rfl ?_
                exact ih_b Gb nb ub (i + 1) τb qb Mb (jhb) (jIb) (jfb) (jsb) (jwb) (jTb) (jpb) (jtb) (by rw [selL_s, if_neg (by rw [hPw]; decide), List.append_nil]; exact jkb) (by omega) (by rw [selL_s, if_neg (by rw [hPw]; decide), List.append_nil]; exact jnb) (by rw [selL_s, if_neg (by rw [hPw]; decide), List.append_nil]; exact jub) (by omega)
              · refine g_aload_n hC dX2_waves_66 rfl 1 rfl ?_
                refine g_iload hC dX2_waves_67 5 rfl ?_
                refine g_iald hC jwb (vin (by omega) (by omega)) dX2_waves_69 ?_
                rw [show (nI i).toNatClampNeg = i from nI_clamp (by omega)]
                refine g_iconst (v := (-1)) hC dX2_waves_70 rfl ?_
                refine g_icmp_ne hC dX2_waves_71 (tgt := 94) (by decide) (fun c_71 => ?_) (fun c_71 => ?_)
                · have hPw : PW N z i = false := by rw [PW_lk jz jwz hN2 (by omega)]; simp [c_71]
                  refine g_iincN (L' := [(5, .int (nI (i + 1))), (3, .ref (n + 1)), (2, .ref n), (0, .ref h), (1, .int (nI p_)), (4, .int (nI k))]) hC 1 i dX2_waves_94 (k := 5) rfl (by decide) (by decide) rfl ?_
                  refine g_goto (tgt := 48) hC dX2_waves_97 (by decide) ?_
                  refine V.sub [1, 2, 3, 4, 5, 0] rfl ?_
                  exact ih_b Gb nb ub (i + 1) τb qb Mb (jhb) (jIb) (jfb) (jsb) (jwb) (jTb) (jpb) (jtb) (by rw [selL_s, if_neg (by rw [hPw]; decide), List.append_nil]; exact jkb) (by omega) (by rw [selL_s, if_neg (by rw [hPw]; decide), List.append_nil]; exact jnb) (by rw [selL_s, if_neg (by rw [hPw]; decide), List.append_nil]; exact jub) (by omega)
                · refine g_aload_n hC dX2_waves_74 rfl 2 rfl ?_
                  refine g_iload hC dX2_waves_75 5 rfl ?_
                  refine g_aload_n hC dX2_waves_77 rfl 1 rfl ?_
                  refine V.lts (fun lc_81 => ?_)
                  refine g_calli0 hC (g_runV hC (met_X2_lacks (G := Gb) h i n (jhb) (hN) (hK) (hN2) (jIb) (hIh_h) (hpl) (by omega) (jwb)) kc_X2 (jhb _ _ (hM_0 hN hK)) (lw_V q2947 q2949 qs29 q83 q2950) rfl md_X2_lacks dX2_waves_78 rfl ⟨by omega, by omega⟩ (by omega) (by omega) rfl (Nat.le_of_ble_eq_true rfl)) (fun r_82 G_82 n_82 u_82 hp_82 hn_82 hm_82 hu_82 => ?_)
                  obtain ⟨rfl, rfl, rfl, rfl⟩ := hp_82
                  refine g_if_eqB hC (anyN (lkF N σ wv i) 8) dX2_waves_81 (tgt := 94) (by decide) (fun c_81 => ?_) (fun c_81 => ?_)
                  · have hPw : PW N z i = false := by rw [PW_lk jz jwz hN2 (by omega)]; simp [c_81]
                    refine g_iincN (L' := [(5, .int (nI (i + 1))), (3, .ref (n + 1)), (2, .ref n), (0, .ref h), (1, .int (nI p_)), (4, .int (nI k))]) hC 1 i dX2_waves_94 (k := 5) rfl (by decide) (by decide) rfl ?_
                    refine g_goto (tgt := 48) hC dX2_waves_97 (by decide) ?_
                    refine V.sub [1, 2, 3, 4, 5, 0] rfl ?_
                    exact ih_b Gb nb ub (i + 1) τb qb Mb (jhb) (jIb) (jfb) (jsb) (jwb) (jTb) (jpb) (jtb) (by rw [selL_s, if_neg (by rw [hPw]; decide), List.append_nil]; exact jkb) (by omega) (by rw [selL_s, if_neg (by rw [hPw]; decide), List.append_nil]; exact jnb) (by rw [selL_s, if_neg (by rw [hPw]; decide), List.append_nil]; exact jub) (by omega)
                  · refine g_aload_n hC dX2_waves_84 rfl 0 rfl ?_
                    refine g_iload hC dX2_waves_85 5 rfl ?_
                    refine V.lts (fun lc_83 => ?_)
                    refine g_callq0 hC (g_runS hC (met_J12_valueOf (G := Gb) (nI i) ((hIo).trans jIb)) (lw_S q1486 q1487 q106 q1488) md_J12_valueOf dX2_waves_87 rfl ⟨by omega, by omega⟩ (by omega) (by omega) rfl (Nat.le_of_ble_eq_true rfl)) (fun r_84 G_84 n_84 u_84 hp_84 hn_84 hm_84 hu_84 => ?_)
                    obtain ⟨bx_84, rfl, ho_84, hf_84, hq_84, hv_84, hsm_84⟩ := hp_84
                    obtain ⟨rfl, rfl, rfl, hob_84'⟩ := hsm_84 i (by omega) rfl
                    have hob_84 := ((hIo).trans jIb) _ _ hob_84'
                    have hPw : PW N z i = true := by rw [PW_lk jz jwz hN2 (by omega), c_71]; simp [c_63, c_81]
                    have hke := fun v => keysN_end (q := i) (k := bx_84) (v := v) jkb (fun x hx => (selL_m.mp hx).1)
                    have hsl := selL_le (N := N) (z := z) (i := i + 1) (n := N) (by omega)
                    rw [selL_s, if_pos hPw, List.length_append] at hsl
                    simp at hsl
                    refine V.lts (fun lc_85 => ?_)
                    refine g_calli0 hC (g_runV hC (st_add (G := Gb) jTb jpb jIb (by omega) lc_85 (n + 1) bx_84 jsb ((i : Nat) : Int) ⟨nI i, hIo _ _ hob_84', nI_toInt (by omega)⟩ (hke none).2 (by unfold ZL; omega) (by unfold ZH; omega)) kc_J35 jsb (lw_V q2492 q2493 q2494 q143 q2495) rfl md_J35_add dX2_waves_90 rfl ⟨by omega, by omega⟩ (by omega) (by omega) rfl (Nat.le_of_ble_eq_true rfl)) (fun r_86 G_86 n_86 u_86 hp_86 hn_86 hm_86 hu_86 => ?_)
                    obtain ⟨rfl, pv_86, τ_86, q_86, hT_86, hps_86, hf_86, hD_86, rfl, rfl⟩ := hp_86
                    have o_87 : G_86 (n + 1) = some (.inr (47, [.ref (n + 1 + 1)])) := (hf_86 _ (lc_85 _ _ jsb) (TZ_out jTb.2.2.2.1 jTb.1.1 jpb jsb (by decide) (by decide))).trans jsb
                    have o_88 : G_86 bx_84 = some (.inr (40, [.int (nI i)])) := (hf_86 _ (lc_85 _ _ hob_84) (TZ_out jTb.2.2.2.1 jTb.1.1 jpb hob_84 (by decide) (by decide))).trans hob_84
                    have a_89 : G_86 n = some (.inl (yA Y 0, 12, .inl wv)) := (hf_86 _ (lc_85 _ _ jwb) (TZ_outA jTb.2.2.2.1 jTb.1.1 jpb jwb)).trans jwb
                    have hs_90 : sub (hM Y h N σ η) G_86 := hf_86.subs jhb lc_85 (TZ_hM jTb.2.2.2.1 jTb.1.1 jpb jhb)
                    have hi_91 : sub I G_86 := hf_86.subs jIb lc_85 (fun a q => jTb.2.2.2.2.2 a q)
                    have hf_92 : FR noD n G G_86 := jfb.trans hf_86 (by omega) (fun a_ q_ => jtb a_ q_)
                    have hTn_93 : ∀ a, TD (n + 1 + 1) τ_86 a → noD a ∨ n ≤ a := fun a q => (hD_86 a q).elim (jtb a) (fun e => .inr (by omega))
                    refine g_pop hC dX2_waves_93 rfl ?_
                    refine g_iincN (L' := [(5, .int (nI (i + 1))), (3, .ref (n + 1)), (2, .ref n), (0, .ref h), (1, .int (nI p_)), (4, .int (nI k))]) hC 1 i dX2_waves_94 (k := 5) rfl (by decide) (by decide) rfl ?_
                    refine g_goto (tgt := 48) hC dX2_waves_97 (by decide) ?_
                    refine V.sub [1, 2, 3, 4, 5, 0] rfl ?_
                    exact ih_b G_86 (nb + 1) (ub + 6) (i + 1) τ_86 q_86 (mput ((i : Nat) : Int) bx_84 (some pv_86) Mb) (hs_90) (hi_91) (hf_92) (o_87) (a_89) (hT_86) (hps_86) (hTn_93) (by rw [selL_s, if_pos hPw]; exact (hke _).1) (by omega) (by rw [selL_s, if_pos hPw, List.length_append]; simp; omega) (by rw [selL_s, if_pos hPw, List.length_append]; simp; omega) (by omega)
        refine V.sub [1, 2, 3, 4, 5, 0] rfl ?_
        exact hl_48 (N - 0 + 1) G_43 na ua 0 τ_43 qa ([]) (hs_46) (hi_47) (hf_48) (o_44) (a_45) (hT_43) (hps_43) (hTn_49) (rfl) (by omega) (rfl) (rfl) (by omega)
  refine V.sub [1, 2, 3, 4, 0] rfl ?_
  exact hl_34 (13 + 1) G_32 (n + 1 + 1 + 1 + 1) (u + 12 + 1 + 9 + 6) 1 (wv0 σ p_) (upd (flI (fun _ => 0) 12 (-1)) p_ 0) τ_32 q_32 (mput ((p_ : Nat) : Int) bx_30 (some pv_32) ([])) ([p_]) 13 (hs_36) (hi_37) (hf_38) (o_33) (a_35) (hT_32) (hps_32) (hTn_39) (rfl) (by simp) (⟨fun _ => ⟨rfl, by have := uN_0 (σ := σ) hN2 hp; omega, by have := uN_0 (σ := σ) hN2 hp; omega⟩, fun q => by cases q⟩) (fun a i h => wv0_ne h) (fun q hq => (wv0_at hq).symm) (by have := uN_0 (σ := σ) hN2 hp; constructor; omega; simp; omega) (by have := uN_0 (σ := σ) hN2 hp; simp; omega) (by omega)
