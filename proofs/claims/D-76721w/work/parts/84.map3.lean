set_option maxRecDepth 100000
/-! COMPONENT, 18: higherKey -/
theorem mp_highE {Y : YT} {l : Launch} {t n u : Nat} {τ : TS} {q : TQ} {M : MP} {G J : AH} (hT : TMI KI Y t none J τ q M) (hs : sub (TZ t τ) G) (hJ : sub J G) (k : Nat) (X : Int) (hk : KI J k X) (h1 : ZL < X) (h2 : X < ZH) : GM Y l yJ1_getHigherEntry (ws_ yJ1_getHigherEntry cJ1_getHigherEntry 6 (some (FieldType.object "java/util/TreeMap$Entry"))) 4 85 [.ref t, .ref k] G n u 0 0 (pQ (fun r G' n' u' => NX τ q X r ∧ G = G' ∧ n = n' ∧ u = u')) noX := by
  obtain ⟨hG, hKS⟩ := hT.g hs
  have h := met_J1_getHigherEntryI (l := l) (n := n) (u := u) (B := G) hT.1 k X hT.2.1 h1 h2 hT.2.2.1 (by rw [hG]; exact KI_mono hk hJ) (by rw [hG]; exact hT.KO KI_MO hJ)
  rw [hG] at h; exact h
theorem mp_kon {Y : YT} {l : Launch} {t n u : Nat} {τ : TS} {q : TQ} {M : MP} {G J : AH} {K : AH → Nat → Int → Prop} {c : Option Nat} (hT : TMI K Y t c J τ q M) (hs : sub (TZ t τ) G) (s k : Nat) (h1 : τ.2.2.2 s = true) (h2 : τ.1 0 s = some k) : GM Y l yJ1_keyOrNull (ws_ yJ1_keyOrNull cJ1_keyOrNull 1 (some (FieldType.object "java/lang/Object"))) 0 0 [va_rf (some s)] G n u 0 0 (pQ (fun r G' n' u' => some k = r ∧ G = G' ∧ n = n' ∧ u = u')) noX := by
  obtain ⟨hG, hKS⟩ := hT.g hs
  have h := met_J1_keyOrNull (l := l) (n := n) (u := u) (B := G) hT.1 (some s) (v := some k) h2 (fun a ha => by cases ha; exact h1)
  rw [hG] at h; exact h
theorem TMI.nx {K : AH → Nat → Int → Prop} {Y : YT} {t : Nat} {c : Option Nat} {J : AH} {τ : TS} {q : TQ} {M : MP} (hT : TMI K Y t c J τ q M) {X X' : Int} {P R : MP} {k : Nat} {v : Option Nat} {nx : Option Nat} (h : NX τ q X nx) (hM : M = P ++ (X', k, v) :: R) (h1 : ∀ e, e ∈ P → e.1 ≤ X) (h2 : X < X') : ∃ s, nx = some s ∧ τ.2.2.2 s = true ∧ τ.1 0 s = some k := by
  have hso := hT.2.1.so
  rw [hM] at hso
  have h6 := (List.pairwise_append.mp hso).2.1
  have hi := h.ir hT.2.1 hM h1 (fun e he => by
    rcases List.mem_cons.mp he with q1 | q1
    · rw [q1]; exact h2
    · have := (List.pairwise_cons.mp h6).1 _ q1; simp only at this; omega)
  cases nx with
  | none => exact absurd hi.2 (by simp)
  | some s =>
    obtain ⟨-, s1, k', v', R', r1, r2⟩ := hi
    rw [List.cons.injEq, Prod.mk.injEq, Prod.mk.injEq] at r1
    exact ⟨s, rfl, s1, by rw [r1.1.2.1]; exact r2⟩
set_option maxHeartbeats 1000000 in
theorem met_J1_higherKey {Y : YT} {l : Launch} {n u : Nat} {G : AH} (t : Nat) (k : Nat) {τ : TS} {q : TQ} {M : MP} {J : AH} (X : Int) {X' : Int} {P R : MP} {k' : Nat} {v : Option Nat} (hT : TMI KI Y t none J τ q M) (hs : sub (TZ t τ) G) (hJ : sub J G) (hk : KI J k X) (hZ1 : ZL < X) (hZ2 : X < ZH) (hMe : M = P ++ (X', k', v) :: R) (h1P : ∀ e, e ∈ P → e.1 ≤ X) (h2P : X < X') : GM Y l yJ1_higherKey (ws_ yJ1_higherKey cJ1_higherKey 2 (some (FieldType.object "java/lang/Object"))) 5 110 [.ref t, .ref k] G n u 0 0 (pQ (fun r G' n' u' => some k' = r ∧ G = G' ∧ n = n' ∧ u = u')) noX := by
  refine GM.intro (own := RJ1) rfl (by decide +kernel) (Nat.le_of_ble_eq_true rfl) ?_
  intro p e s m args below meth c R Q hC hr hnm hF hL hE
  have hE1 := hE.1
  have hE2 := hE.2.1
  have hnz : yz Y ≤ n := by have := hC.z; have := hC.n; omega
  show V Y p l e R s m args below meth c 2 n u G n u Q 0 [(0, .ref t), (1, .ref k)] []
  refine V.lts (fun hlt => ?_)
  refine g_aload_n hC dJ1_higherKey_0 rfl 0 rfl ?_
  refine g_aload_n hC dJ1_higherKey_1 rfl 1 rfl ?_
  refine V.lts (fun lc_1 => ?_)
  refine g_callq0 hC (g_runV hC (mp_highE (G := G) hT hs hJ k X hk (by omega) (by omega)) kc_J1 (hs _ _ (TZ_h hT.2.2.2.1)) (lw_V q2213 q2059 q2060 q85 q2061) rfl md_J1_getHigherEntry dJ1_higherKey_2 rfl ⟨by omega, by omega⟩ (by omega) (by omega) rfl (Nat.le_of_ble_eq_true rfl)) (fun r_2 G_2 n_2 u_2 hp_2 hn_2 hm_2 hu_2 => ?_)
  obtain ⟨hnx_2, rfl, rfl, rfl⟩ := hp_2
  obtain ⟨s9, rfl, hs9, hk9⟩ := hT.nx hnx_2 hMe h1P h2P
  refine V.lts (fun lc_3 => ?_)
  refine g_callq0 hC (g_runS hC (mp_kon (G := G) hT hs s9 k' hs9 hk9) (lw_S q2214 q2215 q85 q2216) md_J1_keyOrNull dJ1_higherKey_5 rfl ⟨by omega, by omega⟩ (by omega) (by omega) rfl (Nat.le_of_ble_eq_true rfl)) (fun r_4 G_4 n_4 u_4 hp_4 hn_4 hm_4 hu_4 => ?_)
  obtain ⟨rfl, rfl, rfl, rfl⟩ := hp_4
  refine g_aret (v := some k') hC hr (by first | exact Or.inl ⟨_, rfl⟩ | exact Or.inr ⟨_, rfl⟩) ⟨_, rfl, ?_⟩ (by omega) (by omega) hE dJ1_higherKey_8
  exact ⟨rfl, rfl, rfl, rfl⟩
/-- a picture of boxes alone -/
def J40 (J : AH) : Prop := ∀ a e, J a = some e → ∃ fs, e = .inr (40, fs)
theorem J40.no {J G : AH} (h : J40 J) (hs : sub J G) {a i : Nat} {fs : List Value} (ha : G a = some (.inr (i, fs))) (hi : i ≠ 40) : J a = none := by
  cases e : J a with
  | none => rfl
  | some x =>
    obtain ⟨gs, rfl⟩ := h a x e
    have := hs a _ e
    rw [ha] at this; cases this; exact absurd rfl hi
theorem J40.noA {J G : AH} (h : J40 J) (hs : sub J G) {a : Nat} {x : ClassId × vp_A} (ha : G a = some (.inl x)) : J a = none := by
  cases e : J a with
  | none => rfl
  | some y =>
    obtain ⟨gs, rfl⟩ := h a y e
    have := hs a _ e
    rw [ha] at this; cases this
theorem J40.add {J G : AH} (h : J40 J) (hs : sub J G) {b : Nat} {v : Int32} (hb : G b = some (.inr (40, [.int v]))) : J40 (gU J b (.inr (40, [.int v]))) ∧ sub (gU J b (.inr (40, [.int v]))) G ∧ sub J (gU J b (.inr (40, [.int v]))) := by
  refine ⟨fun a e q => ?_, fun a e q => ?_, fun a e q => ?_⟩
  · by_cases c : a = b
    · subst c; rw [gU_s] at q; cases q; exact ⟨_, rfl⟩
    · rw [gU_n _ c] at q; exact h a e q
  · by_cases c : a = b
    · subst c; rw [gU_s] at q; cases q; exact hb
    · rw [gU_n _ c] at q; exact hs a e q
  · by_cases c : a = b
    · subst c
      have := hs a e q
      rw [hb] at this; cases this; exact gU_s _ _ _
    · rw [gU_n _ c]; exact q
theorem TMI.box {Y : YT} {t b : Nat} {c : Option Nat} {J G : AH} {τ : TS} {q : TQ} {M : MP} {v : Int32} (h : TMI KI Y t c J τ q M) (hs : sub (TZ t τ) G) (hj : sub J (gU J b (.inr (40, [.int v])))) (hb : G b = some (.inr (40, [.int v]))) : TMI KI Y t c (gU J b (.inr (40, [.int v]))) τ q M := h.J KI_MO hj (fun a ha => by
  by_cases e : a = b
  · subst e; exact absurd ha (TZ_out h.2.2.2.1 h.1.1 hs hb (by decide) (by decide))
  · rw [gU_n _ e]; exact h.2.2.2.2.2 a ha)
theorem mput_fl {X : Int} {k : Nat} {v : Option Nat} : ∀ (M : MP), (∀ e, e ∈ M → e.1 ≠ X) → ∀ Z : Int, ((mput X k v M).filter (fun e => decide (e.1 < Z))).length = (M.filter (fun e => decide (e.1 < Z))).length + (if X < Z then 1 else 0)
  | [], _, Z => by
    unfold mput
    by_cases h : X < Z <;> simp [h]
  | d :: M, hM, Z => by
    unfold mput
    have h1 := hM d List.mem_cons_self
    split
    · rw [List.filter_cons, List.filter_cons]
      have ih := mput_fl (k := k) (v := v) M (fun e he => hM e (List.mem_cons_of_mem _ he)) Z
      split
      · rw [List.length_cons, List.length_cons, ih]; omega
      · exact ih
    · rw [List.filter_cons]
      by_cases h : X < Z
      · simp [h]
      · simp [h]
theorem cntB_sc (P : Nat → Bool) (n : Nat) : cntB P (n + 1) = if P n = true then cntB P n + 1 else cntB P n := rfl
/-- the map of ages: who runs, below i -/
def AGM (σ : MS) (I : AH) (i : Nat) (M : MP) : Prop := (∀ X : Int, (M.filter (fun e => decide (e.1 < X))).length = cntB (fun q => decide (tl σ 0 q = 1) && decide ((tl σ 7 q).toInt < X)) i) ∧ (∀ X k v, (X, k, v) ∈ M → ∃ q b, q < i ∧ tl σ 0 q = 1 ∧ X = (tl σ 7 q).toInt ∧ v = some b ∧ I b = some (.inr (40, [.int (nI q)]))) ∧ (∀ q, q < i → tl σ 0 q = 1 → ∃ k v, ((tl σ 7 q).toInt, k, v) ∈ M)
theorem AGM_0 {σ : MS} {I : AH} : AGM σ I 0 [] := ⟨fun _ => rfl, fun _ _ _ h => (nomatch h), fun q h => absurd h (Nat.not_lt_zero _)⟩
theorem AGM.no {σ : MS} {I : AH} {i : Nat} {M : MP} (h : AGM σ I i M) (hr : ¬ tl σ 0 i = 1) : AGM σ I (i + 1) M := by
  refine ⟨fun X => (h.1 X).trans ?_, fun X k v he => ?_, fun q hq hr2 => ?_⟩
  · rw [cntB_sc, if_neg (by simp [hr])]
  · obtain ⟨q, b, h1, h2⟩ := h.2.1 X k v he; exact ⟨q, b, by omega, h2⟩
  · by_cases e : q = i
    · subst e; exact absurd hr2 hr
    · exact h.2.2 q (by omega) hr2
theorem AGM.new {σ : MS} {I : AH} {i N : Nat} {M : MP} (h : AGM σ I i M) (hA : AGd N σ) (hi : i < N) (hr : tl σ 0 i = 1) : ∀ e, e ∈ M → e.1 ≠ (tl σ 7 i).toInt := fun e he hx => by
  obtain ⟨X, k, v⟩ := e
  obtain ⟨q, b, h1, h2, h3, -⟩ := h.2.1 X k v he
  have := hA.2 q i (by omega) hi h2 hr (Int32.toInt_inj.mp (h3.symm.trans hx))
  omega
theorem AGM.put {σ : MS} {I : AH} {i k b : Nat} {M : MP} (h : AGM σ I i M) (hr : tl σ 0 i = 1) (hx : ∀ e, e ∈ M → e.1 ≠ (tl σ 7 i).toInt) (hb : I b = some (.inr (40, [.int (nI i)]))) : AGM σ I (i + 1) (mput (tl σ 7 i).toInt k (some b) M) := by
  have hm := mput_mem (k := k) (v := some b) M hx
  refine ⟨fun X => ?_, fun X k' v' he => ?_, fun q hq hr2 => ?_⟩
  · rw [mput_fl M hx, h.1 X, cntB_sc]
    by_cases c : (tl σ 7 i).toInt < X
    · rw [if_pos c, if_pos (by simp [hr, c])]
    · rw [if_neg c, if_neg (by simp [c])]; rfl
  · rcases (hm _).mp he with q1 | q1
    · rw [Prod.mk.injEq, Prod.mk.injEq] at q1
      exact ⟨i, b, by omega, hr, q1.1, q1.2.2, hb⟩
    · obtain ⟨q, b', h1, h2⟩ := h.2.1 X k' v' q1; exact ⟨q, b', by omega, h2⟩
  · by_cases e : q = i
    · subst e; exact ⟨k, some b, (hm _).mpr (.inl rfl)⟩
    · obtain ⟨k', v', h1⟩ := h.2.2 q (by omega) hr2; exact ⟨k', v', (hm _).mpr (.inr h1)⟩
theorem AGM.len {σ : MS} {I : AH} {N : Nat} {M : MP} (h : AGM σ I N M) (hA : AGd N σ) : M.length = cntB (fun q => decide (tl σ 0 q = 1)) N := by
  have h1 := h.1 100000000
  have e1 : M.filter (fun e => decide (e.1 < (100000000 : Int))) = M := List.filter_eq_self.mpr (fun e he => by
    obtain ⟨X, k, v⟩ := e
    obtain ⟨q, b, q1, q2, q3, -⟩ := h.2.1 X k v he
    have := hA.1 q q1
    simp only [decide_eq_true_eq]; omega)
  rw [e1] at h1
  rw [h1]
  have : ∀ n, n ≤ N → cntB (fun q => decide (tl σ 0 q = 1) && decide ((tl σ 7 q).toInt < 100000000)) n = cntB (fun q => decide (tl σ 0 q = 1)) n := by
    intro n
    induction n with
    | zero => intro _; rfl
    | succ n ih =>
      intro hn
      have := (hA.1 n (by omega)).2
      rw [cntB_sc, cntB_sc, ih (by omega)]
      simp [this]
  exact this N (Nat.le_refl _)
theorem AGM.rk {σ : MS} {I : AH} {N q : Nat} {M P R : MP} {k : Nat} {v : Option Nat} (h : AGM σ I N M) (hso : M.Pairwise (fun x y => x.1 < y.1)) (hM : M = P ++ ((tl σ 7 q).toInt, k, v) :: R) : rkF σ q N = P.length := by
  have h1 := h.1 (tl σ 7 q).toInt
  have e : (fun q' => decide (tl σ 0 q' = 1) && oldF σ q' q) = (fun q' => decide (tl σ 0 q' = 1) && decide ((tl σ 7 q').toInt < (tl σ 7 q).toInt)) := by
    funext q'
    unfold oldF
    rw [show decide (tl σ 7 q' < tl σ 7 q) = decide ((tl σ 7 q').toInt < (tl σ 7 q).toInt) from decide_eq_decide.mpr Int32.lt_iff_toInt_lt]
  unfold rkF
  rw [e, ← h1, hM, List.filter_append]
  rw [hM] at hso
  have h6 := List.pairwise_append.mp hso
  have hP : P.filter (fun e => decide (e.1 < (tl σ 7 q).toInt)) = P := List.filter_eq_self.mpr (fun e he => by
    have := h6.2.2 e he _ List.mem_cons_self
    simpa using this)
  have hR : (((tl σ 7 q).toInt, k, v) :: R).filter (fun e => decide (e.1 < (tl σ 7 q).toInt)) = [] := List.filter_eq_nil_iff.mpr (fun e he => by
    rcases List.mem_cons.mp he with q1 | q1
    · rw [q1]; simp
    · have := (List.pairwise_cons.mp h6.2.1).1 e q1; simp only at this; simp; omega)
  rw [hP, hR, List.append_nil]
