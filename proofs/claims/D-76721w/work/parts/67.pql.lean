set_option maxRecDepth 100000
/-! JDK 7: priority queues -/
def rkO (rk : Nat → Int) (o : Option Nat) : Int := match o with
  | some a => rk a
  | none => 0
theorem rkO_e {rk : Nat → Int} {o : Option Nat} {a : Nat} (h : o = some a) : rkO rk o = rk a := by rw [h]; rfl
/-- the first n of g are the members of S, each once -/
abbrev PE (S : Nat → Prop) (g : Nat → Option Nat) (n : Nat) : Prop := (∀ i, i < n → ∃ a, g i = some a ∧ S a) ∧ (∀ a, S a → ∃ i, i < n ∧ g i = some a) ∧ (∀ i j, i < n → j < n → g i = g j → i = j)
/-- a heap -/
abbrev PH (rk : Nat → Int) (g : Nat → Option Nat) (n : Nat) : Prop := ∀ i j, (j = 2 * i + 1 ∨ j = 2 * i + 2) → j < n → rkO rk (g i) ≤ rkO rk (g j)
/-- a heap but for k and what is above it -/
abbrev UP (rk : Nat → Int) (g : Nat → Option Nat) (n k : Nat) : Prop := (∀ i j, (j = 2 * i + 1 ∨ j = 2 * i + 2) → j < n → j ≠ k → rkO rk (g i) ≤ rkO rk (g j)) ∧ (∀ i j, (k = 2 * i + 1 ∨ k = 2 * i + 2) → (j = 2 * k + 1 ∨ j = 2 * k + 2) → j < n → rkO rk (g i) ≤ rkO rk (g j))
/-- a heap but for k and what is below it -/
abbrev DN (rk : Nat → Int) (g : Nat → Option Nat) (n k : Nat) : Prop := (∀ i j, (j = 2 * i + 1 ∨ j = 2 * i + 2) → j < n → i ≠ k → rkO rk (g i) ≤ rkO rk (g j)) ∧ (∀ i j, (k = 2 * i + 1 ∨ k = 2 * i + 2) → (j = 2 * k + 1 ∨ j = 2 * k + 2) → j < n → rkO rk (g i) ≤ rkO rk (g j))
def sw2 (k p i : Nat) : Nat := if i = p then k else if i = k then p else i
theorem sw2_s (k p i : Nat) : sw2 k p (sw2 k p i) = i := by
  unfold sw2
  by_cases h1 : i = p
  · subst h1
    by_cases h3 : k = i
    · subst h3; simp
    · simp [h3]
  · by_cases h2 : i = k
    · subst h2; simp [h1]
    · simp [h1, h2]
theorem PE_sw {S : Nat → Prop} {g g' : Nat → Option Nat} {n k p : Nat} (h : PE S g n) (hk : k < n) (hp : p < n) (e : ∀ i, g' i = g (sw2 k p i)) : PE S g' n := by
  have hs : ∀ i, i < n → sw2 k p i < n := by intro i hi; unfold sw2; split; exact hk; split; exact hp; exact hi
  obtain ⟨h1, h2, h3⟩ := h
  refine ⟨fun i hi => by rw [e]; exact h1 _ (hs i hi), fun a ha => ?_, fun i j hi hj q => ?_⟩
  · obtain ⟨i, q1, q2⟩ := h2 a ha
    exact ⟨_, hs i q1, by rw [e, sw2_s]; exact q2⟩
  · rw [e, e] at q
    have := congrArg (sw2 k p) (h3 _ _ (hs i hi) (hs j hj) q)
    rwa [sw2_s, sw2_s] at this
theorem sw_e {f : Nat → Option Nat} {k p x e : Nat} (he : f p = some e) (hne : p ≠ k) : ∀ i, va_up (va_up f k (some e)) p (some x) i = va_up f k (some x) (sw2 k p i) := by
  intro i
  unfold sw2
  by_cases h1 : i = p
  · subst h1; rw [if_pos rfl, va_up_self, va_up_self]
  · rw [if_neg h1, va_up_ne _ _ h1]
    by_cases h2 : i = k
    · subst h2; rw [if_pos rfl, va_up_self, va_up_ne _ _ hne, he]
    · rw [if_neg h2, va_up_ne _ _ h2, va_up_ne _ _ h2]
theorem UP_s {rk : Nat → Int} {f : Nat → Option Nat} {k p x e n : Nat} (h : UP rk (va_up f k (some x)) n k) (hk : k < n) (hp : k = 2 * p + 1 ∨ k = 2 * p + 2) (he : f p = some e) (hl : rk x < rk e) : UP rk (va_up (va_up f k (some e)) p (some x)) n p := by
  obtain ⟨h1, h2⟩ := h
  have pk : p ≠ k := by omega
  have gk : rkO rk (va_up f k (some x) k) = rk x := by rw [va_up_self]; rfl
  have go : ∀ i, i ≠ k → rkO rk (va_up f k (some x) i) = rkO rk (f i) := fun i q => by rw [va_up_ne _ _ q]
  have hp' : rkO rk (va_up (va_up f k (some e)) p (some x) p) = rk x := by rw [va_up_self]; rfl
  have hk' : rkO rk (va_up (va_up f k (some e)) p (some x) k) = rk e := by rw [va_up_ne _ _ (Ne.symm pk), va_up_self]; rfl
  have ho : ∀ i, i ≠ p → i ≠ k → rkO rk (va_up (va_up f k (some e)) p (some x) i) = rkO rk (f i) := fun i q r => by rw [va_up_ne _ _ q, va_up_ne _ _ r]
  have fp : rkO rk (f p) = rk e := by rw [he]; rfl
  constructor
  · intro i j hj hn hne
    by_cases a : j = k
    · obtain rfl : i = p := by omega
      subst a; rw [hp', hk']; exact Int.le_of_lt hl
    · rw [ho j hne a]
      by_cases b : i = p
      · subst b; rw [hp']
        have := h1 i j hj hn a
        rw [go i pk, go j a, fp] at this; omega
      · by_cases c : i = k
        · subst c; rw [hk']
          have := h2 p j hp hj hn
          rwa [go p pk, go j a, fp] at this
        · rw [ho i b c]
          have := h1 i j hj hn a
          rwa [go i c, go j a] at this
  · intro i j hi hj hn
    have ik : i ≠ k := by omega
    have ip : i ≠ p := by omega
    have jp : j ≠ p := by omega
    have q1 := h1 i p hi (by omega) pk
    rw [go i ik, go p pk, fp] at q1
    rw [ho i ip ik]
    by_cases a : j = k
    · subst a; rw [hk']; exact q1
    · rw [ho j jp a]
      have q2 := h1 p j hj hn a
      rw [go p pk, go j a, fp] at q2; omega
theorem UP_e {rk : Nat → Int} {g : Nat → Option Nat} {n k : Nat} (h : UP rk g n k) (he : ∀ p, (k = 2 * p + 1 ∨ k = 2 * p + 2) → rkO rk (g p) ≤ rkO rk (g k)) : PH rk g n := by
  obtain ⟨h1, h2⟩ := h
  intro i j hj hn
  by_cases q : j = k
  · subst q; exact he i hj
  · exact h1 i j hj hn q
theorem UP_0 {rk : Nat → Int} {f : Nat → Option Nat} {k x : Nat} (h : PH rk f k) : UP rk (va_up f k (some x)) (k + 1) k := by
  constructor
  · intro i j hj hn hne
    rw [va_up_ne _ _ (by omega), va_up_ne _ _ (by omega)]
    exact h i j hj (by omega)
  · intro i j hi hj hn; omega
theorem PE_0 {S : Nat → Prop} {f : Nat → Option Nat} {k x : Nat} (h : PE S f k) (hx : ¬ S x) : PE (fun a => S a ∨ a = x) (va_up f k (some x)) (k + 1) := by
  obtain ⟨h1, h2, h3⟩ := h
  refine ⟨fun i hi => ?_, fun a ha => ?_, fun i j hi hj q => ?_⟩
  · by_cases e : i = k
    · subst e; exact ⟨x, va_up_self _ _ _, .inr rfl⟩
    · rw [va_up_ne _ _ e]; obtain ⟨a, a1, a2⟩ := h1 i (by omega); exact ⟨a, a1, .inl a2⟩
  · rcases ha with ha | ha
    · obtain ⟨i, i1, i2⟩ := h2 a ha; exact ⟨i, by omega, by rw [va_up_ne _ _ (by omega)]; exact i2⟩
    · subst ha; exact ⟨k, by omega, va_up_self _ _ _⟩
  · by_cases e1 : i = k
    · by_cases e2 : j = k
      · omega
      · exfalso
        rw [e1, va_up_self, va_up_ne _ _ e2] at q
        obtain ⟨a, a1, a2⟩ := h1 j (by omega)
        rw [a1] at q; cases q; exact hx a2
    · by_cases e2 : j = k
      · exfalso
        rw [e2, va_up_self, va_up_ne _ _ e1] at q
        obtain ⟨a, a1, a2⟩ := h1 i (by omega)
        rw [a1] at q; cases q; exact hx a2
      · rw [va_up_ne _ _ e1, va_up_ne _ _ e2] at q
        exact h3 i j (by omega) (by omega) q
theorem DN_s {rk : Nat → Int} {f : Nat → Option Nat} {k c x e n : Nat} (h : DN rk (va_up f k (some x)) n k) (hc : c = 2 * k + 1 ∨ c = 2 * k + 2) (hn : c < n) (he : f c = some e) (hl : rk e < rk x) (hm : ∀ j, (j = 2 * k + 1 ∨ j = 2 * k + 2) → j < n → rk e ≤ rkO rk (f j)) : DN rk (va_up (va_up f k (some e)) c (some x)) n c := by
  obtain ⟨h1, h2⟩ := h
  have ck : c ≠ k := by omega
  have go : ∀ i, i ≠ k → rkO rk (va_up f k (some x) i) = rkO rk (f i) := fun i q => by rw [va_up_ne _ _ q]
  have hc' : rkO rk (va_up (va_up f k (some e)) c (some x) c) = rk x := by rw [va_up_self]; rfl
  have hk' : rkO rk (va_up (va_up f k (some e)) c (some x) k) = rk e := by rw [va_up_ne _ _ (Ne.symm ck), va_up_self]; rfl
  have ho : ∀ i, i ≠ c → i ≠ k → rkO rk (va_up (va_up f k (some e)) c (some x) i) = rkO rk (f i) := fun i q r => by rw [va_up_ne _ _ q, va_up_ne _ _ r]
  have fc : rkO rk (f c) = rk e := by rw [he]; rfl
  constructor
  · intro i j hj hjn hne
    by_cases a : i = k
    · subst a; rw [hk']
      by_cases b : j = c
      · subst b; rw [hc']; exact Int.le_of_lt hl
      · rw [ho j b (by omega)]; exact hm j hj hjn
    · rw [ho i hne a]
      by_cases b : j = k
      · subst b; rw [hk']
        have := h2 i c hj hc hn
        rwa [go i a, go c ck, fc] at this
      · rw [ho j (by omega) b]
        have := h1 i j hj hjn a
        rwa [go i a, go j b] at this
  · intro i j hi hj hjn
    obtain rfl : i = k := by omega
    rw [hk', ho j (by omega) (by omega)]
    have := h1 c j hj hjn ck
    rwa [go c ck, go j (by omega), fc] at this
theorem DN_e {rk : Nat → Int} {g : Nat → Option Nat} {n k : Nat} (h : DN rk g n k) (he : ∀ j, (j = 2 * k + 1 ∨ j = 2 * k + 2) → j < n → rkO rk (g k) ≤ rkO rk (g j)) : PH rk g n := by
  obtain ⟨h1, h2⟩ := h
  intro i j hj hn
  by_cases q : i = k
  · subst q; exact he j hj hn
  · exact h1 i j hj hn q
/-- the first taken away, the last in its place -/
theorem PE_p {S : Nat → Prop} {f : Nat → Option Nat} {m r x : Nat} (h : PE S f (m + 1)) (h0 : f 0 = some r) (hx : f m = some x) (hm : 0 < m) : PE (fun a => S a ∧ a ≠ r) (va_up (va_up f m none) 0 (some x)) m := by
  obtain ⟨h1, h2, h3⟩ := h
  have hg : ∀ i, i < m → va_up (va_up f m none) 0 (some x) i = f (if i = 0 then m else i) := by
    intro i hi
    by_cases e : i = 0
    · subst e; rw [if_pos rfl, va_up_self, hx]
    · rw [if_neg e, va_up_ne _ _ e, va_up_ne _ _ (by omega)]
  refine ⟨fun i hi => ?_, fun a ha => ?_, fun i j hi hj q => ?_⟩
  · rw [hg i hi]
    obtain ⟨a, a1, a2⟩ := h1 (if i = 0 then m else i) (by split <;> omega)
    refine ⟨a, a1, a2, fun e => ?_⟩
    have := h3 (if i = 0 then m else i) 0 (by split <;> omega) (by omega) (by rw [a1, h0, e])
    split at this <;> omega
  · obtain ⟨i, i1, i2⟩ := h2 a ha.1
    have i0 : i ≠ 0 := fun e => ha.2 (by rw [e, h0] at i2; cases i2; rfl)
    by_cases e : i = m
    · exact ⟨0, hm, by rw [hg 0 hm, if_pos rfl, ← e]; exact i2⟩
    · exact ⟨i, by omega, by rw [hg i (by omega), if_neg i0]; exact i2⟩
  · rw [hg i hi, hg j hj] at q
    have := h3 _ _ (by split <;> omega) (by split <;> omega) q
    split at this <;> split at this <;> omega
theorem DN_0 {rk : Nat → Int} {f : Nat → Option Nat} {m x : Nat} (h : PH rk f (m + 1)) : DN rk (va_up (va_up f m none) 0 (some x)) m 0 := by
  constructor
  · intro i j hj hn hne
    rw [va_up_ne _ _ hne, va_up_ne _ _ (by omega), va_up_ne _ _ (by omega), va_up_ne _ _ (by omega)]
    exact h i j hj (by omega)
  · intro i j hi; omega
theorem PH_min {rk : Nat → Int} {g : Nat → Option Nat} {n : Nat} (h : PH rk g n) : ∀ i, i < n → rkO rk (g 0) ≤ rkO rk (g i) := by
  intro i
  induction i using Nat.strongRecOn with
  | _ i ih =>
    intro hi
    by_cases e : i = 0
    · subst e; exact Int.le_refl _
    · exact Int.le_trans (ih ((i - 1) / 2) (by omega) (by omega)) (h ((i - 1) / 2) i (by omega) hi)
theorem PE_1 {S : Nat → Prop} {f : Nat → Option Nat} {r : Nat} {f' : Nat → Option Nat} (h : PE S f 1) (h0 : f 0 = some r) : PE (fun a => S a ∧ a ≠ r) f' 0 := by
  refine ⟨fun i hi => absurd hi (Nat.not_lt_zero _), fun a ha => ?_, fun i j hi => absurd hi (Nat.not_lt_zero _)⟩
  obtain ⟨i, i1, i2⟩ := h.2.1 a ha.1
  obtain rfl : i = 0 := by omega
  rw [h0] at i2; cases i2; exact absurd rfl ha.2
theorem shl1 {n : Nat} (h : n < 2 ^ 30) : nI n <<< ((1 : Int32) &&& 31) = nI (2 * n) := by
  have := pk_shlN (n := n) ((1 : Int32) &&& 31) 1 (by decide) (by omega)
  rw [this]; congr 1; omega
theorem shr1 {n : Nat} (h : n < 2 ^ 31) : ((nI n).toUInt32 >>> ((1 : Int32).toUInt32 &&& Int32.toUInt32 31)).toInt32 = nI (n / 2) := by
  have := pk_ushrN (n := n) (by omega) 1 1 (by decide)
  simpa using this
section PQR
variable {Y : YT} {p : Program} {l : Launch} {e : Env} {R : Room} {s : State} {m : MethodId} {args : Array Value} {below : List Frame} {meth : Method} {c : Code} {nL n0 u0 : Nat} {G : AH} {nn uu : Nat} {Q : State → Prop} {pc : Nat} {L : List (Nat × Value)} {rest : List Value} {cc : ByteArray} {own : String} {hh : List (Nat × Nat × Nat × Nat)}
theorem g_aastKs {I : AH} (hC : CX Y p s m args meth c cc nL own hh n0 u0) (hI : sub I G) {a v N : Nat} {X : Int} {f f' : Nat → Option Nat} (hk : KPs Y I v X) (hg : G a = some (.inl (yA Y 11, N, .inr (.inr (.inr (.inr f)))))) {i : Int32} (hin : vp_in i N) (hz : yz Y ≤ a) (hf : va_up f i.toNatClampNeg (some v) = f') {G' : AH} (hG : gU G a (.inl (yA Y 11, N, .inr (.inr (.inr (.inr f'))))) = G') (hdg : decode cc pc = .ok (.aastore, 1))
    (kk : V Y p l e R s m args below meth c nL n0 u0 G' nn uu Q (pc + 1) L rest) : V Y p l e R s m args below meth c nL n0 u0 G nn uu Q pc L (.ref v :: .int i :: .ref a :: rest) := by
  obtain ⟨kd, ix, nm, rk, nd, of_, X1, hkd, hi, -⟩ := hk
  exact g_aastP hC hkd (hI _ _ hi) (t0 := 11) hg (.inr ⟨rfl, rfl⟩) hin hz hf hG hdg kk
theorem g_aastKy {I : AH} {M : Nat} {σ : MS} (hC : CX Y p s m args meth c cc nL own hh n0 u0) (hI : sub I G) {a v N : Nat} {X : Int} {f f' : Nat → Option Nat} (hk : KPy M σ I v X) (hg : G a = some (.inl (yA Y 11, N, .inr (.inr (.inr (.inr f)))))) {i : Int32} (hin : vp_in i N) (hz : yz Y ≤ a) (hf : va_up f i.toNatClampNeg (some v) = f') {G' : AH} (hG : gU G a (.inl (yA Y 11, N, .inr (.inr (.inr (.inr f'))))) = G') (hdg : decode cc pc = .ok (.aastore, 1))
    (kk : V Y p l e R s m args below meth c nL n0 u0 G' nn uu Q (pc + 1) L rest) : V Y p l e R s m args below meth c nL n0 u0 G nn uu Q pc L (.ref v :: .int i :: .ref a :: rest) := by
  obtain ⟨q, hq, hi, -⟩ := hk
  exact g_aastG (t0 := 11) (E := "java/lang/Object") hC kc_J12 (hI _ _ hi) hg rfl (asgY hC.K q4068) hin hz hf hG hdg kk
end PQR
