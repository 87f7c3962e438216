set_option maxRecDepth 100000
/-! TREE MAPS, 13: a loose order, tightened again -/
abbrev TL (τ : TS) (q : TQ) (LO HI : Int) : Prop :=
  (∀ a, τ.2.2.2 a = true → LO ≤ q.2.1 a ∧ q.2.1 a < q.1 a ∧ q.1 a < q.2.2 a ∧ q.2.2 a ≤ HI) ∧
  (∀ a x, τ.2.2.2 a = true → τ.1 2 a = some x → τ.2.2.2 x = true ∧ τ.1 4 x = some a ∧ q.2.1 a ≤ q.2.1 x ∧ q.2.2 x ≤ q.1 a) ∧
  (∀ a x, τ.2.2.2 a = true → τ.1 3 a = some x → τ.2.2.2 x = true ∧ τ.1 4 x = some a ∧ q.1 a ≤ q.2.1 x ∧ q.2.2 x ≤ q.2.2 a) ∧
  (∀ a x, τ.2.2.2 a = true → τ.1 4 a = some x → τ.2.2.2 x = true ∧ (τ.1 2 x = some a ∨ τ.1 3 x = some a)) ∧
  (∀ a, τ.2.2.2 a = true → τ.1 4 a = none → τ.1 5 0 = some a) ∧
  (∀ a, τ.1 5 0 = some a → τ.2.2.2 a = true ∧ τ.1 4 a = none)
theorem TL.h0 {τ : TS} {q : TQ} {LO HI : Int} (h : TL τ q LO HI) : ∀ a, τ.2.2.2 a = true → LO ≤ q.2.1 a ∧ q.2.1 a < q.1 a ∧ q.1 a < q.2.2 a ∧ q.2.2 a ≤ HI := h.1
theorem TL.hl {τ : TS} {q : TQ} {LO HI : Int} (h : TL τ q LO HI) : ∀ a x, τ.2.2.2 a = true → τ.1 2 a = some x → τ.2.2.2 x = true ∧ τ.1 4 x = some a ∧ q.2.1 a ≤ q.2.1 x ∧ q.2.2 x ≤ q.1 a := h.2.1
theorem TL.hr {τ : TS} {q : TQ} {LO HI : Int} (h : TL τ q LO HI) : ∀ a x, τ.2.2.2 a = true → τ.1 3 a = some x → τ.2.2.2 x = true ∧ τ.1 4 x = some a ∧ q.1 a ≤ q.2.1 x ∧ q.2.2 x ≤ q.2.2 a := h.2.2.1
theorem TL.hp {τ : TS} {q : TQ} {LO HI : Int} (h : TL τ q LO HI) : ∀ a x, τ.2.2.2 a = true → τ.1 4 a = some x → τ.2.2.2 x = true ∧ (τ.1 2 x = some a ∨ τ.1 3 x = some a) := h.2.2.2.1
theorem TL.hn {τ : TS} {q : TQ} {LO HI : Int} (h : TL τ q LO HI) : ∀ a, τ.2.2.2 a = true → τ.1 4 a = none → τ.1 5 0 = some a := h.2.2.2.2.1
theorem TL.ht {τ : TS} {q : TQ} {LO HI : Int} (h : TL τ q LO HI) : ∀ a, τ.1 5 0 = some a → τ.2.2.2 a = true ∧ τ.1 4 a = none := h.2.2.2.2.2
theorem TW.tl {τ : TS} {q : TQ} {LO HI : Int} (h : TW τ q LO HI) : TL τ q LO HI :=
  ⟨h.h0, fun a x ha e => by have := h.hl a x ha e; exact ⟨this.1, this.2.1, by omega, by omega⟩, fun a x ha e => by have := h.hr a x ha e; exact ⟨this.1, this.2.1, by omega, by omega⟩, h.hp, h.hn, fun a e => ⟨(h.ht a e).1, (h.ht a e).2.1⟩⟩
def tgt (τ : TS) (rk : Nat → Int) (LO HI : Int) : Nat → Nat → Int × Int
  | 0, _ => (LO, HI)
  | n + 1, a => match τ.1 4 a with
    | none => (LO, HI)
    | some p => if τ.1 2 p = some a then ((tgt τ rk LO HI n p).1, rk p) else (rk p, (tgt τ rk LO HI n p).2)
theorem TL.up {τ : TS} {q : TQ} {LO HI : Int} (h : TL τ q LO HI) {a g : Nat} (ha : τ.2.2.2 a = true) (e : τ.1 4 a = some g) : q.2.1 g ≤ q.2.1 a ∧ q.2.2 a ≤ q.2.2 g ∧ q.2.2 a - q.2.1 a < q.2.2 g - q.2.1 g := by
  obtain ⟨h1, h2⟩ := h.hp a g ha e
  have h3 := h.h0 g h1
  rcases h2 with h2 | h2
  · have := h.hl g a h1 h2; omega
  · have := h.hr g a h1 h2; omega
theorem tgt_st {τ : TS} {q : TQ} {LO HI : Int} (h : TL τ q LO HI) : ∀ (n a : Nat), τ.2.2.2 a = true → (HI - LO) - (q.2.2 a - q.2.1 a) < n → tgt τ q.1 LO HI n a = tgt τ q.1 LO HI (n + 1) a := by
  intro n
  induction n with
  | zero => intro a ha hn; have := h.h0 a ha; omega
  | succ n ih =>
    intro a ha hn
    unfold tgt
    cases e : τ.1 4 a with
    | none => rfl
    | some p =>
      have h1 := h.up ha e
      have h2 := (h.hp a p ha e).1
      have h3 := h.h0 p h2
      have h4 := h.h0 a ha
      simp only []
      rw [ih p h2 (by omega)]
theorem tgt_in {τ : TS} {q : TQ} {LO HI : Int} (h : TL τ q LO HI) : ∀ (n a : Nat), τ.2.2.2 a = true → (tgt τ q.1 LO HI n a).1 ≤ q.2.1 a ∧ q.2.2 a ≤ (tgt τ q.1 LO HI n a).2 ∧ LO ≤ (tgt τ q.1 LO HI n a).1 ∧ (tgt τ q.1 LO HI n a).2 ≤ HI := by
  intro n
  induction n with
  | zero => intro a ha; have := h.h0 a ha; exact ⟨this.1, this.2.2.2, Int.le_refl _, Int.le_refl _⟩
  | succ n ih =>
    intro a ha
    have h4 := h.h0 a ha
    unfold tgt
    cases e : τ.1 4 a with
    | none => exact ⟨h4.1, h4.2.2.2, Int.le_refl _, Int.le_refl _⟩
    | some p =>
      obtain ⟨h1, h2⟩ := h.hp a p ha e
      have h3 := h.h0 p h1
      have h5 := ih p h1
      simp only []
      split
      · rename_i hL
        have := h.hl p a h1 hL
        exact ⟨by show _ ≤ _; omega, by show _ ≤ _; omega, h5.2.2.1, by show _ ≤ _; omega⟩
      · rename_i hL
        have hR := h2.resolve_left hL
        have := h.hr p a h1 hR
        exact ⟨by show _ ≤ _; omega, by show _ ≤ _; omega, by show _ ≤ _; omega, h5.2.2.2⟩
theorem TL.tight {τ : TS} {q : TQ} {LO HI : Int} (h : TL τ q LO HI) : ∃ q', TW τ q' LO HI ∧ q'.1 = q.1 := by
  obtain ⟨N, hN⟩ : ∃ N : Nat, (HI - LO).toNat + 1 = N := ⟨_, rfl⟩
  have st : ∀ a, τ.2.2.2 a = true → tgt τ q.1 LO HI N a = tgt τ q.1 LO HI (N + 1) a := fun a ha => tgt_st h N a ha (by have := h.h0 a ha; omega)
  refine ⟨(q.1, (fun a => (tgt τ q.1 LO HI N a).1), fun a => (tgt τ q.1 LO HI N a).2), ⟨fun a ha => ?_, fun a x ha e => ?_, fun a x ha e => ?_, h.hp, h.hn, fun a e => ?_⟩, rfl⟩
  · have h1 := tgt_in h N a ha
    have h2 := h.h0 a ha
    show LO ≤ (tgt τ q.1 LO HI N a).1 ∧ (tgt τ q.1 LO HI N a).1 < q.1 a ∧ q.1 a < (tgt τ q.1 LO HI N a).2 ∧ (tgt τ q.1 LO HI N a).2 ≤ HI
    omega
  · obtain ⟨h1, h2, _⟩ := h.hl a x ha e
    have e2 : tgt τ q.1 LO HI N x = ((tgt τ q.1 LO HI N a).1, q.1 a) := by
      rw [st x h1]
      show (match τ.1 4 x with | none => (LO, HI) | some p => if τ.1 2 p = some x then ((tgt τ q.1 LO HI N p).1, q.1 p) else (q.1 p, (tgt τ q.1 LO HI N p).2)) = _
      rw [h2]
      exact if_pos e
    exact ⟨h1, h2, by show (tgt τ q.1 LO HI N x).1 = _; rw [e2], by show (tgt τ q.1 LO HI N x).2 = _; rw [e2]⟩
  · obtain ⟨h1, h2, h3⟩ := h.hr a x ha e
    have hne : ¬ τ.1 2 a = some x := fun e3 => by
      have h4 := h.hl a x ha e3
      have h5 := h.h0 x h1
      omega
    have e2 : tgt τ q.1 LO HI N x = (q.1 a, (tgt τ q.1 LO HI N a).2) := by
      rw [st x h1]
      show (match τ.1 4 x with | none => (LO, HI) | some p => if τ.1 2 p = some x then ((tgt τ q.1 LO HI N p).1, q.1 p) else (q.1 p, (tgt τ q.1 LO HI N p).2)) = _
      rw [h2]
      exact if_neg hne
    exact ⟨h1, h2, by show (tgt τ q.1 LO HI N x).1 = _; rw [e2], by show (tgt τ q.1 LO HI N x).2 = _; rw [e2]⟩
  · obtain ⟨h1, h2⟩ := h.ht a e
    have e2 : tgt τ q.1 LO HI N a = (LO, HI) := by
      rw [st a h1]
      show (match τ.1 4 a with | none => (LO, HI) | some p => if τ.1 2 p = some a then ((tgt τ q.1 LO HI N p).1, q.1 p) else (q.1 p, (tgt τ q.1 LO HI N p).2)) = _
      rw [h2]
    exact ⟨h1, h2, by show (tgt τ q.1 LO HI N a).1 = _; rw [e2], by show (tgt τ q.1 LO HI N a).2 = _; rw [e2]⟩
/-- the rank of p raised to y, where no other node lies between -/
theorem TW.raise {τ : TS} {q : TQ} {LO HI y : Int} (h : TW τ q LO HI) {p : Nat} (hp : τ.2.2.2 p = true) (hy : q.1 p ≤ y) (hy2 : y < HI) (hno : ∀ a, τ.2.2.2 a = true → q.1 p < q.1 a → y < q.1 a) : ∃ q', TW τ q' LO HI ∧ q'.1 = fun a => if a = p then y else q.1 a := by
  have hU : ∀ a, τ.2.2.2 a = true → q.2.2 a = HI ∨ ∃ b, τ.2.2.2 b = true ∧ q.2.2 a = q.1 b := by
    have : ∀ (n : Nat) a, τ.2.2.2 a = true → (HI - LO) - (q.2.2 a - q.2.1 a) < n → q.2.2 a = HI ∨ ∃ b, τ.2.2.2 b = true ∧ q.2.2 a = q.1 b := by
      intro n
      induction n with
      | zero => intro a ha hn; have := h.h0 a ha; omega
      | succ n ih =>
        intro a ha hn
        cases e : τ.1 4 a with
        | none => exact Or.inl (h.ht a (h.hn a ha e)).2.2.2
        | some g =>
          obtain ⟨h1, h2⟩ := h.hp a g ha e
          have h3 := h.up ha e
          rcases h2 with h2 | h2
          · exact Or.inr ⟨g, h1, (h.hl g a h1 h2).2.2.2⟩
          · have h4 := (h.hr g a h1 h2).2.2.2
            rw [h4]
            have h5 := h.h0 a ha
            have h6 := h.h0 g h1
            exact ih g h1 (by omega)
    exact fun a ha => this ((HI - LO) - (q.2.2 a - q.2.1 a) + 1).toNat a ha (by have := h.h0 a ha; omega)
  have hU2 : ∀ a, τ.2.2.2 a = true → q.1 p < q.2.2 a → y < q.2.2 a := fun a ha hlt => by
    rcases hU a ha with e | ⟨b, hb, e⟩
    · rw [e]; exact hy2
    · rw [e]; exact hno b hb (by omega)
  have hun : ∀ a, τ.2.2.2 a = true → q.1 a = q.1 p → a = p := fun a ha e => h.uniq ha hp e
  refine (TL.tight (q := ((fun a => if a = p then y else q.1 a), (fun a => if q.1 p ≤ q.2.1 a ∧ q.2.1 a < y then y else q.2.1 a), fun a => if q.2.2 a = q.1 p then y else q.2.2 a)) ?_)
  obtain ⟨h0, hl, hr, hP, hn, ht⟩ := h
  have ip := h0 p hp
  refine ⟨fun a ha => ?_, fun a x ha e => ?_, fun a x ha e => ?_, hP, hn, fun a e => ⟨(ht a e).1, (ht a e).2.1⟩⟩
  · have i1 := h0 a ha
    have i2 := hno a ha
    have i3 := hU2 a ha
    show LO ≤ (if q.1 p ≤ q.2.1 a ∧ q.2.1 a < y then y else q.2.1 a) ∧ (if q.1 p ≤ q.2.1 a ∧ q.2.1 a < y then y else q.2.1 a) < (if a = p then y else q.1 a) ∧ (if a = p then y else q.1 a) < (if q.2.2 a = q.1 p then y else q.2.2 a) ∧ (if q.2.2 a = q.1 p then y else q.2.2 a) ≤ HI
    grind
  · have i1 := h0 a ha
    have i2 := hno a ha
    have i3 := hU2 a ha
    obtain ⟨j1, j2, j3, j4⟩ := hl a x ha e
    have k1 := h0 x j1
    have k2 := hno x j1
    have k3 := hU2 x j1
    refine ⟨j1, j2, ?_, ?_⟩
    · show (if q.1 p ≤ q.2.1 a ∧ q.2.1 a < y then y else q.2.1 a) ≤ (if q.1 p ≤ q.2.1 x ∧ q.2.1 x < y then y else q.2.1 x)
      grind
    · have i9 := hun a ha
      show (if q.2.2 x = q.1 p then y else q.2.2 x) ≤ (if a = p then y else q.1 a)
      grind
  · have i1 := h0 a ha
    have i2 := hno a ha
    have i3 := hU2 a ha
    obtain ⟨j1, j2, j3, j4⟩ := hr a x ha e
    have k1 := h0 x j1
    have k2 := hno x j1
    have k3 := hU2 x j1
    refine ⟨j1, j2, ?_, ?_⟩
    · show (if a = p then y else q.1 a) ≤ (if q.1 p ≤ q.2.1 x ∧ q.2.1 x < y then y else q.2.1 x)
      grind
    · show (if q.2.2 x = q.1 p then y else q.2.2 x) ≤ (if q.2.2 a = q.1 p then y else q.2.2 a)
      grind
