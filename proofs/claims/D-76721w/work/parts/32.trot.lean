set_option maxRecDepth 100000
/-! TREE MAPS, 4: what the rotations change; the mending behind an insertion -/
abbrev TK (τ τ' : TS) : Prop :=
  (τ'.2.2 = τ.2.2) ∧
  (∀ k a, k < 2 ∨ 5 < k → τ'.1 k a = τ.1 k a)
theorem TK.k2 {τ τ' : TS} (h : TK τ τ') : τ'.2.2 = τ.2.2 := h.1
theorem TK.kr {τ τ' : TS} (h : TK τ τ') : ∀ k a, k < 2 ∨ 5 < k → τ'.1 k a = τ.1 k a := h.2
theorem TK.refl {τ : TS} : TK τ τ := ⟨rfl, fun _ _ _ => rfl⟩
theorem TK.trans {τ τ' τ'' : TS} (h : TK τ τ') (h2 : TK τ' τ'') : TK τ τ'' := ⟨h2.k2.trans h.k2, fun k a hk => (h2.kr k a hk).trans (h.kr k a hk)⟩
theorem TK.c {τ τ' : TS} {a : Nat} {b : Bool} (h : TK τ τ') : TK τ (tc τ' a b) := ⟨h.k2, h.kr⟩
set_option maxHeartbeats 4000000 in
theorem rotL_P {τ : TS} {q : TQ} {LO HI : Int} {p r : Nat} (h : TW τ q LO HI) (hp : τ.2.2.2 p = true) (hr : τ.1 3 p = some r) (a : Nat) (ha : τ.2.2.2 a = true) : (rotL τ p r).1 4 a = if a = p then some r else if a = r then τ.1 4 p else if τ.1 2 r = some a then some p else τ.1 4 a := by
  obtain ⟨h0, hl, hR, hP, hn, ht⟩ := h
  unfold rotL rot1
  cases e1 : τ.1 2 r with
  | none =>
    simp only []
    rw [show (tr τ 3 p none).1 4 p = τ.1 4 p from tr_nk (by omega)]
    cases e2 : τ.1 4 p with
    | none => (simp only [tr]; grind)
    | some g =>
      simp only []
      rw [show (tr τ 3 p none).1 2 g = τ.1 2 g from tr_nk (by omega)]
      split <;> ((simp only [tr]; grind))
  | some l =>
    simp only []
    have hlp : l ≠ p := by grind
    rw [show (tr (tr τ 3 p (some l)) 4 l (some p)).1 4 p = τ.1 4 p from (tr_na (Ne.symm hlp)).trans (tr_nk (by omega))]
    cases e2 : τ.1 4 p with
    | none => (simp only [tr]; grind)
    | some g =>
      simp only []
      rw [show (tr (tr τ 3 p (some l)) 4 l (some p)).1 2 g = τ.1 2 g from (tr_nk (by omega)).trans (tr_nk (by omega))]
      split <;> ((simp only [tr]; grind))

set_option maxHeartbeats 4000000 in
theorem rotL_o {τ : TS} {q : TQ} {LO HI : Int} {p r : Nat} (h : TW τ q LO HI) (hp : τ.2.2.2 p = true) (hr : τ.1 3 p = some r) (a : Nat) (ha : τ.2.2.2 a = true) : (rotL τ p r).1 2 a = if a = r then some p else if τ.1 2 a = some p then some r else τ.1 2 a := by
  obtain ⟨h0, hl, hR, hP, hn, ht⟩ := h
  unfold rotL rot1
  cases e1 : τ.1 2 r with
  | none =>
    simp only []
    rw [show (tr τ 3 p none).1 4 p = τ.1 4 p from tr_nk (by omega)]
    cases e2 : τ.1 4 p with
    | none => (simp only [tr]; grind)
    | some g =>
      simp only []
      rw [show (tr τ 3 p none).1 2 g = τ.1 2 g from tr_nk (by omega)]
      split <;> ((simp only [tr]; grind))
  | some l =>
    simp only []
    have hlp : l ≠ p := by grind
    rw [show (tr (tr τ 3 p (some l)) 4 l (some p)).1 4 p = τ.1 4 p from (tr_na (Ne.symm hlp)).trans (tr_nk (by omega))]
    cases e2 : τ.1 4 p with
    | none => (simp only [tr]; grind)
    | some g =>
      simp only []
      rw [show (tr (tr τ 3 p (some l)) 4 l (some p)).1 2 g = τ.1 2 g from (tr_nk (by omega)).trans (tr_nk (by omega))]
      split <;> ((simp only [tr]; grind))

set_option maxHeartbeats 4000000 in
theorem rotL_k {τ : TS} {q : TQ} {LO HI : Int} {p r : Nat} (h : TW τ q LO HI) (hp : τ.2.2.2 p = true) (hr : τ.1 3 p = some r) (a : Nat) (ha : τ.2.2.2 a = true) : (rotL τ p r).1 3 a = if a = p then τ.1 2 r else if τ.1 3 a = some p then some r else τ.1 3 a := by
  obtain ⟨h0, hl, hR, hP, hn, ht⟩ := h
  unfold rotL rot1
  cases e1 : τ.1 2 r with
  | none =>
    simp only []
    rw [show (tr τ 3 p none).1 4 p = τ.1 4 p from tr_nk (by omega)]
    cases e2 : τ.1 4 p with
    | none => (simp only [tr]; grind)
    | some g =>
      simp only []
      rw [show (tr τ 3 p none).1 2 g = τ.1 2 g from tr_nk (by omega)]
      split <;> ((simp only [tr]; grind))
  | some l =>
    simp only []
    have hlp : l ≠ p := by grind
    rw [show (tr (tr τ 3 p (some l)) 4 l (some p)).1 4 p = τ.1 4 p from (tr_na (Ne.symm hlp)).trans (tr_nk (by omega))]
    cases e2 : τ.1 4 p with
    | none => (simp only [tr]; grind)
    | some g =>
      simp only []
      rw [show (tr (tr τ 3 p (some l)) 4 l (some p)).1 2 g = τ.1 2 g from (tr_nk (by omega)).trans (tr_nk (by omega))]
      split <;> ((simp only [tr]; grind))

set_option maxHeartbeats 4000000 in
theorem rotL_5 {τ : TS} {q : TQ} {LO HI : Int} {p r : Nat} (h : TW τ q LO HI) (hp : τ.2.2.2 p = true) (hr : τ.1 3 p = some r) : (rotL τ p r).1 5 0 = if τ.1 4 p = none then some r else τ.1 5 0 := by
  obtain ⟨h0, hl, hR, hP, hn, ht⟩ := h
  unfold rotL rot1
  cases e1 : τ.1 2 r with
  | none =>
    simp only []
    rw [show (tr τ 3 p none).1 4 p = τ.1 4 p from tr_nk (by omega)]
    cases e2 : τ.1 4 p with
    | none => (simp only [tr]; grind)
    | some g =>
      simp only []
      rw [show (tr τ 3 p none).1 2 g = τ.1 2 g from tr_nk (by omega)]
      split <;> ((simp only [tr]; grind))
  | some l =>
    simp only []
    have hlp : l ≠ p := by grind
    rw [show (tr (tr τ 3 p (some l)) 4 l (some p)).1 4 p = τ.1 4 p from (tr_na (Ne.symm hlp)).trans (tr_nk (by omega))]
    cases e2 : τ.1 4 p with
    | none => (simp only [tr]; grind)
    | some g =>
      simp only []
      rw [show (tr (tr τ 3 p (some l)) 4 l (some p)).1 2 g = τ.1 2 g from (tr_nk (by omega)).trans (tr_nk (by omega))]
      split <;> ((simp only [tr]; grind))

set_option maxHeartbeats 4000000 in
theorem rotL_K {τ : TS} {q : TQ} {LO HI : Int} {p r : Nat} (h : TW τ q LO HI) (hp : τ.2.2.2 p = true) (hr : τ.1 3 p = some r) : TK τ (rotL τ p r) ∧ (rotL τ p r).2 = τ.2 := by
  obtain ⟨h0, hl, hR, hP, hn, ht⟩ := h
  unfold rotL rot1
  cases e1 : τ.1 2 r with
  | none =>
    simp only []
    rw [show (tr τ 3 p none).1 4 p = τ.1 4 p from tr_nk (by omega)]
    cases e2 : τ.1 4 p with
    | none => exact ⟨⟨rfl, fun k a hk => by simp only [tr]; grind⟩, rfl⟩
    | some g =>
      simp only []
      rw [show (tr τ 3 p none).1 2 g = τ.1 2 g from tr_nk (by omega)]
      split <;> (exact ⟨⟨rfl, fun k a hk => by simp only [tr]; grind⟩, rfl⟩)
  | some l =>
    simp only []
    have hlp : l ≠ p := by grind
    rw [show (tr (tr τ 3 p (some l)) 4 l (some p)).1 4 p = τ.1 4 p from (tr_na (Ne.symm hlp)).trans (tr_nk (by omega))]
    cases e2 : τ.1 4 p with
    | none => exact ⟨⟨rfl, fun k a hk => by simp only [tr]; grind⟩, rfl⟩
    | some g =>
      simp only []
      rw [show (tr (tr τ 3 p (some l)) 4 l (some p)).1 2 g = τ.1 2 g from (tr_nk (by omega)).trans (tr_nk (by omega))]
      split <;> (exact ⟨⟨rfl, fun k a hk => by simp only [tr]; grind⟩, rfl⟩)

set_option maxHeartbeats 4000000 in
theorem rotR_P {τ : TS} {q : TQ} {LO HI : Int} {p r : Nat} (h : TW τ q LO HI) (hp : τ.2.2.2 p = true) (hr : τ.1 2 p = some r) (a : Nat) (ha : τ.2.2.2 a = true) : (rotR τ p r).1 4 a = if a = p then some r else if a = r then τ.1 4 p else if τ.1 3 r = some a then some p else τ.1 4 a := by
  obtain ⟨h0, hl, hR, hP, hn, ht⟩ := h
  unfold rotR rot1
  cases e1 : τ.1 3 r with
  | none =>
    simp only []
    rw [show (tr τ 2 p none).1 4 p = τ.1 4 p from tr_nk (by omega)]
    cases e2 : τ.1 4 p with
    | none => (simp only [tr]; grind)
    | some g =>
      simp only []
      rw [show (tr τ 2 p none).1 3 g = τ.1 3 g from tr_nk (by omega)]
      split <;> ((simp only [tr]; grind))
  | some l =>
    simp only []
    have hlp : l ≠ p := by grind
    rw [show (tr (tr τ 2 p (some l)) 4 l (some p)).1 4 p = τ.1 4 p from (tr_na (Ne.symm hlp)).trans (tr_nk (by omega))]
    cases e2 : τ.1 4 p with
    | none => (simp only [tr]; grind)
    | some g =>
      simp only []
      rw [show (tr (tr τ 2 p (some l)) 4 l (some p)).1 3 g = τ.1 3 g from (tr_nk (by omega)).trans (tr_nk (by omega))]
      split <;> ((simp only [tr]; grind))

set_option maxHeartbeats 4000000 in
theorem rotR_o {τ : TS} {q : TQ} {LO HI : Int} {p r : Nat} (h : TW τ q LO HI) (hp : τ.2.2.2 p = true) (hr : τ.1 2 p = some r) (a : Nat) (ha : τ.2.2.2 a = true) : (rotR τ p r).1 3 a = if a = r then some p else if τ.1 3 a = some p then some r else τ.1 3 a := by
  obtain ⟨h0, hl, hR, hP, hn, ht⟩ := h
  unfold rotR rot1
  cases e1 : τ.1 3 r with
  | none =>
    simp only []
    rw [show (tr τ 2 p none).1 4 p = τ.1 4 p from tr_nk (by omega)]
    cases e2 : τ.1 4 p with
    | none => (simp only [tr]; grind)
    | some g =>
      simp only []
      rw [show (tr τ 2 p none).1 3 g = τ.1 3 g from tr_nk (by omega)]
      split <;> ((simp only [tr]; grind))
  | some l =>
    simp only []
    have hlp : l ≠ p := by grind
    rw [show (tr (tr τ 2 p (some l)) 4 l (some p)).1 4 p = τ.1 4 p from (tr_na (Ne.symm hlp)).trans (tr_nk (by omega))]
    cases e2 : τ.1 4 p with
    | none => (simp only [tr]; grind)
    | some g =>
      simp only []
      rw [show (tr (tr τ 2 p (some l)) 4 l (some p)).1 3 g = τ.1 3 g from (tr_nk (by omega)).trans (tr_nk (by omega))]
      split <;> ((simp only [tr]; grind))

set_option maxHeartbeats 4000000 in
theorem rotR_k {τ : TS} {q : TQ} {LO HI : Int} {p r : Nat} (h : TW τ q LO HI) (hp : τ.2.2.2 p = true) (hr : τ.1 2 p = some r) (a : Nat) (ha : τ.2.2.2 a = true) : (rotR τ p r).1 2 a = if a = p then τ.1 3 r else if τ.1 2 a = some p then some r else τ.1 2 a := by
  obtain ⟨h0, hl, hR, hP, hn, ht⟩ := h
  unfold rotR rot1
  cases e1 : τ.1 3 r with
  | none =>
    simp only []
    rw [show (tr τ 2 p none).1 4 p = τ.1 4 p from tr_nk (by omega)]
    cases e2 : τ.1 4 p with
    | none => (simp only [tr]; grind)
    | some g =>
      simp only []
      rw [show (tr τ 2 p none).1 3 g = τ.1 3 g from tr_nk (by omega)]
      split <;> ((simp only [tr]; grind))
  | some l =>
    simp only []
    have hlp : l ≠ p := by grind
    rw [show (tr (tr τ 2 p (some l)) 4 l (some p)).1 4 p = τ.1 4 p from (tr_na (Ne.symm hlp)).trans (tr_nk (by omega))]
    cases e2 : τ.1 4 p with
    | none => (simp only [tr]; grind)
    | some g =>
      simp only []
      rw [show (tr (tr τ 2 p (some l)) 4 l (some p)).1 3 g = τ.1 3 g from (tr_nk (by omega)).trans (tr_nk (by omega))]
      split <;> ((simp only [tr]; grind))

set_option maxHeartbeats 4000000 in
theorem rotR_5 {τ : TS} {q : TQ} {LO HI : Int} {p r : Nat} (h : TW τ q LO HI) (hp : τ.2.2.2 p = true) (hr : τ.1 2 p = some r) : (rotR τ p r).1 5 0 = if τ.1 4 p = none then some r else τ.1 5 0 := by
  obtain ⟨h0, hl, hR, hP, hn, ht⟩ := h
  unfold rotR rot1
  cases e1 : τ.1 3 r with
  | none =>
    simp only []
    rw [show (tr τ 2 p none).1 4 p = τ.1 4 p from tr_nk (by omega)]
    cases e2 : τ.1 4 p with
    | none => (simp only [tr]; grind)
    | some g =>
      simp only []
      rw [show (tr τ 2 p none).1 3 g = τ.1 3 g from tr_nk (by omega)]
      split <;> ((simp only [tr]; grind))
  | some l =>
    simp only []
    have hlp : l ≠ p := by grind
    rw [show (tr (tr τ 2 p (some l)) 4 l (some p)).1 4 p = τ.1 4 p from (tr_na (Ne.symm hlp)).trans (tr_nk (by omega))]
    cases e2 : τ.1 4 p with
    | none => (simp only [tr]; grind)
    | some g =>
      simp only []
      rw [show (tr (tr τ 2 p (some l)) 4 l (some p)).1 3 g = τ.1 3 g from (tr_nk (by omega)).trans (tr_nk (by omega))]
      split <;> ((simp only [tr]; grind))

set_option maxHeartbeats 4000000 in
theorem rotR_K {τ : TS} {q : TQ} {LO HI : Int} {p r : Nat} (h : TW τ q LO HI) (hp : τ.2.2.2 p = true) (hr : τ.1 2 p = some r) : TK τ (rotR τ p r) ∧ (rotR τ p r).2 = τ.2 := by
  obtain ⟨h0, hl, hR, hP, hn, ht⟩ := h
  unfold rotR rot1
  cases e1 : τ.1 3 r with
  | none =>
    simp only []
    rw [show (tr τ 2 p none).1 4 p = τ.1 4 p from tr_nk (by omega)]
    cases e2 : τ.1 4 p with
    | none => exact ⟨⟨rfl, fun k a hk => by simp only [tr]; grind⟩, rfl⟩
    | some g =>
      simp only []
      rw [show (tr τ 2 p none).1 3 g = τ.1 3 g from tr_nk (by omega)]
      split <;> (exact ⟨⟨rfl, fun k a hk => by simp only [tr]; grind⟩, rfl⟩)
  | some l =>
    simp only []
    have hlp : l ≠ p := by grind
    rw [show (tr (tr τ 2 p (some l)) 4 l (some p)).1 4 p = τ.1 4 p from (tr_na (Ne.symm hlp)).trans (tr_nk (by omega))]
    cases e2 : τ.1 4 p with
    | none => exact ⟨⟨rfl, fun k a hk => by simp only [tr]; grind⟩, rfl⟩
    | some g =>
      simp only []
      rw [show (tr (tr τ 2 p (some l)) 4 l (some p)).1 3 g = τ.1 3 g from (tr_nk (by omega)).trans (tr_nk (by omega))]
      split <;> (exact ⟨⟨rfl, fun k a hk => by simp only [tr]; grind⟩, rfl⟩)

theorem TW.root {τ : TS} {q : TQ} {LO HI : Int} (h : TW τ q LO HI) : ∀ (f : Nat) (a : Nat), τ.2.2.2 a = true → (HI - LO) - (q.2.2 a - q.2.1 a) < f → ∃ r, τ.1 5 0 = some r := by
  intro f
  induction f with
  | zero =>
    intro a ha hf
    have := h.h0 a ha
    omega
  | succ f ih =>
    intro a ha hf
    cases e : τ.1 4 a with
    | none => exact ⟨a, h.hn a ha e⟩
    | some g =>
      obtain ⟨h1, h2⟩ := h.hp a g ha e
      refine ih g h1 ?_
      have h3 := h.h0 g h1
      have h4 := h.h0 a ha
      rcases h2 with h2 | h2
      · have := h.hl g a h1 h2; omega
      · have := h.hr g a h1 h2; omega
theorem TW.root' {τ : TS} {q : TQ} {LO HI : Int} (h : TW τ q LO HI) {a : Nat} (ha : τ.2.2.2 a = true) : ∃ r, τ.1 5 0 = some r := h.root ((HI - LO) - (q.2.2 a - q.2.1 a) + 1).toNat a ha (by omega)
