set_option maxRecDepth 100000
/-! TREE MAPS, 1: the picture, the rotations -/
/-- a tree map: refs (0 key, 1 value, 2 left, 3 right, 4 parent by node; 5 root, 6 comparator, 7 key set, 8 descending map at 0), colours (black: true), ints (0 size, 1 modCount), the nodes -/
abbrev TS : Type := (Nat → Nat → Option Nat) × (Nat → Bool) × (Nat → Int32) × (Nat → Bool)
def tr (τ : TS) (k a : Nat) (v : Option Nat) : TS := (fun k' a' => if k' = k ∧ a' = a then v else τ.1 k' a', τ.2)
def tc (τ : TS) (a : Nat) (b : Bool) : TS := (τ.1, (fun a' => if a' = a then b else τ.2.1 a'), τ.2.2)
def ti (τ : TS) (i : Nat) (x : Int32) : TS := (τ.1, τ.2.1, (fun j => if j = i then x else τ.2.2.1 j), τ.2.2.2)
def tn (τ : TS) (a : Nat) : TS := (τ.1, τ.2.1, τ.2.2.1, fun b => b == a || τ.2.2.2 b)
theorem tr_nk {τ : TS} {k a k' a' : Nat} {v : Option Nat} (h : k' ≠ k) : (tr τ k a v).1 k' a' = τ.1 k' a' := if_neg (fun q => h q.1)
theorem tr_na {τ : TS} {k a k' a' : Nat} {v : Option Nat} (h : a' ≠ a) : (tr τ k a v).1 k' a' = τ.1 k' a' := if_neg (fun q => h q.2)
theorem tr_hit {τ : TS} {k a : Nat} {v : Option Nat} : (tr τ k a v).1 k a = v := if_pos ⟨rfl, rfl⟩
abbrev TQ : Type := (Nat → Int) × (Nat → Int) × (Nat → Int)
abbrev TW (τ : TS) (q : TQ) (LO HI : Int) : Prop :=
  (∀ a, τ.2.2.2 a = true → LO ≤ q.2.1 a ∧ q.2.1 a < q.1 a ∧ q.1 a < q.2.2 a ∧ q.2.2 a ≤ HI) ∧
  (∀ a x, τ.2.2.2 a = true → τ.1 2 a = some x → τ.2.2.2 x = true ∧ τ.1 4 x = some a ∧ q.2.1 x = q.2.1 a ∧ q.2.2 x = q.1 a) ∧
  (∀ a x, τ.2.2.2 a = true → τ.1 3 a = some x → τ.2.2.2 x = true ∧ τ.1 4 x = some a ∧ q.2.1 x = q.1 a ∧ q.2.2 x = q.2.2 a) ∧
  (∀ a x, τ.2.2.2 a = true → τ.1 4 a = some x → τ.2.2.2 x = true ∧ (τ.1 2 x = some a ∨ τ.1 3 x = some a)) ∧
  (∀ a, τ.2.2.2 a = true → τ.1 4 a = none → τ.1 5 0 = some a) ∧
  (∀ a, τ.1 5 0 = some a → τ.2.2.2 a = true ∧ τ.1 4 a = none ∧ q.2.1 a = LO ∧ q.2.2 a = HI)
theorem TW.h0 {τ : TS} {q : TQ} {LO HI : Int} (h : TW τ q LO HI) : ∀ a, τ.2.2.2 a = true → LO ≤ q.2.1 a ∧ q.2.1 a < q.1 a ∧ q.1 a < q.2.2 a ∧ q.2.2 a ≤ HI := h.1
theorem TW.hl {τ : TS} {q : TQ} {LO HI : Int} (h : TW τ q LO HI) : ∀ a x, τ.2.2.2 a = true → τ.1 2 a = some x → τ.2.2.2 x = true ∧ τ.1 4 x = some a ∧ q.2.1 x = q.2.1 a ∧ q.2.2 x = q.1 a := h.2.1
theorem TW.hr {τ : TS} {q : TQ} {LO HI : Int} (h : TW τ q LO HI) : ∀ a x, τ.2.2.2 a = true → τ.1 3 a = some x → τ.2.2.2 x = true ∧ τ.1 4 x = some a ∧ q.2.1 x = q.1 a ∧ q.2.2 x = q.2.2 a := h.2.2.1
theorem TW.hp {τ : TS} {q : TQ} {LO HI : Int} (h : TW τ q LO HI) : ∀ a x, τ.2.2.2 a = true → τ.1 4 a = some x → τ.2.2.2 x = true ∧ (τ.1 2 x = some a ∨ τ.1 3 x = some a) := h.2.2.2.1
theorem TW.hn {τ : TS} {q : TQ} {LO HI : Int} (h : TW τ q LO HI) : ∀ a, τ.2.2.2 a = true → τ.1 4 a = none → τ.1 5 0 = some a := h.2.2.2.2.1
theorem TW.ht {τ : TS} {q : TQ} {LO HI : Int} (h : TW τ q LO HI) : ∀ a, τ.1 5 0 = some a → τ.2.2.2 a = true ∧ τ.1 4 a = none ∧ q.2.1 a = LO ∧ q.2.2 a = HI := h.2.2.2.2.2
/-- the rotations' ghosts -/
def qL (q : TQ) (p r : Nat) : TQ := (q.1, (fun a => if a = r then q.2.1 p else q.2.1 a), fun a => if a = p then q.1 r else q.2.2 a)
def qR (q : TQ) (p l : Nat) : TQ := (q.1, (fun a => if a = p then q.1 l else q.2.1 a), fun a => if a = l then q.2.2 p else q.2.2 a)
def rot1 (τ : TS) (k p : Nat) (l : Option Nat) : TS := match l with
  | none => tr τ k p none
  | some x => tr (tr τ k p (some x)) 4 x (some p)
def rotL (τ : TS) (p r : Nat) : TS :=
  tr (tr (match (rot1 τ 3 p (τ.1 2 r)).1 4 p with
    | none => tr (tr (rot1 τ 3 p (τ.1 2 r)) 4 r none) 5 0 (some r)
    | some g => if (rot1 τ 3 p (τ.1 2 r)).1 2 g = some p then tr (tr (rot1 τ 3 p (τ.1 2 r)) 4 r (some g)) 2 g (some r) else tr (tr (rot1 τ 3 p (τ.1 2 r)) 4 r (some g)) 3 g (some r)) 2 r (some p)) 4 p (some r)
def rotR (τ : TS) (p l : Nat) : TS :=
  tr (tr (match (rot1 τ 2 p (τ.1 3 l)).1 4 p with
    | none => tr (tr (rot1 τ 2 p (τ.1 3 l)) 4 l none) 5 0 (some l)
    | some g => if (rot1 τ 2 p (τ.1 3 l)).1 3 g = some p then tr (tr (rot1 τ 2 p (τ.1 3 l)) 4 l (some g)) 3 g (some l) else tr (tr (rot1 τ 2 p (τ.1 3 l)) 4 l (some g)) 2 g (some l)) 3 l (some p)) 4 p (some l)
set_option maxHeartbeats 4000000 in
theorem rotL_ok {τ : TS} {q : TQ} {LO HI : Int} {p r : Nat} (h : TW τ q LO HI) (hp : τ.2.2.2 p = true) (hr : τ.1 3 p = some r) : TW (rotL τ p r) (qL q p r) LO HI := by
  obtain ⟨h0, hl, hR, hP, hn, ht⟩ := h
  unfold rotL rot1
  cases e1 : τ.1 2 r with
  | none =>
    simp only []
    rw [show (tr τ 3 p none).1 4 p = τ.1 4 p from tr_nk (by omega)]
    cases e2 : τ.1 4 p with
    | none =>
      unfold TW qL
      simp only [tr]
      refine ⟨?_, ?_, ?_, ?_, ?_, ?_⟩ <;> grind
    | some g =>
      simp only []
      rw [show (tr τ 3 p none).1 2 g = τ.1 2 g from tr_nk (by omega)]
      split <;> unfold TW qL <;> simp only [tr] <;> refine ⟨?_, ?_, ?_, ?_, ?_, ?_⟩ <;> grind
  | some l =>
    simp only []
    have hlp : l ≠ p := by grind
    rw [show (tr (tr τ 3 p (some l)) 4 l (some p)).1 4 p = τ.1 4 p from (tr_na (Ne.symm hlp)).trans (tr_nk (by omega))]
    cases e2 : τ.1 4 p with
    | none =>
      unfold TW qL
      simp only [tr]
      refine ⟨?_, ?_, ?_, ?_, ?_, ?_⟩ <;> grind
    | some g =>
      simp only []
      rw [show (tr (tr τ 3 p (some l)) 4 l (some p)).1 2 g = τ.1 2 g from (tr_nk (by omega)).trans (tr_nk (by omega))]
      split <;> unfold TW qL <;> simp only [tr] <;> refine ⟨?_, ?_, ?_, ?_, ?_, ?_⟩ <;> grind

set_option maxHeartbeats 4000000 in
theorem rotR_ok {τ : TS} {q : TQ} {LO HI : Int} {p r : Nat} (h : TW τ q LO HI) (hp : τ.2.2.2 p = true) (hr : τ.1 2 p = some r) : TW (rotR τ p r) (qR q p r) LO HI := by
  obtain ⟨h0, hl, hR, hP, hn, ht⟩ := h
  unfold rotR rot1
  cases e1 : τ.1 3 r with
  | none =>
    simp only []
    rw [show (tr τ 2 p none).1 4 p = τ.1 4 p from tr_nk (by omega)]
    cases e2 : τ.1 4 p with
    | none =>
      unfold TW qR
      simp only [tr]
      refine ⟨?_, ?_, ?_, ?_, ?_, ?_⟩ <;> grind
    | some g =>
      simp only []
      rw [show (tr τ 2 p none).1 3 g = τ.1 3 g from tr_nk (by omega)]
      split <;> unfold TW qR <;> simp only [tr] <;> refine ⟨?_, ?_, ?_, ?_, ?_, ?_⟩ <;> grind
  | some l =>
    simp only []
    have hlp : l ≠ p := by grind
    rw [show (tr (tr τ 2 p (some l)) 4 l (some p)).1 4 p = τ.1 4 p from (tr_na (Ne.symm hlp)).trans (tr_nk (by omega))]
    cases e2 : τ.1 4 p with
    | none =>
      unfold TW qR
      simp only [tr]
      refine ⟨?_, ?_, ?_, ?_, ?_, ?_⟩ <;> grind
    | some g =>
      simp only []
      rw [show (tr (tr τ 2 p (some l)) 4 l (some p)).1 3 g = τ.1 3 g from (tr_nk (by omega)).trans (tr_nk (by omega))]
      split <;> unfold TW qR <;> simp only [tr] <;> refine ⟨?_, ?_, ?_, ?_, ?_, ?_⟩ <;> grind

