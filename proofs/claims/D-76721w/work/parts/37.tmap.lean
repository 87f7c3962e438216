set_option maxRecDepth 100000
/-! TREE MAPS, 7: where a key hangs; what a map holds -/
def upn (τ : TS) : Nat → Nat → Option Nat
  | 0, b => some b
  | n + 1, b => (upn τ n b).bind (τ.1 4)
theorem TW.top {τ : TS} {q : TQ} {LO HI : Int} (h : TW τ q LO HI) {r : Nat} (hr : τ.1 5 0 = some r) : ∀ (f : Nat) (a : Nat) (j b : Nat), upn τ j b = some a → τ.2.2.2 a = true → (HI - LO) - (q.2.2 a - q.2.1 a) < f → ∃ i, upn τ i b = some r := by
  intro f
  induction f with
  | zero => intro a j b e ha hf; have := h.h0 a ha; omega
  | succ f ih =>
    intro a j b e ha hf
    cases e2 : τ.1 4 a with
    | none =>
      have h1 := h.hn a ha e2
      rw [hr] at h1
      cases h1
      exact ⟨j, e⟩
    | some g =>
      have h1 := h.up ha e2
      have h2 := h.h0 a ha
      have h3 := (h.hp a g ha e2).1
      have h4 := h.h0 g h3
      refine ih g (j + 1) b ?_ h3 (by omega)
      show (upn τ j b).bind (τ.1 4) = some g
      rw [e]; exact e2
theorem upn_in {τ : TS} {q : TQ} {LO HI : Int} (h : TW τ q LO HI) {b : Nat} (hb : τ.2.2.2 b = true) : ∀ (j a : Nat), upn τ j b = some a → τ.2.2.2 a = true ∧ q.2.1 a < q.1 b ∧ q.1 b < q.2.2 a := by
  intro j
  induction j with
  | zero =>
    intro a e
    cases e
    have := h.h0 b hb
    exact ⟨hb, by omega, by omega⟩
  | succ j ih =>
    intro a e
    cases e2 : upn τ j b with
    | none => rw [show upn τ (j + 1) b = (upn τ j b).bind (τ.1 4) from rfl, e2] at e; cases e
    | some d =>
      rw [show upn τ (j + 1) b = (upn τ j b).bind (τ.1 4) from rfl, e2] at e
      obtain ⟨h1, h2, h3⟩ := ih d e2
      have e3 : τ.1 4 d = some a := e
      have h4 := h.up h1 e3
      exact ⟨(h.hp d a h1 e3).1, by omega, by omega⟩
theorem TW.anc {τ : TS} {q : TQ} {LO HI : Int} (h : TW τ q LO HI) {b : Nat} (hb : τ.2.2.2 b = true) : ∀ (f : Nat) (a : Nat), τ.2.2.2 a = true → q.2.1 a < q.1 b → q.1 b < q.2.2 a → (HI - LO) - (q.2.2 a - q.2.1 a) < f → ∃ j, upn τ j b = some a := by
  intro f
  induction f with
  | zero => intro a ha h1 h2 hf; have := h.h0 a ha; omega
  | succ f ih =>
    intro a ha h1 h2 hf
    cases e2 : τ.1 4 a with
    | none =>
      have h3 := h.hn a ha e2
      exact h.top h3 ((HI - LO) - (q.2.2 b - q.2.1 b) + 1).toNat b 0 b rfl hb (by have := h.h0 b hb; omega)
    | some g =>
      have u := h.up ha e2
      have h3 := h.hp a g ha e2
      have h4 := h.h0 g h3.1
      have h5 := h.h0 a ha
      obtain ⟨j, e⟩ := ih g h3.1 (by omega) (by omega) (by omega)
      cases j with
      | zero =>
        cases e
        exfalso
        rcases h3.2 with h6 | h6
        · have := h.hl b a hb h6; omega
        · have := h.hr b a hb h6; omega
      | succ j =>
        cases e3 : upn τ j b with
        | none => rw [show upn τ (j + 1) b = (upn τ j b).bind (τ.1 4) from rfl, e3] at e; cases e
        | some d =>
          rw [show upn τ (j + 1) b = (upn τ j b).bind (τ.1 4) from rfl, e3] at e
          have e4 : τ.1 4 d = some g := e
          obtain ⟨k1, k2, k3⟩ := upn_in h hb j d e3
          have k4 := h.hp d g k1 e4
          refine ⟨j, ?_⟩
          rw [e3]
          rcases h3.2 with h6 | h6 <;> rcases k4.2 with k6 | k6
          · exact k6.symm.trans h6
          · have := h.hl g a h3.1 h6; have := h.hr g d h3.1 k6; omega
          · have := h.hr g a h3.1 h6; have := h.hl g d h3.1 k6; omega
          · exact k6.symm.trans h6
theorem TW.desc {τ : TS} {q : TQ} {LO HI : Int} (h : TW τ q LO HI) {a b : Nat} (ha : τ.2.2.2 a = true) (hb : τ.2.2.2 b = true) (h1 : q.2.1 a < q.1 b) (h2 : q.1 b < q.2.2 a) : (q.1 b < q.1 a → ∃ x, τ.1 2 a = some x ∧ q.1 b < q.2.2 x ∧ q.2.1 x < q.1 b) ∧ (q.1 a < q.1 b → ∃ x, τ.1 3 a = some x ∧ q.1 b < q.2.2 x ∧ q.2.1 x < q.1 b) ∧ (q.1 a = q.1 b → a = b) := by
  obtain ⟨j, e⟩ := h.anc hb ((HI - LO) - (q.2.2 a - q.2.1 a) + 1).toNat a ha h1 h2 (by have := h.h0 a ha; omega)
  cases j with
  | zero => cases e; exact ⟨fun x => by omega, fun x => by omega, fun _ => rfl⟩
  | succ j =>
    cases e3 : upn τ j b with
    | none => rw [show upn τ (j + 1) b = (upn τ j b).bind (τ.1 4) from rfl, e3] at e; cases e
    | some d =>
      rw [show upn τ (j + 1) b = (upn τ j b).bind (τ.1 4) from rfl, e3] at e
      have e4 : τ.1 4 d = some a := e
      obtain ⟨k1, k2, k3⟩ := upn_in h hb j d e3
      have k4 := h.hp d a k1 e4
      rcases k4.2 with k6 | k6
      · have k7 := h.hl a d ha k6
        exact ⟨fun _ => ⟨d, k6, k3, k2⟩, fun x => by omega, fun x => by omega⟩
      · have k7 := h.hr a d ha k6
        exact ⟨fun x => by omega, fun _ => ⟨d, k6, k3, k2⟩, fun x => by omega⟩
theorem TW.uniq {τ : TS} {q : TQ} {LO HI : Int} (h : TW τ q LO HI) {a b : Nat} (ha : τ.2.2.2 a = true) (hb : τ.2.2.2 b = true) (e : q.1 a = q.1 b) : a = b := by
  have := h.h0 a ha
  exact (h.desc ha hb (by omega) (by omega)).2.2 e
theorem TW.rootin {τ : TS} {q : TQ} {LO HI : Int} (h : TW τ q LO HI) {a : Nat} (ha : τ.2.2.2 a = true) : LO < q.1 a ∧ q.1 a < HI := by
  have := h.h0 a ha
  omega
/-- a map as its entries by rank: rank, key, value -/
abbrev MP : Type := List (Int × Nat × Option Nat)
abbrev TM (τ : TS) (q : TQ) (LO HI : Int) (M : MP) : Prop :=
  (TW τ q LO HI) ∧
  (∀ r, τ.1 5 0 = some r → τ.2.1 r = true) ∧
  (M.Pairwise (fun x y => x.1 < y.1)) ∧
  (∀ x k v, (x, k, v) ∈ M ↔ ∃ a, τ.2.2.2 a = true ∧ q.1 a = x ∧ τ.1 0 a = some k ∧ τ.1 1 a = v) ∧
  (∀ a, τ.2.2.2 a = true → ∃ k, τ.1 0 a = some k) ∧
  (τ.2.2.1 0 = nI M.length)
theorem TM.tw {τ : TS} {q : TQ} {LO HI : Int} {M : MP} (h : TM τ q LO HI M) : TW τ q LO HI := h.1
theorem TM.rb {τ : TS} {q : TQ} {LO HI : Int} {M : MP} (h : TM τ q LO HI M) : ∀ r, τ.1 5 0 = some r → τ.2.1 r = true := h.2.1
theorem TM.so {τ : TS} {q : TQ} {LO HI : Int} {M : MP} (h : TM τ q LO HI M) : M.Pairwise (fun x y => x.1 < y.1) := h.2.2.1
theorem TM.mem {τ : TS} {q : TQ} {LO HI : Int} {M : MP} (h : TM τ q LO HI M) : ∀ x k v, (x, k, v) ∈ M ↔ ∃ a, τ.2.2.2 a = true ∧ q.1 a = x ∧ τ.1 0 a = some k ∧ τ.1 1 a = v := h.2.2.2.1
theorem TM.ky {τ : TS} {q : TQ} {LO HI : Int} {M : MP} (h : TM τ q LO HI M) : ∀ a, τ.2.2.2 a = true → ∃ k, τ.1 0 a = some k := h.2.2.2.2.1
theorem TM.sz {τ : TS} {q : TQ} {LO HI : Int} {M : MP} (h : TM τ q LO HI M) : τ.2.2.1 0 = nI M.length := h.2.2.2.2.2
theorem TM.at_ {τ : TS} {q : TQ} {LO HI : Int} {M : MP} (h : TM τ q LO HI M) {a : Nat} (ha : τ.2.2.2 a = true) : ∃ k, τ.1 0 a = some k ∧ (q.1 a, k, τ.1 1 a) ∈ M := by
  obtain ⟨k, hk⟩ := h.ky a ha
  exact ⟨k, hk, (h.mem _ _ _).mpr ⟨a, ha, rfl, hk, rfl⟩⟩
/-- the entry with a rank put in -/
def mput (x : Int) (k : Nat) (v : Option Nat) : MP → MP
  | [] => [(x, k, v)]
  | e :: M => if e.1 < x then e :: mput x k v M else if e.1 = x then (x, e.2.1, v) :: M else (x, k, v) :: e :: M
def mget (x : Int) : MP → Option (Nat × Option Nat)
  | [] => none
  | e :: M => if e.1 = x then some e.2 else mget x M
theorem mput_mem {x : Int} {k : Nat} {v : Option Nat} : ∀ (M : MP), (∀ e, e ∈ M → e.1 ≠ x) → ∀ e, e ∈ mput x k v M ↔ e = (x, k, v) ∨ e ∈ M := by
  intro M
  induction M with
  | nil => intro _ e; simp [mput]
  | cons d M ih =>
    intro h e
    have h1 := h d List.mem_cons_self
    have h2 := ih (fun e he => h e (List.mem_cons_of_mem _ he))
    unfold mput
    split
    · simp only [List.mem_cons, h2]; grind
    · simp only [List.mem_cons]
theorem mput_so {x : Int} {k : Nat} {v : Option Nat} : ∀ (M : MP), (∀ e, e ∈ M → e.1 ≠ x) → M.Pairwise (fun a b => a.1 < b.1) → (mput x k v M).Pairwise (fun a b => a.1 < b.1) := by
  intro M
  induction M with
  | nil => intro _ _; simp [mput]
  | cons d M ih =>
    intro h hs
    have h1 := h d List.mem_cons_self
    obtain ⟨s1, s2⟩ := List.pairwise_cons.mp hs
    have hh : ∀ e, e ∈ M → e.1 ≠ x := fun e he => h e (List.mem_cons_of_mem _ he)
    unfold mput
    split
    · rename_i h3
      refine List.pairwise_cons.mpr ⟨fun e he => ?_, ih hh s2⟩
      rcases (mput_mem M hh e).mp he with q | q
      · rw [q]; exact h3
      · exact s1 e q
    · refine List.pairwise_cons.mpr ⟨fun e he => ?_, hs⟩
      rcases List.mem_cons.mp he with q | q
      · rw [q]; show x < d.1; omega
      · have := s1 e q; show x < e.1; omega
theorem mput_len {x : Int} {k : Nat} {v : Option Nat} : ∀ (M : MP), (∀ e, e ∈ M → e.1 ≠ x) → (mput x k v M).length = M.length + 1 := by
  intro M
  induction M with
  | nil => intro _; rfl
  | cons d M ih =>
    intro h
    have h1 := h d List.mem_cons_self
    have h2 := ih (fun e he => h e (List.mem_cons_of_mem _ he))
    unfold mput
    split
    · simp [h2]
    · rfl
theorem mget_none {x : Int} : ∀ (M : MP), mget x M = none ↔ ∀ e, e ∈ M → e.1 ≠ x := by
  intro M
  induction M with
  | nil => simp [mget]
  | cons d M ih =>
    unfold mget
    split
    · rename_i h; simp [h]
    · rename_i h; rw [ih]; simp [h]
theorem mget_some {x : Int} {e : Nat × Option Nat} : ∀ (M : MP), M.Pairwise (fun a b => a.1 < b.1) → (mget x M = some e ↔ (x, e) ∈ M) := by
  intro M
  induction M with
  | nil => simp [mget]
  | cons d M ih =>
    intro hs
    obtain ⟨s1, s2⟩ := List.pairwise_cons.mp hs
    unfold mget
    split
    · rename_i h
      constructor
      · intro q; cases q; rw [← h]; exact List.mem_cons_self
      · intro q
        rcases List.mem_cons.mp q with r | r
        · rw [← r]
        · have := s1 _ r; exact absurd this (by show ¬ d.1 < x; omega)
    · rename_i h
      rw [ih s2]
      constructor
      · intro q; exact List.mem_cons_of_mem _ q
      · intro q
        rcases List.mem_cons.mp q with r | r
        · exact absurd (by rw [← r]) h
        · exact r
