set_option maxRecDepth 100000
/-! JDK, 3: texts of a few letters compared -/
theorem firstN_sp {P : Nat → Bool} : ∀ {n : Nat}, (∀ k, firstN P n = some k → k < n ∧ P k = true ∧ ∀ i, i < k → P i = false) ∧ (firstN P n = none → ∀ i, i < n → P i = false) := by
  intro n
  induction n with
  | zero => exact ⟨fun k h => (by cases h), fun _ i h => absurd h (Nat.not_lt_zero _)⟩
  | succ n ih =>
    have e : firstN P (n + 1) = firstS P (firstN P n) n := rfl
    cases h : firstN P n with
    | some j =>
      have e2 : firstN P (n + 1) = some j := by rw [e, h]; rfl
      refine ⟨fun k hk => ?_, fun q => by rw [e2] at q; cases q⟩
      rw [e2] at hk
      cases hk
      obtain ⟨h1, h2, h3⟩ := ih.1 j h
      exact ⟨by omega, h2, h3⟩
    | none =>
      have h0 := ih.2 h
      have e2 : firstN P (n + 1) = if P n = true then some n else none := by rw [e, h]; rfl
      by_cases c : P n = true
      · rw [if_pos c] at e2
        refine ⟨fun k hk => ?_, fun q => by rw [e2] at q; cases q⟩
        rw [e2] at hk
        cases hk
        exact ⟨Nat.lt_succ_self n, c, h0⟩
      · rw [if_neg c] at e2
        refine ⟨fun k hk => (by rw [e2] at hk; cases hk), fun _ i hi => ?_⟩
        by_cases q : i = n
        · subst q; simpa using c
        · exact h0 i (by omega)
theorem imin_n {a b : Nat} (ha : a < 2 ^ 31) (hb : b < 2 ^ 31) : imin (nI a) (nI b) = nI (min a b) := by
  unfold imin
  by_cases h : a ≤ b
  · rw [Nat.min_eq_left h]
    exact if_neg (Int32.not_lt.mpr ((nI_leI ha hb).mpr h))
  · rw [Nat.min_eq_right (by omega)]
    exact if_pos (Int32.not_le.mp (fun q => h ((nI_leI ha hb).mp q)))
def cI (x : Int32) : Int32 := ((x &&& 255).toUInt32 % 65536).toInt32
theorem cI_n {a : Nat} (h : a < 128) : cI (nI a) = nI a := by
  have : ∀ a : Fin 128, cI (nI a.val) = nI a.val := by decide +kernel
  exact this ⟨a, h⟩
def strC (f g : Nat → Int32) (n1 n2 : Nat) : Int32 := match firstN (fun i => decide (¬ f i = g i)) (min n1 n2) with
  | none => nI n1 - nI n2
  | some k => cI (f k) - cI (g k)
/-- the digits of a name, as from four letters -/
def dg (d : Nat → Nat) (N j : Nat) : Nat := if j < N then d j else 0
def nmR (d : Nat → Nat) (N : Nat) : Nat := ((dg d N 0 * 27 + dg d N 1) * 27 + dg d N 2) * 27 + dg d N 3
theorem dif_lt {a b : Nat} (ha : a < 1000) (hb : b < 1000) : (nI a - nI b < 0 ↔ a < b) ∧ (0 < nI a - nI b ↔ b < a) := by
  have h : (nI a - nI b).toInt = a - b := by
    rw [Int32.toInt_sub, nI_toInt (by omega), nI_toInt (by omega), Int.bmod_eq_of_le (by omega) (by omega)]
  rw [Int32.lt_iff_toInt_lt, Int32.lt_iff_toInt_lt, h, show (0 : Int32).toInt = 0 from rfl]
  omega
set_option maxHeartbeats 4000000 in
theorem strC_ok {f g : Nat → Int32} {d e : Nat → Nat} {n1 n2 : Nat} (h1 : 1 ≤ n1 ∧ n1 ≤ 4) (h2 : 1 ≤ n2 ∧ n2 ≤ 4) (hd : ∀ i, i < n1 → f i = nI (96 + d i) ∧ 1 ≤ d i ∧ d i ≤ 26) (he : ∀ i, i < n2 → g i = nI (96 + e i) ∧ 1 ≤ e i ∧ e i ≤ 26) : (strC f g n1 n2 < 0 ↔ nmR d n1 < nmR e n2) ∧ (0 < strC f g n1 n2 ↔ nmR e n2 < nmR d n1) := by
  have hdd : ∀ j, dg d n1 j ≤ 26 ∧ (j < n1 → 1 ≤ dg d n1 j) ∧ (n1 ≤ j → dg d n1 j = 0) ∧ (j < n1 → dg d n1 j = d j) := fun j => by
    unfold dg
    by_cases q : j < n1
    · have := hd j q; rw [if_pos q]; exact ⟨by omega, fun _ => by omega, fun h => by omega, fun _ => rfl⟩
    · rw [if_neg q]; exact ⟨by omega, fun h => absurd h q, fun _ => rfl, fun h => absurd h q⟩
  have hee : ∀ j, dg e n2 j ≤ 26 ∧ (j < n2 → 1 ≤ dg e n2 j) ∧ (n2 ≤ j → dg e n2 j = 0) ∧ (j < n2 → dg e n2 j = e j) := fun j => by
    unfold dg
    by_cases q : j < n2
    · have := he j q; rw [if_pos q]; exact ⟨by omega, fun _ => by omega, fun h => by omega, fun _ => rfl⟩
    · rw [if_neg q]; exact ⟨by omega, fun h => absurd h q, fun _ => rfl, fun h => absurd h q⟩
  have inj : ∀ i, i < n1 → i < n2 → (f i = g i ↔ dg d n1 i = dg e n2 i) := fun i a b => by
    have x1 := hd i a
    have x2 := he i b
    rw [x1.1, x2.1, nI_eq (by omega) (by omega), (hdd i).2.2.2 a, (hee i).2.2.2 b]
    omega
  have eqs : ∀ i, i < n1 → i < n2 → f i = g i → dg d n1 i = dg e n2 i := fun i a b => (inj i a b).mp
  have a0 := hdd 0; have a1 := hdd 1; have a2 := hdd 2; have a3 := hdd 3
  have b0 := hee 0; have b1 := hee 1; have b2 := hee 2; have b3 := hee 3
  unfold strC nmR
  obtain ⟨s1, s2⟩ := firstN_sp (P := fun i => decide (¬ f i = g i)) (n := min n1 n2)
  cases h : firstN (fun i => decide (¬ f i = g i)) (min n1 n2) with
  | none =>
    have h3 : ∀ i, i < n1 → i < n2 → dg d n1 i = dg e n2 i := fun i a b => (inj i a b).mp (by have := s2 h i (by omega); simpa using this)
    have k := dif_lt (a := n1) (b := n2) (by omega) (by omega)
    simp only []
    rw [k.1, k.2]
    have c0 := h3 0; have c1 := h3 1; have c2 := h3 2; have c3 := h3 3
    generalize dg d n1 0 = x0 at *; generalize dg d n1 1 = x1 at *; generalize dg d n1 2 = x2 at *; generalize dg d n1 3 = x3 at *
    generalize dg e n2 0 = y0 at *; generalize dg e n2 1 = y1 at *; generalize dg e n2 2 = y2 at *; generalize dg e n2 3 = y3 at *
    clear hdd hee inj eqs h3 s1 s2 hd he h k
    omega
  | some k =>
    obtain ⟨q1, q2, q3⟩ := s1 k h
    have h3 : ∀ i, i < k → dg d n1 i = dg e n2 i := fun i a => (inj i (by omega) (by omega)).mp (by have := q3 i a; simpa using this)
    have h4 : dg d n1 k ≠ dg e n2 k := fun q => by
      have := (inj k (by omega) (by omega)).mpr q
      simp [this] at q2
    simp only []
    have u1 := hd k (by omega)
    have u2 := he k (by omega)
    rw [u1.1, u2.1, cI_n (by omega), cI_n (by omega)]
    have kk := dif_lt (a := 96 + d k) (b := 96 + e k) (by omega) (by omega)
    rw [kk.1, kk.2]
    have v1 := (hdd k).2.2.2 (by omega)
    have v2 := (hee k).2.2.2 (by omega)
    rw [← v1, ← v2]
    have hk : k = 0 ∨ k = 1 ∨ k = 2 ∨ k = 3 := by omega
    have c0 := h3 0; have c1 := h3 1; have c2 := h3 2; have c3 := h3 3
    clear hdd hee inj eqs h3 s1 s2 hd he h kk q2 q3 u1 u2 v1 v2
    rcases hk with r | r | r | r <;> subst r <;>
    (generalize dg d n1 0 = x0 at *; generalize dg d n1 1 = x1 at *; generalize dg d n1 2 = x2 at *; generalize dg d n1 3 = x3 at *
     generalize dg e n2 0 = y0 at *; generalize dg e n2 1 = y1 at *; generalize dg e n2 2 = y2 at *; generalize dg e n2 3 = y3 at *
     omega)
theorem firstN_f {P : Nat → Bool} {n k : Nat} (h : ∀ j, j < k → P j = false) (hk : k < n) (hp : P k = true) : firstN P n = some k := by
  obtain ⟨s1, s2⟩ := firstN_sp (P := P) (n := n)
  cases e : firstN P n with
  | none => have := s2 e k hk; rw [hp] at this; cases this
  | some j =>
    obtain ⟨q1, q2, q3⟩ := s1 j e
    rcases Nat.lt_trichotomy j k with c | c | c
    · have := h j c; rw [q2] at this; cases this
    · rw [c]
    · have := q3 k c; rw [hp] at this; cases this
theorem firstN_e {P : Nat → Bool} {n : Nat} (h : ∀ j, j < n → P j = false) : firstN P n = none := by
  obtain ⟨s1, s2⟩ := firstN_sp (P := P) (n := n)
  cases e : firstN P n with
  | none => rfl
  | some j =>
    obtain ⟨q1, q2, q3⟩ := s1 j e
    have := h j q1; rw [q2] at this; cases this
