set_option maxRecDepth 100000
/-! TREE MAPS, 14: an entry taken out: the law -/
def mdel (x : Int) (M : MP) : MP := M.filter (fun e => decide (e.1 ≠ x))
theorem mdel_len {x : Int} {e : Nat × Option Nat} : ∀ (M : MP), M.Pairwise (fun a b => a.1 < b.1) → (x, e) ∈ M → (mdel x M).length = M.length - 1 := by
  intro M
  induction M with
  | nil => intro _ h; cases h
  | cons d M ih =>
    intro hs hm
    obtain ⟨s1, s2⟩ := List.pairwise_cons.mp hs
    unfold mdel
    rcases List.mem_cons.mp hm with q | q
    · subst q
      have h1 : M.filter (fun e => decide (e.1 ≠ x)) = M := List.filter_eq_self.mpr (fun a ha => decide_eq_true (by have := s1 a ha; show a.1 ≠ x; have h2 : x < a.1 := this; omega))
      simp [List.filter_cons]
      intro a b c hm2 e2
      have h2 := s1 _ hm2
      have h3 : x < a := h2
      omega
    · have h1 := ih s2 q
      have h2 : d.1 ≠ x := by have h3 : d.1 < x := s1 _ q; omega
      have h4 : 0 < M.length := List.length_pos_of_mem q
      unfold mdel at h1
      simp only [List.filter_cons, h2, ne_eq, not_false_eq_true, decide_true, if_true, List.length_cons]
      simp only [ne_eq] at h1
      omega
theorem mdel_mem {x : Int} {M : MP} {e : Int × Nat × Option Nat} : e ∈ mdel x M ↔ e ∈ M ∧ e.1 ≠ x := by
  unfold mdel; simp
theorem del_M {τ z w : TS} {q q3 : TQ} {LO HI : Int} {M : MP} {x d : Nat} (h : TM τ q LO HI M) (hx : τ.2.2.2 x = true) (hd : τ.2.2.2 d = true)
    (k0 : ∀ a, a ≠ d → z.1 0 a = τ.1 0 (if a = x then d else a)) (k1 : ∀ a, a ≠ d → z.1 1 a = τ.1 1 (if a = x then d else a))
    (hno : ∀ a, τ.2.2.2 a = true → q.1 x < q.1 a → q.1 d ≤ q.1 a) (hle : q.1 x ≤ q.1 d) (hzi : z.2.2.1 0 = nI (M.length - 1))
    (hW : TW w q3 LO HI) (hq : q3.1 = q.1) (hwS : w.2.2.2 = fun b => τ.2.2.2 b && !(b == d)) (hwi : w.2.2.1 0 = z.2.2.1 0) (hwk : ∀ k a, k < 2 → w.1 k a = z.1 k a) (hrb : ∀ r, w.1 5 0 = some r → w.2.1 r = true) :
    ∃ q', TM w q' LO HI (mdel (q.1 x) M) ∧ ∀ b, w.2.2.2 b = true → ∃ a, τ.2.2.2 a = true ∧ q.1 a = q'.1 b ∧ w.1 0 b = τ.1 0 a := by
  have hS : ∀ b, w.2.2.2 b = true ↔ τ.2.2.2 b = true ∧ b ≠ d := fun b => by rw [hwS]; simp
  have hq' : ∃ q', TW w q' LO HI ∧ ∀ b, w.2.2.2 b = true → q'.1 b = q.1 (if b = x then d else b) := by
    by_cases e : x = d
    · refine ⟨q3, hW, fun b hb => ?_⟩
      have := (hS b).mp hb
      rw [hq, if_neg (by rw [e]; exact this.2)]
    · have hx2 : w.2.2.2 x = true := (hS x).mpr ⟨hx, e⟩
      obtain ⟨q', h1, h2⟩ := hW.raise (p := x) (y := q.1 d) hx2 (by rw [hq]; exact hle) (h.tw.rootin hd).2 (fun a ha hlt => by
        obtain ⟨h3, h4⟩ := (hS a).mp ha
        rw [hq] at hlt ⊢
        have h5 := hno a h3 hlt
        have h6 : q.1 d ≠ q.1 a := fun e2 => h4 (h.tw.uniq hd h3 e2).symm
        omega)
      refine ⟨q', h1, fun b hb => ?_⟩
      rw [h2, hq]
      by_cases e2 : b = x
      · simp [e2]
      · simp [e2]
  obtain ⟨q', h1, h2⟩ := hq'
  have key : ∀ j, j < 2 → ∀ b, w.2.2.2 b = true → w.1 j b = τ.1 j (if b = x then d else b) := fun j hj b hb => by
    have h3 := ((hS b).mp hb).2
    rw [hwk j b hj]
    rcases (show j = 0 ∨ j = 1 by omega) with e | e <;> subst e
    · exact k0 b h3
    · exact k1 b h3
  have sig : ∀ b, w.2.2.2 b = true → τ.2.2.2 (if b = x then d else b) = true ∧ (if b = x then d else b) ≠ x ∨ False := fun b hb => by
    left
    obtain ⟨h3, h4⟩ := (hS b).mp hb
    split
    · rename_i e
      exact ⟨hd, fun e2 => h4 (e.trans e2.symm)⟩
    · rename_i e
      exact ⟨h3, e⟩
  refine ⟨q', ⟨h1, hrb, ?_, fun X k v => ?_, fun b hb => ?_, ?_⟩, fun b hb => ?_⟩
  · exact List.Pairwise.filter _ h.so
  · rw [mdel_mem, h.mem]
    constructor
    · rintro ⟨⟨a, a1, a2, a3, a4⟩, a5⟩
      have hax : a ≠ x := fun e => a5 (by rw [← a2, e])
      by_cases e : a = d
      · have hxd : x ≠ d := fun e2 => hax (e.trans e2.symm)
        have hw : w.2.2.2 x = true := (hS x).mpr ⟨hx, hxd⟩
        refine ⟨x, hw, ?_, ?_, ?_⟩
        · rw [h2 x hw, if_pos rfl, ← e]; exact a2
        · rw [key 0 (by decide) x hw, if_pos rfl, ← e]; exact a3
        · rw [key 1 (by decide) x hw, if_pos rfl, ← e]; exact a4
      · have hw : w.2.2.2 a = true := (hS a).mpr ⟨a1, e⟩
        refine ⟨a, hw, ?_, ?_, ?_⟩
        · rw [h2 a hw, if_neg hax]; exact a2
        · rw [key 0 (by decide) a hw, if_neg hax]; exact a3
        · rw [key 1 (by decide) a hw, if_neg hax]; exact a4
    · rintro ⟨b, b1, b2, b3, b4⟩
      have hs := (sig b b1).resolve_right id
      rw [h2 b b1] at b2
      rw [key 0 (by decide) b b1] at b3
      rw [key 1 (by decide) b b1] at b4
      refine ⟨⟨_, hs.1, b2, b3, b4⟩, fun e => hs.2 (h.tw.uniq hs.1 hx (b2.trans e))⟩
  · rw [key 0 (by decide) b hb]
    exact h.ky _ ((sig b hb).resolve_right id).1
  · obtain ⟨k, hk, hm⟩ := h.at_ hx
    rw [hwi, hzi, mdel_len M h.so hm]
  · exact ⟨_, ((sig b hb).resolve_right id).1, (h2 b hb).symm, key 0 (by decide) b hb⟩
def tdel (τ : TS) (d : Nat) : TS := (τ.1, τ.2.1, τ.2.2.1, fun b => τ.2.2.2 b && !(b == d))
theorem tG_del {t d : Nat} {τ : TS} {B : AH} : tG t τ B = tG t (tdel τ d) (tG t τ B) := by
  funext a
  by_cases h : a = t
  · subst h; rw [tG_h]; exact (if_pos rfl).symm
  · show tG t τ B a = if a = t then _ else if (tdel τ d).2.2.2 a = true then some (.inr (42, tNl (tdel τ d) a)) else tG t τ B a
    rw [if_neg h]
    split
    · rename_i h2
      have h3 : τ.2.2.2 a = true := by simp [tdel] at h2; exact h2.1
      unfold tG
      rw [if_neg h, if_pos h3]
      rfl
    · rfl
theorem TW.cong {τ z : TS} {q : TQ} {LO HI : Int} (h : TW τ q LO HI) (h1 : ∀ k a, 2 ≤ k → k < 6 → z.1 k a = τ.1 k a) (h2 : z.2.2.2 = τ.2.2.2) : TW z q LO HI := by
  obtain ⟨h0, hl, hr, hp, hn, ht⟩ := h
  unfold TW
  simp only [h2, h1 2 _ (by decide) (by decide), h1 3 _ (by decide) (by decide), h1 4 _ (by decide) (by decide), h1 5 _ (by decide) (by decide)]
  exact ⟨h0, hl, hr, hp, hn, ht⟩
def cutT (z : TS) (d y : Nat) : TS := match z.1 4 d with
  | none => tr (tr (tr (tr (tr z 4 y none) 5 0 (some y)) 4 d none) 3 d none) 2 d none
  | some g => if z.1 2 g = some d then tr (tr (tr (tr (tr z 4 y (some g)) 2 g (some y)) 4 d none) 3 d none) 2 d none else tr (tr (tr (tr (tr z 4 y (some g)) 3 g (some y)) 4 d none) 3 d none) 2 d none
set_option maxHeartbeats 4000000 in
theorem cut_TL {z : TS} {q : TQ} {LO HI : Int} {d y : Nat} (h : TW z q LO HI) (hd : z.2.2.2 d = true) (hy : (z.1 2 d = some y ∧ z.1 3 d = none) ∨ (z.1 3 d = some y ∧ z.1 2 d = none)) : TL (tdel (cutT z d y) d) q LO HI := by
  obtain ⟨h0, hl, hr, hP, hn, ht⟩ := h
  unfold cutT
  cases e : z.1 4 d with
  | none =>
    unfold TL tdel
    simp only [tr]
    refine ⟨?_, ?_, ?_, ?_, ?_, ?_⟩ <;> grind
  | some g =>
    simp only []
    split <;> unfold TL tdel <;> simp only [tr] <;> refine ⟨?_, ?_, ?_, ?_, ?_, ?_⟩ <;> grind
set_option maxHeartbeats 4000000 in
theorem leaf_TW {z : TS} {q : TQ} {LO HI : Int} {d g k : Nat} (h : TW z q LO HI) (hd : z.2.2.2 d = true) (h2 : z.1 2 d = none) (h3 : z.1 3 d = none) (h4 : z.1 4 d = some g) (hk : k = 2 ∨ k = 3) (hg : z.1 k g = some d) : TW (tdel (tr (tr z k g none) 4 d none) d) q LO HI := by
  obtain ⟨h0, hl, hr, hP, hn, ht⟩ := h
  rcases hk with e | e <;> subst e <;> unfold TW tdel <;> simp only [tr] <;> refine ⟨?_, ?_, ?_, ?_, ?_, ?_⟩ <;> grind
theorem last_TW {z : TS} {q : TQ} {LO HI : Int} {d : Nat} (h : TW z q LO HI) (hd : z.2.2.2 d = true) (h2 : z.1 2 d = none) (h3 : z.1 3 d = none) (h4 : z.1 4 d = none) : TW (tdel (tr z 5 0 none) d) q LO HI := by
  have hE : ∀ b, z.2.2.2 b = true → b = d := fun b hb => by
    have h5 := h.ht d (h.hn d hd h4)
    have h6 := h.rootin hb
    have h7 := h.desc hd hb (by omega) (by omega)
    rcases Int.lt_trichotomy (q.1 b) (q.1 d) with e | e | e
    · obtain ⟨y, hy, _⟩ := h7.1 e; rw [h2] at hy; cases hy
    · exact (h7.2.2 e.symm).symm
    · obtain ⟨y, hy, _⟩ := h7.2.1 e; rw [h3] at hy; cases hy
  have hF : ∀ b, ¬ (tdel (tr z 5 0 none) d).2.2.2 b = true := fun b hb => by
    have h5 : (z.2.2.2 b && !(b == d)) = true := hb
    simp at h5
    exact h5.2 (hE b h5.1)
  exact ⟨fun a ha => absurd ha (hF a), fun a x ha => absurd ha (hF a), fun a x ha => absurd ha (hF a), fun a x ha => absurd ha (hF a), fun a ha => absurd ha (hF a), fun a e => by
    have h5 : (tr z 5 0 none).1 5 0 = some a := e
    rw [tr_hit] at h5; cases h5⟩
