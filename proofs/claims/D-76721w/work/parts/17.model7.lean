set_option maxRecDepth 100000
/-! THE MODEL, 7: starts -/
def rtS (σ : MS) (p : Nat) : Bool × MS :=
  if 0 < tl σ 5 p then (false, flG (lgG (mu (mu σ 1 (60 + p) (σ.1 1 (60 + p) - 1)) 1 p 2) (nI (300 + p))) (nI p) 5 (-1))
  else (true, lgG (mu (mu (mu (mu (mu σ 1 p 1) 1 (84 + p) (σ.1 2 0)) 2 0 (σ.1 2 0 + 1)) 18 (σ.1 17 0).toNatClampNeg (nI p)) 17 0 (σ.1 17 0 + 1)) (nI (100 + p)))
def ndF (N : Nat) (rec : MS → Nat → Bool × MS) (p : Nat) : Nat → Nat → MS → Bool × MS
  | 0, _, z => (true, z)
  | r + 1, k, z => if needF z p k = false ∨ anyN (runP z p k) N = true then ndF N rec p r (k + 1) z else
    match foldN (tkS z p k) none N with
    | none => (false, flG z (nI p) 2 (nI k))
    | some q => if bt (z.1 16 0) q = true then (false, flG z (nI p) 3 (nI k)) else
      if (rec z q).1 = true then ndF N rec p r (k + 1) (rec z q).2 else (false, flG (rec z q).2 (nI p) 4 (nI k))
def bk1 (z : MS) : MS := lgG (mu (mu z 17 0 (z.1 17 0 - 1)) 1 (z.1 18 (z.1 17 0 - 1).toNatClampNeg).toNatClampNeg 0) (200 + z.1 18 (z.1 17 0 - 1).toNatClampNeg)
def bkF : Nat → MS → MS
  | 0, z => z
  | c + 1, z => bkF c (bk1 z)
def bsy (σ : MS) (p : Nat) : MS := mu σ 16 0 (σ.1 16 0 ||| bitI p)
def ubs (σ : MS) (p : Nat) : MS := mu σ 16 0 (σ.1 16 0 &&& (bitI p ^^^ (-1)))
def goF (N : Nat) (rec : MS → Nat → Bool × MS) (σ : MS) (p : Nat) : Bool × MS :=
  if (ndF N rec p 8 0 (bsy σ p)).1 = true then rtS (ndF N rec p 8 0 (bsy σ p)).2 p else (false, (ndF N rec p 8 0 (bsy σ p)).2)
def startsF (N : Nat) : Nat → MS → Nat → Bool × MS
  | 0, z, _ => (false, z)
  | f + 1, σ, p => if ¬ tl σ 0 p = 0 then (false, flG σ (nI p) 1 (-1)) else
    if (goF N (startsF N f) σ p).1 = true then (true, ubs (goF N (startsF N f) σ p).2 p)
    else (false, bkF (((goF N (startsF N f) σ p).2.1 17 0).toNatClampNeg - (σ.1 17 0).toNatClampNeg) (ubs (goF N (startsF N f) σ p).2 p))
def idl (z : MS) (N : Nat) : Nat := cntB (fun q => decide (tl z 0 q = 0)) N
abbrev SI (N fu : Nat) (σ : MS) (st f g : Nat) : Prop :=
  (σ.1 0 0 = nI N) ∧
  (N ≤ 12) ∧
  (∀ q, q < N → ∃ w, 0 < w ∧ w < 531441 ∧ tl σ 6 q = nI w) ∧
  (σ.1 17 0 = nI st) ∧
  (st + idl σ N ≤ N) ∧
  (∀ i, i < st → ∃ q, q < N ∧ σ.1 18 i = nI q) ∧
  (σ.1 14 0 = nI f) ∧
  (f + fu ≤ 12) ∧
  (σ.1 20 0 = nI g) ∧
  (g < 1900000000 + st) ∧
  (cntB (fun q => !(bt (σ.1 16 0) q)) N ≤ fu)
theorem SI.hN {N fu : Nat} {σ : MS} {st f g : Nat} (h : SI N fu σ st f g) : σ.1 0 0 = nI N := h.1
theorem SI.hN2 {N fu : Nat} {σ : MS} {st f g : Nat} (h : SI N fu σ st f g) : N ≤ 12 := h.2.1
theorem SI.hk {N fu : Nat} {σ : MS} {st f g : Nat} (h : SI N fu σ st f g) : ∀ q, q < N → ∃ w, 0 < w ∧ w < 531441 ∧ tl σ 6 q = nI w := h.2.2.1
theorem SI.h17 {N fu : Nat} {σ : MS} {st f g : Nat} (h : SI N fu σ st f g) : σ.1 17 0 = nI st := h.2.2.2.1
theorem SI.hst {N fu : Nat} {σ : MS} {st f g : Nat} (h : SI N fu σ st f g) : st + idl σ N ≤ N := h.2.2.2.2.1
theorem SI.hen {N fu : Nat} {σ : MS} {st f g : Nat} (h : SI N fu σ st f g) : ∀ i, i < st → ∃ q, q < N ∧ σ.1 18 i = nI q := h.2.2.2.2.2.1
theorem SI.h14 {N fu : Nat} {σ : MS} {st f g : Nat} (h : SI N fu σ st f g) : σ.1 14 0 = nI f := h.2.2.2.2.2.2.1
theorem SI.hf {N fu : Nat} {σ : MS} {st f g : Nat} (h : SI N fu σ st f g) : f + fu ≤ 12 := h.2.2.2.2.2.2.2.1
theorem SI.h20 {N fu : Nat} {σ : MS} {st f g : Nat} (h : SI N fu σ st f g) : σ.1 20 0 = nI g := h.2.2.2.2.2.2.2.2.1
theorem SI.hg {N fu : Nat} {σ : MS} {st f g : Nat} (h : SI N fu σ st f g) : g < 1900000000 + st := h.2.2.2.2.2.2.2.2.2.1
theorem SI.hnb {N fu : Nat} {σ : MS} {st f g : Nat} (h : SI N fu σ st f g) : cntB (fun q => !(bt (σ.1 16 0) q)) N ≤ fu := h.2.2.2.2.2.2.2.2.2.2
abbrev SR (N fu x : Nat) (σ z : MS) (b : Bool) (st f g st' f' g' : Nat) : Prop :=
  (∀ k i, k ≠ 1 → k ≠ 2 → k ≠ 14 → k ≠ 15 → k ≠ 17 → k ≠ 18 → k ≠ 20 → k ≠ 21 → z.1 k i = σ.1 k i) ∧
  (z.2 = σ.2) ∧
  (∀ w q, w ≠ 0 → w ≠ 5 → w ≠ 7 → q < 12 → tl z w q = tl σ w q) ∧
  (∀ i, i < st → z.1 18 i = σ.1 18 i) ∧
  (st ≤ st') ∧
  (z.1 17 0 = nI st') ∧
  (∀ i, i < st' → ∃ q, q < N ∧ z.1 18 i = nI q) ∧
  (st' ≤ N) ∧
  (z.1 14 0 = nI f') ∧
  (z.1 20 0 = nI g') ∧
  (b = true → f' = f ∧ st' + idl z N ≤ N ∧ g' + st ≤ g + st' ∧ (∀ q, q < N → q ≠ x → bt (σ.1 16 0) q = true → tl z 0 q = tl σ 0 q)) ∧
  (b = false → f' ≤ f + fu ∧ g' + st + st' ≤ g + 25)
theorem SR.fr {N fu x : Nat} {σ z : MS} {b : Bool} {st f g st' f' g' : Nat} (h : SR N fu x σ z b st f g st' f' g') : ∀ k i, k ≠ 1 → k ≠ 2 → k ≠ 14 → k ≠ 15 → k ≠ 17 → k ≠ 18 → k ≠ 20 → k ≠ 21 → z.1 k i = σ.1 k i := h.1
theorem SR.f2 {N fu x : Nat} {σ z : MS} {b : Bool} {st f g st' f' g' : Nat} (h : SR N fu x σ z b st f g st' f' g') : z.2 = σ.2 := h.2.1
theorem SR.tw {N fu x : Nat} {σ z : MS} {b : Bool} {st f g st' f' g' : Nat} (h : SR N fu x σ z b st f g st' f' g') : ∀ w q, w ≠ 0 → w ≠ 5 → w ≠ 7 → q < 12 → tl z w q = tl σ w q := h.2.2.1
theorem SR.en {N fu x : Nat} {σ z : MS} {b : Bool} {st f g st' f' g' : Nat} (h : SR N fu x σ z b st f g st' f' g') : ∀ i, i < st → z.1 18 i = σ.1 18 i := h.2.2.2.1
theorem SR.le {N fu x : Nat} {σ z : MS} {b : Bool} {st f g st' f' g' : Nat} (h : SR N fu x σ z b st f g st' f' g') : st ≤ st' := h.2.2.2.2.1
theorem SR.h17 {N fu x : Nat} {σ z : MS} {b : Bool} {st f g st' f' g' : Nat} (h : SR N fu x σ z b st f g st' f' g') : z.1 17 0 = nI st' := h.2.2.2.2.2.1
theorem SR.hen {N fu x : Nat} {σ z : MS} {b : Bool} {st f g st' f' g' : Nat} (h : SR N fu x σ z b st f g st' f' g') : ∀ i, i < st' → ∃ q, q < N ∧ z.1 18 i = nI q := h.2.2.2.2.2.2.1
theorem SR.hst {N fu x : Nat} {σ z : MS} {b : Bool} {st f g st' f' g' : Nat} (h : SR N fu x σ z b st f g st' f' g') : st' ≤ N := h.2.2.2.2.2.2.2.1
theorem SR.h14 {N fu x : Nat} {σ z : MS} {b : Bool} {st f g st' f' g' : Nat} (h : SR N fu x σ z b st f g st' f' g') : z.1 14 0 = nI f' := h.2.2.2.2.2.2.2.2.1
theorem SR.h20 {N fu x : Nat} {σ z : MS} {b : Bool} {st f g st' f' g' : Nat} (h : SR N fu x σ z b st f g st' f' g') : z.1 20 0 = nI g' := h.2.2.2.2.2.2.2.2.2.1
theorem SR.yes {N fu x : Nat} {σ z : MS} {b : Bool} {st f g st' f' g' : Nat} (h : SR N fu x σ z b st f g st' f' g') : b = true → f' = f ∧ st' + idl z N ≤ N ∧ g' + st ≤ g + st' ∧ (∀ q, q < N → q ≠ x → bt (σ.1 16 0) q = true → tl z 0 q = tl σ 0 q) := h.2.2.2.2.2.2.2.2.2.2.1
theorem SR.no {N fu x : Nat} {σ z : MS} {b : Bool} {st f g st' f' g' : Nat} (h : SR N fu x σ z b st f g st' f' g') : b = false → f' ≤ f + fu ∧ g' + st + st' ≤ g + 25 := h.2.2.2.2.2.2.2.2.2.2.2
theorem SI.next {N fu x : Nat} {σ z : MS} {st f g st' f' g' : Nat} (h : SI N fu σ st f g) (r : SR N fu x σ z true st f g st' f' g') : SI N fu z st' f g' := by
  obtain ⟨y1, y2, y3, y4⟩ := r.yes rfl
  have e16 : z.1 16 0 = σ.1 16 0 := r.fr 16 0 (by decide) (by decide) (by decide) (by decide) (by decide) (by decide) (by decide) (by decide)
  have hN2 := h.hN2
  have hg := h.hg
  refine ⟨(r.fr 0 0 (by decide) (by decide) (by decide) (by decide) (by decide) (by decide) (by decide) (by decide)).trans h.hN, hN2, ?_, r.h17, y2, r.hen, y1 ▸ r.h14, h.hf, r.h20, by omega, by rw [e16]; exact h.hnb⟩
  intro q hq
  obtain ⟨w, h1, h2, h3⟩ := h.hk q hq
  exact ⟨w, h1, h2, (r.tw 6 q (by decide) (by decide) (by decide) (by omega)).trans h3⟩
theorem SR.refl {N fu x : Nat} {σ : MS} {st f g : Nat} (h : SI N fu σ st f g) : SR N fu x σ σ true st f g st f g :=
  ⟨fun _ _ _ _ _ _ _ _ _ _ => rfl, rfl, fun _ _ _ _ _ _ => rfl, fun _ _ => rfl, Nat.le_refl _, h.h17, h.hen, by have := h.hst; omega, h.h14, h.h20, fun _ => ⟨rfl, h.hst, Nat.le_refl _, fun _ _ _ _ => rfl⟩, fun q => (by cases q)⟩
theorem SR.trans {N fu x : Nat} {σ z y : MS} {b : Bool} {st f g st1 f1 g1 st2 f2 g2 : Nat} (r : SR N fu x σ z true st f g st1 f1 g1) (t : SR N fu x z y b st1 f g1 st2 f2 g2) : SR N fu x σ y b st f g st2 f2 g2 := by
  obtain ⟨y1, y2, y3, y4⟩ := r.yes rfl
  have e16 : z.1 16 0 = σ.1 16 0 := r.fr 16 0 (by decide) (by decide) (by decide) (by decide) (by decide) (by decide) (by decide) (by decide)
  have l1 := r.le
  have l2 := t.le
  refine ⟨fun k i a b c d e f g h => (t.fr k i a b c d e f g h).trans (r.fr k i a b c d e f g h), t.f2.trans r.f2, fun w q a b c d => (t.tw w q a b c d).trans (r.tw w q a b c d), fun i hi => (t.en i (by omega)).trans (r.en i hi), by omega, t.h17, t.hen, t.hst, t.h14, t.h20, fun hb => ?_, fun hb => ?_⟩
  · obtain ⟨x1, x2, x3, x4⟩ := t.yes hb
    exact ⟨x1, x2, by omega, fun q hq hx hbt => (x4 q hq hx (by rw [e16]; exact hbt)).trans (y4 q hq hx hbt)⟩
  · obtain ⟨x1, x2⟩ := t.no hb
    exact ⟨x1, by omega⟩
theorem flG_ne {z : MS} {a b c : Int32} {k i : Nat} (h : k ≠ 14) (h2 : k ≠ 15) : (flG z a b c).1 k i = z.1 k i := by
  unfold flG flF
  exact (mu_nk h).trans ((mu_nk h2).trans ((mu_nk h2).trans (mu_nk h2)))
theorem flG_14 {z : MS} {a b c : Int32} {f : Nat} (h : z.1 14 0 = nI f) (hf : f < 2 ^ 31) : (flG z a b c).1 14 0 = nI (f + 1) := by
  unfold flG flF
  rw [h, nI_clamp hf]; exact mu_hit
theorem SR.fail {N fu x : Nat} {σ z : MS} {b : Bool} {a1 a2 a3 : Int32} {st f g st' f' g' : Nat} (r : SR N fu x σ z b st f g st' f' g') (hN : N ≤ 12) (hf : f' < 2 ^ 31) (h1 : f' + 1 ≤ f + (fu + 1)) (h2 : g' + st + st' ≤ g + 25) : SR N (fu + 1) x σ (flG z a1 a2 a3) false st f g st' (f' + 1) g' :=
  ⟨fun k i a b c d e f g h => (flG_ne c d).trans (r.fr k i a b c d e f g h), r.f2, fun w q a b c d => (flG_ne (by decide) (by decide)).trans (r.tw w q a b c d), fun i hi => (flG_ne (by decide) (by decide)).trans (r.en i hi), r.le, (flG_ne (by decide) (by decide)).trans r.h17, fun i hi => by rw [flG_ne (by decide) (by decide)]; exact r.hen i hi, r.hst, flG_14 r.h14 hf, (flG_ne (by decide) (by decide)).trans r.h20, fun q => (by cases q), fun _ => ⟨h1, h2⟩⟩
theorem tkS_idle {σ : MS} {p s : Nat} : ∀ {i f : Nat}, foldN (tkS σ p s) none i = some f → tl σ 0 f = 0 := by
  intro i
  induction i with
  | zero => intro f h; cases h
  | succ i ih =>
    intro f h
    have h : tkS σ p s (foldN (tkS σ p s) none i) i = some f := h
    generalize ex : foldN (tkS σ p s) none i = x at h
    unfold tkS at h
    by_cases c1 : i = p
    · rw [if_pos c1] at h; exact ih (ex.trans h)
    rw [if_neg c1] at h
    by_cases c2 : ¬ tl σ 0 i = 0
    · rw [if_pos c2] at h; exact ih (ex.trans h)
    rw [if_neg c2] at h
    by_cases c3 : offF σ i s = false
    · rw [if_pos c3] at h; exact ih (ex.trans h)
    rw [if_neg c3] at h
    cases x with
    | none =>
      have := Option.some.inj h
      subst this
      exact Classical.not_not.mp c2
    | some a =>
      simp only at h
      split at h
      · have := Option.some.inj h
        subst this
        exact Classical.not_not.mp c2
      · exact ih (ex.trans h)
/-- what a start at fuel fu keeps, for every state it is called at -/
def StOk (N fu : Nat) (rec : MS → Nat → Bool × MS) : Prop := ∀ (σ : MS) (p st f g : Nat), SI N fu σ st f g → p < N → bt (σ.1 16 0) p = false → ∃ st' f' g', SR N fu N σ (rec σ p).2 (rec σ p).1 st f g st' f' g' ∧ ((rec σ p).1 = false → st' = st)
theorem nd_ok {N fu : Nat} {rec : MS → Nat → Bool × MS} (hr : StOk N fu rec) (p : Nat) : ∀ (r k : Nat) (σ : MS) (st f g : Nat), SI N fu σ st f g → f + fu < 12 → ∃ st' f' g', SR N (fu + 1) N σ (ndF N rec p r k σ).2 (ndF N rec p r k σ).1 st f g st' f' g' := by
  intro r
  induction r with
  | zero =>
    intro k σ st f g h _
    have q := SR.refl (x := N) h
    exact ⟨st, f, g, q.fr, q.f2, q.tw, q.en, q.le, q.h17, q.hen, q.hst, q.h14, q.h20, q.yes, fun x => (by cases x)⟩
  | succ r ih =>
    intro k σ st f g h hf
    have hst := h.hst
    have hN2 := h.hN2
    unfold ndF
    split
    · exact ih (k + 1) σ st f g h hf
    · cases e : foldN (tkS σ p k) none N with
      | none => exact ⟨st, f + 1, g, (SR.refl (x := N) h).fail hN2 (by omega) (by omega) (by omega)⟩
      | some q =>
        simp only
        split
        · exact ⟨st, f + 1, g, (SR.refl (x := N) h).fail hN2 (by omega) (by omega) (by omega)⟩
        · next hb =>
          have hq := tkS_lt e
          obtain ⟨s1, f1, g1, R1, hno⟩ := hr σ q st f g h hq (by simpa using hb)
          split
          · next ht =>
            rw [ht] at R1
            obtain ⟨s2, f2, g2, R2⟩ := ih (k + 1) _ s1 f g1 (h.next R1) hf
            have R1' : SR N (fu + 1) N σ (rec σ q).2 true st f g s1 f1 g1 := ⟨R1.fr, R1.f2, R1.tw, R1.en, R1.le, R1.h17, R1.hen, R1.hst, R1.h14, R1.h20, R1.yes, fun x => (by cases x)⟩
            exact ⟨s2, f2, g2, R1'.trans R2⟩
          · next ht =>
            have ht : (rec σ q).1 = false := by simpa using ht
            rw [ht] at R1
            obtain ⟨x1, x2⟩ := R1.no rfl
            exact ⟨s1, f1 + 1, g1, R1.fail hN2 (by omega) (by omega) x2⟩
theorem SR.up {N fu x fv y : Nat} {σ z : MS} {b : Bool} {st f g st' f' g' : Nat} (r : SR N fu x σ z b st f g st' f' g') (hf : fu ≤ fv) (hx : ∀ q, q < N → q ≠ y → q ≠ x) : SR N fv y σ z b st f g st' f' g' :=
  ⟨r.fr, r.f2, r.tw, r.en, r.le, r.h17, r.hen, r.hst, r.h14, r.h20, fun hb => ⟨(r.yes hb).1, (r.yes hb).2.1, (r.yes hb).2.2.1, fun q h1 h2 => (r.yes hb).2.2.2 q h1 (hx q h1 h2)⟩, fun hb => ⟨by have := (r.no hb).1; omega, (r.no hb).2⟩⟩
theorem SR.tru {N fu x fv : Nat} {σ z : MS} {st f g st' f' g' : Nat} (r : SR N fu x σ z true st f g st' f' g') : SR N fv x σ z true st f g st' f' g' :=
  ⟨r.fr, r.f2, r.tw, r.en, r.le, r.h17, r.hen, r.hst, r.h14, r.h20, r.yes, fun q => (by cases q)⟩
theorem tl_mu {z : MS} {w p i : Nat} {x : Int32} (h : 12 * w + p ≠ i) : tl (mu z 1 i x) w p = tl z w p := mu_ni h
theorem idl_ne {z y : MS} {N : Nat} (h : ∀ q, q < N → tl y 0 q = 0 → tl z 0 q = 0) : idl y N ≤ idl z N := cntB_le N (fun q hq hh => decide_eq_true (h q hq (of_decide_eq_true hh)))
theorem idl_lt {z y : MS} {N p : Nat} (hp : p < N) (hz : tl z 0 p = 0) (hy : ¬ tl y 0 p = 0) (h : ∀ q, q < N → q ≠ p → tl y 0 q = tl z 0 q) : idl y N < idl z N := by
  refine cntB_lt N (fun q hq hh => ?_) ⟨p, hp, decide_eq_true hz, decide_eq_false hy⟩
  by_cases e : q = p
  · subst e; exact decide_eq_true hz
  · exact decide_eq_true ((h q hq e).symm.trans (of_decide_eq_true hh))
theorem rt_ok {N fu : Nat} {z : MS} {p st f g : Nat} (h : SI N fu z st f g) (hp : p < N) (hz : tl z 0 p = 0) : ∃ st' f' g', SR N (fu + 1) p z (rtS z p).2 (rtS z p).1 st f g st' f' g' := by
  have hN2 := h.hN2
  have hst := h.hst
  have hg := h.hg
  have hf := h.hf
  have hid : 0 < idl z N := by
    have := idl_lt (z := z) (y := mu z 1 p 1) hp hz (by rw [tl_0, if_pos rfl]; decide) (fun q _ e => by rw [tl_0, if_neg e])
    omega
  unfold rtS
  split
  · obtain ⟨g1, e1, e2, e3⟩ := lgG_20 (z := mu (mu z 1 (60 + p) (z.1 1 (60 + p) - 1)) 1 p 2) (x := nI (300 + p)) (g := g) ((mu_nk (by decide)).trans ((mu_nk (by decide)).trans h.h20)) (by omega)
    have R : SR N fu p z (lgG (mu (mu z 1 (60 + p) (z.1 1 (60 + p) - 1)) 1 p 2) (nI (300 + p))) false st f g st f g1 := by
      refine ⟨fun k i a b c d e f g h => (lgG_ne g h).trans ((mu_nk a).trans (mu_nk a)), lgG_2, fun w q a b c d => ?_, fun i hi => (lgG_ne (by decide) (by decide)).trans ((mu_nk (by decide)).trans (mu_nk (by decide))), Nat.le_refl _, (lgG_ne (by decide) (by decide)).trans ((mu_nk (by decide)).trans ((mu_nk (by decide)).trans h.h17)), fun i hi => ?_, by omega, (lgG_ne (by decide) (by decide)).trans ((mu_nk (by decide)).trans ((mu_nk (by decide)).trans h.h14)), e1, fun q => (by cases q), fun _ => ⟨by omega, by omega⟩⟩
      · rw [tl_lg, tl_mu (by omega), tl_mu (by omega)]
      · rw [lgG_ne (by decide) (by decide), mu_nk (by decide), mu_nk (by decide)]; exact h.hen i hi
    exact ⟨st, f + 1, g1, R.fail hN2 (by omega) (by omega) (by omega)⟩
  · rw [h.h17, nI_clamp (by omega)]
    obtain ⟨g1, e1, e2, e3⟩ := lgG_20 (z := mu (mu (mu (mu (mu z 1 p 1) 1 (84 + p) (z.1 2 0)) 2 0 (z.1 2 0 + 1)) 18 st (nI p)) 17 0 (nI st + 1)) (x := nI (100 + p)) (g := g) ((mu_nk (by decide)).trans ((mu_nk (by decide)).trans ((mu_nk (by decide)).trans ((mu_nk (by decide)).trans ((mu_nk (by decide)).trans h.h20))))) (by omega)
    have ht : ∀ w q, w ≠ 7 → q < 12 → tl (lgG (mu (mu (mu (mu (mu z 1 p 1) 1 (84 + p) (z.1 2 0)) 2 0 (z.1 2 0 + 1)) 18 st (nI p)) 17 0 (nI st + 1)) (nI (100 + p))) w q = if w = 0 ∧ q = p then 1 else tl z w q := by
      intro w q a d
      rw [tl_lg, tl_ne (by decide), tl_ne (by decide), tl_ne (by decide), tl_mu (by omega)]
      by_cases c : w = 0 ∧ q = p
      · rw [if_pos c, c.1, c.2, tl_0, if_pos rfl]
      · rw [if_neg c, tl_mu (by omega)]
    have hen : ∀ i, (lgG (mu (mu (mu (mu (mu z 1 p 1) 1 (84 + p) (z.1 2 0)) 2 0 (z.1 2 0 + 1)) 18 st (nI p)) 17 0 (nI st + 1)) (nI (100 + p))).1 18 i = if i = st then nI p else z.1 18 i := by
      intro i
      rw [lgG_ne (by decide) (by decide), mu_nk (by decide)]
      by_cases c : i = st
      · rw [if_pos c, c]; exact mu_hit
      · rw [if_neg c]; exact (mu_ni c).trans ((mu_nk (by decide)).trans ((mu_nk (by decide)).trans (mu_nk (by decide))))
    refine ⟨st + 1, f, g1, fun k i a b c d e f g h => (lgG_ne g h).trans ((mu_nk e).trans ((mu_nk f).trans ((mu_nk b).trans ((mu_nk a).trans (mu_nk a))))), lgG_2, fun w q a b c d => ?_, fun i hi => ?_, by omega, ?_, fun i hi => ?_, by omega, (lgG_ne (by decide) (by decide)).trans ((mu_nk (by decide)).trans ((mu_nk (by decide)).trans ((mu_nk (by decide)).trans ((mu_nk (by decide)).trans ((mu_nk (by decide)).trans h.h14))))), e1, fun _ => ⟨rfl, ?_, by omega, fun q hq hx _ => ?_⟩, fun q => (by cases q)⟩
    · show tl _ w q = _
      rw [ht w q c d, if_neg (fun x => a x.1)]
    · show (lgG _ _).1 18 i = _
      rw [hen i, if_neg (by omega)]
    · show (lgG _ _).1 17 0 = _
      rw [lgG_ne (by decide) (by decide), mu_hit, nI_1]
    · show ∃ q, q < N ∧ (lgG _ _).1 18 i = _
      rw [hen i]
      by_cases c : i = st
      · exact ⟨p, hp, by rw [if_pos c]⟩
      · obtain ⟨q, h1, h2⟩ := h.hen i (by omega)
        exact ⟨q, h1, by rw [if_neg c]; exact h2⟩
    · have := idl_lt (z := z) (y := lgG (mu (mu (mu (mu (mu z 1 p 1) 1 (84 + p) (z.1 2 0)) 2 0 (z.1 2 0 + 1)) 18 st (nI p)) 17 0 (nI st + 1)) (nI (100 + p))) hp hz (by rw [ht 0 p (by decide) (by omega), if_pos ⟨rfl, rfl⟩]; decide) (fun q hq e => by rw [ht 0 q (by decide) (by omega), if_neg (fun x => e x.2)])
      show st + 1 + idl (lgG _ _) N ≤ N
      omega
    · show tl (lgG _ _) 0 q = _
      rw [ht 0 q (by decide) (by omega), if_neg (fun x => hx x.2)]
theorem bk_ok {N fu x : Nat} {σ : MS} {st f g f' : Nat} (hN : N ≤ 12) : ∀ (c : Nat) (z : MS) (st' g' : Nat), st' = st + c → g' + c < 2 ^ 31 → SR N fu x σ z false st f g st' f' g' → ∃ g2, SR N fu x σ (bkF c z) false st f g st f' g2 := by
  intro c
  induction c with
  | zero => intro z st' g' h1 _ r; subst h1; exact ⟨g', r⟩
  | succ c ih =>
    intro z st' g' h1 hg r
    obtain ⟨n1, n2⟩ := r.no rfl
    have hle := r.hst
    obtain ⟨q, hq, eq⟩ := r.hen (st + c) (by omega)
    have e17 : z.1 17 0 - 1 = nI (st + c) := by rw [r.h17, h1]; exact nI_pred _
    have eb : bk1 z = lgG (mu (mu z 17 0 (nI (st + c))) 1 q 0) (200 + nI q) := by
      unfold bk1
      rw [e17, nI_clamp (by omega), eq, nI_clamp (by omega)]
    obtain ⟨g1, e1, e2, e3⟩ := lgG_20 (z := mu (mu z 17 0 (nI (st + c))) 1 q 0) (x := 200 + nI q) (g := g') ((mu_nk (by decide)).trans ((mu_nk (by decide)).trans r.h20)) (by omega)
    show ∃ g2, SR N fu x σ (bkF c (bk1 z)) false st f g st f' g2
    refine ih (bk1 z) (st + c) g1 rfl (by omega) ?_
    rw [eb]
    refine ⟨fun k i a b c d e f g h => (lgG_ne g h).trans ((mu_nk a).trans ((mu_nk e).trans (r.fr k i a b c d e f g h))), lgG_2.trans r.f2, fun w q' a b c d => ?_, fun i hi => (lgG_ne (by decide) (by decide)).trans ((mu_nk (by decide)).trans ((mu_nk (by decide)).trans (r.en i hi))), by omega, (lgG_ne (by decide) (by decide)).trans ((mu_nk (by decide)).trans mu_hit), fun i hi => ?_, by omega, (lgG_ne (by decide) (by decide)).trans ((mu_nk (by decide)).trans ((mu_nk (by decide)).trans r.h14)), e1, fun q => (by cases q), fun _ => ⟨n1, by omega⟩⟩
    · rw [tl_lg, tl_mu (by omega), tl_ne (by decide)]; exact r.tw w q' a b c d
    · rw [lgG_ne (by decide) (by decide), mu_nk (by decide), mu_nk (by decide)]; exact r.hen i (by omega)
theorem bsy_bt {σ : MS} {p q : Nat} (hp : p < 32) (hq : q < 32) : bt ((bsy σ p).1 16 0) q = (bt (σ.1 16 0) q || decide (q = p)) := by
  unfold bsy
  rw [mu_hit, b_or, b_bitI hp hq]
theorem ubs_16 {x : Int32} {p : Nat} (hp : p < 32) (h : bt x p = false) : (x ||| bitI p) &&& (bitI p ^^^ (-1)) = x := by
  apply b_ext
  intro i hi
  rw [b_and, b_or, b_xor, b_bitI hp hi, b_m1 i hi]
  by_cases e : i = p
  · subst e; simp [h]
  · simp [e]
theorem SR.unb {N fu p : Nat} {σ z : MS} {b : Bool} {st f g st' f' g' : Nat} (hN : N ≤ 12) (hp : p < N) (hb : bt (σ.1 16 0) p = false) (r : SR N fu p (bsy σ p) z b st f g st' f' g') : SR N fu N σ (ubs z p) b st f g st' f' g' := by
  have e16 : z.1 16 0 = σ.1 16 0 ||| bitI p := (r.fr 16 0 (by decide) (by decide) (by decide) (by decide) (by decide) (by decide) (by decide) (by decide)).trans mu_hit
  refine ⟨fun k i a b c d e f g h => ?_, r.f2, fun w q a b c d => (tl_ne (by decide)).trans ((r.tw w q a b c d).trans (tl_ne (by decide))), fun i hi => (mu_nk (by decide)).trans ((r.en i hi).trans (mu_nk (by decide))), r.le, (mu_nk (by decide)).trans r.h17, fun i hi => ?_, r.hst, (mu_nk (by decide)).trans r.h14, (mu_nk (by decide)).trans r.h20, fun hb1 => ?_, r.no⟩
  · by_cases c16 : k = 16
    · subst c16
      by_cases ci : i = 0
      · subst ci
        show (mu z 16 0 _).1 16 0 = _
        rw [mu_hit, e16, ubs_16 (by omega) hb]
      · exact (mu_ni ci).trans ((r.fr 16 i a b c d e f g h).trans (mu_ni ci))
    · exact (mu_nk c16).trans ((r.fr k i a b c d e f g h).trans (mu_nk c16))
  · show ∃ q, q < N ∧ (mu z 16 0 _).1 18 i = _
    rw [mu_nk (by decide)]; exact r.hen i hi
  · obtain ⟨y1, y2, y3, y4⟩ := r.yes hb1
    refine ⟨y1, y2, y3, fun q hq _ hbt => ?_⟩
    have hqp : q ≠ p := fun e => by rw [e, hb] at hbt; cases hbt
    exact (tl_ne (by decide)).trans ((y4 q hq hqp (by rw [bsy_bt (by omega) (by omega), hbt]; rfl)).trans (tl_ne (by decide)))
theorem SI.busy1 {N fu : Nat} {σ : MS} {p st f g : Nat} (h : SI N (fu + 1) σ st f g) (hp : p < N) (hb : bt (σ.1 16 0) p = false) : SI N fu (bsy σ p) st f g := by
  have hN2 := h.hN2
  have hf := h.hf
  refine ⟨(mu_nk (by decide)).trans h.hN, hN2, fun q hq => ?_, (mu_nk (by decide)).trans h.h17, h.hst, fun i hi => ?_, (mu_nk (by decide)).trans h.h14, by omega, (mu_nk (by decide)).trans h.h20, h.hg, ?_⟩
  · obtain ⟨w, a, b, c⟩ := h.hk q hq
    exact ⟨w, a, b, (tl_ne (by decide)).trans c⟩
  · obtain ⟨q, a, b⟩ := h.hen i hi
    exact ⟨q, a, (mu_nk (by decide)).trans b⟩
  · have : cntB (fun q => !(bt ((bsy σ p).1 16 0) q)) N < cntB (fun q => !(bt (σ.1 16 0) q)) N := by
      refine cntB_lt N (fun q hq hh => ?_) ⟨p, hp, by simp [hb], ?_⟩
      · have e9 := bsy_bt (σ := σ) (p := p) (q := q) (by omega) (by omega)
        simp only [e9] at hh
        simp at hh ⊢
        exact hh.1
      · have e9 := bsy_bt (σ := σ) (p := p) (q := p) (by omega) (by omega)
        simp [e9]
    have := h.hnb
    omega
theorem starts_ok {N : Nat} : ∀ fu, StOk N fu (startsF N fu) := by
  intro fu
  induction fu with
  | zero =>
    intro σ p st f g h hp hb
    have h1 := h.hnb
    have : cntB (fun _ => false) N < cntB (fun q => !(bt (σ.1 16 0) q)) N := cntB_lt N (fun q _ hh => by cases hh) ⟨p, hp, by simp [hb], rfl⟩
    omega
  | succ fu ih =>
    intro σ p st f g h hp hb
    have hN2 := h.hN2
    have hst := h.hst
    have hf := h.hf
    have hg := h.hg
    have hB := h.busy1 hp hb
    unfold startsF
    split
    · have R0 : SR N fu N σ σ true st f g st f g := ⟨fun _ _ _ _ _ _ _ _ _ _ => rfl, rfl, fun _ _ _ _ _ _ => rfl, fun _ _ => rfl, Nat.le_refl _, h.h17, h.hen, by omega, h.h14, h.h20, fun _ => ⟨rfl, h.hst, Nat.le_refl _, fun _ _ _ _ => rfl⟩, fun q => (by cases q)⟩
      exact ⟨st, f + 1, g, R0.fail hN2 (by omega) (by omega) (by omega), fun _ => rfl⟩
    · next hid =>
      have hid : tl σ 0 p = 0 := Classical.not_not.mp hid
      obtain ⟨s1, f1, g1, R1⟩ := nd_ok ih p 8 0 (bsy σ p) st f g hB (by omega)
      have key : ∃ s2 f2 g2, SR N (fu + 1) p (bsy σ p) (goF N (startsF N fu) σ p).2 (goF N (startsF N fu) σ p).1 st f g s2 f2 g2 := by
        unfold goF
        split
        · next hT =>
          rw [hT] at R1
          obtain ⟨y1, y2, y3, y4⟩ := R1.yes rfl
          have R1p := R1.up (fv := fu + 1) (y := p) (Nat.le_refl _) (fun q h1 _ => by omega)
          have hB' : SI N (fu + 1) (bsy σ p) st f g := ⟨hB.hN, hB.hN2, hB.hk, hB.h17, hB.hst, hB.hen, hB.h14, by omega, hB.h20, hB.hg, by have := hB.hnb; omega⟩
          have hz := hB.next (R1.tru (fv := fu))
          have hi : tl (ndF N (startsF N fu) p 8 0 (bsy σ p)).2 0 p = 0 := (y4 p hp (by omega) (by rw [bsy_bt (by omega) (by omega)]; simp)).trans ((tl_ne (by decide)).trans hid)
          obtain ⟨s2, f2, g2, R2⟩ := rt_ok hz hp hi
          exact ⟨s2, f2, g2, R1p.trans R2⟩
        · next hT =>
          have hT : (ndF N (startsF N fu) p 8 0 (bsy σ p)).1 = false := by simpa using hT
          rw [hT] at R1
          exact ⟨s1, f1, g1, R1.up (Nat.le_refl _) (fun q h1 _ => by omega)⟩
      obtain ⟨s2, f2, g2, R2⟩ := key
      have R3 := R2.unb hN2 hp hb
      split
      · next hT => rw [hT] at R3; exact ⟨s2, f2, g2, R3, fun q => (by cases q)⟩
      · next hT =>
        have hT : (goF N (startsF N fu) σ p).1 = false := by simpa using hT
        rw [hT] at R3
        have hle := R3.le
        have hsN := R3.hst
        have e17 : (goF N (startsF N fu) σ p).2.1 17 0 = nI s2 := R2.h17
        obtain ⟨n1, n2⟩ := R3.no rfl
        rw [e17, h.h17, nI_clamp (by omega), nI_clamp (by omega)]
        obtain ⟨g3, R4⟩ := bk_ok hN2 (s2 - st) _ s2 g2 (by omega) (by omega) R3
        exact ⟨st, f2, g3, R4, fun _ => rfl⟩
