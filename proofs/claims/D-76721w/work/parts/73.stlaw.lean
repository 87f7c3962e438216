set_option maxRecDepth 100000
/-! THE LAW OF STARTS: starting as the component does it (nobody is stopped but at the end) and as the model does it -/
/-- the same but for who is being started -/
abbrev EQ (a b : MS) : Prop := (∀ k i, k ≠ 16 → a.1 k i = b.1 k i) ∧ a.2 = b.2
theorem EQ.refl {a : MS} : EQ a a := ⟨fun _ _ _ => rfl, rfl⟩
theorem EQ.symm {a b : MS} (h : EQ a b) : EQ b a := ⟨fun k i q => (h.1 k i q).symm, h.2.symm⟩
theorem EQ.trans {a b c : MS} (h : EQ a b) (g : EQ b c) : EQ a c := ⟨fun k i q => (h.1 k i q).trans (g.1 k i q), h.2.trans g.2⟩
theorem EQ.mu_ {a b : MS} (h : EQ a b) {k i : Nat} {x y : Int32} (e : x = y) : EQ (mu a k i x) (mu b k i y) := ⟨fun k' i' q => by
  subst e
  rw [mu_at, mu_at]; split; rfl; exact h.1 k' i' q, h.2⟩
theorem EQ.m16 {a b : MS} (h : EQ a b) {x : Int32} : EQ (mu a 16 0 x) b := ⟨fun k i q => (mu_nk q).trans (h.1 k i q), h.2⟩
theorem EQ.tl_ {a b : MS} (h : EQ a b) (w q : Nat) : tl a w q = tl b w q := h.1 1 _ (by decide)
theorem EQ.tlf {a b : MS} (h : EQ a b) : tl a = tl b := by funext w q; exact h.tl_ w q
theorem EQ.lg {a b : MS} (h : EQ a b) {x y : Int32} (e : x = y) : EQ (lgG a x) (lgG b y) := by
  subst e
  unfold lgG lgF
  rw [h.1 19 0 (by decide), h.1 20 0 (by decide)]
  split
  · exact (h.mu_ rfl).mu_ rfl
  · exact h
theorem EQ.fl {a b : MS} (h : EQ a b) {x y z : Int32} : EQ (flG a x y z) (flG b x y z) := by
  unfold flG flF
  rw [h.1 14 0 (by decide)]
  exact (((h.mu_ rfl).mu_ rfl).mu_ rfl).mu_ rfl
theorem EQ.bk1_ {a b : MS} (h : EQ a b) : EQ (bk1 a) (bk1 b) := by
  unfold bk1
  rw [h.1 17 0 (by decide), h.1 18 _ (by decide)]
  exact ((h.mu_ rfl).mu_ rfl).lg rfl
theorem EQ.bk {a b : MS} (h : EQ a b) (c : Nat) : EQ (bkF c a) (bkF c b) := by
  induction c generalizing a b with
  | zero => exact h
  | succ c ih => exact ih h.bk1_
theorem bkF_add (a b : Nat) (z : MS) : bkF (a + b) z = bkF b (bkF a z) := by
  induction a generalizing z with
  | zero => rw [Nat.zero_add]; rfl
  | succ a ih => rw [Nat.succ_add]; exact ih _
theorem bk1_ne {z : MS} {k i : Nat} (h1 : k ≠ 1) (h2 : k ≠ 17) (h3 : k ≠ 20) (h4 : k ≠ 21) : (bk1 z).1 k i = z.1 k i := by
  unfold bk1
  exact (lgG_ne h3 h4).trans ((mu_nk h1).trans (mu_nk h2))
theorem bkF_ne {k i : Nat} (h1 : k ≠ 1) (h2 : k ≠ 17) (h3 : k ≠ 20) (h4 : k ≠ 21) (c : Nat) (z : MS) : (bkF c z).1 k i = z.1 k i := by
  induction c generalizing z with
  | zero => rfl
  | succ c ih => exact (ih _).trans (bk1_ne h1 h2 h3 h4)
theorem bk1_2 {z : MS} : (bk1 z).2 = z.2 := by unfold bk1; exact lgG_2
theorem bkF_2 (c : Nat) (z : MS) : (bkF c z).2 = z.2 := by
  induction c generalizing z with
  | zero => rfl
  | succ c ih => exact (ih _).trans bk1_2
/-- the same but for the failures -/
abbrev EQf (a b : MS) : Prop := (∀ k i, k ≠ 14 → k ≠ 15 → a.1 k i = b.1 k i) ∧ a.2 = b.2
theorem EQf.mu_ {a b : MS} (h : EQf a b) {k i : Nat} {x y : Int32} (e : x = y) : EQf (mu a k i x) (mu b k i y) := ⟨fun k' i' q r => by
  subst e
  rw [mu_at, mu_at]; split; rfl; exact h.1 k' i' q r, h.2⟩
theorem EQf.bk1_ {a b : MS} (h : EQf a b) : EQf (bk1 a) (bk1 b) := by
  unfold bk1 lgG lgF
  rw [h.1 17 0 (by decide) (by decide), h.1 18 _ (by decide) (by decide)]
  have h2 := (h.mu_ (k := 17) (i := 0) (x := b.1 17 0 - 1) rfl).mu_ (k := 1) (i := (b.1 18 (b.1 17 0 - 1).toNatClampNeg).toNatClampNeg) (x := 0) rfl
  rw [h2.1 19 0 (by decide) (by decide), h2.1 20 0 (by decide) (by decide)]
  split
  · exact (h2.mu_ rfl).mu_ rfl
  · exact h2
theorem EQf.bk {a b : MS} (h : EQf a b) (c : Nat) : EQf (bkF c a) (bkF c b) := by
  induction c generalizing a b with
  | zero => exact h
  | succ c ih => exact ih h.bk1_
theorem fl_bk {z : MS} {x y v : Int32} (c : Nat) : EQ (bkF c (flG z x y v)) (flG (bkF c z) x y v) := by
  have h1 : EQf (flG z x y v) z := ⟨fun k i q r => flG_ne q r, rfl⟩
  have h2 := h1.bk c
  have e14 : (bkF c z).1 14 0 = z.1 14 0 := bkF_ne (by decide) (by decide) (by decide) (by decide) c z
  refine ⟨fun k i _ => ?_, ?_⟩
  · by_cases q : k = 14 ∨ k = 15
    · rw [bkF_ne (by omega) (by omega) (by omega) (by omega)]
      unfold flG flF
      rw [e14]
      simp only [mu_at]
      rw [bkF_ne (by omega) (by omega) (by omega) (by omega)]
    · rw [h2.1 k i (by omega) (by omega), flG_ne (by omega) (by omega)]
  · rw [h2.2]; rfl
/-- starting as the component does it -/
def cstF (N : Nat) : Nat → MS → Nat → Bool × MS
  | 0, z, _ => (false, z)
  | f + 1, σ, p => if ¬ tl σ 0 p = 0 then (false, flG σ (nI p) 1 (-1)) else goF N (cstF N f) σ p
/-- what of one service is needed -/
def ndO (N : Nat) (rec : MS → Nat → Bool × MS) (p k : Nat) (z : MS) : Bool × MS := match foldN (tkS z p k) none N with
    | none => (false, flG z (nI p) 2 (nI k))
    | some q => if bt (z.1 16 0) q = true then (false, flG z (nI p) 3 (nI k)) else
      if (rec z q).1 = true then (true, (rec z q).2) else (false, flG (rec z q).2 (nI p) 4 (nI k))
theorem ndF_s {N : Nat} {rec : MS → Nat → Bool × MS} {p r k : Nat} {z : MS} : ndF N rec p (r + 1) k z = if needF z p k = false ∨ anyN (runP z p k) N = true then ndF N rec p r (k + 1) z else if (ndO N rec p k z).1 = true then ndF N rec p r (k + 1) (ndO N rec p k z).2 else (false, (ndO N rec p k z).2) := by
  rw [ndF]
  unfold ndO
  split
  · rfl
  · cases foldN (tkS z p k) none N with
    | none => rfl
    | some q =>
      simp only
      by_cases h1 : bt (z.1 16 0) q = true
      · rw [if_pos h1, if_pos h1]; rfl
      · rw [if_neg h1, if_neg h1]
        by_cases h2 : (rec z q).1 = true
        · rw [if_pos h2, if_pos h2]; rfl
        · rw [if_neg h2, if_neg h2]; rfl
abbrev SIM (N : Nat) (a b : MS) : Prop := EQ a b ∧ (∀ q, q < N → bt (b.1 16 0) q = true → bt (a.1 16 0) q = true) ∧ (∀ q, q < N → bt (a.1 16 0) q = true → bt (b.1 16 0) q = true ∨ ¬ tl b 0 q = 0)
/-- how a failing start is left: st1 were started before -/
abbrev FL (N st1 st' g' : Nat) (z zm : MS) : Prop := z.1 17 0 = nI st' ∧ st1 ≤ st' ∧ st' ≤ N ∧ (∀ i, i < st' → ∃ q, q < N ∧ z.1 18 i = nI q) ∧ z.1 20 0 = nI g' ∧ EQ (bkF (st' - st1) z) zm
abbrev SimOk (N fu : Nat) (rec recm : MS → Nat → Bool × MS) : Prop := ∀ (σ σm : MS) (p st f g : Nat), SIM N σ σm → SI N fu σm st f g → p < N → bt (σ.1 16 0) p = false → (rec σ p).1 = (recm σm p).1 ∧
  ((rec σ p).1 = true → SIM N (rec σ p).2 (recm σm p).2) ∧ ((rec σ p).1 = false → ∃ st' g', FL N st st' g' (rec σ p).2 (recm σm p).2 ∧ g' + st ≤ g + st' + 1)
abbrev StNi (N fu : Nat) (rec : MS → Nat → Bool × MS) : Prop := ∀ (σ : MS) (p st f g : Nat), SI N fu σ st f g → p < N → bt (σ.1 16 0) p = false → (rec σ p).1 = true → ∀ q, q < N → ¬ tl σ 0 q = 0 → tl (rec σ p).2 0 q = tl σ 0 q
theorem nd_ni {N fu : Nat} {rec : MS → Nat → Bool × MS} (hr : StOk N fu rec) (hn : StNi N fu rec) (p : Nat) : ∀ (r k : Nat) (σ : MS) (st f g : Nat), SI N fu σ st f g → (ndF N rec p r k σ).1 = true → ∀ q, q < N → ¬ tl σ 0 q = 0 → tl (ndF N rec p r k σ).2 0 q = tl σ 0 q := by
  intro r
  induction r with
  | zero => intro k σ st f g h _ q hq hi; rfl
  | succ r ih =>
    intro k σ st f g h
    unfold ndF
    split
    · exact ih (k + 1) σ st f g h
    · cases e : foldN (tkS σ p k) none N with
      | none => intro q; cases q
      | some q0 =>
        simp only
        split
        · intro q; cases q
        · next hb =>
          have hq := tkS_lt e
          obtain ⟨s1, f1, g1, R1, hno⟩ := hr σ q0 st f g h hq (by simpa using hb)
          split
          · next ht =>
            rw [ht] at R1
            intro h2 q h3 h4
            have e1 := hn σ q0 st f g h hq (by simpa using hb) ht q h3 h4
            exact (ih (k + 1) _ s1 f g1 (h.next R1) h2 q h3 (by rw [e1]; exact h4)).trans e1
          · intro q; cases q
theorem starts_ni {N : Nat} : ∀ fu, StNi N fu (startsF N fu) := by
  intro fu
  induction fu with
  | zero =>
    intro σ p st f g h hp hb hq
    cases hq
  | succ fu ih =>
    intro σ p st f g h hp hb
    have hN2 := h.hN2
    have hB := h.busy1 hp hb
    unfold startsF
    split
    · intro q; cases q
    · next hid =>
      have hid : tl σ 0 p = 0 := Classical.not_not.mp hid
      split
      · next hT =>
        intro _ q hq hni
        unfold goF at hT ⊢
        by_cases hT2 : (ndF N (startsF N fu) p 8 0 (bsy σ p)).1 = true
        · rw [if_pos hT2] at hT ⊢
          have e1 := nd_ni (starts_ok fu) ih p 8 0 (bsy σ p) st f g hB hT2 q hq (by rw [show tl (bsy σ p) 0 q = tl σ 0 q from tl_ne (by decide)]; exact hni)
          obtain ⟨s1, f1, g1, R1⟩ := nd_ok (starts_ok fu) p 8 0 (bsy σ p) st f g hB (by have := hB.hf; have := h.hf; omega)
          rw [hT2] at R1
          have hqp : q ≠ p := fun e => hni (by rw [e]; exact hid)
          have h5 : tl (ndF N (startsF N fu) p 8 0 (bsy σ p)).2 5 p ≤ 0 := Classical.byContradiction fun c => by
            rw [rtS_f c] at hT; cases hT
          have hs1 := R1.hst
          rw [rtS_t h5 R1.h17 (by omega)]
          show tl (mu _ 16 0 _) 0 q = _
          rw [tl_ne (by decide), tl_lg, tl_ne (by decide), tl_ne (by decide), tl_ne (by decide), tl_mu (by omega), tl_0, if_neg hqp, e1]; exact tl_ne (by decide)
        · rw [if_neg hT2] at hT; cases hT
      · intro q; cases q

