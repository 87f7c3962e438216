set_option maxRecDepth 100000
/-! THE LAW OF STARTS, 2: the component's way comes to the same -/
theorem EQ.need {a b : MS} (h : EQ a b) (p k : Nat) : needF a p k = needF b p k := by unfold needF; rw [h.tl_]
theorem EQ.run {a b : MS} (h : EQ a b) (p k : Nat) : runP a p k = runP b p k := by funext q; unfold runP offF; rw [h.tl_, h.tl_]
theorem EQ.str {a b : MS} (h : EQ a b) (p : Nat) : strF a p = strF b p := by unfold strF; simp only [h.tl_]
theorem EQ.tk {a b : MS} (h : EQ a b) (p k : Nat) : tkS a p k = tkS b p k := by
  funext o q
  unfold tkS betK keyN offF
  simp only [h.tl_, h.str]
theorem tlx {a b : MS} (h : EQ a b) {w q : Nat} : tl a w q = tl b w q := h.tl_ w q
theorem EQ.rt {a b : MS} (h : EQ a b) (p : Nat) : (rtS a p).1 = (rtS b p).1 ∧ EQ (rtS a p).2 (rtS b p).2 := by
  unfold rtS
  rw [h.tl_, h.1 1 (60 + p) (by decide), h.1 2 0 (by decide), h.1 17 0 (by decide)]
  split
  · exact ⟨rfl, (((h.mu_ rfl).mu_ rfl).lg rfl).fl⟩
  · exact ⟨rfl, (((((h.mu_ rfl).mu_ rfl).mu_ rfl).mu_ rfl).mu_ rfl).lg rfl⟩
theorem SIM.bsy {N : Nat} {a b : MS} (h : SIM N a b) {p : Nat} (hN : N ≤ 12) (hp : p < N) : SIM N (bsy a p) (bsy b p) := by
  refine ⟨⟨fun k i q => (mu_nk q).trans ((h.1.1 k i q).trans (mu_nk q).symm), h.1.2⟩, fun q hq hb => ?_, fun q hq hb => ?_⟩
  · rw [bsy_bt (by omega) (by omega)] at hb ⊢
    simp only [Bool.or_eq_true, decide_eq_true_eq] at hb ⊢
    exact hb.imp (h.2.1 q hq) id
  · rw [bsy_bt (by omega) (by omega)] at hb ⊢
    rw [show tl (Pilot.@@N@@.bsy b p) 0 q = tl b 0 q from tl_ne (by decide)]
    simp only [Bool.or_eq_true, decide_eq_true_eq] at hb ⊢
    rcases hb with hb | hb
    · exact (h.2.2 q hq hb).imp Or.inl id
    · exact Or.inl (Or.inr hb)
theorem SIM.idle {N : Nat} {a b : MS} (h : SIM N a b) {q : Nat} (hq : q < N) (hi : tl b 0 q = 0) : bt (a.1 16 0) q = bt (b.1 16 0) q := by
  cases e : bt (b.1 16 0) q with
  | true => exact h.2.1 q hq e
  | false =>
    cases e2 : bt (a.1 16 0) q with
    | false => rfl
    | true => rcases h.2.2 q hq e2 with h3 | h3; rw [e] at h3; cases h3; exact absurd hi h3
theorem FL.fl {N st1 st' g' : Nat} {z zm : MS} {a b c : Int32} (h : FL N st1 st' g' z zm) : FL N st1 st' g' (flG z a b c) (flG zm a b c) :=
  ⟨(flG_ne (by decide) (by decide)).trans h.1, h.2.1, h.2.2.1, fun i hi => by rw [flG_ne (by decide) (by decide)]; exact h.2.2.2.1 i hi, (flG_ne (by decide) (by decide)).trans h.2.2.2.2.1, (fl_bk _).trans h.2.2.2.2.2.fl⟩
theorem SIM.fl0 {N fu st f g : Nat} {σ σm : MS} (h : SIM N σ σm) (hS : SI N fu σm st f g) : FL N st st g σ σm := by
  have := hS.hst
  refine ⟨(h.1.1 17 0 (by decide)).trans hS.h17, Nat.le_refl _, by omega, fun i hi => by rw [h.1.1 18 i (by decide)]; exact hS.hen i hi, (h.1.1 20 0 (by decide)).trans hS.h20, ?_⟩
  rw [Nat.sub_self]; exact h.1
theorem nd1_sim {N fu : Nat} {rec recm : MS → Nat → Bool × MS} (hs : SimOk N fu rec recm) (hok : StOk N fu recm) (p k : Nat) {σ σm : MS} {st f g : Nat} (h : SIM N σ σm) (hS : SI N fu σm st f g) :
    (ndO N rec p k σ).1 = (ndO N recm p k σm).1 ∧ ((ndO N recm p k σm).1 = true → SIM N (ndO N rec p k σ).2 (ndO N recm p k σm).2 ∧ ∃ s1 f1 g1, SR N fu N σm (ndO N recm p k σm).2 true st f g s1 f1 g1) ∧ ((ndO N recm p k σm).1 = false → ∃ st' g', (ndO N recm p k σm).2.1 17 0 = nI st ∧ FL N st st' g' (ndO N rec p k σ).2 (ndO N recm p k σm).2 ∧ g' + st ≤ g + st' + 1) := by
  have e17 : ∀ a b c, (flG σm a b c).1 17 0 = nI st := fun a b c => (flG_ne (by decide) (by decide)).trans hS.h17
  have hf0 := h.fl0 hS
  unfold ndO
  rw [h.1.tk]
  cases e : foldN (tkS σm p k) none N with
  | none => exact ⟨rfl, fun q => (by cases q), fun _ => ⟨st, g, e17 _ _ _, hf0.fl, by omega⟩⟩
  | some q =>
    have hq := tkS_lt e
    have hbi := h.idle hq (tkS_idle e)
    simp only [hbi]
    by_cases hb : bt (σm.1 16 0) q = true
    · simp only [hb, if_true]
      exact ⟨trivial, fun q => (by cases q), fun _ => ⟨st, g, e17 _ _ _, hf0.fl, by omega⟩⟩
    · have hb' : bt (σm.1 16 0) q = false := by simpa using hb
      obtain ⟨e1, e2, e3⟩ := hs σ σm q st f g h hS hq (by rw [hbi]; exact hb')
      obtain ⟨s1, f1, g1, R1, hno⟩ := hok σm q st f g hS hq hb'
      simp only [hb', Bool.false_eq_true, if_false]
      generalize rec σ q = A at e1 e2 e3 ⊢
      generalize recm σm q = B at e1 e2 e3 R1 hno ⊢
      obtain ⟨a1, a2⟩ := A
      obtain ⟨b1, b2⟩ := B
      dsimp only at e1 e2 e3 R1 hno
      subst e1
      cases a1 with
      | true =>
        simp only [if_true]
        exact ⟨trivial, fun _ => ⟨e2 rfl, s1, f1, g1, R1⟩, fun q => (by cases q)⟩
      | false =>
        simp only [Bool.false_eq_true, if_false]
        refine ⟨trivial, fun q => (by cases q), fun _ => ?_⟩
        obtain ⟨x2, x3, y1, y2⟩ := e3 rfl
        have hs1 := hno rfl
        subst hs1
        exact ⟨x2, x3, (flG_ne (by decide) (by decide)).trans R1.h17, y1.fl, y2⟩
theorem nd_sim {N fu : Nat} {rec recm : MS → Nat → Bool × MS} (hs : SimOk N fu rec recm) (hok : StOk N fu recm) (p : Nat) : ∀ (r k : Nat) (σ σm : MS) (st f g : Nat), SIM N σ σm → SI N fu σm st f g →
    (ndF N rec p r k σ).1 = (ndF N recm p r k σm).1 ∧ ((ndF N rec p r k σ).1 = true → SIM N (ndF N rec p r k σ).2 (ndF N recm p r k σm).2) ∧ ((ndF N rec p r k σ).1 = false → ∃ st1 st' g', (ndF N recm p r k σm).2.1 17 0 = nI st1 ∧ st ≤ st1 ∧ FL N st1 st' g' (ndF N rec p r k σ).2 (ndF N recm p r k σm).2 ∧ g' + st ≤ g + st' + 1) := by
  intro r
  induction r with
  | zero => intro k σ σm st f g h hS; exact ⟨rfl, fun _ => h, fun q => by cases q⟩
  | succ r ih =>
    intro k σ σm st f g h hS
    rw [ndF_s, ndF_s, h.1.need, h.1.run]
    by_cases c : needF σm p k = false ∨ anyN (runP σm p k) N = true
    · rw [if_pos c, if_pos c]; exact ih (k + 1) σ σm st f g h hS
    rw [if_neg c, if_neg c]
    obtain ⟨d1, d2, d3⟩ := nd1_sim hs hok p k h hS
    generalize ndO N rec p k σ = A at d1 d2 d3 ⊢
    generalize ndO N recm p k σm = B at d1 d2 d3 ⊢
    obtain ⟨a1, a2⟩ := A
    obtain ⟨b1, b2⟩ := B
    dsimp only at d1 d2 d3
    subst d1
    cases a1 with
    | true =>
      obtain ⟨d4, s1, f1, g1, R1⟩ := d2 rfl
      obtain ⟨y1, y2, y3, y4⟩ := R1.yes rfl
      obtain ⟨i1, i2, i3⟩ := ih (k + 1) _ _ s1 f g1 d4 (hS.next (y1 ▸ R1))
      have hle := R1.le
      simp only [if_true]
      refine ⟨i1, i2, fun hf => ?_⟩
      obtain ⟨x1, x2, x3, z1, z2, z3, z4⟩ := i3 hf
      exact ⟨x1, x2, x3, z1, by omega, z3, by omega⟩
    | false =>
      obtain ⟨x2, x3, z1, z2, z3⟩ := d3 rfl
      simp only [Bool.false_eq_true, if_false]
      exact ⟨trivial, fun q => (by cases q), fun _ => ⟨st, x2, x3, z1, Nat.le_refl _, z2, z3⟩⟩
theorem rt_17f {z : MS} {p : Nat} {k : Nat} (h : (rtS z p).1 = false) (h1 : k ≠ 1) (h2 : k ≠ 14) (h3 : k ≠ 15) (h4 : k ≠ 20) (h5 : k ≠ 21) {i : Nat} : (rtS z p).2.1 k i = z.1 k i := by
  have c : ¬ tl z 5 p ≤ 0 := fun c => by
    unfold rtS at h
    rw [if_neg (Int32.not_lt.mpr c)] at h; cases h
  rw [rtS_f c]
  exact (flG_ne h2 h3).trans ((lgG_ne h4 h5).trans ((mu_nk h1).trans (mu_nk h1)))
theorem rt_16 {z : MS} {p : Nat} : (rtS z p).2.1 16 0 = z.1 16 0 := by
  unfold rtS
  split
  · exact (flG_ne (by decide) (by decide)).trans ((lgG_ne (by decide) (by decide)).trans ((mu_nk (by decide)).trans (mu_nk (by decide))))
  · exact (lgG_ne (by decide) (by decide)).trans ((mu_nk (by decide)).trans ((mu_nk (by decide)).trans ((mu_nk (by decide)).trans ((mu_nk (by decide)).trans (mu_nk (by decide))))))
theorem rt_t0 {z : MS} {p q : Nat} (h : (rtS z p).1 = true) (hq : q < 12) : tl (rtS z p).2 0 q = if q = p then 1 else tl z 0 q := by
  unfold rtS at h ⊢
  by_cases c : 0 < tl z 5 p
  · rw [if_pos c] at h; cases h
  · rw [if_neg c]
    show tl (lgG _ _) 0 q = _
    rw [tl_lg, tl_ne (by decide), tl_ne (by decide), tl_ne (by decide), tl_mu (by omega), tl_0]
theorem sim_ok {N : Nat} : ∀ fu, SimOk N fu (cstF N fu) (startsF N fu) := by
  intro fu
  induction fu with
  | zero => intro σ σm p st f g h hS hp hb; exact ⟨rfl, fun q => (by cases q), fun _ => ⟨st, g, h.fl0 hS, by omega⟩⟩
  | succ fu ih =>
    intro σ σm p st f g h hS hp hb
    have hN2 := hS.hN2
    have hbm : bt (σm.1 16 0) p = false := by
      cases e : bt (σm.1 16 0) p with
      | false => rfl
      | true => rw [h.2.1 p hp e] at hb; cases hb
    unfold cstF startsF
    rw [h.1.tl_]
    by_cases hid : ¬ tl σm 0 p = 0
    · rw [if_pos hid, if_pos hid]
      exact ⟨rfl, fun q => (by cases q), fun _ => ⟨st, g, (h.fl0 hS).fl, by omega⟩⟩
    rw [if_neg hid, if_neg hid]
    have hid := Classical.not_not.mp hid
    have hB := hS.busy1 hp hbm
    have hsb := h.bsy (p := p) hN2 hp
    obtain ⟨n1, n2, n3⟩ := nd_sim ih (starts_ok fu) p 8 0 _ _ st f g hsb hB
    obtain ⟨s1, f1, g1, R1⟩ := nd_ok (starts_ok fu) p 8 0 (bsy σm p) st f g hB (by have := hS.hf; omega)
    obtain ⟨s2, f2, g2, R2⟩ := go_ok hS hp hbm hid
    have R3 := R2.unb hN2 hp hbm
    have e16m : (ndF N (startsF N fu) p 8 0 (bsy σm p)).2.1 16 0 = (bsy σm p).1 16 0 := R1.fr 16 0 (by decide) (by decide) (by decide) (by decide) (by decide) (by decide) (by decide) (by decide)
    unfold goF at R3 ⊢
    rw [n1]
    by_cases hT : (ndF N (startsF N fu) p 8 0 (bsy σm p)).1 = true
    · rw [if_pos hT] at R3 ⊢
      rw [if_pos hT]
      rw [hT] at R1
      have hsim := n2 (n1.trans hT)
      obtain ⟨r1, r2⟩ := hsim.1.rt p
      rw [r1]
      obtain ⟨y1, y2, y3, y4⟩ := R1.yes rfl
      by_cases hR : (rtS (ndF N (startsF N fu) p 8 0 (bsy σm p)).2 p).1 = true
      · rw [if_pos hR] at *
        refine ⟨hR, fun _ => ⟨r2.trans (EQ.symm (EQ.m16 EQ.refl)), fun q hq hbq => ?_, fun q hq hbq => ?_⟩, fun q => by rw [hR] at q; cases q⟩
        · have e3 : (ubs (rtS (ndF N (startsF N fu) p 8 0 (bsy σm p)).2 p).2 p).1 16 0 = σm.1 16 0 := R3.fr 16 0 (by decide) (by decide) (by decide) (by decide) (by decide) (by decide) (by decide) (by decide)
          rw [e3] at hbq
          rw [rt_16]
          refine hsim.2.1 q hq ?_
          rw [e16m, bsy_bt (by omega) (by omega), hbq]; rfl
        · have e3 : (ubs (rtS (ndF N (startsF N fu) p 8 0 (bsy σm p)).2 p).2 p).1 16 0 = σm.1 16 0 := R3.fr 16 0 (by decide) (by decide) (by decide) (by decide) (by decide) (by decide) (by decide) (by decide)
          rw [rt_16] at hbq
          rw [e3, show tl (ubs (rtS (ndF N (startsF N fu) p 8 0 (bsy σm p)).2 p).2 p) 0 q = tl (rtS (ndF N (startsF N fu) p 8 0 (bsy σm p)).2 p).2 0 q from tl_ne (by decide), rt_t0 hR (by omega)]
          rcases hsim.2.2 q hq hbq with h3 | h3
          · rw [e16m, bsy_bt (by omega) (by omega)] at h3
            simp only [Bool.or_eq_true, decide_eq_true_eq] at h3
            rcases h3 with h3 | h3
            · exact Or.inl h3
            · right; rw [if_pos h3]; decide
          · right; split
            · decide
            · exact h3
      · have hR' : (rtS (ndF N (startsF N fu) p 8 0 (bsy σm p)).2 p).1 = false := by simpa using hR
        rw [hR']
        simp only [Bool.false_eq_true, if_false]
        refine ⟨trivial, fun q => (by cases q), fun _ => ?_⟩
        have hs1 := R1.hst
        have hs2 := R1.le
        have e17 : (rtS (ndF N (startsF N fu) p 8 0 (bsy σm p)).2 p).2.1 17 0 = nI s1 := (rt_17f hR' (by decide) (by decide) (by decide) (by decide) (by decide)).trans R1.h17
        rw [e17, hS.h17, nI_clamp (by omega), nI_clamp (by omega)]
        obtain ⟨g3, q1, q2, q3⟩ : ∃ g3, (rtS (ndF N (startsF N fu) p 8 0 (bsy σm p)).2 p).2.1 20 0 = nI g3 ∧ g1 ≤ g3 ∧ g3 ≤ g1 + 1 := by
          have c : ¬ tl (ndF N (startsF N fu) p 8 0 (bsy σm p)).2 5 p ≤ 0 := fun c => by
            unfold rtS at hR'
            rw [if_neg (Int32.not_lt.mpr c)] at hR'; cases hR'
          rw [rtS_f c]
          have hg := hS.hg
          obtain ⟨g3, q1, q2, q3⟩ := lgG_20 (z := mu (mu (ndF N (startsF N fu) p 8 0 (bsy σm p)).2 1 (60 + p) ((ndF N (startsF N fu) p 8 0 (bsy σm p)).2.1 1 (60 + p) - 1)) 1 p 2) (x := nI (300 + p)) (g := g1) ((mu_nk (by decide)).trans ((mu_nk (by decide)).trans R1.h20)) (by omega)
          exact ⟨g3, (flG_ne (by decide) (by decide)).trans q1, q2, q3⟩
        refine ⟨s1, g3, ⟨(r2.1 17 0 (by decide)).trans e17, by omega, by omega, fun i hi => ?_, (r2.1 20 0 (by decide)).trans q1, (r2.trans (EQ.symm (EQ.m16 EQ.refl))).bk _⟩, by omega⟩
        rw [r2.1 18 i (by decide), rt_17f hR' (by decide) (by decide) (by decide) (by decide) (by decide)]
        exact R1.hen i hi
    · rw [if_neg hT] at R3 ⊢
      rw [if_neg hT]
      simp only [Bool.false_eq_true, if_false]
      refine ⟨trivial, fun q => (by cases q), fun _ => ?_⟩
      obtain ⟨st1, st', g', b0, b1, b2, b3⟩ := n3 (n1.trans (by simpa using hT))
      have hs1 := R1.hst
      have e1 : st1 = s1 := by
        have h9 := b0.symm.trans R1.h17
        have h8 := b2.2.1; have h7 := b2.2.2.1
        exact (nI_eq (by omega) (by omega)).mp h9
      subst e1
      rw [b0, hS.h17, nI_clamp (by omega), nI_clamp (by have := hS.hst; omega)]
      refine ⟨st', g', ⟨b2.1, by have := b2.2.1; omega, b2.2.2.1, b2.2.2.2.1, b2.2.2.2.2.1, ?_⟩, b3⟩
      have hle := b2.2.1
      rw [show st' - st = (st' - st1) + (st1 - st) by omega, bkF_add]
      exact (b2.2.2.2.2.2.trans (EQ.symm (EQ.m16 EQ.refl))).bk _

