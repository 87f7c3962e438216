set_option maxRecDepth 100000
/-! THE MODEL, 6: stops -/
theorem lgG_ne {z : MS} {x : Int32} {k i : Nat} (h : k ≠ 20) (h2 : k ≠ 21) : (lgG z x).1 k i = z.1 k i := by
  unfold lgG lgF
  split
  · exact (mu_nk h).trans (mu_nk h2)
  · rfl
theorem lgG_2 {z : MS} {x : Int32} : (lgG z x).2 = z.2 := by unfold lgG lgF; split <;> rfl
theorem lgG_20 {z : MS} {x : Int32} {g : Nat} (h : z.1 20 0 = nI g) (hg : g < 2 ^ 31) : ∃ g', (lgG z x).1 20 0 = nI g' ∧ g ≤ g' ∧ g' ≤ g + 1 := by
  unfold lgG lgF
  rw [h, nI_clamp hg]
  split
  · exact ⟨g + 1, mu_hit, by omega, by omega⟩
  · exact ⟨g, h, by omega, by omega⟩
theorem tl_ne {z : MS} {w p k i : Nat} {x : Int32} (h : k ≠ 1) : tl (mu z k i x) w p = tl z w p := mu_nk (Ne.symm h)
theorem tl_0 {z : MS} {p q : Nat} {x : Int32} : tl (mu z 1 q x) 0 p = if p = q then x else tl z 0 p := by
  unfold tl
  by_cases e : p = q
  · subst e; rw [if_pos rfl]; rw [show 12 * 0 + p = p by omega]; exact mu_hit
  · rw [if_neg e]; exact mu_ni (by omega)
theorem tl_w {z : MS} {w p q : Nat} {x : Int32} (hq : q < 12) (hw : 0 < w) : tl (mu z 1 q x) w p = tl z w p := mu_ni (by omega)
theorem tl_lg {z : MS} {x : Int32} {w p : Nat} : tl (lgG z x) w p = tl z w p := lgG_ne (by decide) (by decide)
theorem wvI_ne {N k i : Nat} (h : k ≠ 22) : ∀ (f w : Nat) (z : MS), (wvI N f w z).1 k i = z.1 k i := by
  intro f
  induction f with
  | zero => intro w z; rfl
  | succ f ih =>
    intro w z
    unfold wvI
    split
    · rw [ih]; exact rnd_ne h
    · rfl
theorem waves_ne {N k i p : Nat} {σ : MS} (h : k ≠ 22) : (wavesF N σ p).1 k i = σ.1 k i := (wvI_ne h _ _ _).trans (wv0_ne h)
theorem apf_2 {N : Nat} {z0 : MS} {w : Nat} : ∀ n z, (foldN (apS N z0 w) z n).2 = z.2 := fun n z => fold_keep (f := apS N z0 w) (g := fun z : MS => z.2) (fun a i => by unfold apS; split <;> rfl) _ _
theorem wvI_2 {N : Nat} : ∀ (f w : Nat) (z : MS), (wvI N f w z).2 = z.2 := by
  intro f
  induction f with
  | zero => intro w z; rfl
  | succ f ih =>
    intro w z
    unfold wvI
    split
    · rw [ih]; exact apf_2 _ _
    · rfl
theorem waves_2 {N p : Nat} {σ : MS} : (wavesF N σ p).2 = σ.2 := (wvI_2 _ _ _).trans (fold_keep (f := wvS) (g := fun z : MS => z.2) (fun a i => rfl) _ _)
def lsB (z : MS) : Option Nat → Nat → Bool
  | none, _ => true
  | some g, q => oldF z g q
def lsS (z : MS) (f : Option Nat) (q : Nat) : Option Nat := if (decide (tl z 0 q = 1) && decide (¬ z.1 22 q = -1) && lsB z f q) = true then some q else f
def lastF (N : Nat) (z : MS) : Option Nat := foldN (lsS z) none N
theorem lsS_or {z : MS} {f : Option Nat} {q g : Nat} (h : lsS z f q = some g) : (g = q ∧ tl z 0 q = 1) ∨ f = some g := by
  unfold lsS at h
  split at h
  · next c =>
    simp only [Bool.and_eq_true, decide_eq_true_eq] at c
    exact Or.inl ⟨(Option.some.inj h).symm, c.1.1⟩
  · exact Or.inr h
theorem lsS_lt {z : MS} : ∀ {i f : Nat}, foldN (lsS z) none i = some f → f < i ∧ tl z 0 f = 1 := by
  intro i
  induction i with
  | zero => intro f h; cases h
  | succ i ih =>
    intro f h
    rcases lsS_or h with h1 | h1
    · rw [h1.1]; exact ⟨by omega, h1.2⟩
    · have := ih h1; exact ⟨by omega, this.2⟩
def stS (z : MS) (q : Nat) : MS := lgG (mu z 1 q 0) (nI (200 + q))
def stI (N : Nat) : Nat → MS → Nat → Nat × MS
  | 0, z, k => (k, z)
  | f + 1, z, k => match lastF N z with
    | none => (k, z)
    | some q => stI N f (stS z q) (k + 1)
def stR (N : Nat) : Option Nat → Nat → MS → Nat → Nat × MS
  | none, _, z, k => (k, z)
  | some _, f, z, k => stI N f z k
def stopsF (N : Nat) (σ : MS) (p : Nat) : Nat × MS := stI N 13 (wavesF N σ p) 0
theorem isS_1 (r : Option Nat) : r.isSome.toNat ≤ 1 := by cases r <;> simp
def rnN (z : MS) (N : Nat) : Nat := cntB (fun q => decide (tl z 0 q = 1)) N
theorem tl_st {z : MS} {p q : Nat} : tl (stS z q) 0 p = if p = q then 0 else tl z 0 p := tl_lg.trans tl_0
theorem rn_st {z : MS} {q N : Nat} (hq : q < N) (h : tl z 0 q = 1) : rnN (stS z q) N < rnN z N := by
  refine cntB_lt N (fun a ha hh => ?_) ⟨q, hq, decide_eq_true h, ?_⟩
  · have h1 := of_decide_eq_true hh
    rw [tl_st] at h1
    split at h1
    · cases h1
    · exact decide_eq_true h1
  · refine decide_eq_false ?_
    rw [tl_st, if_pos rfl]; decide
theorem stI_ne {N k i : Nat} (h1 : k ≠ 1) (h2 : k ≠ 20) (h3 : k ≠ 21) : ∀ (f : Nat) (z : MS) (c : Nat), (stI N f z c).2.1 k i = z.1 k i := by
  intro f
  induction f with
  | zero => intro z c; rfl
  | succ f ih =>
    intro z c
    unfold stI
    split
    · rfl
    · rw [ih]; exact (lgG_ne h2 h3).trans (mu_nk h1)
theorem stops_ne {N k i p : Nat} {σ : MS} (h0 : k ≠ 22) (h1 : k ≠ 1) (h2 : k ≠ 20) (h3 : k ≠ 21) : (stopsF N σ p).2.1 k i = σ.1 k i := (stI_ne h1 h2 h3 _ _ _).trans (waves_ne h0)
theorem stI_log {N : Nat} : ∀ (f : Nat) (z : MS) (c g : Nat), z.1 20 0 = nI g → g + f < 2 ^ 31 → ∃ g', (stI N f z c).2.1 20 0 = nI g' ∧ g ≤ g' ∧ g' ≤ g + f := by
  intro f
  induction f with
  | zero => intro z c g h hg; exact ⟨g, h, by omega, by omega⟩
  | succ f ih =>
    intro z c g h hg
    unfold stI
    split
    · exact ⟨g, h, by omega, by omega⟩
    · next q _ =>
      obtain ⟨g1, e1, e2, e3⟩ := lgG_20 (z := mu z 1 q 0) (x := nI (200 + q)) (g := g) ((mu_nk (by decide)).trans h) (by omega)
      obtain ⟨g2, e4, e5, e6⟩ := ih (stS z q) (c + 1) g1 e1 (by omega)
      exact ⟨g2, e4, by omega, by omega⟩
theorem stops_log {N p g : Nat} {σ : MS} (h : σ.1 20 0 = nI g) (hg : g + 13 < 2 ^ 31) : ∃ g', (stopsF N σ p).2.1 20 0 = nI g' ∧ g ≤ g' ∧ g' ≤ g + 13 := stI_log 13 _ 0 g ((waves_ne (by decide)).trans h) hg
theorem stI_n {N : Nat} : ∀ (f : Nat) (z : MS) (c : Nat), (stI N f z c).1 ≤ c + f := by
  intro f
  induction f with
  | zero => intro z c; exact Nat.le_refl _
  | succ f ih =>
    intro z c
    unfold stI
    split
    · exact Nat.le_add_right _ _
    · have := ih (stS z ‹Nat›) (c + 1); omega
theorem stops_tw {N p w q : Nat} {σ : MS} (hN : N ≤ 12) (hw : 0 < w) : tl (stopsF N σ p).2 w q = tl σ w q := by
  have : ∀ (f : Nat) (z : MS) (c : Nat), tl (stI N f z c).2 w q = tl z w q := by
    intro f
    induction f with
    | zero => intro z c; rfl
    | succ f ih =>
      intro z c
      unfold stI
      split
      · rfl
      · next a ha =>
        have := (lsS_lt ha).1
        rw [ih]; exact tl_lg.trans (tl_w (by omega) hw)
  exact (this _ _ _).trans (waves_ne (by decide))
def stopF (σ : MS) (N : Nat) (p : Int32) : Int32 × MS := if wi p 0 (σ.1 0 0 - 1) = true then (if tl σ 0 p.toNatClampNeg = 1 then (nI (stopsF N σ p.toNatClampNeg).1, (stopsF N σ p.toNatClampNeg).2) else (-6, mNo σ 6)) else (-1, mNo σ 1)
def waveF (σ : MS) (N : Nat) (p q : Int32) : Int32 × MS := if wi p 0 (σ.1 0 0 - 1) = true ∧ wi q 0 (σ.1 0 0 - 1) = true then (if tl σ 0 p.toNatClampNeg = 1 then ((wavesF N σ p.toNatClampNeg).1 22 q.toNatClampNeg, wavesF N σ p.toNatClampNeg) else (-6 - 10, mNo σ 6)) else (-1 - 10, mNo σ 1)
def removeF (σ : MS) (N : Nat) (p : Int32) : Int32 × MS := if wi p 0 (σ.1 0 0 - 1) = true then (if tl σ 0 p.toNatClampNeg = 3 then (-6, mNo σ 6) else if tl σ 0 p.toNatClampNeg = 1 then (nI (stopsF N σ p.toNatClampNeg).1, mu (stopsF N σ p.toNatClampNeg).2 1 p.toNatClampNeg 3) else (0, mu σ 1 p.toNatClampNeg 3)) else (-1, mNo σ 1)
def firstS (P : Nat → Bool) (f : Option Nat) (q : Nat) : Option Nat := match f with
  | some x => some x
  | none => if P q = true then some q else none
def firstN (P : Nat → Bool) (n : Nat) : Option Nat := foldN (firstS P) none n
theorem firstN_none {P : Nat → Bool} : ∀ {n : Nat}, anyN P n = false → firstN P n = none := by
  intro n
  induction n with
  | zero => intro _; rfl
  | succ n ih =>
    intro h
    simp only [anyN, Bool.or_eq_false_iff] at h
    show firstS P (firstN P n) n = none
    rw [ih h.1]
    show (if P n = true then some n else none) = none
    rw [h.2]; rfl
theorem firstN_at {P : Nat → Bool} {p : Nat} (h : anyN P p = false) (hp : P p = true) : ∀ {n : Nat}, p < n → firstN P n = some p := by
  intro n
  induction n with
  | zero => intro q; omega
  | succ n ih =>
    intro hn
    show firstS P (firstN P n) n = some p
    by_cases e : p = n
    · subst e; rw [firstN_none h]; show (if P p = true then some p else none) = some p; rw [hp]; rfl
    · rw [ih (by omega)]; rfl
def rkF (σ : MS) (p n : Nat) : Nat := cntB (fun q => decide (tl σ 0 q = 1) && oldF σ q p) n
def isRk (σ : MS) (N : Nat) (x : Int32) (p : Nat) : Bool := decide (tl σ 0 p = 1) && decide (nI (rkF σ p N) = x)
set_option maxHeartbeats 1000000 in
theorem met_X5_stops {Y : YT} {l : Launch} {m0 n u : Nat} {σ : MS} {B : AH} (hz : yz Y ≤ m0) (p_ : Nat) {N g0 : Nat} (hN : σ.1 0 0 = nI N) (hN2 : N ≤ 12) (hp2 : p_ < N) (hg0 : σ.1 20 0 = nI g0) (hg1 : g0 < 1900000000) : GM Y l yX5_stops (ws_ yX5_stops cX5_stops 5 (some FieldType.int)) 4 93 [.ref m0, .int (nI p_)] (mG Y m0 σ B) n u 0 0 (pI (fun r G' n' u' => nI ((stopsF N σ p_).1) = r ∧ mG Y m0 ((stopsF N σ p_).2) B = G' ∧ n = n' ∧ u = u')) noX := by
  refine GM.intro (own := RX5) rfl (by decide +kernel) (Nat.le_of_ble_eq_true rfl) ?_
  intro p e s m args below meth c R Q hC hr hnm hF hL hE
  have hE1 := hE.1
  have hE2 := hE.2.1
  show V Y p l e R s m args below meth c 5 n u (mG Y m0 σ B) n u Q 0 [(0, .ref m0), (1, .int (nI p_))] []
  refine g_aload_n hC dX5_stops_0 rfl 0 rfl ?_
  refine g_iload_n hC dX5_stops_1 rfl 1 rfl ?_
  refine g_callv0 hC (g_runV hC (met_X5_waves hz p_ (hN) (hN2) (by omega)) kc_X5 mG_o (lw_V q3839 q3841 qs67 q89 q3842) rfl md_X5_waves dX5_stops_2 rfl ⟨by omega, by omega⟩ (by omega) (by omega) rfl (Nat.le_of_ble_eq_true rfl)) (fun G_1 n_1 u_1 hp_1 hn_1 hm_1 hu_1 => ?_)
  obtain ⟨rfl, rfl, rfl⟩ := hp_1
  obtain ⟨z0, ez0⟩ : ∃ z0, wavesF N σ p_ = z0 := ⟨_, rfl⟩
  have hz01 : z0.1 0 0 = nI N := by rw [← ez0]; exact (waves_ne (by decide)).trans hN
  have hgz0 : z0.1 20 0 = nI g0 := by rw [← ez0]; exact (waves_ne (by decide)).trans hg0
  have hun : rnN z0 N < 13 := Nat.lt_of_le_of_lt (cntB_n _ _) (by omega)
  rw [ez0]
  refine g_iconst (v := 0) hC dX5_stops_5 rfl ?_
  refine g_istore_n (L' := [(2, .int 0), (0, .ref m0), (1, .int (nI p_))]) hC dX5_stops_6 rfl (by decide) rfl ?_
  refine g_iload_n hC dX5_stops_7 rfl 2 rfl ?_
  refine g_istore_n (L' := [(3, .int (nI p_)), (2, .int 0), (0, .ref m0), (1, .int (nI p_))]) hC dX5_stops_8 rfl (by decide) rfl ?_
  have hl_9 : ∀ (kf_ : Nat) (z : MS) (r : Option Nat) (kn : Nat) (f : Nat) (g : Nat), (z.1 0 0 = nI N) → (stR N r f z kn = stI N 13 z0 0) → (r ≠ none → rnN z N < f) → (z.1 20 0 = nI g) → (g + f ≤ g0 + 13) → (kn + f ≤ 13) → (∀ q, r = some q → q < N) → f + r.isSome.toNat < kf_ → V Y p l e R s m args below meth c 5 n u (mG Y m0 z B) n u Q 9 [(2, .int (nI kn)), (3, .int (oI r)), (0, .ref m0)] [] := by
    intro kf_
    induction kf_ with
    | zero => intro z r kn f g hz0 hfin hcnt hgz hgb hkn hrq hk_; exact absurd hk_ (Nat.not_lt_zero _)
    | succ kf_ ih_o =>
      intro z r kn f g hz0 hfin hcnt hgz hgb hkn hrq hk_
      rcases r with _ | r
      · refine g_iload_n hC dX5_stops_9 rfl 1 rfl ?_
        refine g_iconst (v := (-1)) hC dX5_stops_10 rfl ?_
        refine g_icmp_eq hC dX5_stops_11 (tgt := 103) (by decide) (fun c_11 => ?_) (fun c_11 => ?_)
        · refine g_iload_n hC dX5_stops_103 rfl 0 rfl ?_
          refine g_iret hC hr rfl ⟨_, rfl, ?_⟩ (by omega) (by omega) hE dX5_stops_104
          have hfin2 : stopsF N σ p_ = (kn, z) := by unfold stopsF; rw [ez0, ← hfin]; rfl
          exact ⟨by rw [hfin2], by rw [hfin2], rfl, rfl⟩
        · exact absurd rfl c_11
      · have hrr := hrq r rfl
        obtain ⟨f, rfl⟩ : ∃ k, f = k + 1 := ⟨f - 1, by have := hcnt (by simp); omega⟩
        refine g_iload_n hC dX5_stops_9 rfl 1 rfl ?_
        refine g_iconst (v := (-1)) hC dX5_stops_10 rfl ?_
        refine g_icmp_eq hC dX5_stops_11 (tgt := 103) (by decide) (fun c_11 => ?_) (fun c_11 => ?_)
        · first | exact absurd c_11 (nI_m1 (by omega)) | exact absurd (Classical.not_not.mp c_11) (nI_m1 (by omega))
        · refine g_iconst (v := (-1)) hC dX5_stops_14 rfl ?_
          refine g_istore_n (L' := [(3, .int (-1)), (2, .int (nI kn)), (0, .ref m0)]) hC dX5_stops_15 rfl (by decide) rfl ?_
          refine g_iconst (v := 0) hC dX5_stops_16 rfl ?_
          refine g_istore (L' := [(4, .int 0), (3, .int (-1)), (2, .int (nI kn)), (0, .ref m0)]) hC dX5_stops_17 (by decide) rfl ?_
          have hl_19 : ∀ (kf_ : Nat) (q : Nat), (q ≤ N) → N - q < kf_ → V Y p l e R s m args below meth c 5 n u (mG Y m0 z B) n u Q 19 [(4, .int (nI q)), (3, .int (oI (foldN (lsS z) none q))), (2, .int (nI kn)), (0, .ref m0)] [] := by
            intro kf_
            induction kf_ with
            | zero => intro q hii hk_; exact absurd hk_ (Nat.not_lt_zero _)
            | succ kf_ ih_i =>
              intro q hii hk_
              rcases hf : foldN (lsS z) none q with _ | b
              · refine g_iload hC dX5_stops_19 0 rfl ?_
                refine g_aload_n hC dX5_stops_21 rfl 3 rfl ?_
                refine m_get (v := .int (nI N)) hC 0 (by decide) q3521 (congrArg (fun z => some (Value.int z)) hz0) dX5_stops_22 ?_
                refine g_icmp_geN hC q N (by omega) (by omega) dX5_stops_25 (tgt := 73) (by decide) (fun c_25 => ?_) (fun c_25 => ?_)
                · have ee_ : N = q := by omega
                  subst ee_
                  refine g_iload_n hC dX5_stops_73 rfl 1 rfl ?_
                  refine g_iconst (v := (-1)) hC dX5_stops_74 rfl ?_
                  refine g_icmp_ne hC dX5_stops_75 (tgt := 81) (by decide) (fun c_75 => ?_) (fun c_75 => ?_)
                  · exact absurd rfl c_75
                  · refine g_goto (tgt := 9) hC dX5_stops_78 (by decide) ?_
                    refine V.sub [2, 1, 3] rfl ?_
                    exact ih_o z none kn f g (hz0) (by rw [← hfin]; show (kn, z) = stI N (f + 1) z kn; rw [stI, lastF, hf]) (fun h => absurd rfl h) (hgz) (by omega) (by omega) (fun _ h => by cases h) (by (refine Nat.lt_of_le_of_lt (Nat.add_le_add_left (isS_1 _) _) ?_); (have e1_ : (some r).isSome.toNat = 1 := rfl); omega)
                · refine g_aload_n hC dX5_stops_28 rfl 3 rfl ?_
                  refine g_iload hC dX5_stops_29 0 rfl ?_
                  refine g_calli0 hC (g_runV hC (met_X5_state hz q (by omega)) kc_X5 mG_o (lw_V q3708 q3710 qs44 q89 q3711) rfl md_X5_state dX5_stops_31 rfl ⟨by omega, by omega⟩ (by omega) (by omega) rfl (Nat.le_of_ble_eq_true rfl)) (fun r_2 G_2 n_2 u_2 hp_2 hn_2 hm_2 hu_2 => ?_)
                  obtain ⟨rfl, rfl, rfl, rfl⟩ := hp_2
                  refine g_iconst (v := 1) hC dX5_stops_34 rfl ?_
                  refine g_icmp_ne hC dX5_stops_35 (tgt := 67) (by decide) (fun c_35 => ?_) (fun c_35 => ?_)
                  · refine g_iincN (L' := [(4, .int (nI (q + 1))), (3, .int (-1)), (2, .int (nI kn)), (0, .ref m0)]) hC 1 q dX5_stops_67 (k := 0) rfl (by decide) (by decide) rfl ?_
                    refine g_goto (tgt := 19) hC dX5_stops_70 (by decide) ?_
                    have h_ := ih_i (q + 1) (by omega) (by omega)
                    have e_0 : foldN (lsS z) none (q + 1) = none := by show lsS z (foldN (lsS z) none q) q = _; rw [hf]; simp [lsS, lsB, c_35]
                    rw [e_0] at h_
                    exact h_
                  · refine g_aload_n hC dX5_stops_38 rfl 3 rfl ?_
                    refine m_get (v := .ref (m0 + 10)) hC 22 (by decide) q3543 rfl dX5_stops_39 ?_
                    refine g_iload hC dX5_stops_42 0 rfl ?_
                    refine m_ald (v := z.1 22 q) hC 22 q rfl (show q < 12 from by omega) (by omega) rfl dX5_stops_44 ?_
                    refine g_iconst (v := (-1)) hC dX5_stops_45 rfl ?_
                    refine g_icmp_eq hC dX5_stops_46 (tgt := 67) (by decide) (fun c_46 => ?_) (fun c_46 => ?_)
                    · refine g_iincN (L' := [(4, .int (nI (q + 1))), (3, .int (-1)), (2, .int (nI kn)), (0, .ref m0)]) hC 1 q dX5_stops_67 (k := 0) rfl (by decide) (by decide) rfl ?_
                      refine g_goto (tgt := 19) hC dX5_stops_70 (by decide) ?_
                      have h_ := ih_i (q + 1) (by omega) (by omega)
                      have e_0 : foldN (lsS z) none (q + 1) = none := by show lsS z (foldN (lsS z) none q) q = _; rw [hf]; simp [lsS, lsB, c_35, c_46]
                      rw [e_0] at h_
                      exact h_
                    · refine g_iload_n hC dX5_stops_49 rfl 1 rfl ?_
                      refine g_iconst (v := (-1)) hC dX5_stops_50 rfl ?_
                      refine g_icmp_eq hC dX5_stops_51 (tgt := 64) (by decide) (fun c_51 => ?_) (fun c_51 => ?_)
                      · refine g_iload hC dX5_stops_64 0 rfl ?_
                        refine g_istore_n (L' := [(3, .int (nI q)), (4, .int (nI q)), (2, .int (nI kn)), (0, .ref m0)]) hC dX5_stops_66 rfl (by decide) rfl ?_
                        refine g_iincN (L' := [(4, .int (nI (q + 1))), (3, .int (nI q)), (2, .int (nI kn)), (0, .ref m0)]) hC 1 q dX5_stops_67 (k := 1) rfl (by decide) (by decide) rfl ?_
                        refine g_goto (tgt := 19) hC dX5_stops_70 (by decide) ?_
                        have h_ := ih_i (q + 1) (by omega) (by omega)
                        have e_0 : foldN (lsS z) none (q + 1) = some q := by show lsS z (foldN (lsS z) none q) q = _; rw [hf]; simp [lsS, lsB, c_35, c_46, c_51]
                        rw [e_0] at h_
                        exact h_
                      · exact absurd rfl c_51
              · have hf2 := (lsS_lt hf).1
                refine g_iload hC dX5_stops_19 0 rfl ?_
                refine g_aload_n hC dX5_stops_21 rfl 3 rfl ?_
                refine m_get (v := .int (nI N)) hC 0 (by decide) q3521 (congrArg (fun z => some (Value.int z)) hz0) dX5_stops_22 ?_
                refine g_icmp_geN hC q N (by omega) (by omega) dX5_stops_25 (tgt := 73) (by decide) (fun c_25 => ?_) (fun c_25 => ?_)
                · have ee_ : N = q := by omega
                  subst ee_
                  refine g_iload_n hC dX5_stops_73 rfl 1 rfl ?_
                  refine g_iconst (v := (-1)) hC dX5_stops_74 rfl ?_
                  refine g_icmp_ne hC dX5_stops_75 (tgt := 81) (by decide) (fun c_75 => ?_) (fun c_75 => ?_)
                  · refine g_aload_n hC dX5_stops_81 rfl 3 rfl ?_
                    refine m_get (v := .ref (m0 + 1)) hC 1 (by decide) q3522 rfl dX5_stops_82 ?_
                    refine g_iload_n hC dX5_stops_85 rfl 1 rfl ?_
                    refine g_iconst (v := 0) hC dX5_stops_86 rfl ?_
                    refine m_ast hC 1 b rfl (show b < 108 from by omega) (by omega) hz dX5_stops_87 ?_
                    refine g_aload_n hC dX5_stops_88 rfl 3 rfl ?_
                    refine g_sipush (v := 200) hC dX5_stops_89 (by decide) ?_
                    refine g_iload_n hC dX5_stops_92 rfl 1 rfl ?_
                    refine g_iaddN hC 200 b dX5_stops_93 ?_
                    refine g_callv0 hC (g_runV hC (met_X5_logs hz (nI (200 + b)) ((mu_nk (by decide)).trans hgz) (by omega)) kc_X5 mG_o (lw_V q3823 q3825 qs65 q89 q3826) rfl md_X5_logs dX5_stops_94 rfl ⟨by omega, by omega⟩ (by omega) (by omega) rfl (Nat.le_of_ble_eq_true rfl)) (fun G_3 n_3 u_3 hp_3 hn_3 hm_3 hu_3 => ?_)
                    obtain ⟨rfl, rfl, rfl⟩ := hp_3
                    obtain ⟨g1, e1, e2, e3⟩ := lgG_20 (z := mu z 1 b 0) (x := nI (200 + b)) (g := g) ((mu_nk (by decide)).trans hgz) (by omega)
                    refine g_iincN (L' := [(2, .int (nI (kn + 1))), (4, .int (nI N)), (3, .int (nI b)), (0, .ref m0)]) hC 1 kn dX5_stops_97 (k := 2) rfl (by decide) (by decide) rfl ?_
                    refine g_goto (tgt := 9) hC dX5_stops_100 (by decide) ?_
                    refine V.sub [0, 2, 3] rfl ?_
                    exact ih_o (stS z b) (some b) (kn + 1) f g1 (((lgG_ne (by decide) (by decide)).trans (mu_nk (by decide))).trans hz0) (by rw [← hfin]; show stI N f (stS z b) (kn + 1) = stI N (f + 1) z kn; rw [show stI N (f + 1) z kn = stI N f (stS z b) (kn + 1) from by rw [stI, lastF, hf]]) (fun _ => by have := rn_st (lsS_lt hf).1 (lsS_lt hf).2; have := hcnt (by simp); omega) (e1) (by omega) (by omega) (fun _ h => by cases h; exact (lsS_lt hf).1) (by (refine Nat.lt_of_le_of_lt (Nat.add_le_add_left (isS_1 _) _) ?_); (have e1_ : (some r).isSome.toNat = 1 := rfl); omega)
                  · first | exact absurd c_75 (nI_m1 (by omega)) | exact absurd (Classical.not_not.mp c_75) (nI_m1 (by omega))
                · refine g_aload_n hC dX5_stops_28 rfl 3 rfl ?_
                  refine g_iload hC dX5_stops_29 0 rfl ?_
                  refine g_calli0 hC (g_runV hC (met_X5_state hz q (by omega)) kc_X5 mG_o (lw_V q3708 q3710 qs44 q89 q3711) rfl md_X5_state dX5_stops_31 rfl ⟨by omega, by omega⟩ (by omega) (by omega) rfl (Nat.le_of_ble_eq_true rfl)) (fun r_4 G_4 n_4 u_4 hp_4 hn_4 hm_4 hu_4 => ?_)
                  obtain ⟨rfl, rfl, rfl, rfl⟩ := hp_4
                  refine g_iconst (v := 1) hC dX5_stops_34 rfl ?_
                  refine g_icmp_ne hC dX5_stops_35 (tgt := 67) (by decide) (fun c_35 => ?_) (fun c_35 => ?_)
                  · refine g_iincN (L' := [(4, .int (nI (q + 1))), (3, .int (nI b)), (2, .int (nI kn)), (0, .ref m0)]) hC 1 q dX5_stops_67 (k := 0) rfl (by decide) (by decide) rfl ?_
                    refine g_goto (tgt := 19) hC dX5_stops_70 (by decide) ?_
                    have h_ := ih_i (q + 1) (by omega) (by omega)
                    have e_0 : foldN (lsS z) none (q + 1) = some b := by show lsS z (foldN (lsS z) none q) q = _; rw [hf]; simp [lsS, lsB, c_35]
                    rw [e_0] at h_
                    exact h_
                  · refine g_aload_n hC dX5_stops_38 rfl 3 rfl ?_
                    refine m_get (v := .ref (m0 + 10)) hC 22 (by decide) q3543 rfl dX5_stops_39 ?_
                    refine g_iload hC dX5_stops_42 0 rfl ?_
                    refine m_ald (v := z.1 22 q) hC 22 q rfl (show q < 12 from by omega) (by omega) rfl dX5_stops_44 ?_
                    refine g_iconst (v := (-1)) hC dX5_stops_45 rfl ?_
                    refine g_icmp_eq hC dX5_stops_46 (tgt := 67) (by decide) (fun c_46 => ?_) (fun c_46 => ?_)
                    · refine g_iincN (L' := [(4, .int (nI (q + 1))), (3, .int (nI b)), (2, .int (nI kn)), (0, .ref m0)]) hC 1 q dX5_stops_67 (k := 0) rfl (by decide) (by decide) rfl ?_
                      refine g_goto (tgt := 19) hC dX5_stops_70 (by decide) ?_
                      have h_ := ih_i (q + 1) (by omega) (by omega)
                      have e_0 : foldN (lsS z) none (q + 1) = some b := by show lsS z (foldN (lsS z) none q) q = _; rw [hf]; simp [lsS, lsB, c_35, c_46]
                      rw [e_0] at h_
                      exact h_
                    · refine g_iload_n hC dX5_stops_49 rfl 1 rfl ?_
                      refine g_iconst (v := (-1)) hC dX5_stops_50 rfl ?_
                      refine g_icmp_eq hC dX5_stops_51 (tgt := 64) (by decide) (fun c_51 => ?_) (fun c_51 => ?_)
                      · first | exact absurd c_51 (nI_m1 (by omega)) | exact absurd (Classical.not_not.mp c_51) (nI_m1 (by omega))
                      · refine g_aload_n hC dX5_stops_54 rfl 3 rfl ?_
                        refine g_iload_n hC dX5_stops_55 rfl 1 rfl ?_
                        refine g_iload hC dX5_stops_56 0 rfl ?_
                        refine g_calli0 hC (g_runV hC (met_X5_isOlder hz b q (by omega) (by omega)) kc_X5 mG_o (lw_V q3783 q3785 qs56 q89 q3786) rfl md_X5_isOlder dX5_stops_58 rfl ⟨by omega, by omega⟩ (by omega) (by omega) rfl (Nat.le_of_ble_eq_true rfl)) (fun r_5 G_5 n_5 u_5 hp_5 hn_5 hm_5 hu_5 => ?_)
                        obtain ⟨rfl, rfl, rfl, rfl⟩ := hp_5
                        refine g_if_eqB hC (oldF z  b q) dX5_stops_61 (tgt := 67) (by decide) (fun c_61 => ?_) (fun c_61 => ?_)
                        · refine g_iincN (L' := [(4, .int (nI (q + 1))), (3, .int (nI b)), (2, .int (nI kn)), (0, .ref m0)]) hC 1 q dX5_stops_67 (k := 0) rfl (by decide) (by decide) rfl ?_
                          refine g_goto (tgt := 19) hC dX5_stops_70 (by decide) ?_
                          have h_ := ih_i (q + 1) (by omega) (by omega)
                          have e_0 : foldN (lsS z) none (q + 1) = some b := by show lsS z (foldN (lsS z) none q) q = _; rw [hf]; simp [lsS, lsB, c_35, c_46, c_51, c_61]
                          rw [e_0] at h_
                          exact h_
                        · refine g_iload hC dX5_stops_64 0 rfl ?_
                          refine g_istore_n (L' := [(3, .int (nI q)), (4, .int (nI q)), (2, .int (nI kn)), (0, .ref m0)]) hC dX5_stops_66 rfl (by decide) rfl ?_
                          refine g_iincN (L' := [(4, .int (nI (q + 1))), (3, .int (nI q)), (2, .int (nI kn)), (0, .ref m0)]) hC 1 q dX5_stops_67 (k := 1) rfl (by decide) (by decide) rfl ?_
                          refine g_goto (tgt := 19) hC dX5_stops_70 (by decide) ?_
                          have h_ := ih_i (q + 1) (by omega) (by omega)
                          have e_0 : foldN (lsS z) none (q + 1) = some q := by show lsS z (foldN (lsS z) none q) q = _; rw [hf]; simp [lsS, lsB, c_35, c_46, c_51, c_61]
                          rw [e_0] at h_
                          exact h_
          exact hl_19 (N - 0 + 1) 0 (by omega) (by omega)
  refine V.sub [1, 0, 2] rfl ?_
  exact hl_9 (13 + (some p_).isSome.toNat + 1) z0 (some p_) 0 13 g0 (hz01) (rfl) (fun _ => hun) (hgz0) (by omega) (by omega) (fun q h => by cases h; exact hp2) (by omega)
set_option maxHeartbeats 1000000 in
theorem met_X5_stop {Y : YT} {l : Launch} {m0 n u : Nat} {σ : MS} {B : AH} (hz : yz Y ≤ m0) (x_ : Int32) {N g0 : Nat} (hN : σ.1 0 0 = nI N) (hN2 : N ≤ 12) (hg0 : σ.1 20 0 = nI g0) (hg1 : g0 < 1900000000) : GM Y l yX5_stop (ws_ yX5_stop cX5_stop 2 (some FieldType.int)) 5 117 [.ref m0, .int x_] (mG Y m0 σ B) n u 0 0 (pI (fun r G' n' u' => (stopF σ N x_).1 = r ∧ mG Y m0 ((stopF σ N x_).2) B = G' ∧ n = n' ∧ u = u')) noX := by
  refine GM.intro (own := RX5) rfl (by decide +kernel) (Nat.le_of_ble_eq_true rfl) ?_
  intro p e s m args below meth c R Q hC hr hnm hF hL hE
  have hE1 := hE.1
  have hE2 := hE.2.1
  show V Y p l e R s m args below meth c 2 n u (mG Y m0 σ B) n u Q 0 [(0, .ref m0), (1, .int x_)] []
  refine g_aload_n hC dX5_stop_0 rfl 0 rfl ?_
  refine g_iload_n hC dX5_stop_1 rfl 1 rfl ?_
  refine g_calli0 hC (g_runV hC (met_X5_isPlug hz x_ ) kc_X5 mG_o (lw_V q3668 q3670 qs40 q89 q3671) rfl md_X5_isPlug dX5_stop_2 rfl ⟨by omega, by omega⟩ (by omega) (by omega) rfl (Nat.le_of_ble_eq_true rfl)) (fun r_1 G_1 n_1 u_1 hp_1 hn_1 hm_1 hu_1 => ?_)
  obtain ⟨rfl, rfl, rfl, rfl⟩ := hp_1
  refine g_if_neB hC (wi x_ 0 (σ.1 0 0 - 1)) dX5_stop_5 (tgt := 14) (by decide) (fun c_5 => ?_) (fun c_5 => ?_)
  · obtain ⟨j, hj, rfl⟩ := wi_pl hN (by omega) c_5
    have cl_j : (nI j).toNatClampNeg = j := nI_clamp (by omega)
    refine g_aload_n hC dX5_stop_14 rfl 0 rfl ?_
    refine g_iload_n hC dX5_stop_15 rfl 1 rfl ?_
    refine g_calli0 hC (g_runV hC (met_X5_state hz j (by omega)) kc_X5 mG_o (lw_V q3708 q3710 qs44 q89 q3711) rfl md_X5_state dX5_stop_16 rfl ⟨by omega, by omega⟩ (by omega) (by omega) rfl (Nat.le_of_ble_eq_true rfl)) (fun r_2 G_2 n_2 u_2 hp_2 hn_2 hm_2 hu_2 => ?_)
    obtain ⟨rfl, rfl, rfl, rfl⟩ := hp_2
    refine g_iconst (v := 1) hC dX5_stop_19 rfl ?_
    refine g_icmp_ne hC dX5_stop_20 (tgt := 31) (by decide) (fun c_20 => ?_) (fun c_20 => ?_)
    · refine g_aload_n hC dX5_stop_31 rfl 0 rfl ?_
      refine g_bipush (v := (-6)) hC dX5_stop_32 (by decide) ?_
      refine g_calli0 hC (g_runV hC (met_X5_no hz 6 (by omega)) kc_X5 mG_o (lw_V q3640 q3642 qs37 q89 q3643) rfl md_X5_no dX5_stop_34 rfl ⟨by omega, by omega⟩ (by omega) (by omega) rfl (Nat.le_of_ble_eq_true rfl)) (fun r_3 G_3 n_3 u_3 hp_3 hn_3 hm_3 hu_3 => ?_)
      obtain ⟨rfl, rfl, rfl, rfl⟩ := hp_3
      refine g_iret hC hr rfl ⟨_, rfl, ?_⟩ (by omega) (by omega) hE dX5_stop_37
      have h9 : stopF σ N (nI j) = (-(nI 6), mNo σ 6) := by
        first | (simp [stopF, c_5, cl_j, c_20]; done) | (simp [stopF, c_5, cl_j, c_20]; rfl)
      exact ⟨by rw [h9], by rw [h9], rfl, rfl⟩
    · refine g_aload_n hC dX5_stop_23 rfl 0 rfl ?_
      refine g_iload_n hC dX5_stop_24 rfl 1 rfl ?_
      refine g_calli0 hC (g_runV hC (met_X5_stops hz j (hN) (hN2) (by omega) (hg0) (by omega)) kc_X5 mG_o (lw_V q3835 q3837 qs66 q89 q3838) rfl md_X5_stops dX5_stop_25 rfl ⟨by omega, by omega⟩ (by omega) (by omega) rfl (Nat.le_of_ble_eq_true rfl)) (fun r_4 G_4 n_4 u_4 hp_4 hn_4 hm_4 hu_4 => ?_)
      obtain ⟨rfl, rfl, rfl, rfl⟩ := hp_4
      refine g_goto (tgt := 37) hC dX5_stop_28 (by decide) ?_
      refine g_iret hC hr rfl ⟨_, rfl, ?_⟩ (by omega) (by omega) hE dX5_stop_37
      have h9 : stopF σ N (nI j) = (nI ((stopsF N σ j).1), (stopsF N σ j).2) := by
        first | (simp [stopF, c_5, cl_j, c_20]; done) | (simp [stopF, c_5, cl_j, c_20]; rfl)
      exact ⟨by rw [h9], by rw [h9], rfl, rfl⟩
  · refine g_aload_n hC dX5_stop_8 rfl 0 rfl ?_
    refine g_iconst (v := (-1)) hC dX5_stop_9 rfl ?_
    refine g_calli0 hC (g_runV hC (met_X5_no hz 1 (by omega)) kc_X5 mG_o (lw_V q3640 q3642 qs37 q89 q3643) rfl md_X5_no dX5_stop_10 rfl ⟨by omega, by omega⟩ (by omega) (by omega) rfl (Nat.le_of_ble_eq_true rfl)) (fun r_5 G_5 n_5 u_5 hp_5 hn_5 hm_5 hu_5 => ?_)
    obtain ⟨rfl, rfl, rfl, rfl⟩ := hp_5
    refine g_iret hC hr rfl ⟨_, rfl, ?_⟩ (by omega) (by omega) hE dX5_stop_13
    have h9 : stopF σ N x_ = (-(nI 1), mNo σ 1) := by
      first | (simp [stopF, c_5]; done) | (simp [stopF, c_5]; rfl)
    exact ⟨by rw [h9], by rw [h9], rfl, rfl⟩
set_option maxHeartbeats 1000000 in
theorem met_X5_wave {Y : YT} {l : Launch} {m0 n u : Nat} {σ : MS} {B : AH} (hz : yz Y ≤ m0) (x_ : Int32) (y_ : Int32) {N : Nat} (hN : σ.1 0 0 = nI N) (hN2 : N ≤ 12) : GM Y l yX5_wave (ws_ yX5_wave cX5_wave 3 (some FieldType.int)) 4 93 [.ref m0, .int x_, .int y_] (mG Y m0 σ B) n u 0 0 (pI (fun r G' n' u' => (waveF σ N x_ y_).1 = r ∧ mG Y m0 ((waveF σ N x_ y_).2) B = G' ∧ n = n' ∧ u = u')) noX := by
  refine GM.intro (own := RX5) rfl (by decide +kernel) (Nat.le_of_ble_eq_true rfl) ?_
  intro p e s m args below meth c R Q hC hr hnm hF hL hE
  have hE1 := hE.1
  have hE2 := hE.2.1
  show V Y p l e R s m args below meth c 3 n u (mG Y m0 σ B) n u Q 0 [(0, .ref m0), (1, .int x_), (2, .int y_)] []
  refine g_aload_n hC dX5_wave_0 rfl 0 rfl ?_
  refine g_iload_n hC dX5_wave_1 rfl 1 rfl ?_
  refine g_calli0 hC (g_runV hC (met_X5_isPlug hz x_ ) kc_X5 mG_o (lw_V q3668 q3670 qs40 q89 q3671) rfl md_X5_isPlug dX5_wave_2 rfl ⟨by omega, by omega⟩ (by omega) (by omega) rfl (Nat.le_of_ble_eq_true rfl)) (fun r_1 G_1 n_1 u_1 hp_1 hn_1 hm_1 hu_1 => ?_)
  obtain ⟨rfl, rfl, rfl, rfl⟩ := hp_1
  refine g_if_eqB hC (wi x_ 0 (σ.1 0 0 - 1)) dX5_wave_5 (tgt := 16) (by decide) (fun c_5 => ?_) (fun c_5 => ?_)
  · refine g_aload_n hC dX5_wave_16 rfl 0 rfl ?_
    refine g_iconst (v := (-1)) hC dX5_wave_17 rfl ?_
    refine g_calli0 hC (g_runV hC (met_X5_no10 hz 1 (by omega)) kc_X5 mG_o (lw_V q3756 q3758 qs52 q89 q3759) rfl md_X5_no10 dX5_wave_18 rfl ⟨by omega, by omega⟩ (by omega) (by omega) rfl (Nat.le_of_ble_eq_true rfl)) (fun r_2 G_2 n_2 u_2 hp_2 hn_2 hm_2 hu_2 => ?_)
    obtain ⟨rfl, rfl, rfl, rfl⟩ := hp_2
    refine g_iret hC hr rfl ⟨_, rfl, ?_⟩ (by omega) (by omega) hE dX5_wave_21
    have h9 : waveF σ N x_ y_ = (-(nI 1) - 10, mNo σ 1) := by
      first | (simp [waveF, c_5]; done) | (simp [waveF, c_5]; rfl)
    exact ⟨by rw [h9], by rw [h9], rfl, rfl⟩
  · obtain ⟨j, hj, rfl⟩ := wi_pl hN (by omega) c_5
    have cl_j : (nI j).toNatClampNeg = j := nI_clamp (by omega)
    refine g_aload_n hC dX5_wave_8 rfl 0 rfl ?_
    refine g_iload_n hC dX5_wave_9 rfl 2 rfl ?_
    refine g_calli0 hC (g_runV hC (met_X5_isPlug hz y_ ) kc_X5 mG_o (lw_V q3668 q3670 qs40 q89 q3671) rfl md_X5_isPlug dX5_wave_10 rfl ⟨by omega, by omega⟩ (by omega) (by omega) rfl (Nat.le_of_ble_eq_true rfl)) (fun r_3 G_3 n_3 u_3 hp_3 hn_3 hm_3 hu_3 => ?_)
    obtain ⟨rfl, rfl, rfl, rfl⟩ := hp_3
    refine g_if_neB hC (wi y_ 0 (σ.1 0 0 - 1)) dX5_wave_13 (tgt := 22) (by decide) (fun c_13 => ?_) (fun c_13 => ?_)
    · obtain ⟨k, hk, rfl⟩ := wi_pl hN (by omega) c_13
      have cl_k : (nI k).toNatClampNeg = k := nI_clamp (by omega)
      refine g_aload_n hC dX5_wave_22 rfl 0 rfl ?_
      refine g_iload_n hC dX5_wave_23 rfl 1 rfl ?_
      refine g_calli0 hC (g_runV hC (met_X5_state hz j (by omega)) kc_X5 mG_o (lw_V q3708 q3710 qs44 q89 q3711) rfl md_X5_state dX5_wave_24 rfl ⟨by omega, by omega⟩ (by omega) (by omega) rfl (Nat.le_of_ble_eq_true rfl)) (fun r_4 G_4 n_4 u_4 hp_4 hn_4 hm_4 hu_4 => ?_)
      obtain ⟨rfl, rfl, rfl, rfl⟩ := hp_4
      refine g_iconst (v := 1) hC dX5_wave_27 rfl ?_
      refine g_icmp_eq hC dX5_wave_28 (tgt := 38) (by decide) (fun c_28 => ?_) (fun c_28 => ?_)
      · refine g_aload_n hC dX5_wave_38 rfl 0 rfl ?_
        refine g_iload_n hC dX5_wave_39 rfl 1 rfl ?_
        refine g_callv0 hC (g_runV hC (met_X5_waves hz j (hN) (hN2) (by omega)) kc_X5 mG_o (lw_V q3839 q3841 qs67 q89 q3842) rfl md_X5_waves dX5_wave_40 rfl ⟨by omega, by omega⟩ (by omega) (by omega) rfl (Nat.le_of_ble_eq_true rfl)) (fun G_5 n_5 u_5 hp_5 hn_5 hm_5 hu_5 => ?_)
        obtain ⟨rfl, rfl, rfl⟩ := hp_5
        refine g_aload_n hC dX5_wave_43 rfl 0 rfl ?_
        refine m_get (v := .ref (m0 + 10)) hC 22 (by decide) q3543 rfl dX5_wave_44 ?_
        refine g_iload_n hC dX5_wave_47 rfl 2 rfl ?_
        refine m_ald (v := (wavesF N σ j).1 22 k) hC 22 k rfl (show k < 12 from by omega) (by omega) rfl dX5_wave_48 ?_
        refine g_iret hC hr rfl ⟨_, rfl, ?_⟩ (by omega) (by omega) hE dX5_wave_49
        have h9 : waveF σ N (nI j) (nI k) = ((wavesF N σ j).1 22 k, wavesF N σ j) := by
          first | (simp [waveF, c_5, cl_j, c_13, cl_k, c_28]; done) | (simp [waveF, c_5, cl_j, c_13, cl_k, c_28]; rfl)
        exact ⟨by rw [h9], by rw [h9], rfl, rfl⟩
      · refine g_aload_n hC dX5_wave_31 rfl 0 rfl ?_
        refine g_bipush (v := (-6)) hC dX5_wave_32 (by decide) ?_
        refine g_calli0 hC (g_runV hC (met_X5_no10 hz 6 (by omega)) kc_X5 mG_o (lw_V q3756 q3758 qs52 q89 q3759) rfl md_X5_no10 dX5_wave_34 rfl ⟨by omega, by omega⟩ (by omega) (by omega) rfl (Nat.le_of_ble_eq_true rfl)) (fun r_6 G_6 n_6 u_6 hp_6 hn_6 hm_6 hu_6 => ?_)
        obtain ⟨rfl, rfl, rfl, rfl⟩ := hp_6
        refine g_iret hC hr rfl ⟨_, rfl, ?_⟩ (by omega) (by omega) hE dX5_wave_37
        have h9 : waveF σ N (nI j) (nI k) = (-(nI 6) - 10, mNo σ 6) := by
          first | (simp [waveF, c_5, cl_j, c_13, cl_k, c_28]; done) | (simp [waveF, c_5, cl_j, c_13, cl_k, c_28]; rfl)
        exact ⟨by rw [h9], by rw [h9], rfl, rfl⟩
    · refine g_aload_n hC dX5_wave_16 rfl 0 rfl ?_
      refine g_iconst (v := (-1)) hC dX5_wave_17 rfl ?_
      refine g_calli0 hC (g_runV hC (met_X5_no10 hz 1 (by omega)) kc_X5 mG_o (lw_V q3756 q3758 qs52 q89 q3759) rfl md_X5_no10 dX5_wave_18 rfl ⟨by omega, by omega⟩ (by omega) (by omega) rfl (Nat.le_of_ble_eq_true rfl)) (fun r_7 G_7 n_7 u_7 hp_7 hn_7 hm_7 hu_7 => ?_)
      obtain ⟨rfl, rfl, rfl, rfl⟩ := hp_7
      refine g_iret hC hr rfl ⟨_, rfl, ?_⟩ (by omega) (by omega) hE dX5_wave_21
      have h9 : waveF σ N (nI j) y_ = (-(nI 1) - 10, mNo σ 1) := by
        first | (simp [waveF, c_5, cl_j, c_13]; done) | (simp [waveF, c_5, cl_j, c_13]; rfl)
      exact ⟨by rw [h9], by rw [h9], rfl, rfl⟩
set_option maxHeartbeats 1000000 in
theorem met_X5_remove {Y : YT} {l : Launch} {m0 n u : Nat} {σ : MS} {B : AH} (hz : yz Y ≤ m0) (x_ : Int32) {N g0 : Nat} (hN : σ.1 0 0 = nI N) (hN2 : N ≤ 12) (hg0 : σ.1 20 0 = nI g0) (hg1 : g0 < 1900000000) : GM Y l yX5_remove (ws_ yX5_remove cX5_remove 3 (some FieldType.int)) 5 117 [.ref m0, .int x_] (mG Y m0 σ B) n u 0 0 (pI (fun r G' n' u' => (removeF σ N x_).1 = r ∧ mG Y m0 ((removeF σ N x_).2) B = G' ∧ n = n' ∧ u = u')) noX := by
  refine GM.intro (own := RX5) rfl (by decide +kernel) (Nat.le_of_ble_eq_true rfl) ?_
  intro p e s m args below meth c R Q hC hr hnm hF hL hE
  have hE1 := hE.1
  have hE2 := hE.2.1
  show V Y p l e R s m args below meth c 3 n u (mG Y m0 σ B) n u Q 0 [(0, .ref m0), (1, .int x_)] []
  refine g_aload_n hC dX5_remove_0 rfl 0 rfl ?_
  refine g_iload_n hC dX5_remove_1 rfl 1 rfl ?_
  refine g_calli0 hC (g_runV hC (met_X5_isPlug hz x_ ) kc_X5 mG_o (lw_V q3668 q3670 qs40 q89 q3671) rfl md_X5_isPlug dX5_remove_2 rfl ⟨by omega, by omega⟩ (by omega) (by omega) rfl (Nat.le_of_ble_eq_true rfl)) (fun r_1 G_1 n_1 u_1 hp_1 hn_1 hm_1 hu_1 => ?_)
  obtain ⟨rfl, rfl, rfl, rfl⟩ := hp_1
  refine g_if_neB hC (wi x_ 0 (σ.1 0 0 - 1)) dX5_remove_5 (tgt := 14) (by decide) (fun c_5 => ?_) (fun c_5 => ?_)
  · obtain ⟨j, hj, rfl⟩ := wi_pl hN (by omega) c_5
    have cl_j : (nI j).toNatClampNeg = j := nI_clamp (by omega)
    refine g_aload_n hC dX5_remove_14 rfl 0 rfl ?_
    refine g_iload_n hC dX5_remove_15 rfl 1 rfl ?_
    refine g_calli0 hC (g_runV hC (met_X5_state hz j (by omega)) kc_X5 mG_o (lw_V q3708 q3710 qs44 q89 q3711) rfl md_X5_state dX5_remove_16 rfl ⟨by omega, by omega⟩ (by omega) (by omega) rfl (Nat.le_of_ble_eq_true rfl)) (fun r_2 G_2 n_2 u_2 hp_2 hn_2 hm_2 hu_2 => ?_)
    obtain ⟨rfl, rfl, rfl, rfl⟩ := hp_2
    refine g_iconst (v := 3) hC dX5_remove_19 rfl ?_
    refine g_icmp_ne hC dX5_remove_20 (tgt := 30) (by decide) (fun c_20 => ?_) (fun c_20 => ?_)
    · refine g_aload_n hC dX5_remove_30 rfl 0 rfl ?_
      refine g_iload_n hC dX5_remove_31 rfl 1 rfl ?_
      refine g_calli0 hC (g_runV hC (met_X5_state hz j (by omega)) kc_X5 mG_o (lw_V q3708 q3710 qs44 q89 q3711) rfl md_X5_state dX5_remove_32 rfl ⟨by omega, by omega⟩ (by omega) (by omega) rfl (Nat.le_of_ble_eq_true rfl)) (fun r_3 G_3 n_3 u_3 hp_3 hn_3 hm_3 hu_3 => ?_)
      obtain ⟨rfl, rfl, rfl, rfl⟩ := hp_3
      refine g_iconst (v := 1) hC dX5_remove_35 rfl ?_
      refine g_icmp_ne hC dX5_remove_36 (tgt := 47) (by decide) (fun c_36 => ?_) (fun c_36 => ?_)
      · refine g_iconst (v := 0) hC dX5_remove_47 rfl ?_
        refine g_istore_n (L' := [(2, .int 0), (0, .ref m0), (1, .int (nI j))]) hC dX5_remove_48 rfl (by decide) rfl ?_
        refine g_aload_n hC dX5_remove_49 rfl 1 rfl ?_
        refine m_get (v := .ref (m0 + 1)) hC 1 (by decide) q3522 rfl dX5_remove_50 ?_
        refine g_iload_n hC dX5_remove_53 rfl 2 rfl ?_
        refine g_iconst (v := 3) hC dX5_remove_54 rfl ?_
        refine m_ast hC 1 j rfl (show j < 108 from by omega) (by omega) hz dX5_remove_55 ?_
        refine g_iload_n hC dX5_remove_56 rfl 0 rfl ?_
        refine g_iret hC hr rfl ⟨_, rfl, ?_⟩ (by omega) (by omega) hE dX5_remove_57
        have h9 : removeF σ N (nI j) = (0, (mu σ 1 j 3)) := by
          first | (simp [removeF, c_5, cl_j, c_20, c_36]; done) | (simp [removeF, c_5, cl_j, c_20, c_36]; rfl)
        exact ⟨by rw [h9], by rw [h9], rfl, rfl⟩
      · refine g_aload_n hC dX5_remove_39 rfl 0 rfl ?_
        refine g_iload_n hC dX5_remove_40 rfl 1 rfl ?_
        refine g_calli0 hC (g_runV hC (met_X5_stops hz j (hN) (hN2) (by omega) (hg0) (by omega)) kc_X5 mG_o (lw_V q3835 q3837 qs66 q89 q3838) rfl md_X5_stops dX5_remove_41 rfl ⟨by omega, by omega⟩ (by omega) (by omega) rfl (Nat.le_of_ble_eq_true rfl)) (fun r_4 G_4 n_4 u_4 hp_4 hn_4 hm_4 hu_4 => ?_)
        obtain ⟨rfl, rfl, rfl, rfl⟩ := hp_4
        refine g_goto (tgt := 48) hC dX5_remove_44 (by decide) ?_
        refine g_istore_n (L' := [(2, .int (nI ((stopsF N σ j).1))), (0, .ref m0), (1, .int (nI j))]) hC dX5_remove_48 rfl (by decide) rfl ?_
        refine g_aload_n hC dX5_remove_49 rfl 1 rfl ?_
        refine m_get (v := .ref (m0 + 1)) hC 1 (by decide) q3522 rfl dX5_remove_50 ?_
        refine g_iload_n hC dX5_remove_53 rfl 2 rfl ?_
        refine g_iconst (v := 3) hC dX5_remove_54 rfl ?_
        refine m_ast hC 1 j rfl (show j < 108 from by omega) (by omega) hz dX5_remove_55 ?_
        refine g_iload_n hC dX5_remove_56 rfl 0 rfl ?_
        refine g_iret hC hr rfl ⟨_, rfl, ?_⟩ (by omega) (by omega) hE dX5_remove_57
        have h9 : removeF σ N (nI j) = (nI ((stopsF N σ j).1), (mu ((stopsF N σ j).2) 1 j 3)) := by
          first | (simp [removeF, c_5, cl_j, c_20, c_36]; done) | (simp [removeF, c_5, cl_j, c_20, c_36]; rfl)
        exact ⟨by rw [h9], by rw [h9], rfl, rfl⟩
    · refine g_aload_n hC dX5_remove_23 rfl 0 rfl ?_
      refine g_bipush (v := (-6)) hC dX5_remove_24 (by decide) ?_
      refine g_calli0 hC (g_runV hC (met_X5_no hz 6 (by omega)) kc_X5 mG_o (lw_V q3640 q3642 qs37 q89 q3643) rfl md_X5_no dX5_remove_26 rfl ⟨by omega, by omega⟩ (by omega) (by omega) rfl (Nat.le_of_ble_eq_true rfl)) (fun r_5 G_5 n_5 u_5 hp_5 hn_5 hm_5 hu_5 => ?_)
      obtain ⟨rfl, rfl, rfl, rfl⟩ := hp_5
      refine g_iret hC hr rfl ⟨_, rfl, ?_⟩ (by omega) (by omega) hE dX5_remove_29
      have h9 : removeF σ N (nI j) = (-(nI 6), mNo σ 6) := by
        first | (simp [removeF, c_5, cl_j, c_20]; done) | (simp [removeF, c_5, cl_j, c_20]; rfl)
      exact ⟨by rw [h9], by rw [h9], rfl, rfl⟩
  · refine g_aload_n hC dX5_remove_8 rfl 0 rfl ?_
    refine g_iconst (v := (-1)) hC dX5_remove_9 rfl ?_
    refine g_calli0 hC (g_runV hC (met_X5_no hz 1 (by omega)) kc_X5 mG_o (lw_V q3640 q3642 qs37 q89 q3643) rfl md_X5_no dX5_remove_10 rfl ⟨by omega, by omega⟩ (by omega) (by omega) rfl (Nat.le_of_ble_eq_true rfl)) (fun r_6 G_6 n_6 u_6 hp_6 hn_6 hm_6 hu_6 => ?_)
    obtain ⟨rfl, rfl, rfl, rfl⟩ := hp_6
    refine g_iret hC hr rfl ⟨_, rfl, ?_⟩ (by omega) (by omega) hE dX5_remove_13
    have h9 : removeF σ N x_ = (-(nI 1), mNo σ 1) := by
      first | (simp [removeF, c_5]; done) | (simp [removeF, c_5]; rfl)
    exact ⟨by rw [h9], by rw [h9], rfl, rfl⟩
set_option maxHeartbeats 1000000 in
theorem met_X5_running {Y : YT} {l : Launch} {m0 n u : Nat} {σ : MS} {B : AH} (hz : yz Y ≤ m0) (x_ : Int32) {N : Nat} (hN : σ.1 0 0 = nI N) (hN2 : N ≤ 12) : GM Y l yX5_running (ws_ yX5_running cX5_running 5 (some FieldType.int)) 2 44 [.ref m0, .int x_] (mG Y m0 σ B) n u 0 0 (pI (fun r G' n' u' => oI (firstN (isRk σ N x_) N) = r ∧ mG Y m0 σ B = G' ∧ n = n' ∧ u = u')) noX := by
  refine GM.intro (own := RX5) rfl (by decide +kernel) (Nat.le_of_ble_eq_true rfl) ?_
  intro p e s m args below meth c R Q hC hr hnm hF hL hE
  have hE1 := hE.1
  have hE2 := hE.2.1
  show V Y p l e R s m args below meth c 5 n u (mG Y m0 σ B) n u Q 0 [(0, .ref m0), (1, .int x_)] []
  refine g_iconst (v := 0) hC dX5_running_0 rfl ?_
  refine g_istore_n (L' := [(2, .int 0), (0, .ref m0), (1, .int x_)]) hC dX5_running_1 rfl (by decide) rfl ?_
  have hl_2 : ∀ (kf_ : Nat) (q : Nat), (q ≤ N) → (anyN (isRk σ N x_) q = false) → N - q < kf_ → V Y p l e R s m args below meth c 5 n u (mG Y m0 σ B) n u Q 2 [(2, .int (nI q)), (0, .ref m0), (1, .int x_)] [] := by
    intro kf_
    induction kf_ with
    | zero => intro q hio hn hk_; exact absurd hk_ (Nat.not_lt_zero _)
    | succ kf_ ih_o =>
      intro q hio hn hk_
      refine g_iload_n hC dX5_running_2 rfl 0 rfl ?_
      refine g_aload_n hC dX5_running_3 rfl 1 rfl ?_
      refine m_get (v := .int (nI N)) hC 0 (by decide) q3521 (congrArg (fun z => some (Value.int z)) hN) dX5_running_4 ?_
      refine g_icmp_geN hC q N (by omega) (by omega) dX5_running_7 (tgt := 78) (by decide) (fun c_7 => ?_) (fun c_7 => ?_)
      · have ee_ : N = q := by omega
        subst ee_
        refine g_iconst (v := (-1)) hC dX5_running_78 rfl ?_
        refine g_iret hC hr rfl ⟨_, rfl, ?_⟩ (by omega) (by omega) hE dX5_running_79
        first
        | exact ⟨by rw [firstN_none hn]; rfl, rfl, rfl, rfl⟩
        | exact ⟨by rw [firstN_at hn (show isRk σ N x_ q = true from by simp [isRk, ]) c_7]; rfl, rfl, rfl, rfl⟩
      · refine g_aload_n hC dX5_running_10 rfl 1 rfl ?_
        refine g_iload_n hC dX5_running_11 rfl 0 rfl ?_
        refine g_calli0 hC (g_runV hC (met_X5_state hz q (by omega)) kc_X5 mG_o (lw_V q3708 q3710 qs44 q89 q3711) rfl md_X5_state dX5_running_12 rfl ⟨by omega, by omega⟩ (by omega) (by omega) rfl (Nat.le_of_ble_eq_true rfl)) (fun r_1 G_1 n_1 u_1 hp_1 hn_1 hm_1 hu_1 => ?_)
        obtain ⟨rfl, rfl, rfl, rfl⟩ := hp_1
        refine g_iconst (v := 1) hC dX5_running_15 rfl ?_
        refine g_icmp_eq hC dX5_running_16 (tgt := 22) (by decide) (fun c_16 => ?_) (fun c_16 => ?_)
        · refine g_iconst (v := 0) hC dX5_running_22 rfl ?_
          refine g_istore_n (L' := [(3, .int 0), (2, .int (nI q)), (0, .ref m0), (1, .int x_)]) hC dX5_running_23 rfl (by decide) rfl ?_
          refine g_iconst (v := 0) hC dX5_running_24 rfl ?_
          refine g_istore (L' := [(4, .int 0), (3, .int 0), (2, .int (nI q)), (0, .ref m0), (1, .int x_)]) hC dX5_running_25 (by decide) rfl ?_
          have hl_27 : ∀ (kf_ : Nat) (o : Nat), (o ≤ N) → N - o < kf_ → V Y p l e R s m args below meth c 5 n u (mG Y m0 σ B) n u Q 27 [(4, .int (nI o)), (3, .int (nI (rkF σ q o))), (2, .int (nI q)), (0, .ref m0), (1, .int x_)] [] := by
            intro kf_
            induction kf_ with
            | zero => intro o hii hk_; exact absurd hk_ (Nat.not_lt_zero _)
            | succ kf_ ih_i =>
              intro o hii hk_
              have hrk := cntB_n (fun a => decide (tl σ 0 a = 1) && oldF σ a q) o
              rw [show cntB (fun a => decide (tl σ 0 a = 1) && oldF σ a q) o = rkF σ q o from rfl] at hrk
              refine g_iload hC dX5_running_27 0 rfl ?_
              refine g_aload_n hC dX5_running_29 rfl 3 rfl ?_
              refine m_get (v := .int (nI N)) hC 0 (by decide) q3521 (congrArg (fun z => some (Value.int z)) hN) dX5_running_30 ?_
              refine g_icmp_geN hC o N (by omega) (by omega) dX5_running_33 (tgt := 65) (by decide) (fun c_33 => ?_) (fun c_33 => ?_)
              · have ee_ : N = o := by omega
                subst ee_
                refine g_iload_n hC dX5_running_65 rfl 1 rfl ?_
                refine g_iload_n hC dX5_running_66 rfl 4 rfl ?_
                refine g_icmp_ne hC dX5_running_67 (tgt := 72) (by decide) (fun c_67 => ?_) (fun c_67 => ?_)
                · refine g_iincN (L' := [(2, .int (nI (q + 1))), (4, .int (nI N)), (3, .int (nI (rkF σ q N))), (0, .ref m0), (1, .int x_)]) hC 1 q dX5_running_72 (k := 2) rfl (by decide) (by decide) rfl ?_
                  refine g_goto (tgt := 2) hC dX5_running_75 (by decide) ?_
                  refine V.sub [0, 3, 4] rfl ?_
                  exact ih_o (q + 1) (by omega) (anyN_s hn (by simp [isRk, c_16, c_67])) (by omega)
                · refine g_iload_n hC dX5_running_70 rfl 2 rfl ?_
                  refine g_iret hC hr rfl ⟨_, rfl, ?_⟩ (by omega) (by omega) hE dX5_running_71
                  first
                  | exact ⟨by rw [firstN_none hn]; rfl, rfl, rfl, rfl⟩
                  | exact ⟨by rw [firstN_at hn (show isRk σ N x_ q = true from by simp [isRk, c_16, c_67]) c_7]; rfl, rfl, rfl, rfl⟩
              · refine g_aload_n hC dX5_running_36 rfl 3 rfl ?_
                refine g_iload hC dX5_running_37 0 rfl ?_
                refine g_calli0 hC (g_runV hC (met_X5_state hz o (by omega)) kc_X5 mG_o (lw_V q3708 q3710 qs44 q89 q3711) rfl md_X5_state dX5_running_39 rfl ⟨by omega, by omega⟩ (by omega) (by omega) rfl (Nat.le_of_ble_eq_true rfl)) (fun r_2 G_2 n_2 u_2 hp_2 hn_2 hm_2 hu_2 => ?_)
                obtain ⟨rfl, rfl, rfl, rfl⟩ := hp_2
                refine g_iconst (v := 1) hC dX5_running_42 rfl ?_
                refine g_icmp_ne hC dX5_running_43 (tgt := 59) (by decide) (fun c_43 => ?_) (fun c_43 => ?_)
                · refine g_iincN (L' := [(4, .int (nI (o + 1))), (3, .int (nI (rkF σ q o))), (2, .int (nI q)), (0, .ref m0), (1, .int x_)]) hC 1 o dX5_running_59 (k := 0) rfl (by decide) (by decide) rfl ?_
                  refine g_goto (tgt := 27) hC dX5_running_62 (by decide) ?_
                  have h_ := ih_i (o + 1) (by omega) (by omega)
                  have e_0 : rkF σ q (o + 1) = rkF σ q o := by first | rfl | (simp [foldN, rkF, cntB, c_7, c_16, c_33, c_43]; done)
                  rw [e_0] at h_
                  exact h_
                · refine g_aload_n hC dX5_running_46 rfl 3 rfl ?_
                  refine g_iload hC dX5_running_47 0 rfl ?_
                  refine g_iload_n hC dX5_running_49 rfl 2 rfl ?_
                  refine g_calli0 hC (g_runV hC (met_X5_isOlder hz o q (by omega) (by omega)) kc_X5 mG_o (lw_V q3783 q3785 qs56 q89 q3786) rfl md_X5_isOlder dX5_running_50 rfl ⟨by omega, by omega⟩ (by omega) (by omega) rfl (Nat.le_of_ble_eq_true rfl)) (fun r_3 G_3 n_3 u_3 hp_3 hn_3 hm_3 hu_3 => ?_)
                  obtain ⟨rfl, rfl, rfl, rfl⟩ := hp_3
                  refine g_if_eqB hC (oldF σ  o q) dX5_running_53 (tgt := 59) (by decide) (fun c_53 => ?_) (fun c_53 => ?_)
                  · refine g_iincN (L' := [(4, .int (nI (o + 1))), (3, .int (nI (rkF σ q o))), (2, .int (nI q)), (0, .ref m0), (1, .int x_)]) hC 1 o dX5_running_59 (k := 0) rfl (by decide) (by decide) rfl ?_
                    refine g_goto (tgt := 27) hC dX5_running_62 (by decide) ?_
                    have h_ := ih_i (o + 1) (by omega) (by omega)
                    have e_0 : rkF σ q (o + 1) = rkF σ q o := by first | rfl | (simp [foldN, rkF, cntB, c_7, c_16, c_33, c_43, c_53]; done)
                    rw [e_0] at h_
                    exact h_
                  · refine g_iincN (L' := [(3, .int (nI (rkF σ q o + 1))), (4, .int (nI o)), (2, .int (nI q)), (0, .ref m0), (1, .int x_)]) hC 1 (rkF σ q o) dX5_running_56 (k := 1) rfl (by decide) (by decide) rfl ?_
                    refine g_iincN (L' := [(4, .int (nI (o + 1))), (3, .int (nI (rkF σ q o + 1))), (2, .int (nI q)), (0, .ref m0), (1, .int x_)]) hC 1 o dX5_running_59 (k := 1) rfl (by decide) (by decide) rfl ?_
                    refine g_goto (tgt := 27) hC dX5_running_62 (by decide) ?_
                    have h_ := ih_i (o + 1) (by omega) (by omega)
                    have e_0 : rkF σ q (o + 1) = rkF σ q o + 1 := by first | rfl | (simp [foldN, rkF, cntB, c_7, c_16, c_33, c_43, c_53]; done)
                    rw [e_0] at h_
                    exact h_
          exact hl_27 (N - 0 + 1) 0 (by omega) (by omega)
        · refine g_goto (tgt := 72) hC dX5_running_19 (by decide) ?_
          refine g_iincN (L' := [(2, .int (nI (q + 1))), (0, .ref m0), (1, .int x_)]) hC 1 q dX5_running_72 (k := 0) rfl (by decide) (by decide) rfl ?_
          refine g_goto (tgt := 2) hC dX5_running_75 (by decide) ?_
          exact ih_o (q + 1) (by omega) (anyN_s hn (by simp [isRk, c_16])) (by omega)
  exact hl_2 (N - 0 + 1) 0 (by omega) (rfl) (by omega)
