set_option maxRecDepth 100000
/-! THE MODEL: its state as one value; its cells; rows over them -/
abbrev MS : Type := (Nat → Nat → Int32) × (Nat → Int64)
/-- scalar k: place 0 of vector k; array k: vector k; rowOf: the second part -/
def mu (σ : MS) (k i : Nat) (x : Int32) : MS := (fun k' i' => if k' = k ∧ i' = i then x else σ.1 k' i', σ.2)
def mw (σ : MS) (i : Nat) (x : Int64) : MS := (σ.1, vp_updL σ.2 i x)
theorem mu_nk {σ : MS} {k i : Nat} {x : Int32} {k' i' : Nat} (h : k' ≠ k) : (mu σ k i x).1 k' i' = σ.1 k' i' := if_neg (fun q => h q.1)
theorem mu_ni {σ : MS} {k i : Nat} {x : Int32} {k' i' : Nat} (h : i' ≠ i) : (mu σ k i x).1 k' i' = σ.1 k' i' := if_neg (fun q => h q.2)
theorem mu_hit {σ : MS} {k i : Nat} {x : Int32} : (mu σ k i x).1 k i = x := if_pos ⟨rfl, rfl⟩
theorem mu_at (σ : MS) (k i : Nat) (x : Int32) (k' i' : Nat) : (mu σ k i x).1 k' i' = if k' = k ∧ i' = i then x else σ.1 k' i' := rfl
theorem mu_2 (σ : MS) (k i : Nat) (x : Int32) : (mu σ k i x).2 = σ.2 := rfl
theorem mw_1 (σ : MS) (i : Nat) (x : Int64) : (mw σ i x).1 = σ.1 := rfl
theorem mw_at (σ : MS) (i : Nat) (x : Int64) (j : Nat) : (mw σ i x).2 j = if j = i then x else σ.2 j := rfl
def mF (m0 : Nat) (σ : MS) : List Value := [.int (σ.1 0 0), .ref (m0 + 1), .int (σ.1 2 0), .int (σ.1 3 0), .int (σ.1 4 0), .ref (m0 + 2), .ref (m0 + 3), .ref (m0 + 4), .ref (m0 + 5), .int (σ.1 9 0), .int (σ.1 10 0), .int (σ.1 11 0), .int (σ.1 12 0), .ref (m0 + 6), .int (σ.1 14 0), .ref (m0 + 7), .int (σ.1 16 0), .int (σ.1 17 0), .ref (m0 + 8), .int (σ.1 19 0), .int (σ.1 20 0), .ref (m0 + 9), .ref (m0 + 10), .int (σ.1 23 0), .ref (m0 + 11), .int (σ.1 25 0), .int (σ.1 26 0), .int (σ.1 27 0), .ref (m0 + 12), .ref (m0 + 13), .int (σ.1 30 0), .ref (m0 + 14), .int (σ.1 32 0), .ref (m0 + 15), .int (σ.1 34 0), .ref (m0 + 16), .ref (m0 + 17)]
def mo : Nat → Nat := fun k => match k with | 1 => 1 | 5 => 2 | 6 => 3 | 7 => 4 | 8 => 5 | 13 => 6 | 15 => 7 | 18 => 8 | 21 => 9 | 22 => 10 | 24 => 11 | 28 => 12 | 29 => 13 | 31 => 14 | 33 => 15 | 35 => 16 | 36 => 17 | _ => 0
def ml : Nat → Nat := fun k => match k with | 1 => 108 | 5 => 120 | 6 => 8 | 7 => 8 | 8 => 1280 | 13 => 36 | 15 => 36 | 18 => 12 | 21 => 40 | 22 => 12 | 24 => 24 | 28 => 30 | 29 => 12 | 31 => 30 | 33 => 8 | 35 => 232 | 36 => 232 | _ => 0
def mk : Nat → Nat := fun o => match o with | 1 => 1 | 2 => 5 | 3 => 6 | 4 => 7 | 5 => 8 | 6 => 13 | 7 => 15 | 8 => 18 | 9 => 21 | 10 => 22 | 11 => 24 | 12 => 28 | 13 => 29 | 14 => 31 | 15 => 33 | 16 => 35 | 17 => 36 | _ => 0
def mIs : Nat → Bool := fun k => match k with | 1 => true | 5 => true | 6 => true | 7 => true | 13 => true | 15 => true | 18 => true | 21 => true | 22 => true | 24 => true | 28 => true | 29 => true | 31 => true | 33 => true | 35 => true | 36 => true | _ => false
def mC (Y : YT) (m0 : Nat) (σ : MS) (o : Nat) : va_E := if o = 0 then .inr (5, mF m0 σ) else if o = 5 then .inl (yA Y 1, 1280, .inr (.inl σ.2)) else .inl (yA Y 0, ml (mk o), .inl (σ.1 (mk o)))
def mG (Y : YT) (m0 : Nat) (σ : MS) (B : AH) : AH := fun a => if m0 ≤ a ∧ a < m0 + 18 then some (mC Y m0 σ (a - m0)) else B a
theorem mG_in {Y : YT} {m0 : Nat} {σ : MS} {B : AH} {o : Nat} (h : o < 18) : mG Y m0 σ B (m0 + o) = some (mC Y m0 σ o) := by
  unfold mG
  rw [if_pos ⟨by omega, by omega⟩, Nat.add_sub_cancel_left]
theorem mG_o {Y : YT} {m0 : Nat} {σ : MS} {B : AH} : mG Y m0 σ B m0 = some (.inr (5, mF m0 σ)) := mG_in (o := 0) (by decide)
theorem mG_8 {Y : YT} {m0 : Nat} {σ : MS} {B : AH} : mG Y m0 σ B (m0 + 5) = some (.inl (yA Y 1, 1280, .inr (.inl σ.2))) := mG_in (o := 5) (by decide)
theorem mk_lt {k : Nat} (h : mIs k = true) : k < 37 := by
  unfold mIs at h
  split at h <;> first | (cases h; done) | decide
theorem mk_all : ∀ k, k < 37 → mIs k = true → mo k < 18 ∧ mo k ≠ 0 ∧ mo k ≠ 5 ∧ mk (mo k) = k := by decide
theorem mo_all : ∀ o, o < 18 → o ≠ 0 → mo (mk o) = o := by decide
theorem mG_a {Y : YT} {m0 : Nat} {σ : MS} {B : AH} (k : Nat) (h : mIs k = true) : mG Y m0 σ B (m0 + mo k) = some (.inl (yA Y 0, ml k, .inl (σ.1 k))) := by
  obtain ⟨h1, h2, h3, h4⟩ := mk_all k (mk_lt h) h
  rw [mG_in h1]
  unfold mC
  rw [if_neg h2, if_neg h3, h4]
theorem mG_out {Y : YT} {m0 : Nat} {σ : MS} {B : AH} {a : Nat} (h : a < m0 ∨ m0 + 18 ≤ a) : mG Y m0 σ B a = B a := by
  unfold mG
  rw [if_neg (by omega)]
/-- two states that part in one cell alone -/
theorem mG_up {Y : YT} {m0 : Nat} {σ σ' : MS} {B : AH} {o : Nat} {ex : va_E} (h : o < 18) (he : ex = mC Y m0 σ' o) (ho : ∀ j, j < 18 → j ≠ o → mC Y m0 σ j = mC Y m0 σ' j) : gU (mG Y m0 σ B) (m0 + o) ex = mG Y m0 σ' B := by
  funext a
  by_cases q : a = m0 + o
  · subst q
    rw [gU_s, mG_in h, he]
  · rw [gU_n _ q]
    unfold mG
    by_cases z : m0 ≤ a ∧ a < m0 + 18
    · rw [if_pos z, if_pos z, ho (a - m0) (by omega) (by omega)]
    · rw [if_neg z, if_neg z]
theorem mU_a {Y : YT} {m0 : Nat} {σ : MS} {B : AH} (k i : Nat) (x : Int32) (h : mIs k = true) : gU (mG Y m0 σ B) (m0 + mo k) (.inl (yA Y 0, ml k, .inl (upd (σ.1 k) i x))) = mG Y m0 (mu σ k i x) B := by
  obtain ⟨h1, h2, h3, h4⟩ := mk_all k (mk_lt h) h
  have e1 : ∀ j, j ≠ k → (mu σ k i x).1 j = σ.1 j := fun j hj => by funext q; simp [mu, hj]
  have e2 : (mu σ k i x).1 k = upd (σ.1 k) i x := by funext q; simp [mu, upd]
  have e3 : mF m0 (mu σ k i x) = mF m0 σ := by
    unfold mIs at h
    split at h <;> first | (cases h; done) | rfl
  refine mG_up h1 ?_ (fun j hj hne => ?_)
  · unfold mC
    rw [if_neg h2, if_neg h3, h4, e2]
  · unfold mC
    by_cases j0 : j = 0
    · rw [if_pos j0, if_pos j0, e3]
    · rw [if_neg j0, if_neg j0]
      by_cases j5 : j = 5
      · rw [if_pos j5, if_pos j5]; rfl
      · rw [if_neg j5, if_neg j5, e1 _ (fun q => hne (by rw [← q]; exact (mo_all j hj j0).symm))]
theorem mU_8 {Y : YT} {m0 : Nat} {σ : MS} {B : AH} (i : Nat) (x : Int64) : gU (mG Y m0 σ B) (m0 + 5) (.inl (yA Y 1, 1280, .inr (.inl (vp_updL σ.2 i x)))) = mG Y m0 (mw σ i x) B := by
  refine mG_up (by decide) rfl (fun j hj hne => ?_)
  unfold mC
  rw [if_neg hne, if_neg hne]
  rfl
theorem mF_set (m0 : Nat) (σ : MS) (k : Nat) (x : Int32) (h : k < 37) (hs : mIs k = false) (h8 : k ≠ 8) : (mF m0 σ).set k (.int x) = mF m0 (mu σ k 0 x) := by
  match k, h, hs, h8 with
  | 0, _, _, _ => rfl
  | 1, _, hs, _ => exact absurd hs (by decide)
  | 2, _, _, _ => rfl
  | 3, _, _, _ => rfl
  | 4, _, _, _ => rfl
  | 5, _, hs, _ => exact absurd hs (by decide)
  | 6, _, hs, _ => exact absurd hs (by decide)
  | 7, _, hs, _ => exact absurd hs (by decide)
  | 8, _, _, h8 => exact absurd rfl h8
  | 9, _, _, _ => rfl
  | 10, _, _, _ => rfl
  | 11, _, _, _ => rfl
  | 12, _, _, _ => rfl
  | 13, _, hs, _ => exact absurd hs (by decide)
  | 14, _, _, _ => rfl
  | 15, _, hs, _ => exact absurd hs (by decide)
  | 16, _, _, _ => rfl
  | 17, _, _, _ => rfl
  | 18, _, hs, _ => exact absurd hs (by decide)
  | 19, _, _, _ => rfl
  | 20, _, _, _ => rfl
  | 21, _, hs, _ => exact absurd hs (by decide)
  | 22, _, hs, _ => exact absurd hs (by decide)
  | 23, _, _, _ => rfl
  | 24, _, hs, _ => exact absurd hs (by decide)
  | 25, _, _, _ => rfl
  | 26, _, _, _ => rfl
  | 27, _, _, _ => rfl
  | 28, _, hs, _ => exact absurd hs (by decide)
  | 29, _, hs, _ => exact absurd hs (by decide)
  | 30, _, _, _ => rfl
  | 31, _, hs, _ => exact absurd hs (by decide)
  | 32, _, _, _ => rfl
  | 33, _, hs, _ => exact absurd hs (by decide)
  | 34, _, _, _ => rfl
  | 35, _, hs, _ => exact absurd hs (by decide)
  | 36, _, hs, _ => exact absurd hs (by decide)
  | k + 37, h, _, _ => omega
theorem mU_s {Y : YT} {m0 : Nat} {σ : MS} {B : AH} (k : Nat) (x : Int32) (h : k < 37) (hs : mIs k = false) (h8 : k ≠ 8) : gU (mG Y m0 σ B) m0 (.inr (5, (mF m0 σ).set k (.int x))) = mG Y m0 (mu σ k 0 x) B := by
  rw [mF_set m0 σ k x h hs h8]
  refine mG_up (o := 0) (by decide) rfl (fun j hj hne => ?_)
  unfold mC
  rw [if_neg hne, if_neg hne]
  by_cases j5 : j = 5
  · rw [if_pos j5, if_pos j5]; rfl
  · rw [if_neg j5, if_neg j5]
    have hj0 : mk j ≠ k := by
      intro q
      have h9 : ∀ o, o < 18 → o ≠ 0 → o ≠ 5 → mIs (mk o) = true := by decide
      have h10 := h9 j hj hne j5
      rw [q, hs] at h10
      cases h10
    have e1 : (mu σ k 0 x).1 (mk j) = σ.1 (mk j) := by funext q; simp [mu, hj0]
    rw [e1]
section MR
variable {Y : YT} {p : Program} {l : Launch} {e : Env} {R : Room} {s : State} {m : MethodId} {args : Array Value} {below : List Frame} {meth : Method} {c : Code} {nL n0 u0 : Nat} {nn uu : Nat} {Q : State → Prop} {pc : Nat} {L : List (Nat × Value)} {rest : List Value} {cc : ByteArray} {own : String} {hh : List (Nat × Nat × Nat × Nat)} {m0 : Nat} {σ : MS} {B : AH}
theorem m_get (hC : CX Y p s m args meth c cc nL own hh n0 u0) {index : Nat} (k : Nat) (hk : k < 37) (hlink : Cond.fieldLink own index (TX5 k).1 (TX5 k).2.1 (TX5 k).2.2.1 ∈ lw_all) {v : Value} (hv : (mF m0 σ)[k]? = some v) (hdg : decode cc pc = .ok (.getfield index, 3))
    (kk : V Y p l e R s m args below meth c nL n0 u0 (mG Y m0 σ B) nn uu Q (pc + 3) L (v :: rest)) : V Y p l e R s m args below meth c nL n0 u0 (mG Y m0 σ B) nn uu Q pc L (.ref m0 :: rest) := g_get hC kc_X5 mG_o k hk hlink hv hdg kk
theorem m_put (hC : CX Y p s m args meth c cc nL own hh n0 u0) {index : Nat} (k : Nat) (hk : k < 37) (hs : mIs k = false) (h8 : k ≠ 8) (hlink : Cond.fieldLink own index (TX5 k).1 (TX5 k).2.1 (TX5 k).2.2.1 ∈ lw_all) (hfin : (TX5 k).2.2.2 = false) {x : Int32} (hn : narrow (tyX5 k) (.int x) = .int x) (hfit : fits (tyX5 k) (.int x) = true) (hz : yz Y ≤ m0) (hdg : decode cc pc = .ok (.putfield index, 3))
    (kk : V Y p l e R s m args below meth c nL n0 u0 (mG Y m0 (mu σ k 0 x) B) nn uu Q (pc + 3) L rest) : V Y p l e R s m args below meth c nL n0 u0 (mG Y m0 σ B) nn uu Q pc L (.int x :: .ref m0 :: rest) := g_put hC kc_X5 mG_o k hk hlink hfin hn hfit hk rfl hz (mU_s k x hk hs h8) hdg kk
theorem m_ald (hC : CX Y p s m args meth c cc nL own hh n0 u0) (k i : Nat) (h : mIs k = true) (hi : i < ml k) (hb : i < 2 ^ 31) {v : Int32} (hv : σ.1 k i = v) (hdg : decode cc pc = .ok (.iaload, 1))
    (kk : V Y p l e R s m args below meth c nL n0 u0 (mG Y m0 σ B) nn uu Q (pc + 1) L (.int v :: rest)) : V Y p l e R s m args below meth c nL n0 u0 (mG Y m0 σ B) nn uu Q pc L (.int (nI i) :: .ref (m0 + mo k) :: rest) := by
  refine g_iald hC (mG_a k h) (fun z => z.elim (nI_pos hb) (fun q => by rw [nI_clamp hb] at q; omega)) hdg ?_
  rw [nI_clamp hb, hv]; exact kk
theorem m_ast (hC : CX Y p s m args meth c cc nL own hh n0 u0) (k i : Nat) (h : mIs k = true) (hi : i < ml k) (hb : i < 2 ^ 31) {x : Int32} (hz : yz Y ≤ m0) (hdg : decode cc pc = .ok (.iastore, 1))
    (kk : V Y p l e R s m args below meth c nL n0 u0 (mG Y m0 (mu σ k i x) B) nn uu Q (pc + 1) L rest) : V Y p l e R s m args below meth c nL n0 u0 (mG Y m0 σ B) nn uu Q pc L (.int x :: .int (nI i) :: .ref (m0 + mo k) :: rest) := by
  refine g_iast hC (mG_a k h) (fun z => z.elim (nI_pos hb) (fun q => by rw [nI_clamp hb] at q; omega)) (by omega) rfl ?_ hdg kk
  rw [nI_clamp hb]; exact mU_a k i x h
theorem m_lald (hC : CX Y p s m args meth c cc nL own hh n0 u0) (i : Nat) (hi : i < 1280) {v : Int64} (hv : σ.2 i = v) (hdg : decode cc pc = .ok (.laload, 1))
    (kk : V Y p l e R s m args below meth c nL n0 u0 (mG Y m0 σ B) nn uu Q (pc + 1) L (.long v :: rest)) : V Y p l e R s m args below meth c nL n0 u0 (mG Y m0 σ B) nn uu Q pc L (.int (nI i) :: .ref (m0 + 5) :: rest) := by
  have hb : i < 2 ^ 31 := by omega
  refine g_lald hC mG_8 (fun z => z.elim (nI_pos hb) (fun q => by rw [nI_clamp hb] at q; omega)) hdg ?_
  rw [nI_clamp hb, hv]; exact kk
theorem m_last (hC : CX Y p s m args meth c cc nL own hh n0 u0) (i : Nat) (hi : i < 1280) {x : Int64} (hz : yz Y ≤ m0) (hdg : decode cc pc = .ok (.lastore, 1))
    (kk : V Y p l e R s m args below meth c nL n0 u0 (mG Y m0 (mw σ i x) B) nn uu Q (pc + 1) L rest) : V Y p l e R s m args below meth c nL n0 u0 (mG Y m0 σ B) nn uu Q pc L (.long x :: .int (nI i) :: .ref (m0 + 5) :: rest) := by
  have hb : i < 2 ^ 31 := by omega
  refine g_last hC mG_8 (fun z => z.elim (nI_pos hb) (fun q => by rw [nI_clamp hb] at q; omega)) (by omega) rfl ?_ hdg kk
  rw [nI_clamp hb]; exact mU_8 i x
end MR
