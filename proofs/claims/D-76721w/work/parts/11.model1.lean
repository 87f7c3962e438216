set_option maxRecDepth 100000
/-! THE MODEL, 1: what its small methods compute -/
def wi (v low high : Int32) : Bool := decide (low ≤ v) && decide (v ≤ high)
theorem wi_t {v low high : Int32} : wi v low high = true ↔ low ≤ v ∧ v ≤ high := by simp [wi]
theorem i_nlt {a b : Int32} : ¬ a < b ↔ b ≤ a := Int32.not_lt
theorem i_nle {a b : Int32} : ¬ a ≤ b ↔ b < a := Int32.not_le
theorem wi_f1 {v low high : Int32} (h : v < low) : wi v low high = false := by simp [wi, Int32.not_le.mpr h]
theorem wi_f2 {v low high : Int32} (h : high < v) : wi v low high = false := by simp [wi, Int32.not_le.mpr h]
theorem wi_tt {v low high : Int32} (h : ¬ v < low) (h2 : ¬ high < v) : wi v low high = true := by simp [wi, i_nlt.mp h, i_nlt.mp h2]
theorem wi_nI {x : Int32} {n : Nat} (hn : n < 2 ^ 31) (h : wi x 0 (nI n) = true) : ∃ j : Nat, j ≤ n ∧ x = nI j := by
  obtain ⟨h1, h2⟩ := wi_t.mp h
  exact nI_of2 (M := nI n) (nI_toInt hn) (i_nlt.mpr h1) h2
theorem wi_j {j n : Nat} (hj : j < 2 ^ 31) (hn : n < 2 ^ 31) : wi (nI j) 0 (nI n) = decide (j ≤ n) := by
  have h0 : (0 : Int32) ≤ nI j := nI_pos' hj
  simp [wi, h0, nI_leI hj hn]
theorem wi_pl {x a : Int32} {n : Nat} (ha : a = nI n) (hn : n < 2 ^ 31) (h : wi x 0 (a - 1) = true) : ∃ j : Nat, j < n ∧ x = nI j := by
  subst ha
  cases n with
  | zero =>
    obtain ⟨h1, h2⟩ := wi_t.mp h
    have h3 : (0 : Int32) ≤ nI 0 - 1 := Int32.le_trans h1 h2
    exact absurd h3 (by decide)
  | succ n =>
    rw [nI_pred] at h
    obtain ⟨j, h1, h2⟩ := wi_nI (by omega) h
    exact ⟨j, by omega, h2⟩
theorem wi_plj {a : Int32} {j n : Nat} (ha : a = nI n) (hj : j < n) (hn : n < 2 ^ 31) : wi (nI j) 0 (a - 1) = true := by
  subst ha
  cases n with
  | zero => omega
  | succ n => rw [nI_pred, wi_j (by omega) (by omega)]; simp; omega
theorem nI_l0 : nI 0 = 0 := rfl
theorem nI_l1 : nI 1 = 1 := rfl
theorem nI_l2 : nI 2 = 2 := rfl
theorem nI_l3 : nI 3 = 3 := rfl
theorem nI_l4 : nI 4 = 4 := rfl
theorem nI_l5 : nI 5 = 5 := rfl
theorem nI_l6 : nI 6 = 6 := rfl
theorem nI_l7 : nI 7 = 7 := rfl
theorem nI_l8 : nI 8 = 8 := rfl
theorem nI_l9 : nI 9 = 9 := rfl
theorem nI_l10 : nI 10 = 10 := rfl
theorem nI_l11 : nI 11 = 11 := rfl
theorem nI_l12 : nI 12 = 12 := rfl
def mNo (σ : MS) (k : Nat) : MS := mu σ 33 k (σ.1 33 k + 1)
theorem nI_m1 {a : Nat} (h : a < 2 ^ 31) : ¬ nI a = -1 := fun q => by
  have e := nI_toInt h
  rw [q] at e
  have e2 : (-1 : Int32).toInt = -1 := by decide
  omega
def tl (σ : MS) (w p : Nat) : Int32 := σ.1 1 (12 * w + p)
def rwF (σ : MS) (j : Nat) : Bool := decide (100 ≤ σ.1 6 j)
def needF (σ : MS) (p s : Nat) : Bool := decide (((tl σ 3 p >>> (nI s &&& 31)) &&& 1) = 1)
def offF (σ : MS) (p s : Nat) : Bool := decide (((tl σ 4 p >>> (nI s &&& 31)) &&& 1) = 1)
def oldF (σ : MS) (p q : Nat) : Bool := decide (tl σ 7 p < tl σ 7 q)
def imax (x y : Int32) : Int32 := if x < y then y else x
def imin (x y : Int32) : Int32 := if y < x then y else x
def bitC (x : Int32) : Int32 :=
  let sh := fun (a : Int32) (k : Int32) => (a.toUInt32 >>> (k.toUInt32 &&& Int32.toUInt32 31)).toInt32
  let a := x - (sh x 1 &&& 1431655765)
  let b := (a &&& 858993459) + (sh a 2 &&& 858993459)
  let c := (b + sh b 4) &&& 252645135
  let d := c + sh c 8
  let f := d + sh d 16
  f &&& 63
def strF (σ : MS) (p : Nat) : Int32 :=
  if tl σ 1 p = 1 then tl σ 2 p + bitC (tl σ 4 p) else if tl σ 1 p = 2 then imax 5 (tl σ 2 p) else if tl σ 1 p = 3 then 2 * (tl σ 2 p + bitC (tl σ 4 p)) else if tl σ 1 p = 4 then imax 5 (tl σ 2 p) + 1 else tl σ 2 p
/-- why a shelf holds no row: 0 it does -/
def nrc (σ : MS) (s : Int32) : Nat := if wi s 0 7 = false then 1 else if ¬ σ.1 6 s.toNatClampNeg < 0 ∧ rwF σ s.toNatClampNeg = false then 2 else if σ.1 6 s.toNatClampNeg < 0 then 3 else 0
theorem nrc_le (σ : MS) (s : Int32) : nrc σ s ≤ 3 := by unfold nrc; split <;> (try split) <;> (try split) <;> omega
theorem m_ge {k : Nat} (h : k ≤ 3) : (0 : Int32) ≤ -(nI k) ↔ k = 0 := by
  rcases (show k = 0 ∨ k = 1 ∨ k = 2 ∨ k = 3 by omega) with h | h | h | h <;> subst h <;> decide
theorem tab_out {x : Int32} {k : Int} (hk : x.toInt ≠ k) (h : k < x.toInt ∨ x.toInt < k) : k < x.toInt ∨ x.toInt < k := h
theorem i_ne {x k : Int32} (h : ¬ x = k) : x.toInt ≠ k.toInt := fun q => h (Int32.toInt_inj.mp q)
theorem tab_out_1_4 {x : Int32} (h1 : ¬ x = 1) (h2 : ¬ x = 2) (h3 : ¬ x = 3) (h4 : ¬ x = 4) : x.toInt < 1 ∨ 4 < x.toInt := by
  have a1 := i_ne h1; have a2 := i_ne h2; have a3 := i_ne h3; have a4 := i_ne h4
  rw [show (1 : Int32).toInt = 1 from by decide] at a1
  rw [show (2 : Int32).toInt = 2 from by decide] at a2
  rw [show (3 : Int32).toInt = 3 from by decide] at a3
  rw [show (4 : Int32).toInt = 4 from by decide] at a4
  omega
set_option maxHeartbeats 1000000 in
theorem met_J12_bitCount {Y : YT} {l : Launch} {n u : Nat} {G : AH} (x : Int32)  : GM Y l yJ12_bitCount (ws_ yJ12_bitCount cJ12_bitCount 1 (some FieldType.int)) 0 0 [.int x] G n u 0 0 (pI (fun r G' n' u' => bitC x = r ∧ G = G' ∧ n = n' ∧ u = u')) noX := by
  refine GM.intro (own := RJ12) rfl (by decide +kernel) (Nat.le_of_ble_eq_true rfl) ?_
  intro p e s m args below meth c R Q hC hr hnm hF hL hE
  have hE1 := hE.1
  have hE2 := hE.2.1
  show V Y p l e R s m args below meth c 1 n u G n u Q 0 [(0, .int x)] []
  refine g_iload_n hC dJ12_bitCount_0 rfl 0 rfl ?_
  refine g_iload_n hC dJ12_bitCount_1 rfl 0 rfl ?_
  refine g_iconst (v := 1) hC dJ12_bitCount_2 rfl ?_
  refine g_iushr (v := (x.toUInt32 >>> ((1 : Int32).toUInt32 &&& Int32.toUInt32 31)).toInt32) hC dJ12_bitCount_3 rfl ?_
  refine g_ldcw (v := 1431655765) hC q737 dJ12_bitCount_4 ?_
  refine g_iand hC dJ12_bitCount_7 ?_
  refine g_isub hC dJ12_bitCount_8 ?_
  refine g_istore_n (L' := [(0, .int (x - (((x.toUInt32 >>> ((1 : Int32).toUInt32 &&& Int32.toUInt32 31)).toInt32) &&& 1431655765)))]) hC dJ12_bitCount_9 rfl (by decide) rfl ?_
  refine g_iload_n hC dJ12_bitCount_10 rfl 0 rfl ?_
  refine g_ldcw (v := 858993459) hC q738 dJ12_bitCount_11 ?_
  refine g_iand hC dJ12_bitCount_14 ?_
  refine g_iload_n hC dJ12_bitCount_15 rfl 0 rfl ?_
  refine g_iconst (v := 2) hC dJ12_bitCount_16 rfl ?_
  refine g_iushr (v := ((x - (((x.toUInt32 >>> ((1 : Int32).toUInt32 &&& Int32.toUInt32 31)).toInt32) &&& 1431655765)).toUInt32 >>> ((2 : Int32).toUInt32 &&& Int32.toUInt32 31)).toInt32) hC dJ12_bitCount_17 rfl ?_
  refine g_ldcw (v := 858993459) hC q738 dJ12_bitCount_18 ?_
  refine g_iand hC dJ12_bitCount_21 ?_
  refine g_iadd hC dJ12_bitCount_22 ?_
  refine g_istore_n (L' := [(0, .int (((x - (((x.toUInt32 >>> ((1 : Int32).toUInt32 &&& Int32.toUInt32 31)).toInt32) &&& 1431655765)) &&& 858993459) + ((((x - (((x.toUInt32 >>> ((1 : Int32).toUInt32 &&& Int32.toUInt32 31)).toInt32) &&& 1431655765)).toUInt32 >>> ((2 : Int32).toUInt32 &&& Int32.toUInt32 31)).toInt32) &&& 858993459)))]) hC dJ12_bitCount_23 rfl (by decide) rfl ?_
  refine g_iload_n hC dJ12_bitCount_24 rfl 0 rfl ?_
  refine g_iload_n hC dJ12_bitCount_25 rfl 0 rfl ?_
  refine g_iconst (v := 4) hC dJ12_bitCount_26 rfl ?_
  refine g_iushr (v := ((((x - (((x.toUInt32 >>> ((1 : Int32).toUInt32 &&& Int32.toUInt32 31)).toInt32) &&& 1431655765)) &&& 858993459) + ((((x - (((x.toUInt32 >>> ((1 : Int32).toUInt32 &&& Int32.toUInt32 31)).toInt32) &&& 1431655765)).toUInt32 >>> ((2 : Int32).toUInt32 &&& Int32.toUInt32 31)).toInt32) &&& 858993459)).toUInt32 >>> ((4 : Int32).toUInt32 &&& Int32.toUInt32 31)).toInt32) hC dJ12_bitCount_27 rfl ?_
  refine g_iadd hC dJ12_bitCount_28 ?_
  refine g_ldcw (v := 252645135) hC q739 dJ12_bitCount_29 ?_
  refine g_iand hC dJ12_bitCount_32 ?_
  refine g_istore_n (L' := [(0, .int (((((x - (((x.toUInt32 >>> ((1 : Int32).toUInt32 &&& Int32.toUInt32 31)).toInt32) &&& 1431655765)) &&& 858993459) + ((((x - (((x.toUInt32 >>> ((1 : Int32).toUInt32 &&& Int32.toUInt32 31)).toInt32) &&& 1431655765)).toUInt32 >>> ((2 : Int32).toUInt32 &&& Int32.toUInt32 31)).toInt32) &&& 858993459)) + (((((x - (((x.toUInt32 >>> ((1 : Int32).toUInt32 &&& Int32.toUInt32 31)).toInt32) &&& 1431655765)) &&& 858993459) + ((((x - (((x.toUInt32 >>> ((1 : Int32).toUInt32 &&& Int32.toUInt32 31)).toInt32) &&& 1431655765)).toUInt32 >>> ((2 : Int32).toUInt32 &&& Int32.toUInt32 31)).toInt32) &&& 858993459)).toUInt32 >>> ((4 : Int32).toUInt32 &&& Int32.toUInt32 31)).toInt32)) &&& 252645135))]) hC dJ12_bitCount_33 rfl (by decide) rfl ?_
  refine g_iload_n hC dJ12_bitCount_34 rfl 0 rfl ?_
  refine g_iload_n hC dJ12_bitCount_35 rfl 0 rfl ?_
  refine g_bipush (v := 8) hC dJ12_bitCount_36 (by decide) ?_
  refine g_iushr (v := ((((((x - (((x.toUInt32 >>> ((1 : Int32).toUInt32 &&& Int32.toUInt32 31)).toInt32) &&& 1431655765)) &&& 858993459) + ((((x - (((x.toUInt32 >>> ((1 : Int32).toUInt32 &&& Int32.toUInt32 31)).toInt32) &&& 1431655765)).toUInt32 >>> ((2 : Int32).toUInt32 &&& Int32.toUInt32 31)).toInt32) &&& 858993459)) + (((((x - (((x.toUInt32 >>> ((1 : Int32).toUInt32 &&& Int32.toUInt32 31)).toInt32) &&& 1431655765)) &&& 858993459) + ((((x - (((x.toUInt32 >>> ((1 : Int32).toUInt32 &&& Int32.toUInt32 31)).toInt32) &&& 1431655765)).toUInt32 >>> ((2 : Int32).toUInt32 &&& Int32.toUInt32 31)).toInt32) &&& 858993459)).toUInt32 >>> ((4 : Int32).toUInt32 &&& Int32.toUInt32 31)).toInt32)) &&& 252645135).toUInt32 >>> ((8 : Int32).toUInt32 &&& Int32.toUInt32 31)).toInt32) hC dJ12_bitCount_38 rfl ?_
  refine g_iadd hC dJ12_bitCount_39 ?_
  refine g_istore_n (L' := [(0, .int ((((((x - (((x.toUInt32 >>> ((1 : Int32).toUInt32 &&& Int32.toUInt32 31)).toInt32) &&& 1431655765)) &&& 858993459) + ((((x - (((x.toUInt32 >>> ((1 : Int32).toUInt32 &&& Int32.toUInt32 31)).toInt32) &&& 1431655765)).toUInt32 >>> ((2 : Int32).toUInt32 &&& Int32.toUInt32 31)).toInt32) &&& 858993459)) + (((((x - (((x.toUInt32 >>> ((1 : Int32).toUInt32 &&& Int32.toUInt32 31)).toInt32) &&& 1431655765)) &&& 858993459) + ((((x - (((x.toUInt32 >>> ((1 : Int32).toUInt32 &&& Int32.toUInt32 31)).toInt32) &&& 1431655765)).toUInt32 >>> ((2 : Int32).toUInt32 &&& Int32.toUInt32 31)).toInt32) &&& 858993459)).toUInt32 >>> ((4 : Int32).toUInt32 &&& Int32.toUInt32 31)).toInt32)) &&& 252645135) + (((((((x - (((x.toUInt32 >>> ((1 : Int32).toUInt32 &&& Int32.toUInt32 31)).toInt32) &&& 1431655765)) &&& 858993459) + ((((x - (((x.toUInt32 >>> ((1 : Int32).toUInt32 &&& Int32.toUInt32 31)).toInt32) &&& 1431655765)).toUInt32 >>> ((2 : Int32).toUInt32 &&& Int32.toUInt32 31)).toInt32) &&& 858993459)) + (((((x - (((x.toUInt32 >>> ((1 : Int32).toUInt32 &&& Int32.toUInt32 31)).toInt32) &&& 1431655765)) &&& 858993459) + ((((x - (((x.toUInt32 >>> ((1 : Int32).toUInt32 &&& Int32.toUInt32 31)).toInt32) &&& 1431655765)).toUInt32 >>> ((2 : Int32).toUInt32 &&& Int32.toUInt32 31)).toInt32) &&& 858993459)).toUInt32 >>> ((4 : Int32).toUInt32 &&& Int32.toUInt32 31)).toInt32)) &&& 252645135).toUInt32 >>> ((8 : Int32).toUInt32 &&& Int32.toUInt32 31)).toInt32)))]) hC dJ12_bitCount_40 rfl (by decide) rfl ?_
  refine g_iload_n hC dJ12_bitCount_41 rfl 0 rfl ?_
  refine g_iload_n hC dJ12_bitCount_42 rfl 0 rfl ?_
  refine g_bipush (v := 16) hC dJ12_bitCount_43 (by decide) ?_
  refine g_iushr (v := (((((((x - (((x.toUInt32 >>> ((1 : Int32).toUInt32 &&& Int32.toUInt32 31)).toInt32) &&& 1431655765)) &&& 858993459) + ((((x - (((x.toUInt32 >>> ((1 : Int32).toUInt32 &&& Int32.toUInt32 31)).toInt32) &&& 1431655765)).toUInt32 >>> ((2 : Int32).toUInt32 &&& Int32.toUInt32 31)).toInt32) &&& 858993459)) + (((((x - (((x.toUInt32 >>> ((1 : Int32).toUInt32 &&& Int32.toUInt32 31)).toInt32) &&& 1431655765)) &&& 858993459) + ((((x - (((x.toUInt32 >>> ((1 : Int32).toUInt32 &&& Int32.toUInt32 31)).toInt32) &&& 1431655765)).toUInt32 >>> ((2 : Int32).toUInt32 &&& Int32.toUInt32 31)).toInt32) &&& 858993459)).toUInt32 >>> ((4 : Int32).toUInt32 &&& Int32.toUInt32 31)).toInt32)) &&& 252645135) + (((((((x - (((x.toUInt32 >>> ((1 : Int32).toUInt32 &&& Int32.toUInt32 31)).toInt32) &&& 1431655765)) &&& 858993459) + ((((x - (((x.toUInt32 >>> ((1 : Int32).toUInt32 &&& Int32.toUInt32 31)).toInt32) &&& 1431655765)).toUInt32 >>> ((2 : Int32).toUInt32 &&& Int32.toUInt32 31)).toInt32) &&& 858993459)) + (((((x - (((x.toUInt32 >>> ((1 : Int32).toUInt32 &&& Int32.toUInt32 31)).toInt32) &&& 1431655765)) &&& 858993459) + ((((x - (((x.toUInt32 >>> ((1 : Int32).toUInt32 &&& Int32.toUInt32 31)).toInt32) &&& 1431655765)).toUInt32 >>> ((2 : Int32).toUInt32 &&& Int32.toUInt32 31)).toInt32) &&& 858993459)).toUInt32 >>> ((4 : Int32).toUInt32 &&& Int32.toUInt32 31)).toInt32)) &&& 252645135).toUInt32 >>> ((8 : Int32).toUInt32 &&& Int32.toUInt32 31)).toInt32)).toUInt32 >>> ((16 : Int32).toUInt32 &&& Int32.toUInt32 31)).toInt32) hC dJ12_bitCount_45 rfl ?_
  refine g_iadd hC dJ12_bitCount_46 ?_
  refine g_istore_n (L' := [(0, .int (((((((x - (((x.toUInt32 >>> ((1 : Int32).toUInt32 &&& Int32.toUInt32 31)).toInt32) &&& 1431655765)) &&& 858993459) + ((((x - (((x.toUInt32 >>> ((1 : Int32).toUInt32 &&& Int32.toUInt32 31)).toInt32) &&& 1431655765)).toUInt32 >>> ((2 : Int32).toUInt32 &&& Int32.toUInt32 31)).toInt32) &&& 858993459)) + (((((x - (((x.toUInt32 >>> ((1 : Int32).toUInt32 &&& Int32.toUInt32 31)).toInt32) &&& 1431655765)) &&& 858993459) + ((((x - (((x.toUInt32 >>> ((1 : Int32).toUInt32 &&& Int32.toUInt32 31)).toInt32) &&& 1431655765)).toUInt32 >>> ((2 : Int32).toUInt32 &&& Int32.toUInt32 31)).toInt32) &&& 858993459)).toUInt32 >>> ((4 : Int32).toUInt32 &&& Int32.toUInt32 31)).toInt32)) &&& 252645135) + (((((((x - (((x.toUInt32 >>> ((1 : Int32).toUInt32 &&& Int32.toUInt32 31)).toInt32) &&& 1431655765)) &&& 858993459) + ((((x - (((x.toUInt32 >>> ((1 : Int32).toUInt32 &&& Int32.toUInt32 31)).toInt32) &&& 1431655765)).toUInt32 >>> ((2 : Int32).toUInt32 &&& Int32.toUInt32 31)).toInt32) &&& 858993459)) + (((((x - (((x.toUInt32 >>> ((1 : Int32).toUInt32 &&& Int32.toUInt32 31)).toInt32) &&& 1431655765)) &&& 858993459) + ((((x - (((x.toUInt32 >>> ((1 : Int32).toUInt32 &&& Int32.toUInt32 31)).toInt32) &&& 1431655765)).toUInt32 >>> ((2 : Int32).toUInt32 &&& Int32.toUInt32 31)).toInt32) &&& 858993459)).toUInt32 >>> ((4 : Int32).toUInt32 &&& Int32.toUInt32 31)).toInt32)) &&& 252645135).toUInt32 >>> ((8 : Int32).toUInt32 &&& Int32.toUInt32 31)).toInt32)) + ((((((((x - (((x.toUInt32 >>> ((1 : Int32).toUInt32 &&& Int32.toUInt32 31)).toInt32) &&& 1431655765)) &&& 858993459) + ((((x - (((x.toUInt32 >>> ((1 : Int32).toUInt32 &&& Int32.toUInt32 31)).toInt32) &&& 1431655765)).toUInt32 >>> ((2 : Int32).toUInt32 &&& Int32.toUInt32 31)).toInt32) &&& 858993459)) + (((((x - (((x.toUInt32 >>> ((1 : Int32).toUInt32 &&& Int32.toUInt32 31)).toInt32) &&& 1431655765)) &&& 858993459) + ((((x - (((x.toUInt32 >>> ((1 : Int32).toUInt32 &&& Int32.toUInt32 31)).toInt32) &&& 1431655765)).toUInt32 >>> ((2 : Int32).toUInt32 &&& Int32.toUInt32 31)).toInt32) &&& 858993459)).toUInt32 >>> ((4 : Int32).toUInt32 &&& Int32.toUInt32 31)).toInt32)) &&& 252645135) + (((((((x - (((x.toUInt32 >>> ((1 : Int32).toUInt32 &&& Int32.toUInt32 31)).toInt32) &&& 1431655765)) &&& 858993459) + ((((x - (((x.toUInt32 >>> ((1 : Int32).toUInt32 &&& Int32.toUInt32 31)).toInt32) &&& 1431655765)).toUInt32 >>> ((2 : Int32).toUInt32 &&& Int32.toUInt32 31)).toInt32) &&& 858993459)) + (((((x - (((x.toUInt32 >>> ((1 : Int32).toUInt32 &&& Int32.toUInt32 31)).toInt32) &&& 1431655765)) &&& 858993459) + ((((x - (((x.toUInt32 >>> ((1 : Int32).toUInt32 &&& Int32.toUInt32 31)).toInt32) &&& 1431655765)).toUInt32 >>> ((2 : Int32).toUInt32 &&& Int32.toUInt32 31)).toInt32) &&& 858993459)).toUInt32 >>> ((4 : Int32).toUInt32 &&& Int32.toUInt32 31)).toInt32)) &&& 252645135).toUInt32 >>> ((8 : Int32).toUInt32 &&& Int32.toUInt32 31)).toInt32)).toUInt32 >>> ((16 : Int32).toUInt32 &&& Int32.toUInt32 31)).toInt32)))]) hC dJ12_bitCount_47 rfl (by decide) rfl ?_
  refine g_iload_n hC dJ12_bitCount_48 rfl 0 rfl ?_
  refine g_bipush (v := 63) hC dJ12_bitCount_49 (by decide) ?_
  refine g_iand hC dJ12_bitCount_51 ?_
  refine g_iret hC hr rfl ⟨_, rfl, ?_⟩ (by omega) (by omega) hE dJ12_bitCount_52
  exact ⟨by first | rfl | (simp [*]; done), rfl, rfl, rfl⟩
set_option maxHeartbeats 1000000 in
theorem met_J2_max {Y : YT} {l : Launch} {n u : Nat} {G : AH} (x : Int32) (y : Int32)  : GM Y l yJ2_max (ws_ yJ2_max cJ2_max 2 (some FieldType.int)) 0 0 [.int x, .int y] G n u 0 0 (pI (fun r G' n' u' => imax x y = r ∧ G = G' ∧ n = n' ∧ u = u')) noX := by
  refine GM.intro (own := RJ2) rfl (by decide +kernel) (Nat.le_of_ble_eq_true rfl) ?_
  intro p e s m args below meth c R Q hC hr hnm hF hL hE
  have hE1 := hE.1
  have hE2 := hE.2.1
  show V Y p l e R s m args below meth c 2 n u G n u Q 0 [(0, .int x), (1, .int y)] []
  refine g_iload_n hC dJ2_max_0 rfl 0 rfl ?_
  refine g_iload_n hC dJ2_max_1 rfl 1 rfl ?_
  refine g_icmp_lt hC dJ2_max_2 (tgt := 9) (by decide) (fun c_2 => ?_) (fun c_2 => ?_)
  · refine g_iload_n hC dJ2_max_9 rfl 1 rfl ?_
    refine g_iret hC hr rfl ⟨_, rfl, ?_⟩ (by omega) (by omega) hE dJ2_max_10
    exact ⟨by first | (simp [imax, c_2]; done) | (simp [imax, Int32.not_lt.mpr c_2]; done) | (simp [imax, Int32.not_lt.mp c_2]; done), rfl, rfl, rfl⟩
  · refine g_iload_n hC dJ2_max_5 rfl 0 rfl ?_
    refine g_goto (tgt := 10) hC dJ2_max_6 (by decide) ?_
    refine g_iret hC hr rfl ⟨_, rfl, ?_⟩ (by omega) (by omega) hE dJ2_max_10
    exact ⟨by first | (simp [imax, c_2]; done) | (simp [imax, Int32.not_lt.mpr c_2]; done) | (simp [imax, Int32.not_lt.mp c_2]; done), rfl, rfl, rfl⟩
set_option maxHeartbeats 1000000 in
theorem met_J2_min {Y : YT} {l : Launch} {n u : Nat} {G : AH} (x : Int32) (y : Int32)  : GM Y l yJ2_min (ws_ yJ2_min cJ2_min 2 (some FieldType.int)) 0 0 [.int x, .int y] G n u 0 0 (pI (fun r G' n' u' => imin x y = r ∧ G = G' ∧ n = n' ∧ u = u')) noX := by
  refine GM.intro (own := RJ2) rfl (by decide +kernel) (Nat.le_of_ble_eq_true rfl) ?_
  intro p e s m args below meth c R Q hC hr hnm hF hL hE
  have hE1 := hE.1
  have hE2 := hE.2.1
  show V Y p l e R s m args below meth c 2 n u G n u Q 0 [(0, .int x), (1, .int y)] []
  refine g_iload_n hC dJ2_min_0 rfl 0 rfl ?_
  refine g_iload_n hC dJ2_min_1 rfl 1 rfl ?_
  refine g_icmp_gt hC dJ2_min_2 (tgt := 9) (by decide) (fun c_2 => ?_) (fun c_2 => ?_)
  · refine g_iload_n hC dJ2_min_9 rfl 1 rfl ?_
    refine g_iret hC hr rfl ⟨_, rfl, ?_⟩ (by omega) (by omega) hE dJ2_min_10
    exact ⟨by first | (simp [imin, c_2]; done) | (simp [imin, Int32.not_lt.mpr c_2]; done) | (simp [imin, Int32.not_lt.mp c_2]; done), rfl, rfl, rfl⟩
  · refine g_iload_n hC dJ2_min_5 rfl 0 rfl ?_
    refine g_goto (tgt := 10) hC dJ2_min_6 (by decide) ?_
    refine g_iret hC hr rfl ⟨_, rfl, ?_⟩ (by omega) (by omega) hE dJ2_min_10
    exact ⟨by first | (simp [imin, c_2]; done) | (simp [imin, Int32.not_lt.mpr c_2]; done) | (simp [imin, Int32.not_lt.mp c_2]; done), rfl, rfl, rfl⟩
set_option maxHeartbeats 1000000 in
theorem met_X5_within {Y : YT} {l : Launch} {m0 n u : Nat} {σ : MS} {B : AH} (hz : yz Y ≤ m0) (v : Int32) (low : Int32) (high : Int32)  : GM Y l yX5_within (ws_ yX5_within cX5_within 3 (some FieldType.boolean)) 0 0 [.int v, .int low, .int high] (mG Y m0 σ B) n u 0 0 (pI (fun r G' n' u' => b2i (wi v low high) = r ∧ mG Y m0 σ B = G' ∧ n = n' ∧ u = u')) noX := by
  refine GM.intro (own := RX5) rfl (by decide +kernel) (Nat.le_of_ble_eq_true rfl) ?_
  intro p e s m args below meth c R Q hC hr hnm hF hL hE
  have hE1 := hE.1
  have hE2 := hE.2.1
  show V Y p l e R s m args below meth c 3 n u (mG Y m0 σ B) n u Q 0 [(0, .int v), (1, .int low), (2, .int high)] []
  refine g_iload_n hC dX5_within_0 rfl 0 rfl ?_
  refine g_iload_n hC dX5_within_1 rfl 1 rfl ?_
  refine g_icmp_lt hC dX5_within_2 (tgt := 14) (by decide) (fun c_2 => ?_) (fun c_2 => ?_)
  · refine g_iconst (v := 0) hC dX5_within_14 rfl ?_
    refine g_iret hC hr rfl ⟨_, rfl, ?_⟩ (by omega) (by omega) hE dX5_within_15
    exact ⟨by first | (rw [wi_f1 (by assumption)]; rfl) | (rw [wi_f2 (by assumption)]; rfl) | (rw [wi_tt (by assumption) (by assumption)]; rfl), rfl, rfl, rfl⟩
  · refine g_iload_n hC dX5_within_5 rfl 0 rfl ?_
    refine g_iload_n hC dX5_within_6 rfl 2 rfl ?_
    refine g_icmp_gt hC dX5_within_7 (tgt := 14) (by decide) (fun c_7 => ?_) (fun c_7 => ?_)
    · refine g_iconst (v := 0) hC dX5_within_14 rfl ?_
      refine g_iret hC hr rfl ⟨_, rfl, ?_⟩ (by omega) (by omega) hE dX5_within_15
      exact ⟨by first | (rw [wi_f1 (by assumption)]; rfl) | (rw [wi_f2 (by assumption)]; rfl) | (rw [wi_tt (by assumption) (by assumption)]; rfl), rfl, rfl, rfl⟩
    · refine g_iconst (v := 1) hC dX5_within_10 rfl ?_
      refine g_goto (tgt := 15) hC dX5_within_11 (by decide) ?_
      refine g_iret hC hr rfl ⟨_, rfl, ?_⟩ (by omega) (by omega) hE dX5_within_15
      exact ⟨by first | (rw [wi_f1 (by assumption)]; rfl) | (rw [wi_f2 (by assumption)]; rfl) | (rw [wi_tt (by assumption) (by assumption)]; rfl), rfl, rfl, rfl⟩
set_option maxHeartbeats 1000000 in
theorem met_X5_isPlug {Y : YT} {l : Launch} {m0 n u : Nat} {σ : MS} {B : AH} (hz : yz Y ≤ m0) (x : Int32)  : GM Y l yX5_isPlug (ws_ yX5_isPlug cX5_isPlug 2 (some FieldType.boolean)) 1 22 [.ref m0, .int x] (mG Y m0 σ B) n u 0 0 (pI (fun r G' n' u' => b2i (wi x 0 (σ.1 0 0 - 1)) = r ∧ mG Y m0 σ B = G' ∧ n = n' ∧ u = u')) noX := by
  refine GM.intro (own := RX5) rfl (by decide +kernel) (Nat.le_of_ble_eq_true rfl) ?_
  intro p e s m args below meth c R Q hC hr hnm hF hL hE
  have hE1 := hE.1
  have hE2 := hE.2.1
  show V Y p l e R s m args below meth c 2 n u (mG Y m0 σ B) n u Q 0 [(0, .ref m0), (1, .int x)] []
  refine g_iload_n hC dX5_isPlug_0 rfl 1 rfl ?_
  refine g_iconst (v := 0) hC dX5_isPlug_1 rfl ?_
  refine g_aload_n hC dX5_isPlug_2 rfl 0 rfl ?_
  refine m_get (v := .int (σ.1 0 0)) hC 0 (by decide) q3521 rfl dX5_isPlug_3 ?_
  refine g_iconst (v := 1) hC dX5_isPlug_6 rfl ?_
  refine g_isub hC dX5_isPlug_7 ?_
  refine g_calli0 hC (g_runS hC (met_X5_within hz x 0 ((σ.1 0 0) - 1) ) (lw_S q3637 q3638 q89 q3639) md_X5_within dX5_isPlug_8 rfl ⟨by omega, by omega⟩ (by omega) (by omega) rfl (Nat.le_of_ble_eq_true rfl)) (fun r_1 G_1 n_1 u_1 hp_1 hn_1 hm_1 hu_1 => ?_)
  obtain ⟨rfl, rfl, rfl, rfl⟩ := hp_1
  refine g_iret hC hr (nar_b2i _) ⟨_, rfl, ?_⟩ (by omega) (by omega) hE dX5_isPlug_11
  first
  | contradiction
  | exact ⟨by first | rfl | (simp [nI_l0, nI_l1, nI_l2, nI_l3, nI_l4, nI_l5, nI_l6, nI_l7, nI_l8, nI_l9, nI_l10]; done) | (simp only [if_true, if_false, if_pos, if_neg]; rfl), rfl, rfl, rfl⟩
set_option maxHeartbeats 1000000 in
theorem met_X5_isPoint {Y : YT} {l : Launch} {m0 n u : Nat} {σ : MS} {B : AH} (hz : yz Y ≤ m0) (x : Int32)  : GM Y l yX5_isPoint (ws_ yX5_isPoint cX5_isPoint 1 (some FieldType.boolean)) 1 22 [.int x] (mG Y m0 σ B) n u 0 0 (pI (fun r G' n' u' => b2i (wi x 0 3) = r ∧ mG Y m0 σ B = G' ∧ n = n' ∧ u = u')) noX := by
  refine GM.intro (own := RX5) rfl (by decide +kernel) (Nat.le_of_ble_eq_true rfl) ?_
  intro p e s m args below meth c R Q hC hr hnm hF hL hE
  have hE1 := hE.1
  have hE2 := hE.2.1
  show V Y p l e R s m args below meth c 1 n u (mG Y m0 σ B) n u Q 0 [(0, .int x)] []
  refine g_iload_n hC dX5_isPoint_0 rfl 0 rfl ?_
  refine g_iconst (v := 0) hC dX5_isPoint_1 rfl ?_
  refine g_iconst (v := 3) hC dX5_isPoint_2 rfl ?_
  refine g_calli0 hC (g_runS hC (met_X5_within hz x 0 3 ) (lw_S q3637 q3638 q89 q3639) md_X5_within dX5_isPoint_3 rfl ⟨by omega, by omega⟩ (by omega) (by omega) rfl (Nat.le_of_ble_eq_true rfl)) (fun r_1 G_1 n_1 u_1 hp_1 hn_1 hm_1 hu_1 => ?_)
  obtain ⟨rfl, rfl, rfl, rfl⟩ := hp_1
  refine g_iret hC hr (nar_b2i _) ⟨_, rfl, ?_⟩ (by omega) (by omega) hE dX5_isPoint_6
  first
  | contradiction
  | exact ⟨by first | rfl | (simp [nI_l0, nI_l1, nI_l2, nI_l3, nI_l4, nI_l5, nI_l6, nI_l7, nI_l8, nI_l9, nI_l10]; done) | (simp only [if_true, if_false, if_pos, if_neg]; rfl), rfl, rfl, rfl⟩
set_option maxHeartbeats 1000000 in
theorem met_X5_isService {Y : YT} {l : Launch} {m0 n u : Nat} {σ : MS} {B : AH} (hz : yz Y ≤ m0) (x : Int32)  : GM Y l yX5_isService (ws_ yX5_isService cX5_isService 1 (some FieldType.boolean)) 1 22 [.int x] (mG Y m0 σ B) n u 0 0 (pI (fun r G' n' u' => b2i (wi x 0 7) = r ∧ mG Y m0 σ B = G' ∧ n = n' ∧ u = u')) noX := by
  refine GM.intro (own := RX5) rfl (by decide +kernel) (Nat.le_of_ble_eq_true rfl) ?_
  intro p e s m args below meth c R Q hC hr hnm hF hL hE
  have hE1 := hE.1
  have hE2 := hE.2.1
  show V Y p l e R s m args below meth c 1 n u (mG Y m0 σ B) n u Q 0 [(0, .int x)] []
  refine g_iload_n hC dX5_isService_0 rfl 0 rfl ?_
  refine g_iconst (v := 0) hC dX5_isService_1 rfl ?_
  refine g_bipush (v := 7) hC dX5_isService_2 (by decide) ?_
  refine g_calli0 hC (g_runS hC (met_X5_within hz x 0 7 ) (lw_S q3637 q3638 q89 q3639) md_X5_within dX5_isService_4 rfl ⟨by omega, by omega⟩ (by omega) (by omega) rfl (Nat.le_of_ble_eq_true rfl)) (fun r_1 G_1 n_1 u_1 hp_1 hn_1 hm_1 hu_1 => ?_)
  obtain ⟨rfl, rfl, rfl, rfl⟩ := hp_1
  refine g_iret hC hr (nar_b2i _) ⟨_, rfl, ?_⟩ (by omega) (by omega) hE dX5_isService_7
  first
  | contradiction
  | exact ⟨by first | rfl | (simp [nI_l0, nI_l1, nI_l2, nI_l3, nI_l4, nI_l5, nI_l6, nI_l7, nI_l8, nI_l9, nI_l10]; done) | (simp only [if_true, if_false, if_pos, if_neg]; rfl), rfl, rfl, rfl⟩
set_option maxHeartbeats 1000000 in
theorem met_X5_isRow {Y : YT} {l : Launch} {m0 n u : Nat} {σ : MS} {B : AH} (hz : yz Y ≤ m0) (j : Nat) (hj : j < 8) : GM Y l yX5_isRow (ws_ yX5_isRow cX5_isRow 2 (some FieldType.boolean)) 0 0 [.ref m0, .int (nI j)] (mG Y m0 σ B) n u 0 0 (pI (fun r G' n' u' => b2i (rwF σ  j) = r ∧ mG Y m0 σ B = G' ∧ n = n' ∧ u = u')) noX := by
  refine GM.intro (own := RX5) rfl (by decide +kernel) (Nat.le_of_ble_eq_true rfl) ?_
  intro p e s m args below meth c R Q hC hr hnm hF hL hE
  have hE1 := hE.1
  have hE2 := hE.2.1
  show V Y p l e R s m args below meth c 2 n u (mG Y m0 σ B) n u Q 0 [(0, .ref m0), (1, .int (nI j))] []
  refine g_aload_n hC dX5_isRow_0 rfl 0 rfl ?_
  refine m_get (v := .ref (m0 + 3)) hC 6 (by decide) q3527 rfl dX5_isRow_1 ?_
  refine g_iload_n hC dX5_isRow_4 rfl 1 rfl ?_
  refine m_ald (v := σ.1 6 j) hC 6 j rfl (show j < 8 from by omega) (by omega) rfl dX5_isRow_5 ?_
  refine g_bipush (v := 100) hC dX5_isRow_6 (by decide) ?_
  refine g_icmp_lt hC dX5_isRow_8 (tgt := 15) (by decide) (fun c_8 => ?_) (fun c_8 => ?_)
  · refine g_iconst (v := 0) hC dX5_isRow_15 rfl ?_
    refine g_iret hC hr rfl ⟨_, rfl, ?_⟩ (by omega) (by omega) hE dX5_isRow_16
    exact ⟨by simp_all [rwF, b2i, i_nlt], rfl, rfl, rfl⟩
  · refine g_iconst (v := 1) hC dX5_isRow_11 rfl ?_
    refine g_goto (tgt := 16) hC dX5_isRow_12 (by decide) ?_
    refine g_iret hC hr rfl ⟨_, rfl, ?_⟩ (by omega) (by omega) hE dX5_isRow_16
    exact ⟨by simp_all [rwF, b2i, i_nlt], rfl, rfl, rfl⟩
set_option maxHeartbeats 1000000 in
theorem met_X5_of {Y : YT} {l : Launch} {m0 n u : Nat} {σ : MS} {B : AH} (hz : yz Y ≤ m0) (w : Nat) (i : Nat) (hi : 12 * w + i < 108) : GM Y l yX5_of (ws_ yX5_of cX5_of 3 (some FieldType.int)) 0 0 [.ref m0, .int (nI w), .int (nI i)] (mG Y m0 σ B) n u 0 0 (pI (fun r G' n' u' => tl σ  w i = r ∧ mG Y m0 σ B = G' ∧ n = n' ∧ u = u')) noX := by
  refine GM.intro (own := RX5) rfl (by decide +kernel) (Nat.le_of_ble_eq_true rfl) ?_
  intro p e s m args below meth c R Q hC hr hnm hF hL hE
  have hE1 := hE.1
  have hE2 := hE.2.1
  show V Y p l e R s m args below meth c 3 n u (mG Y m0 σ B) n u Q 0 [(0, .ref m0), (1, .int (nI w)), (2, .int (nI i))] []
  refine g_aload_n hC dX5_of_0 rfl 0 rfl ?_
  refine m_get (v := .ref (m0 + 1)) hC 1 (by decide) q3522 rfl dX5_of_1 ?_
  refine g_bipush (v := 12) hC dX5_of_4 (by decide) ?_
  refine g_iload_n hC dX5_of_6 rfl 1 rfl ?_
  refine g_imulN hC 12 w dX5_of_7 ?_
  refine g_iload_n hC dX5_of_8 rfl 2 rfl ?_
  refine g_iaddN hC (12 * w) i dX5_of_9 ?_
  refine m_ald (v := σ.1 1 ((12 * w) + i)) hC 1 ((12 * w) + i) rfl (show (12 * w) + i < 108 from by omega) (by omega) rfl dX5_of_10 ?_
  refine g_iret hC hr rfl ⟨_, rfl, ?_⟩ (by omega) (by omega) hE dX5_of_11
  first
  | contradiction
  | exact ⟨by first | rfl | (simp [tl, nI_l0, nI_l1, nI_l2, nI_l3, nI_l4, nI_l5, nI_l6, nI_l7, nI_l8, nI_l9, nI_l10]; done) | (simp only [tl, if_true, if_false, if_pos, if_neg]; rfl) | (unfold tl; simp [nI_l0, nI_l1, nI_l2, nI_l3, nI_l4, nI_l5, nI_l6, nI_l7, nI_l8, nI_l9, nI_l10]; done), rfl, rfl, rfl⟩
set_option maxHeartbeats 1000000 in
theorem met_X5_state {Y : YT} {l : Launch} {m0 n u : Nat} {σ : MS} {B : AH} (hz : yz Y ≤ m0) (p_ : Nat) (hp : p_ < 12) : GM Y l yX5_state (ws_ yX5_state cX5_state 2 (some FieldType.int)) 0 0 [.ref m0, .int (nI p_)] (mG Y m0 σ B) n u 0 0 (pI (fun r G' n' u' => tl σ 0 p_ = r ∧ mG Y m0 σ B = G' ∧ n = n' ∧ u = u')) noX := by
  refine GM.intro (own := RX5) rfl (by decide +kernel) (Nat.le_of_ble_eq_true rfl) ?_
  intro p e s m args below meth c R Q hC hr hnm hF hL hE
  have hE1 := hE.1
  have hE2 := hE.2.1
  show V Y p l e R s m args below meth c 2 n u (mG Y m0 σ B) n u Q 0 [(0, .ref m0), (1, .int (nI p_))] []
  refine g_aload_n hC dX5_state_0 rfl 0 rfl ?_
  refine m_get (v := .ref (m0 + 1)) hC 1 (by decide) q3522 rfl dX5_state_1 ?_
  refine g_iload_n hC dX5_state_4 rfl 1 rfl ?_
  refine m_ald (v := σ.1 1 p_) hC 1 p_ rfl (show p_ < 108 from by omega) (by omega) rfl dX5_state_5 ?_
  refine g_iret hC hr rfl ⟨_, rfl, ?_⟩ (by omega) (by omega) hE dX5_state_6
  exact ⟨by simp [tl], rfl, rfl, rfl⟩
set_option maxHeartbeats 1000000 in
theorem met_X5_isNeeded {Y : YT} {l : Launch} {m0 n u : Nat} {σ : MS} {B : AH} (hz : yz Y ≤ m0) (p_ : Nat) (s_ : Nat) (hp : p_ < 12) : GM Y l yX5_isNeeded (ws_ yX5_isNeeded cX5_isNeeded 3 (some FieldType.boolean)) 1 22 [.ref m0, .int (nI p_), .int (nI s_)] (mG Y m0 σ B) n u 0 0 (pI (fun r G' n' u' => b2i (needF σ  p_ s_) = r ∧ mG Y m0 σ B = G' ∧ n = n' ∧ u = u')) noX := by
  refine GM.intro (own := RX5) rfl (by decide +kernel) (Nat.le_of_ble_eq_true rfl) ?_
  intro p e s m args below meth c R Q hC hr hnm hF hL hE
  have hE1 := hE.1
  have hE2 := hE.2.1
  show V Y p l e R s m args below meth c 3 n u (mG Y m0 σ B) n u Q 0 [(0, .ref m0), (1, .int (nI p_)), (2, .int (nI s_))] []
  refine g_aload_n hC dX5_isNeeded_0 rfl 0 rfl ?_
  refine g_iconst (v := 3) hC dX5_isNeeded_1 rfl ?_
  refine g_iload_n hC dX5_isNeeded_2 rfl 1 rfl ?_
  refine g_calli0 hC (g_runV hC (met_X5_of hz 3 p_ (by omega)) kc_X5 mG_o (lw_V q3680 q3682 qs41 q89 q3683) rfl md_X5_of dX5_isNeeded_3 rfl ⟨by omega, by omega⟩ (by omega) (by omega) rfl (Nat.le_of_ble_eq_true rfl)) (fun r_1 G_1 n_1 u_1 hp_1 hn_1 hm_1 hu_1 => ?_)
  obtain ⟨rfl, rfl, rfl, rfl⟩ := hp_1
  refine g_iload_n hC dX5_isNeeded_6 rfl 2 rfl ?_
  refine g_ishr hC dX5_isNeeded_7 ?_
  refine g_iconst (v := 1) hC dX5_isNeeded_8 rfl ?_
  refine g_iand hC dX5_isNeeded_9 ?_
  refine g_iconst (v := 1) hC dX5_isNeeded_10 rfl ?_
  refine g_icmp_ne hC dX5_isNeeded_11 (tgt := 18) (by decide) (fun c_11 => ?_) (fun c_11 => ?_)
  · refine g_iconst (v := 0) hC dX5_isNeeded_18 rfl ?_
    refine g_iret hC hr rfl ⟨_, rfl, ?_⟩ (by omega) (by omega) hE dX5_isNeeded_19
    exact ⟨by simp_all [needF, offF, oldF, b2i], rfl, rfl, rfl⟩
  · refine g_iconst (v := 1) hC dX5_isNeeded_14 rfl ?_
    refine g_goto (tgt := 19) hC dX5_isNeeded_15 (by decide) ?_
    refine g_iret hC hr rfl ⟨_, rfl, ?_⟩ (by omega) (by omega) hE dX5_isNeeded_19
    exact ⟨by simp_all [needF, offF, oldF, b2i], rfl, rfl, rfl⟩
set_option maxHeartbeats 1000000 in
theorem met_X5_isOffered {Y : YT} {l : Launch} {m0 n u : Nat} {σ : MS} {B : AH} (hz : yz Y ≤ m0) (p_ : Nat) (s_ : Nat) (hp : p_ < 12) : GM Y l yX5_isOffered (ws_ yX5_isOffered cX5_isOffered 3 (some FieldType.boolean)) 1 22 [.ref m0, .int (nI p_), .int (nI s_)] (mG Y m0 σ B) n u 0 0 (pI (fun r G' n' u' => b2i (offF σ  p_ s_) = r ∧ mG Y m0 σ B = G' ∧ n = n' ∧ u = u')) noX := by
  refine GM.intro (own := RX5) rfl (by decide +kernel) (Nat.le_of_ble_eq_true rfl) ?_
  intro p e s m args below meth c R Q hC hr hnm hF hL hE
  have hE1 := hE.1
  have hE2 := hE.2.1
  show V Y p l e R s m args below meth c 3 n u (mG Y m0 σ B) n u Q 0 [(0, .ref m0), (1, .int (nI p_)), (2, .int (nI s_))] []
  refine g_aload_n hC dX5_isOffered_0 rfl 0 rfl ?_
  refine g_iconst (v := 4) hC dX5_isOffered_1 rfl ?_
  refine g_iload_n hC dX5_isOffered_2 rfl 1 rfl ?_
  refine g_calli0 hC (g_runV hC (met_X5_of hz 4 p_ (by omega)) kc_X5 mG_o (lw_V q3680 q3682 qs41 q89 q3683) rfl md_X5_of dX5_isOffered_3 rfl ⟨by omega, by omega⟩ (by omega) (by omega) rfl (Nat.le_of_ble_eq_true rfl)) (fun r_1 G_1 n_1 u_1 hp_1 hn_1 hm_1 hu_1 => ?_)
  obtain ⟨rfl, rfl, rfl, rfl⟩ := hp_1
  refine g_iload_n hC dX5_isOffered_6 rfl 2 rfl ?_
  refine g_ishr hC dX5_isOffered_7 ?_
  refine g_iconst (v := 1) hC dX5_isOffered_8 rfl ?_
  refine g_iand hC dX5_isOffered_9 ?_
  refine g_iconst (v := 1) hC dX5_isOffered_10 rfl ?_
  refine g_icmp_ne hC dX5_isOffered_11 (tgt := 18) (by decide) (fun c_11 => ?_) (fun c_11 => ?_)
  · refine g_iconst (v := 0) hC dX5_isOffered_18 rfl ?_
    refine g_iret hC hr rfl ⟨_, rfl, ?_⟩ (by omega) (by omega) hE dX5_isOffered_19
    exact ⟨by simp_all [needF, offF, oldF, b2i], rfl, rfl, rfl⟩
  · refine g_iconst (v := 1) hC dX5_isOffered_14 rfl ?_
    refine g_goto (tgt := 19) hC dX5_isOffered_15 (by decide) ?_
    refine g_iret hC hr rfl ⟨_, rfl, ?_⟩ (by omega) (by omega) hE dX5_isOffered_19
    exact ⟨by simp_all [needF, offF, oldF, b2i], rfl, rfl, rfl⟩
set_option maxHeartbeats 1000000 in
theorem met_X5_isOlder {Y : YT} {l : Launch} {m0 n u : Nat} {σ : MS} {B : AH} (hz : yz Y ≤ m0) (p_ : Nat) (q_ : Nat) (hp : p_ < 12) (hq : q_ < 12) : GM Y l yX5_isOlder (ws_ yX5_isOlder cX5_isOlder 3 (some FieldType.boolean)) 1 22 [.ref m0, .int (nI p_), .int (nI q_)] (mG Y m0 σ B) n u 0 0 (pI (fun r G' n' u' => b2i (oldF σ  p_ q_) = r ∧ mG Y m0 σ B = G' ∧ n = n' ∧ u = u')) noX := by
  refine GM.intro (own := RX5) rfl (by decide +kernel) (Nat.le_of_ble_eq_true rfl) ?_
  intro p e s m args below meth c R Q hC hr hnm hF hL hE
  have hE1 := hE.1
  have hE2 := hE.2.1
  show V Y p l e R s m args below meth c 3 n u (mG Y m0 σ B) n u Q 0 [(0, .ref m0), (1, .int (nI p_)), (2, .int (nI q_))] []
  refine g_aload_n hC dX5_isOlder_0 rfl 0 rfl ?_
  refine g_bipush (v := 7) hC dX5_isOlder_1 (by decide) ?_
  refine g_iload_n hC dX5_isOlder_3 rfl 1 rfl ?_
  refine g_calli0 hC (g_runV hC (met_X5_of hz 7 p_ (by omega)) kc_X5 mG_o (lw_V q3680 q3682 qs41 q89 q3683) rfl md_X5_of dX5_isOlder_4 rfl ⟨by omega, by omega⟩ (by omega) (by omega) rfl (Nat.le_of_ble_eq_true rfl)) (fun r_1 G_1 n_1 u_1 hp_1 hn_1 hm_1 hu_1 => ?_)
  obtain ⟨rfl, rfl, rfl, rfl⟩ := hp_1
  refine g_aload_n hC dX5_isOlder_7 rfl 0 rfl ?_
  refine g_bipush (v := 7) hC dX5_isOlder_8 (by decide) ?_
  refine g_iload_n hC dX5_isOlder_10 rfl 2 rfl ?_
  refine g_calli0 hC (g_runV hC (met_X5_of hz 7 q_ (by omega)) kc_X5 mG_o (lw_V q3680 q3682 qs41 q89 q3683) rfl md_X5_of dX5_isOlder_11 rfl ⟨by omega, by omega⟩ (by omega) (by omega) rfl (Nat.le_of_ble_eq_true rfl)) (fun r_2 G_2 n_2 u_2 hp_2 hn_2 hm_2 hu_2 => ?_)
  obtain ⟨rfl, rfl, rfl, rfl⟩ := hp_2
  refine g_icmp_ge hC dX5_isOlder_14 (tgt := 21) (by decide) (fun c_14 => ?_) (fun c_14 => ?_)
  · refine g_iconst (v := 0) hC dX5_isOlder_21 rfl ?_
    refine g_iret hC hr rfl ⟨_, rfl, ?_⟩ (by omega) (by omega) hE dX5_isOlder_22
    exact ⟨by simp_all [needF, offF, oldF, b2i], rfl, rfl, rfl⟩
  · refine g_iconst (v := 1) hC dX5_isOlder_17 rfl ?_
    refine g_goto (tgt := 22) hC dX5_isOlder_18 (by decide) ?_
    refine g_iret hC hr rfl ⟨_, rfl, ?_⟩ (by omega) (by omega) hE dX5_isOlder_22
    exact ⟨by simp_all [needF, offF, oldF, b2i], rfl, rfl, rfl⟩
set_option maxHeartbeats 1000000 in
theorem met_X5_no {Y : YT} {l : Launch} {m0 n u : Nat} {σ : MS} {B : AH} (hz : yz Y ≤ m0) (k : Nat) (hk : k < 8) : GM Y l yX5_no (ws_ yX5_no cX5_no 2 (some FieldType.int)) 0 0 [.ref m0, .int (-(nI k))] (mG Y m0 σ B) n u 0 0 (pI (fun r G' n' u' => -(nI k) = r ∧ mG Y m0 (mNo σ k) B = G' ∧ n = n' ∧ u = u')) noX := by
  refine GM.intro (own := RX5) rfl (by decide +kernel) (Nat.le_of_ble_eq_true rfl) ?_
  intro p e s m args below meth c R Q hC hr hnm hF hL hE
  have hE1 := hE.1
  have hE2 := hE.2.1
  show V Y p l e R s m args below meth c 2 n u (mG Y m0 σ B) n u Q 0 [(0, .ref m0), (1, .int (-(nI k)))] []
  refine g_aload_n hC dX5_no_0 rfl 0 rfl ?_
  refine m_get (v := .ref (m0 + 15)) hC 33 (by decide) q3554 rfl dX5_no_1 ?_
  refine g_iload_n hC dX5_no_4 rfl 1 rfl ?_
  refine g_inegN hC k dX5_no_5 ?_
  refine g_dup2_11 hC dX5_no_6 rfl rfl ?_
  refine m_ald (v := σ.1 33 k) hC 33 k rfl (show k < 8 from by omega) (by omega) rfl dX5_no_7 ?_
  refine g_iconst (v := 1) hC dX5_no_8 rfl ?_
  refine g_iadd hC dX5_no_9 ?_
  refine m_ast hC 33 k rfl (show k < 8 from by omega) (by omega) hz dX5_no_10 ?_
  refine g_iload_n hC dX5_no_11 rfl 1 rfl ?_
  refine g_iret hC hr rfl ⟨_, rfl, ?_⟩ (by omega) (by omega) hE dX5_no_12
  exact ⟨rfl, rfl, rfl, rfl⟩
set_option maxHeartbeats 1000000 in
theorem met_X5_no10 {Y : YT} {l : Launch} {m0 n u : Nat} {σ : MS} {B : AH} (hz : yz Y ≤ m0) (k : Nat) (hk : k < 8) : GM Y l yX5_no10 (ws_ yX5_no10 cX5_no10 2 (some FieldType.int)) 1 21 [.ref m0, .int (-(nI k))] (mG Y m0 σ B) n u 0 0 (pI (fun r G' n' u' => -(nI k) - 10 = r ∧ mG Y m0 (mNo σ k) B = G' ∧ n = n' ∧ u = u')) noX := by
  refine GM.intro (own := RX5) rfl (by decide +kernel) (Nat.le_of_ble_eq_true rfl) ?_
  intro p e s m args below meth c R Q hC hr hnm hF hL hE
  have hE1 := hE.1
  have hE2 := hE.2.1
  show V Y p l e R s m args below meth c 2 n u (mG Y m0 σ B) n u Q 0 [(0, .ref m0), (1, .int (-(nI k)))] []
  refine g_aload_n hC dX5_no10_0 rfl 0 rfl ?_
  refine g_iload_n hC dX5_no10_1 rfl 1 rfl ?_
  refine g_calli0 hC (g_runV hC (met_X5_no hz k (by omega)) kc_X5 mG_o (lw_V q3640 q3642 qs37 q89 q3643) rfl md_X5_no dX5_no10_2 rfl ⟨by omega, by omega⟩ (by omega) (by omega) rfl (Nat.le_of_ble_eq_true rfl)) (fun r_1 G_1 n_1 u_1 hp_1 hn_1 hm_1 hu_1 => ?_)
  obtain ⟨rfl, rfl, rfl, rfl⟩ := hp_1
  refine g_bipush (v := 10) hC dX5_no10_5 (by decide) ?_
  refine g_isub hC dX5_no10_7 ?_
  refine g_iret hC hr rfl ⟨_, rfl, ?_⟩ (by omega) (by omega) hE dX5_no10_8
  exact ⟨rfl, rfl, rfl, rfl⟩
set_option maxHeartbeats 1000000 in
theorem met_X5_strength {Y : YT} {l : Launch} {m0 n u : Nat} {σ : MS} {B : AH} (hz : yz Y ≤ m0) (p_ : Nat) (hp : p_ < 12) : GM Y l yX5_strength (ws_ yX5_strength cX5_strength 5 (some FieldType.int)) 1 22 [.ref m0, .int (nI p_)] (mG Y m0 σ B) n u 0 0 (pI (fun r G' n' u' => strF σ  p_ = r ∧ mG Y m0 σ B = G' ∧ n = n' ∧ u = u')) noX := by
  refine GM.intro (own := RX5) rfl (by decide +kernel) (Nat.le_of_ble_eq_true rfl) ?_
  intro p e s m args below meth c R Q hC hr hnm hF hL hE
  have hE1 := hE.1
  have hE2 := hE.2.1
  show V Y p l e R s m args below meth c 5 n u (mG Y m0 σ B) n u Q 0 [(0, .ref m0), (1, .int (nI p_))] []
  refine g_aload_n hC dX5_strength_0 rfl 0 rfl ?_
  refine g_iconst (v := 2) hC dX5_strength_1 rfl ?_
  refine g_iload_n hC dX5_strength_2 rfl 1 rfl ?_
  refine g_calli0 hC (g_runV hC (met_X5_of hz 2 p_ (by omega)) kc_X5 mG_o (lw_V q3680 q3682 qs41 q89 q3683) rfl md_X5_of dX5_strength_3 rfl ⟨by omega, by omega⟩ (by omega) (by omega) rfl (Nat.le_of_ble_eq_true rfl)) (fun r_1 G_1 n_1 u_1 hp_1 hn_1 hm_1 hu_1 => ?_)
  obtain ⟨rfl, rfl, rfl, rfl⟩ := hp_1
  refine g_istore_n (L' := [(2, .int (tl σ  2 p_)), (0, .ref m0), (1, .int (nI p_))]) hC dX5_strength_6 rfl (by decide) rfl ?_
  refine g_iload_n hC dX5_strength_7 rfl 0 rfl ?_
  refine g_aload_n hC dX5_strength_8 rfl 1 rfl ?_
  refine g_iconst (v := 4) hC dX5_strength_9 rfl ?_
  refine g_iload_n hC dX5_strength_10 rfl 2 rfl ?_
  refine g_calli0 hC (g_runV hC (met_X5_of hz 4 p_ (by omega)) kc_X5 mG_o (lw_V q3680 q3682 qs41 q89 q3683) rfl md_X5_of dX5_strength_11 rfl ⟨by omega, by omega⟩ (by omega) (by omega) rfl (Nat.le_of_ble_eq_true rfl)) (fun r_2 G_2 n_2 u_2 hp_2 hn_2 hm_2 hu_2 => ?_)
  obtain ⟨rfl, rfl, rfl, rfl⟩ := hp_2
  refine g_calli0 hC (g_runS hC (met_J12_bitCount (tl σ  4 p_) ) (lw_S q3690 q735 q106 q736) md_J12_bitCount dX5_strength_14 rfl ⟨by omega, by omega⟩ (by omega) (by omega) rfl (Nat.le_of_ble_eq_true rfl)) (fun r_3 G_3 n_3 u_3 hp_3 hn_3 hm_3 hu_3 => ?_)
  obtain ⟨rfl, rfl, rfl, rfl⟩ := hp_3
  refine g_iadd hC dX5_strength_17 ?_
  refine g_istore_n (L' := [(3, .int ((tl σ  2 p_) + (bitC (tl σ  4 p_)))), (2, .int (tl σ  2 p_)), (0, .ref m0), (1, .int (nI p_))]) hC dX5_strength_18 rfl (by decide) rfl ?_
  refine g_iconst (v := 5) hC dX5_strength_19 rfl ?_
  refine g_iload_n hC dX5_strength_20 rfl 1 rfl ?_
  refine g_calli0 hC (g_runS hC (met_J2_max 5 (tl σ  2 p_) ) (lw_S q3695 q756 q88 q757) md_J2_max dX5_strength_21 rfl ⟨by omega, by omega⟩ (by omega) (by omega) rfl (Nat.le_of_ble_eq_true rfl)) (fun r_4 G_4 n_4 u_4 hp_4 hn_4 hm_4 hu_4 => ?_)
  obtain ⟨rfl, rfl, rfl, rfl⟩ := hp_4
  refine g_istore (L' := [(4, .int (imax 5 (tl σ  2 p_))), (3, .int ((tl σ  2 p_) + (bitC (tl σ  4 p_)))), (2, .int (tl σ  2 p_)), (0, .ref m0), (1, .int (nI p_))]) hC dX5_strength_24 (by decide) rfl ?_
  refine g_aload_n hC dX5_strength_26 rfl 3 rfl ?_
  refine g_iconst (v := 1) hC dX5_strength_27 rfl ?_
  refine g_iload_n hC dX5_strength_28 rfl 4 rfl ?_
  refine g_calli0 hC (g_runV hC (met_X5_of hz 1 p_ (by omega)) kc_X5 mG_o (lw_V q3680 q3682 qs41 q89 q3683) rfl md_X5_of dX5_strength_29 rfl ⟨by omega, by omega⟩ (by omega) (by omega) rfl (Nat.le_of_ble_eq_true rfl)) (fun r_5 G_5 n_5 u_5 hp_5 hn_5 hm_5 hu_5 => ?_)
  obtain ⟨rfl, rfl, rfl, rfl⟩ := hp_5
  by_cases s_32_1 : (tl σ  1 p_) = 1
  · refine g_tableIn (tgt := 64) hC dX5_strength_32 (by rw [s_32_1]; decide) (by rw [s_32_1]; decide) (by rw [s_32_1]; rfl) (by decide) ?_
    refine g_iload_n hC dX5_strength_64 rfl 1 rfl ?_
    refine g_iret hC hr rfl ⟨_, rfl, ?_⟩ (by omega) (by omega) hE dX5_strength_65
    exact ⟨by simp_all [strF], rfl, rfl, rfl⟩
  by_cases s_32_2 : (tl σ  1 p_) = 2
  · refine g_tableIn (tgt := 66) hC dX5_strength_32 (by rw [s_32_2]; decide) (by rw [s_32_2]; decide) (by rw [s_32_2]; rfl) (by decide) ?_
    refine g_iload hC dX5_strength_66 0 rfl ?_
    refine g_iret hC hr rfl ⟨_, rfl, ?_⟩ (by omega) (by omega) hE dX5_strength_68
    exact ⟨by simp_all [strF], rfl, rfl, rfl⟩
  by_cases s_32_3 : (tl σ  1 p_) = 3
  · refine g_tableIn (tgt := 69) hC dX5_strength_32 (by rw [s_32_3]; decide) (by rw [s_32_3]; decide) (by rw [s_32_3]; rfl) (by decide) ?_
    refine g_iconst (v := 2) hC dX5_strength_69 rfl ?_
    refine g_iload_n hC dX5_strength_70 rfl 1 rfl ?_
    refine g_imul hC dX5_strength_71 ?_
    refine g_iret hC hr rfl ⟨_, rfl, ?_⟩ (by omega) (by omega) hE dX5_strength_72
    exact ⟨by simp_all [strF], rfl, rfl, rfl⟩
  by_cases s_32_4 : (tl σ  1 p_) = 4
  · refine g_tableIn (tgt := 73) hC dX5_strength_32 (by rw [s_32_4]; decide) (by rw [s_32_4]; decide) (by rw [s_32_4]; rfl) (by decide) ?_
    refine g_iload hC dX5_strength_73 0 rfl ?_
    refine g_iconst (v := 1) hC dX5_strength_75 rfl ?_
    refine g_iadd hC dX5_strength_76 ?_
    refine g_iret hC hr rfl ⟨_, rfl, ?_⟩ (by omega) (by omega) hE dX5_strength_77
    exact ⟨by simp_all [strF], rfl, rfl, rfl⟩
  refine g_tableOut (tgt := 78) hC dX5_strength_32 (tab_out_1_4 s_32_1 s_32_2 s_32_3 s_32_4) (by decide) ?_
  refine g_iload_n hC dX5_strength_78 rfl 2 rfl ?_
  refine g_iret hC hr rfl ⟨_, rfl, ?_⟩ (by omega) (by omega) hE dX5_strength_79
  exact ⟨by simp_all [strF], rfl, rfl, rfl⟩
