set_option maxRecDepth 100000
/-! THE MODEL, 3: loops -/
def foldN {α : Type} (f : α → Nat → α) (a : α) : Nat → α
  | 0 => a
  | n + 1 => f (foldN f a n) n
def anyN (P : Nat → Bool) : Nat → Bool
  | 0 => false
  | n + 1 => anyN P n || P n
theorem anyN_t {P : Nat → Bool} {i n : Nat} (h : i < n) (hp : P i = true) : anyN P n = true := by
  induction n with
  | zero => omega
  | succ n ih =>
    by_cases q : i = n
    · subst q; simp [anyN, hp]
    · simp [anyN, ih (by omega)]
theorem anyN_s {P : Nat → Bool} {i : Nat} (h : anyN P i = false) (hp : P i = false) : anyN P (i + 1) = false := by simp [anyN, h, hp]
theorem anyN_iff {P : Nat → Bool} {n : Nat} : anyN P n = true ↔ ∃ i, i < n ∧ P i = true := by
  induction n with
  | zero => simp [anyN]
  | succ n ih =>
    simp only [anyN, Bool.or_eq_true, ih]
    constructor
    · rintro (⟨i, h1, h2⟩ | h)
      · exact ⟨i, by omega, h2⟩
      · exact ⟨n, by omega, h⟩
    · rintro ⟨i, h1, h2⟩
      by_cases q : i = n
      · subst q; exact Or.inr h2
      · exact Or.inl ⟨i, by omega, h2⟩
def oI : Option Nat → Int32
  | none => -1
  | some f => nI f
def thereP (σ : MS) (na : Int32) (q : Nat) : Bool := decide (¬ tl σ 0 q = 3) && decide (tl σ 6 q = na)
def runP (σ : MS) (p s q : Nat) : Bool := decide (¬ q = p) && decide (tl σ 0 q = 1) && offF σ q s
def zrS (j : Nat) (z : MS) (q : Nat) : MS := mw z (160 * j + q) 0
def rowF (σ : MS) (s t n : Int32) : Int32 × MS :=
  if wi s 0 7 = true then (if 0 ≤ n then (if wi t 0 3 = true then (if n ≤ 160 then (1, foldN (zrS s.toNatClampNeg) (mu (mu σ 6 s.toNatClampNeg (100 + t)) 7 s.toNatClampNeg n) 160) else (-7, mNo σ 7)) else (-6, mNo σ 6)) else (-4, mNo σ 4)) else (-1, mNo σ 1)
def abF (a : Nat) : Nat := if 2 < a then a - 2 else 0
def unF (a k : Nat) : Bool := decide (a = k) || decide (abF a = k) || decide (k = 0)
theorem un_step : ∀ a, a ≤ 4 → ∀ k, k ≤ 4 → a ≠ k → 0 < a → unF (abF a) k = unF a k := by decide
theorem un_end : ∀ k, k ≤ 4 → ∀ a, a ≤ 4 → (a = k ∨ a = 0) → unF a k = decide (a = k) := by decide
def okD : Nat → Nat → Bool
  | 0, _ => true
  | f + 1, w => if w = 0 then true else if w % 27 = 0 then false else okD f (w / 27)
theorem okD_0 (f : Nat) : okD f 0 = true := by cases f <;> simp [okD]
def nmF (x : Int32) : Bool := if x ≤ 0 then false else if x < 531441 then okD 4 x.toNatClampNeg else false
def kyD : Nat → Nat → Nat
  | 0, w => w
  | f + 1, w => if w < 19683 then kyD f (w * 27) else w
theorem kyD_big {f w : Nat} (h : 19683 ≤ w) : kyD f w = w := by
  cases f with
  | zero => rfl
  | succ f => simp [kyD]; omega
def keyN (σ : MS) (q : Nat) : Nat := kyD 4 (tl σ 6 q).toNatClampNeg
def betF (σ : MS) (q g : Nat) : Bool := decide (strF σ g < strF σ q) || (decide (strF σ q = strF σ g) && oldF σ q g)
def pvS (σ : MS) (p s : Nat) (f : Option Nat) (q : Nat) : Option Nat :=
  if q = p then f else if ¬ tl σ 0 q = 1 then f else if offF σ q s = false then f else if oldF σ q p = false then f else match f with
    | none => some q
    | some g => if betF σ q g = true then some q else some g
def betK (σ : MS) (q g : Nat) : Bool := decide (strF σ g < strF σ q) || (decide (strF σ q = strF σ g) && decide (keyN σ q < keyN σ g))
def tkS (σ : MS) (p s : Nat) (f : Option Nat) (q : Nat) : Option Nat :=
  if q = p then f else if ¬ tl σ 0 q = 0 then f else if offF σ q s = false then f else match f with
    | none => some q
    | some g => if betK σ q g = true then some q else some g
theorem pvS_or {σ : MS} {p s q g : Nat} {f : Option Nat} (h : pvS σ p s f q = some g) : g = q ∨ f = some g := by
  unfold pvS at h
  by_cases c1 : q = p
  · rw [if_pos c1] at h; exact Or.inr h
  rw [if_neg c1] at h
  by_cases c2 : ¬ tl σ 0 q = 1
  · rw [if_pos c2] at h; exact Or.inr h
  rw [if_neg c2] at h
  by_cases c3 : offF σ q s = false
  · rw [if_pos c3] at h; exact Or.inr h
  rw [if_neg c3] at h
  by_cases c4 : oldF σ q p = false
  · rw [if_pos c4] at h; exact Or.inr h
  rw [if_neg c4] at h
  cases f with
  | none => exact Or.inl (Option.some.inj h).symm
  | some a =>
    simp only at h
    split at h
    · exact Or.inl (Option.some.inj h).symm
    · exact Or.inr h
theorem pvS_lt {σ : MS} {p s : Nat} : ∀ {i f : Nat}, foldN (pvS σ p s) none i = some f → f < i := by
  intro i
  induction i with
  | zero => intro f h; cases h
  | succ i ih =>
    intro f h
    rcases pvS_or h with h1 | h1
    · omega
    · have := ih h1; omega
theorem tkS_or {σ : MS} {p s q g : Nat} {f : Option Nat} (h : tkS σ p s f q = some g) : g = q ∨ f = some g := by
  unfold tkS at h
  by_cases c1 : q = p
  · rw [if_pos c1] at h; exact Or.inr h
  rw [if_neg c1] at h
  by_cases c2 : ¬ tl σ 0 q = 0
  · rw [if_pos c2] at h; exact Or.inr h
  rw [if_neg c2] at h
  by_cases c3 : offF σ q s = false
  · rw [if_pos c3] at h; exact Or.inr h
  rw [if_neg c3] at h
  cases f with
  | none => exact Or.inl (Option.some.inj h).symm
  | some a =>
    simp only at h
    split at h
    · exact Or.inl (Option.some.inj h).symm
    · exact Or.inr h
theorem tkS_lt {σ : MS} {p s : Nat} : ∀ {i f : Nat}, foldN (tkS σ p s) none i = some f → f < i := by
  intro i
  induction i with
  | zero => intro f h; cases h
  | succ i ih =>
    intro f h
    rcases tkS_or h with h1 | h1
    · omega
    · have := ih h1; omega
def cntF (σ : MS) (x : Int32) (n : Nat) : Nat := foldN (fun a q => if tl σ 0 q = x then a + 1 else a) 0 n
theorem cntF_le (σ : MS) (x : Int32) : ∀ n, cntF σ x n ≤ n := by
  intro n
  induction n with
  | zero => exact Nat.le_refl _
  | succ n ih =>
    show (if tl σ 0 n = x then cntF σ x n + 1 else cntF σ x n) ≤ n + 1
    split <;> omega
def bitI (q : Nat) : Int32 := 1 <<< (nI q &&& 31)
def offB (σ : MS) (s n : Nat) : Int32 := foldN (fun b q => if tl σ 0 q = 1 ∧ offF σ q s = true then b ||| bitI q else b) 0 n
def offeredF (σ : MS) (N : Nat) (s : Int32) : Int32 × MS := if wi s 0 7 = true then (offB σ s.toNatClampNeg N, σ) else (-1, mNo σ 1)
set_option maxHeartbeats 1000000 in
theorem met_X5_row {Y : YT} {l : Launch} {m0 n u : Nat} {σ : MS} {B : AH} (hz : yz Y ≤ m0) (s_ : Int32) (t_ : Int32) (n_ : Int32)  : GM Y l yX5_row (ws_ yX5_row cX5_row 5 (some FieldType.int)) 1 22 [.ref m0, .int s_, .int t_, .int n_] (mG Y m0 σ B) n u 0 0 (pI (fun r G' n' u' => (rowF σ  s_ t_ n_).1 = r ∧ mG Y m0 ((rowF σ  s_ t_ n_).2) B = G' ∧ n = n' ∧ u = u')) noX := by
  refine GM.intro (own := RX5) rfl (by decide +kernel) (Nat.le_of_ble_eq_true rfl) ?_
  intro p e s m args below meth c R Q hC hr hnm hF hL hE
  have hE1 := hE.1
  have hE2 := hE.2.1
  show V Y p l e R s m args below meth c 5 n u (mG Y m0 σ B) n u Q 0 [(0, .ref m0), (1, .int s_), (2, .int t_), (3, .int n_)] []
  refine g_iload_n hC dX5_row_0 rfl 1 rfl ?_
  refine g_iconst (v := 0) hC dX5_row_1 rfl ?_
  refine g_bipush (v := 7) hC dX5_row_2 (by decide) ?_
  refine g_calli0 hC (g_runS hC (met_X5_within hz s_ 0 7 ) (lw_S q3637 q3638 q89 q3639) md_X5_within dX5_row_4 rfl ⟨by omega, by omega⟩ (by omega) (by omega) rfl (Nat.le_of_ble_eq_true rfl)) (fun r_1 G_1 n_1 u_1 hp_1 hn_1 hm_1 hu_1 => ?_)
  obtain ⟨rfl, rfl, rfl, rfl⟩ := hp_1
  refine g_if_neB hC (wi s_ 0 7) dX5_row_7 (tgt := 16) (by decide) (fun c_7 => ?_) (fun c_7 => ?_)
  · refine g_iload_n hC dX5_row_16 rfl 3 rfl ?_
    refine g_if_ge hC dX5_row_17 (tgt := 27) (by decide) (fun c_17 => ?_) (fun c_17 => ?_)
    · refine g_iload_n hC dX5_row_27 rfl 2 rfl ?_
      refine g_iconst (v := 0) hC dX5_row_28 rfl ?_
      refine g_iconst (v := 3) hC dX5_row_29 rfl ?_
      refine g_calli0 hC (g_runS hC (met_X5_within hz t_ 0 3 ) (lw_S q3637 q3638 q89 q3639) md_X5_within dX5_row_30 rfl ⟨by omega, by omega⟩ (by omega) (by omega) rfl (Nat.le_of_ble_eq_true rfl)) (fun r_2 G_2 n_2 u_2 hp_2 hn_2 hm_2 hu_2 => ?_)
      obtain ⟨rfl, rfl, rfl, rfl⟩ := hp_2
      refine g_if_neB hC (wi t_ 0 3) dX5_row_33 (tgt := 43) (by decide) (fun c_33 => ?_) (fun c_33 => ?_)
      · refine g_iload_n hC dX5_row_43 rfl 3 rfl ?_
        refine g_sipush (v := 160) hC dX5_row_44 (by decide) ?_
        refine g_icmp_le hC dX5_row_47 (tgt := 57) (by decide) (fun c_47 => ?_) (fun c_47 => ?_)
        · have c7 : wi s_ 0 (nI 7) = true := c_7
          obtain ⟨j, hj, rfl⟩ := wi_nI (by decide) c7
          have cl_j : (nI j).toNatClampNeg = j := nI_clamp (by omega)
          have hj : j < 8 := by omega
          refine g_aload_n hC dX5_row_57 rfl 0 rfl ?_
          refine m_get (v := .ref (m0 + 3)) hC 6 (by decide) q3527 rfl dX5_row_58 ?_
          refine g_iload_n hC dX5_row_61 rfl 1 rfl ?_
          refine g_bipush (v := 100) hC dX5_row_62 (by decide) ?_
          refine g_iload_n hC dX5_row_64 rfl 2 rfl ?_
          refine g_iadd hC dX5_row_65 ?_
          refine m_ast hC 6 j rfl (show j < 8 from by omega) (by omega) hz dX5_row_66 ?_
          refine g_aload_n hC dX5_row_67 rfl 0 rfl ?_
          refine m_get (v := .ref (m0 + 4)) hC 7 (by decide) q3528 rfl dX5_row_68 ?_
          refine g_iload_n hC dX5_row_71 rfl 1 rfl ?_
          refine g_iload_n hC dX5_row_72 rfl 3 rfl ?_
          refine m_ast hC 7 j rfl (show j < 8 from by omega) (by omega) hz dX5_row_73 ?_
          refine g_iconst (v := 0) hC dX5_row_74 rfl ?_
          refine g_istore (L' := [(4, .int 0), (0, .ref m0), (1, .int (nI j)), (2, .int t_), (3, .int n_)]) hC dX5_row_75 (by decide) rfl ?_
          have hl_77 : ∀ (kf_ : Nat) (i : Nat), (i ≤ 160) → 160 - i < kf_ → V Y p l e R s m args below meth c 5 n u (mG Y m0 (foldN (zrS j) (mu (mu σ 6 j (100 + t_)) 7 j n_) i) B) n u Q 77 [(4, .int (nI i)), (0, .ref m0), (1, .int (nI j)), (2, .int t_), (3, .int n_)] [] := by
            intro kf_
            induction kf_ with
            | zero => intro i hi hk_; exact absurd hk_ (Nat.not_lt_zero _)
            | succ kf_ ih_ =>
              intro i hi hk_
              refine g_iload hC dX5_row_77 0 rfl ?_
              refine g_sipush (v := 160) hC dX5_row_79 (by decide) ?_
              refine g_icmp_geN hC i 160 (by omega) (by omega) dX5_row_82 (tgt := 105) (by decide) (fun c_82 => ?_) (fun c_82 => ?_)
              · have ee_ : 160 = i := by omega
                subst ee_
                refine g_iconst (v := 1) hC dX5_row_105 rfl ?_
                refine g_iret hC hr rfl ⟨_, rfl, ?_⟩ (by omega) (by omega) hE dX5_row_106
                first
                | contradiction
                | (have h9 : rowF σ  (nI j) t_ n_ = (1, foldN (zrS j) (mu (mu σ 6 j (100 + t_)) 7 j n_) 160) := (by first | rfl | (simp [rowF, c_7, c_17, c_33, c_47, cl_j, c7, c_82, nI_l0, nI_l1, nI_l2, nI_l3, nI_l4, nI_l5, nI_l6, nI_l7, nI_l8, nI_l9, nI_l10]; done) | (simp only [rowF, c_7, c_17, c_33, c_47, cl_j, c7, c_82, if_true, if_false, if_pos, if_neg]; rfl) | (unfold rowF; simp [c_7, c_17, c_33, c_47, cl_j, c7, c_82, nI_l0, nI_l1, nI_l2, nI_l3, nI_l4, nI_l5, nI_l6, nI_l7, nI_l8, nI_l9, nI_l10]; done)); exact ⟨by rw [h9], by rw [h9], rfl, rfl⟩)
              · refine g_aload_n hC dX5_row_85 rfl 1 rfl ?_
                refine m_get (v := .ref (m0 + 5)) hC 8 (by decide) q3529 rfl dX5_row_86 ?_
                refine g_sipush (v := 160) hC dX5_row_89 (by decide) ?_
                refine g_iload_n hC dX5_row_92 rfl 2 rfl ?_
                refine g_imulN hC 160 j dX5_row_93 ?_
                refine g_iload hC dX5_row_94 0 rfl ?_
                refine g_iaddN hC (160 * j) i dX5_row_96 ?_
                refine g_lconst (v := 0) hC dX5_row_97 rfl ?_
                refine m_last hC ((160 * j) + i) (by omega) hz dX5_row_98 ?_
                refine g_iincN (L' := [(4, .int (nI (i + 1))), (0, .ref m0), (1, .int (nI j)), (2, .int t_), (3, .int n_)]) hC 1 i dX5_row_99 (k := 0) rfl (by decide) (by decide) rfl ?_
                refine g_goto (tgt := 77) hC dX5_row_102 (by decide) ?_
                have h_ := ih_ (i + 1) (by omega) (by omega)
                have e_0 : foldN (zrS j) (mu (mu σ 6 j (100 + t_)) 7 j n_) (i + 1) = (mw (foldN (zrS j) (mu (mu σ 6 j (100 + t_)) 7 j n_) i) ((160 * j) + i) 0) := by first | rfl | (simp [foldN, c_7, c_17, c_33, c_47, cl_j, c7, c_82]; done)
                rw [e_0] at h_
                exact h_
          exact hl_77 (160 - 0 + 1) 0 (by omega) (by omega)
        · refine g_aload_n hC dX5_row_50 rfl 0 rfl ?_
          refine g_bipush (v := (-7)) hC dX5_row_51 (by decide) ?_
          refine g_calli0 hC (g_runV hC (met_X5_no hz 7 (by omega)) kc_X5 mG_o (lw_V q3640 q3642 qs37 q89 q3643) rfl md_X5_no dX5_row_53 rfl ⟨by omega, by omega⟩ (by omega) (by omega) rfl (Nat.le_of_ble_eq_true rfl)) (fun r_3 G_3 n_3 u_3 hp_3 hn_3 hm_3 hu_3 => ?_)
          obtain ⟨rfl, rfl, rfl, rfl⟩ := hp_3
          refine g_iret hC hr rfl ⟨_, rfl, ?_⟩ (by omega) (by omega) hE dX5_row_56
          first
          | contradiction
          | (have h9 : rowF σ  s_ t_ n_ = (-(nI 7), mNo σ 7) := (by first | rfl | (simp [rowF, c_7, c_17, c_33, c_47, nI_l0, nI_l1, nI_l2, nI_l3, nI_l4, nI_l5, nI_l6, nI_l7, nI_l8, nI_l9, nI_l10]; done) | (simp only [rowF, c_7, c_17, c_33, c_47, if_true, if_false, if_pos, if_neg]; rfl) | (unfold rowF; simp [c_7, c_17, c_33, c_47, nI_l0, nI_l1, nI_l2, nI_l3, nI_l4, nI_l5, nI_l6, nI_l7, nI_l8, nI_l9, nI_l10]; done)); exact ⟨by rw [h9], by rw [h9], rfl, rfl⟩)
      · refine g_aload_n hC dX5_row_36 rfl 0 rfl ?_
        refine g_bipush (v := (-6)) hC dX5_row_37 (by decide) ?_
        refine g_calli0 hC (g_runV hC (met_X5_no hz 6 (by omega)) kc_X5 mG_o (lw_V q3640 q3642 qs37 q89 q3643) rfl md_X5_no dX5_row_39 rfl ⟨by omega, by omega⟩ (by omega) (by omega) rfl (Nat.le_of_ble_eq_true rfl)) (fun r_4 G_4 n_4 u_4 hp_4 hn_4 hm_4 hu_4 => ?_)
        obtain ⟨rfl, rfl, rfl, rfl⟩ := hp_4
        refine g_iret hC hr rfl ⟨_, rfl, ?_⟩ (by omega) (by omega) hE dX5_row_42
        first
        | contradiction
        | (have h9 : rowF σ  s_ t_ n_ = (-(nI 6), mNo σ 6) := (by first | rfl | (simp [rowF, c_7, c_17, c_33, nI_l0, nI_l1, nI_l2, nI_l3, nI_l4, nI_l5, nI_l6, nI_l7, nI_l8, nI_l9, nI_l10]; done) | (simp only [rowF, c_7, c_17, c_33, if_true, if_false, if_pos, if_neg]; rfl) | (unfold rowF; simp [c_7, c_17, c_33, nI_l0, nI_l1, nI_l2, nI_l3, nI_l4, nI_l5, nI_l6, nI_l7, nI_l8, nI_l9, nI_l10]; done)); exact ⟨by rw [h9], by rw [h9], rfl, rfl⟩)
    · refine g_aload_n hC dX5_row_20 rfl 0 rfl ?_
      refine g_bipush (v := (-4)) hC dX5_row_21 (by decide) ?_
      refine g_calli0 hC (g_runV hC (met_X5_no hz 4 (by omega)) kc_X5 mG_o (lw_V q3640 q3642 qs37 q89 q3643) rfl md_X5_no dX5_row_23 rfl ⟨by omega, by omega⟩ (by omega) (by omega) rfl (Nat.le_of_ble_eq_true rfl)) (fun r_5 G_5 n_5 u_5 hp_5 hn_5 hm_5 hu_5 => ?_)
      obtain ⟨rfl, rfl, rfl, rfl⟩ := hp_5
      refine g_iret hC hr rfl ⟨_, rfl, ?_⟩ (by omega) (by omega) hE dX5_row_26
      first
      | contradiction
      | (have h9 : rowF σ  s_ t_ n_ = (-(nI 4), mNo σ 4) := (by first | rfl | (simp [rowF, c_7, c_17, nI_l0, nI_l1, nI_l2, nI_l3, nI_l4, nI_l5, nI_l6, nI_l7, nI_l8, nI_l9, nI_l10]; done) | (simp only [rowF, c_7, c_17, if_true, if_false, if_pos, if_neg]; rfl) | (unfold rowF; simp [c_7, c_17, nI_l0, nI_l1, nI_l2, nI_l3, nI_l4, nI_l5, nI_l6, nI_l7, nI_l8, nI_l9, nI_l10]; done)); exact ⟨by rw [h9], by rw [h9], rfl, rfl⟩)
  · refine g_aload_n hC dX5_row_10 rfl 0 rfl ?_
    refine g_iconst (v := (-1)) hC dX5_row_11 rfl ?_
    refine g_calli0 hC (g_runV hC (met_X5_no hz 1 (by omega)) kc_X5 mG_o (lw_V q3640 q3642 qs37 q89 q3643) rfl md_X5_no dX5_row_12 rfl ⟨by omega, by omega⟩ (by omega) (by omega) rfl (Nat.le_of_ble_eq_true rfl)) (fun r_6 G_6 n_6 u_6 hp_6 hn_6 hm_6 hu_6 => ?_)
    obtain ⟨rfl, rfl, rfl, rfl⟩ := hp_6
    refine g_iret hC hr rfl ⟨_, rfl, ?_⟩ (by omega) (by omega) hE dX5_row_15
    first
    | contradiction
    | (have h9 : rowF σ  s_ t_ n_ = (-(nI 1), mNo σ 1) := (by first | rfl | (simp [rowF, c_7, nI_l0, nI_l1, nI_l2, nI_l3, nI_l4, nI_l5, nI_l6, nI_l7, nI_l8, nI_l9, nI_l10]; done) | (simp only [rowF, c_7, if_true, if_false, if_pos, if_neg]; rfl) | (unfold rowF; simp [c_7, nI_l0, nI_l1, nI_l2, nI_l3, nI_l4, nI_l5, nI_l6, nI_l7, nI_l8, nI_l9, nI_l10]; done)); exact ⟨by rw [h9], by rw [h9], rfl, rfl⟩)
set_option maxHeartbeats 1000000 in
theorem met_X5_above {Y : YT} {l : Launch} {m0 n u : Nat} {σ : MS} {B : AH} (hz : yz Y ≤ m0) (a_ : Nat) (ha : a_ < 100) : GM Y l yX5_above (ws_ yX5_above cX5_above 1 (some FieldType.int)) 0 0 [.int (nI a_)] (mG Y m0 σ B) n u 0 0 (pI (fun r G' n' u' => nI (abF a_) = r ∧ mG Y m0 σ B = G' ∧ n = n' ∧ u = u')) noX := by
  refine GM.intro (own := RX5) rfl (by decide +kernel) (Nat.le_of_ble_eq_true rfl) ?_
  intro p e s m args below meth c R Q hC hr hnm hF hL hE
  have hE1 := hE.1
  have hE2 := hE.2.1
  show V Y p l e R s m args below meth c 1 n u (mG Y m0 σ B) n u Q 0 [(0, .int (nI a_))] []
  refine g_iload_n hC dX5_above_0 rfl 0 rfl ?_
  refine g_iconst (v := 2) hC dX5_above_1 rfl ?_
  refine g_icmp_leN hC a_ 2 (by omega) (by omega) dX5_above_2 (tgt := 11) (by decide) (fun c_2 => ?_) (fun c_2 => ?_)
  · refine g_iconst (v := 0) hC dX5_above_11 rfl ?_
    refine g_iret hC hr rfl ⟨_, rfl, ?_⟩ (by omega) (by omega) hE dX5_above_12
    exact ⟨by first | (rw [show abF a_ = a_ - 2 from if_pos c_2]; done) | (rw [show abF a_ = 0 from if_neg (by omega)]; rfl), rfl, rfl, rfl⟩
  · refine g_iload_n hC dX5_above_5 rfl 0 rfl ?_
    refine g_iconst (v := 2) hC dX5_above_6 rfl ?_
    refine g_isubN hC a_ 2 (by omega) dX5_above_7 ?_
    refine g_goto (tgt := 12) hC dX5_above_8 (by decide) ?_
    refine g_iret hC hr rfl ⟨_, rfl, ?_⟩ (by omega) (by omega) hE dX5_above_12
    exact ⟨by first | (rw [show abF a_ = a_ - 2 from if_pos c_2]; done) | (rw [show abF a_ = 0 from if_neg (by omega)]; rfl), rfl, rfl, rfl⟩
set_option maxHeartbeats 1000000 in
theorem met_X5_isUnder {Y : YT} {l : Launch} {m0 n u : Nat} {σ : MS} {B : AH} (hz : yz Y ≤ m0) (t_ : Nat) (k_ : Nat) (ht1 : t_ ≤ 4) (hk1 : k_ ≤ 4) : GM Y l yX5_isUnder (ws_ yX5_isUnder cX5_isUnder 3 (some FieldType.boolean)) 1 20 [.int (nI t_), .int (nI k_)] (mG Y m0 σ B) n u 0 0 (pI (fun r G' n' u' => b2i (unF t_ k_) = r ∧ mG Y m0 σ B = G' ∧ n = n' ∧ u = u')) noX := by
  refine GM.intro (own := RX5) rfl (by decide +kernel) (Nat.le_of_ble_eq_true rfl) ?_
  intro p e s m args below meth c R Q hC hr hnm hF hL hE
  have hE1 := hE.1
  have hE2 := hE.2.1
  show V Y p l e R s m args below meth c 3 n u (mG Y m0 σ B) n u Q 0 [(0, .int (nI t_)), (1, .int (nI k_))] []
  refine g_iload_n hC dX5_isUnder_0 rfl 0 rfl ?_
  refine g_istore_n (L' := [(2, .int (nI t_)), (0, .int (nI t_)), (1, .int (nI k_))]) hC dX5_isUnder_1 rfl (by decide) rfl ?_
  have hl_2 : ∀ (kf_ : Nat) (a : Nat), (a ≤ 4) → (unF a k_ = unF t_ k_) → a < kf_ → V Y p l e R s m args below meth c 3 n u (mG Y m0 σ B) n u Q 2 [(2, .int (nI a)), (0, .int (nI t_)), (1, .int (nI k_))] [] := by
    intro kf_
    induction kf_ with
    | zero => intro a ha he hk_; exact absurd hk_ (Nat.not_lt_zero _)
    | succ kf_ ih_ =>
      intro a ha he hk_
      refine g_iload_n hC dX5_isUnder_2 rfl 0 rfl ?_
      refine g_iload_n hC dX5_isUnder_3 rfl 2 rfl ?_
      refine g_icmp_eqN hC a k_ (by omega) (by omega) dX5_isUnder_4 (tgt := 19) (by decide) (fun c_4 => ?_) (fun c_4 => ?_)
      · refine g_iload_n hC dX5_isUnder_19 rfl 0 rfl ?_
        refine g_iload_n hC dX5_isUnder_20 rfl 2 rfl ?_
        refine g_icmp_neN hC a k_ (by omega) (by omega) dX5_isUnder_21 (tgt := 28) (by decide) (fun c_21 => ?_) (fun c_21 => ?_)
        · refine g_iconst (v := 0) hC dX5_isUnder_28 rfl ?_
          refine g_iret hC hr rfl ⟨_, rfl, ?_⟩ (by omega) (by omega) hE dX5_isUnder_29
          exact ⟨by rw [← he, un_end k_ hk1 a ha (by omega)]; first | (rw [decide_eq_true (by omega)]; rfl) | (rw [decide_eq_false (by omega)]; rfl), rfl, rfl, rfl⟩
        · refine g_iconst (v := 1) hC dX5_isUnder_24 rfl ?_
          refine g_goto (tgt := 29) hC dX5_isUnder_25 (by decide) ?_
          refine g_iret hC hr rfl ⟨_, rfl, ?_⟩ (by omega) (by omega) hE dX5_isUnder_29
          exact ⟨by rw [← he, un_end k_ hk1 a ha (by omega)]; first | (rw [decide_eq_true (by omega)]; rfl) | (rw [decide_eq_false (by omega)]; rfl), rfl, rfl, rfl⟩
      · refine g_iload_n hC dX5_isUnder_7 rfl 0 rfl ?_
        refine g_if_leN hC a (by omega) dX5_isUnder_8 (tgt := 19) (by decide) (fun c_8 => ?_) (fun c_8 => ?_)
        · refine g_iload_n hC dX5_isUnder_19 rfl 0 rfl ?_
          refine g_iload_n hC dX5_isUnder_20 rfl 2 rfl ?_
          refine g_icmp_neN hC a k_ (by omega) (by omega) dX5_isUnder_21 (tgt := 28) (by decide) (fun c_21 => ?_) (fun c_21 => ?_)
          · refine g_iconst (v := 0) hC dX5_isUnder_28 rfl ?_
            refine g_iret hC hr rfl ⟨_, rfl, ?_⟩ (by omega) (by omega) hE dX5_isUnder_29
            exact ⟨by rw [← he, un_end k_ hk1 a ha (by omega)]; first | (rw [decide_eq_true (by omega)]; rfl) | (rw [decide_eq_false (by omega)]; rfl), rfl, rfl, rfl⟩
          · refine g_iconst (v := 1) hC dX5_isUnder_24 rfl ?_
            refine g_goto (tgt := 29) hC dX5_isUnder_25 (by decide) ?_
            refine g_iret hC hr rfl ⟨_, rfl, ?_⟩ (by omega) (by omega) hE dX5_isUnder_29
            exact ⟨by rw [← he, un_end k_ hk1 a ha (by omega)]; first | (rw [decide_eq_true (by omega)]; rfl) | (rw [decide_eq_false (by omega)]; rfl), rfl, rfl, rfl⟩
        · refine g_iload_n hC dX5_isUnder_11 rfl 0 rfl ?_
          refine g_calli0 hC (g_runS hC (met_X5_above hz a (by omega)) (lw_S q3687 q3688 q89 q3689) md_X5_above dX5_isUnder_12 rfl ⟨by omega, by omega⟩ (by omega) (by omega) rfl (Nat.le_of_ble_eq_true rfl)) (fun r_1 G_1 n_1 u_1 hp_1 hn_1 hm_1 hu_1 => ?_)
          obtain ⟨rfl, rfl, rfl, rfl⟩ := hp_1
          refine g_istore_n (L' := [(2, .int (nI (abF a))), (0, .int (nI t_)), (1, .int (nI k_))]) hC dX5_isUnder_15 rfl (by decide) rfl ?_
          refine g_goto (tgt := 2) hC dX5_isUnder_16 (by decide) ?_
          exact ih_ (abF a) (by unfold abF; split <;> omega) (by rw [un_step a ha k_ hk1 c_4 c_8]; exact he) (by unfold abF; split <;> omega)
  exact hl_2 (t_ + 1) t_ (by omega) (rfl) (by omega)
set_option maxHeartbeats 1000000 in
theorem met_X5_isName {Y : YT} {l : Launch} {m0 n u : Nat} {σ : MS} {B : AH} (hz : yz Y ≤ m0) (x_ : Int32)  : GM Y l yX5_isName (ws_ yX5_isName cX5_isName 2 (some FieldType.boolean)) 0 0 [.int x_] (mG Y m0 σ B) n u 0 0 (pI (fun r G' n' u' => b2i (nmF x_) = r ∧ mG Y m0 σ B = G' ∧ n = n' ∧ u = u')) noX := by
  refine GM.intro (own := RX5) rfl (by decide +kernel) (Nat.le_of_ble_eq_true rfl) ?_
  intro p e s m args below meth c R Q hC hr hnm hF hL hE
  have hE1 := hE.1
  have hE2 := hE.2.1
  show V Y p l e R s m args below meth c 2 n u (mG Y m0 σ B) n u Q 0 [(0, .int x_)] []
  refine g_iload_n hC dX5_isName_0 rfl 0 rfl ?_
  refine g_if_le hC dX5_isName_1 (tgt := 10) (by decide) (fun c_1 => ?_) (fun c_1 => ?_)
  · refine g_iconst (v := 0) hC dX5_isName_10 rfl ?_
    refine g_iret hC hr rfl ⟨_, rfl, ?_⟩ (by omega) (by omega) hE dX5_isName_11
    exact ⟨by first | (simp [nmF, c_1]; done) | (simp [nmF, Int32.not_lt.mpr c_7]; done) | (rw [← he, show okD (g + 1) a = false from by unfold okD; rw [if_neg (by omega), if_pos c_22]]; rfl) | (rw [← he, show a = 0 by omega, okD_0]; rfl) | (unfold nmF; rw [if_neg (by assumption), if_neg (by assumption)]; rfl) | (unfold nmF; rw [if_pos (by assumption)]; rfl), rfl, rfl, rfl⟩
  · refine g_iload_n hC dX5_isName_4 rfl 0 rfl ?_
    refine g_ldc (v := 531441) hC q3703 dX5_isName_5 ?_
    refine g_icmp_lt hC dX5_isName_7 (tgt := 12) (by decide) (fun c_7 => ?_) (fun c_7 => ?_)
    · have d0 : ¬ x_ ≤ 0 := Int32.not_le.mpr (Int32.not_le.mp (by assumption))
      obtain ⟨x, hx, rfl⟩ := nI_of (x := x_) (Int32.not_lt.mpr (Int32.le_of_lt (Int32.not_le.mp d0)))
      have hx5 : x < 531441 := (nI_ltI (b := 531441) hx (by decide)).mp c_7
      have d5 : nI x < 531441 := c_7
      have cl_x : (nI x).toNatClampNeg = x := nI_clamp (by omega)
      refine g_iload_n hC dX5_isName_12 rfl 0 rfl ?_
      refine g_istore_n (L' := [(1, .int (nI x)), (0, .int (nI x))]) hC dX5_isName_13 rfl (by decide) rfl ?_
      have hl_14 : ∀ (kf_ : Nat) (a : Nat) (f : Nat), (a < 27 ^ f) → (okD f a = nmF (nI x)) → (a < 531441) → a < kf_ → V Y p l e R s m args below meth c 2 n u (mG Y m0 σ B) n u Q 14 [(1, .int (nI a))] [] := by
        intro kf_
        induction kf_ with
        | zero => intro a f ha he hb hk_; exact absurd hk_ (Nat.not_lt_zero _)
        | succ kf_ ih_ =>
          intro a f ha he hb hk_
          refine g_iload_n hC dX5_isName_14 rfl 0 rfl ?_
          refine g_if_leN hC a (by omega) dX5_isName_15 (tgt := 35) (by decide) (fun c_15 => ?_) (fun c_15 => ?_)
          · refine g_iconst (v := 1) hC dX5_isName_35 rfl ?_
            refine g_iret hC hr rfl ⟨_, rfl, ?_⟩ (by omega) (by omega) hE dX5_isName_36
            exact ⟨by first | (simp [nmF, c_1]; done) | (simp [nmF, Int32.not_lt.mpr c_7]; done) | (rw [← he, show okD (g + 1) a = false from by unfold okD; rw [if_neg (by omega), if_pos c_22]]; rfl) | (rw [← he, show a = 0 by omega, okD_0]; rfl) | (unfold nmF; rw [if_neg (by assumption), if_neg (by assumption)]; rfl) | (unfold nmF; rw [if_pos (by assumption)]; rfl), rfl, rfl, rfl⟩
          · have hf : ∃ g, f = g + 1 := by
              rcases f with _ | g
              · simp at ha; omega
              · exact ⟨g, rfl⟩
            obtain ⟨g, rfl⟩ := hf
            refine g_iload_n hC dX5_isName_18 rfl 0 rfl ?_
            refine g_bipush (v := 27) hC dX5_isName_19 (by decide) ?_
            refine g_iremN hC a 27 (by omega) (by omega) (by omega) dX5_isName_21 ?_
            refine g_if_neN hC (a % 27) (by omega) dX5_isName_22 (tgt := 27) (by decide) (fun c_22 => ?_) (fun c_22 => ?_)
            · refine g_iload_n hC dX5_isName_27 rfl 0 rfl ?_
              refine g_bipush (v := 27) hC dX5_isName_28 (by decide) ?_
              refine g_idivN hC a 27 (by omega) (by omega) (by omega) dX5_isName_30 ?_
              refine g_istore_n (L' := [(1, .int (nI (a / 27)))]) hC dX5_isName_31 rfl (by decide) rfl ?_
              refine g_goto (tgt := 14) hC dX5_isName_32 (by decide) ?_
              exact ih_ (a / 27) g (by rw [Nat.pow_succ] at ha; omega) (by rw [← he]; show _ = okD (g + 1) a; unfold okD; rw [if_neg (by omega), if_neg c_22]; cases g <;> rfl) (by omega) (by omega)
            · refine g_iconst (v := 0) hC dX5_isName_25 rfl ?_
              refine g_iret hC hr rfl ⟨_, rfl, ?_⟩ (by omega) (by omega) hE dX5_isName_26
              exact ⟨by first | (simp [nmF, c_1]; done) | (simp [nmF, Int32.not_lt.mpr c_7]; done) | (rw [← he, show okD (g + 1) a = false from by unfold okD; rw [if_neg (by omega), if_pos c_22]]; rfl) | (rw [← he, show a = 0 by omega, okD_0]; rfl) | (unfold nmF; rw [if_neg (by assumption), if_neg (by assumption)]; rfl) | (unfold nmF; rw [if_pos (by assumption)]; rfl), rfl, rfl, rfl⟩
      refine V.sub [0] rfl ?_
      exact hl_14 (x + 1) x 4 (by omega) (by simp [nmF, d0, d5, cl_x]) (by omega) (by omega)
    · refine g_iconst (v := 0) hC dX5_isName_10 rfl ?_
      refine g_iret hC hr rfl ⟨_, rfl, ?_⟩ (by omega) (by omega) hE dX5_isName_11
      exact ⟨by first | (simp [nmF, c_1]; done) | (simp [nmF, Int32.not_lt.mpr c_7]; done) | (rw [← he, show okD (g + 1) a = false from by unfold okD; rw [if_neg (by omega), if_pos c_22]]; rfl) | (rw [← he, show a = 0 by omega, okD_0]; rfl) | (unfold nmF; rw [if_neg (by assumption), if_neg (by assumption)]; rfl) | (unfold nmF; rw [if_pos (by assumption)]; rfl), rfl, rfl, rfl⟩
set_option maxHeartbeats 1000000 in
theorem met_X5_isThere {Y : YT} {l : Launch} {m0 n u : Nat} {σ : MS} {B : AH} (hz : yz Y ≤ m0) (na : Int32) {N : Nat} (hN : σ.1 0 0 = nI N) (hN2 : N ≤ 12) : GM Y l yX5_isThere (ws_ yX5_isThere cX5_isThere 3 (some FieldType.boolean)) 1 22 [.ref m0, .int na] (mG Y m0 σ B) n u 0 0 (pI (fun r G' n' u' => b2i (anyN (thereP σ na) N) = r ∧ mG Y m0 σ B = G' ∧ n = n' ∧ u = u')) noX := by
  refine GM.intro (own := RX5) rfl (by decide +kernel) (Nat.le_of_ble_eq_true rfl) ?_
  intro p e s m args below meth c R Q hC hr hnm hF hL hE
  have hE1 := hE.1
  have hE2 := hE.2.1
  show V Y p l e R s m args below meth c 3 n u (mG Y m0 σ B) n u Q 0 [(0, .ref m0), (1, .int na)] []
  refine g_iconst (v := 0) hC dX5_isThere_0 rfl ?_
  refine g_istore_n (L' := [(2, .int 0), (0, .ref m0), (1, .int na)]) hC dX5_isThere_1 rfl (by decide) rfl ?_
  have hl_2 : ∀ (kf_ : Nat) (q : Nat), (q ≤ N) → (anyN (thereP σ na) q = false) → N - q < kf_ → V Y p l e R s m args below meth c 3 n u (mG Y m0 σ B) n u Q 2 [(2, .int (nI q)), (0, .ref m0), (1, .int na)] [] := by
    intro kf_
    induction kf_ with
    | zero => intro q hi hn hk_; exact absurd hk_ (Nat.not_lt_zero _)
    | succ kf_ ih_ =>
      intro q hi hn hk_
      refine g_iload_n hC dX5_isThere_2 rfl 0 rfl ?_
      refine g_aload_n hC dX5_isThere_3 rfl 1 rfl ?_
      refine m_get (v := .int (nI N)) hC 0 (by decide) q3521 (congrArg (fun z => some (Value.int z)) hN) dX5_isThere_4 ?_
      refine g_icmp_geN hC q N (by omega) (by omega) dX5_isThere_7 (tgt := 38) (by decide) (fun c_7 => ?_) (fun c_7 => ?_)
      · have ee_ : N = q := by omega
        subst ee_
        refine g_iconst (v := 0) hC dX5_isThere_38 rfl ?_
        refine g_iret hC hr rfl ⟨_, rfl, ?_⟩ (by omega) (by omega) hE dX5_isThere_39
        first
        | exact ⟨by rw [hn]; rfl, rfl, rfl, rfl⟩
        | exact ⟨by rw [anyN_t c_7 (by simp [thereP, ])]; rfl, rfl, rfl, rfl⟩
      · refine g_aload_n hC dX5_isThere_10 rfl 1 rfl ?_
        refine g_iload_n hC dX5_isThere_11 rfl 0 rfl ?_
        refine g_calli0 hC (g_runV hC (met_X5_state hz q (by omega)) kc_X5 mG_o (lw_V q3708 q3710 qs44 q89 q3711) rfl md_X5_state dX5_isThere_12 rfl ⟨by omega, by omega⟩ (by omega) (by omega) rfl (Nat.le_of_ble_eq_true rfl)) (fun r_1 G_1 n_1 u_1 hp_1 hn_1 hm_1 hu_1 => ?_)
        obtain ⟨rfl, rfl, rfl, rfl⟩ := hp_1
        refine g_iconst (v := 3) hC dX5_isThere_15 rfl ?_
        refine g_icmp_eq hC dX5_isThere_16 (tgt := 32) (by decide) (fun c_16 => ?_) (fun c_16 => ?_)
        · refine g_iincN (L' := [(2, .int (nI (q + 1))), (0, .ref m0), (1, .int na)]) hC 1 q dX5_isThere_32 (k := 0) rfl (by decide) (by decide) rfl ?_
          refine g_goto (tgt := 2) hC dX5_isThere_35 (by decide) ?_
          exact ih_ (q + 1) (by omega) (anyN_s hn (by simp [thereP, c_16])) (by omega)
        · refine g_aload_n hC dX5_isThere_19 rfl 1 rfl ?_
          refine g_bipush (v := 6) hC dX5_isThere_20 (by decide) ?_
          refine g_iload_n hC dX5_isThere_22 rfl 0 rfl ?_
          refine g_calli0 hC (g_runV hC (met_X5_of hz 6 q (by omega)) kc_X5 mG_o (lw_V q3680 q3682 qs41 q89 q3683) rfl md_X5_of dX5_isThere_23 rfl ⟨by omega, by omega⟩ (by omega) (by omega) rfl (Nat.le_of_ble_eq_true rfl)) (fun r_2 G_2 n_2 u_2 hp_2 hn_2 hm_2 hu_2 => ?_)
          obtain ⟨rfl, rfl, rfl, rfl⟩ := hp_2
          refine g_iload_n hC dX5_isThere_26 rfl 2 rfl ?_
          refine g_icmp_ne hC dX5_isThere_27 (tgt := 32) (by decide) (fun c_27 => ?_) (fun c_27 => ?_)
          · refine g_iincN (L' := [(2, .int (nI (q + 1))), (0, .ref m0), (1, .int na)]) hC 1 q dX5_isThere_32 (k := 0) rfl (by decide) (by decide) rfl ?_
            refine g_goto (tgt := 2) hC dX5_isThere_35 (by decide) ?_
            exact ih_ (q + 1) (by omega) (anyN_s hn (by simp [thereP, c_16, c_27])) (by omega)
          · refine g_iconst (v := 1) hC dX5_isThere_30 rfl ?_
            refine g_iret hC hr rfl ⟨_, rfl, ?_⟩ (by omega) (by omega) hE dX5_isThere_31
            first
            | exact ⟨by rw [hn]; rfl, rfl, rfl, rfl⟩
            | exact ⟨by rw [anyN_t c_7 (by simp [thereP, c_16, c_27])]; rfl, rfl, rfl, rfl⟩
  exact hl_2 (N - 0 + 1) 0 (by omega) (rfl) (by omega)
set_option maxHeartbeats 1000000 in
theorem met_X5_isRun {Y : YT} {l : Launch} {m0 n u : Nat} {σ : MS} {B : AH} (hz : yz Y ≤ m0) (p_ : Nat) (s_ : Nat) {N : Nat} (hN : σ.1 0 0 = nI N) (hN2 : N ≤ 12) (hp : p_ < 12) : GM Y l yX5_isRun (ws_ yX5_isRun cX5_isRun 4 (some FieldType.boolean)) 2 44 [.ref m0, .int (nI p_), .int (nI s_)] (mG Y m0 σ B) n u 0 0 (pI (fun r G' n' u' => b2i (anyN (runP σ p_ s_) N) = r ∧ mG Y m0 σ B = G' ∧ n = n' ∧ u = u')) noX := by
  refine GM.intro (own := RX5) rfl (by decide +kernel) (Nat.le_of_ble_eq_true rfl) ?_
  intro p e s m args below meth c R Q hC hr hnm hF hL hE
  have hE1 := hE.1
  have hE2 := hE.2.1
  show V Y p l e R s m args below meth c 4 n u (mG Y m0 σ B) n u Q 0 [(0, .ref m0), (1, .int (nI p_)), (2, .int (nI s_))] []
  refine g_iconst (v := 0) hC dX5_isRun_0 rfl ?_
  refine g_istore_n (L' := [(3, .int 0), (0, .ref m0), (1, .int (nI p_)), (2, .int (nI s_))]) hC dX5_isRun_1 rfl (by decide) rfl ?_
  have hl_2 : ∀ (kf_ : Nat) (q : Nat), (q ≤ N) → (anyN (runP σ p_ s_) q = false) → N - q < kf_ → V Y p l e R s m args below meth c 4 n u (mG Y m0 σ B) n u Q 2 [(3, .int (nI q)), (0, .ref m0), (1, .int (nI p_)), (2, .int (nI s_))] [] := by
    intro kf_
    induction kf_ with
    | zero => intro q hi hn hk_; exact absurd hk_ (Nat.not_lt_zero _)
    | succ kf_ ih_ =>
      intro q hi hn hk_
      refine g_iload_n hC dX5_isRun_2 rfl 0 rfl ?_
      refine g_aload_n hC dX5_isRun_3 rfl 1 rfl ?_
      refine m_get (v := .int (nI N)) hC 0 (by decide) q3521 (congrArg (fun z => some (Value.int z)) hN) dX5_isRun_4 ?_
      refine g_icmp_geN hC q N (by omega) (by omega) dX5_isRun_7 (tgt := 41) (by decide) (fun c_7 => ?_) (fun c_7 => ?_)
      · have ee_ : N = q := by omega
        subst ee_
        refine g_iconst (v := 0) hC dX5_isRun_41 rfl ?_
        refine g_iret hC hr rfl ⟨_, rfl, ?_⟩ (by omega) (by omega) hE dX5_isRun_42
        first
        | exact ⟨by rw [hn]; rfl, rfl, rfl, rfl⟩
        | exact ⟨by rw [anyN_t c_7 (by simp [runP, ])]; rfl, rfl, rfl, rfl⟩
      · refine g_iload_n hC dX5_isRun_10 rfl 0 rfl ?_
        refine g_iload_n hC dX5_isRun_11 rfl 2 rfl ?_
        refine g_icmp_eqN hC q p_ (by omega) (by omega) dX5_isRun_12 (tgt := 35) (by decide) (fun c_12 => ?_) (fun c_12 => ?_)
        · refine g_iincN (L' := [(3, .int (nI (q + 1))), (0, .ref m0), (1, .int (nI p_)), (2, .int (nI s_))]) hC 1 q dX5_isRun_35 (k := 0) rfl (by decide) (by decide) rfl ?_
          refine g_goto (tgt := 2) hC dX5_isRun_38 (by decide) ?_
          exact ih_ (q + 1) (by omega) (anyN_s hn (by simp [runP, c_12])) (by omega)
        · refine g_aload_n hC dX5_isRun_15 rfl 1 rfl ?_
          refine g_iload_n hC dX5_isRun_16 rfl 0 rfl ?_
          refine g_calli0 hC (g_runV hC (met_X5_state hz q (by omega)) kc_X5 mG_o (lw_V q3708 q3710 qs44 q89 q3711) rfl md_X5_state dX5_isRun_17 rfl ⟨by omega, by omega⟩ (by omega) (by omega) rfl (Nat.le_of_ble_eq_true rfl)) (fun r_1 G_1 n_1 u_1 hp_1 hn_1 hm_1 hu_1 => ?_)
          obtain ⟨rfl, rfl, rfl, rfl⟩ := hp_1
          refine g_iconst (v := 1) hC dX5_isRun_20 rfl ?_
          refine g_icmp_ne hC dX5_isRun_21 (tgt := 35) (by decide) (fun c_21 => ?_) (fun c_21 => ?_)
          · refine g_iincN (L' := [(3, .int (nI (q + 1))), (0, .ref m0), (1, .int (nI p_)), (2, .int (nI s_))]) hC 1 q dX5_isRun_35 (k := 0) rfl (by decide) (by decide) rfl ?_
            refine g_goto (tgt := 2) hC dX5_isRun_38 (by decide) ?_
            exact ih_ (q + 1) (by omega) (anyN_s hn (by simp [runP, c_12, c_21])) (by omega)
          · refine g_aload_n hC dX5_isRun_24 rfl 1 rfl ?_
            refine g_iload_n hC dX5_isRun_25 rfl 0 rfl ?_
            refine g_iload_n hC dX5_isRun_26 rfl 3 rfl ?_
            refine g_calli0 hC (g_runV hC (met_X5_isOffered hz q s_ (by omega)) kc_X5 mG_o (lw_V q3779 q3781 qs55 q89 q3782) rfl md_X5_isOffered dX5_isRun_27 rfl ⟨by omega, by omega⟩ (by omega) (by omega) rfl (Nat.le_of_ble_eq_true rfl)) (fun r_2 G_2 n_2 u_2 hp_2 hn_2 hm_2 hu_2 => ?_)
            obtain ⟨rfl, rfl, rfl, rfl⟩ := hp_2
            refine g_if_eqB hC (offF σ  q s_) dX5_isRun_30 (tgt := 35) (by decide) (fun c_30 => ?_) (fun c_30 => ?_)
            · refine g_iincN (L' := [(3, .int (nI (q + 1))), (0, .ref m0), (1, .int (nI p_)), (2, .int (nI s_))]) hC 1 q dX5_isRun_35 (k := 0) rfl (by decide) (by decide) rfl ?_
              refine g_goto (tgt := 2) hC dX5_isRun_38 (by decide) ?_
              exact ih_ (q + 1) (by omega) (anyN_s hn (by simp [runP, c_12, c_21, c_30])) (by omega)
            · refine g_iconst (v := 1) hC dX5_isRun_33 rfl ?_
              refine g_iret hC hr rfl ⟨_, rfl, ?_⟩ (by omega) (by omega) hE dX5_isRun_34
              first
              | exact ⟨by rw [hn]; rfl, rfl, rfl, rfl⟩
              | exact ⟨by rw [anyN_t c_7 (by simp [runP, c_12, c_21, c_30])]; rfl, rfl, rfl, rfl⟩
  exact hl_2 (N - 0 + 1) 0 (by omega) (rfl) (by omega)
theorem keyN_eq {σ : MS} {q w : Nat} (h : tl σ 6 q = nI w) (hw : w < 531441) : keyN σ q = kyD 4 w := by unfold keyN; rw [h, nI_clamp (by omega)]
theorem kyD_lt : ∀ f w, w < 531441 → kyD f w < 531441 := by
  intro f
  induction f with
  | zero => intro w h; exact h
  | succ f ih =>
    intro w h
    unfold kyD
    split
    · exact ih _ (by omega)
    · exact h
set_option maxHeartbeats 1000000 in
theorem met_X5_key {Y : YT} {l : Launch} {m0 n u : Nat} {σ : MS} {B : AH} (hz : yz Y ≤ m0) (p_ : Nat) {N : Nat} (hN2 : N ≤ 12) (hp : p_ < N) (hk : ∀ q, q < N → ∃ w, 0 < w ∧ w < 531441 ∧ tl σ 6 q = nI w) : GM Y l yX5_key (ws_ yX5_key cX5_key 3 (some FieldType.int)) 1 22 [.ref m0, .int (nI p_)] (mG Y m0 σ B) n u 0 0 (pI (fun r G' n' u' => nI (keyN σ p_) = r ∧ mG Y m0 σ B = G' ∧ n = n' ∧ u = u')) noX := by
  refine GM.intro (own := RX5) rfl (by decide +kernel) (Nat.le_of_ble_eq_true rfl) ?_
  intro p e s m args below meth c R Q hC hr hnm hF hL hE
  have hE1 := hE.1
  have hE2 := hE.2.1
  show V Y p l e R s m args below meth c 3 n u (mG Y m0 σ B) n u Q 0 [(0, .ref m0), (1, .int (nI p_))] []
  refine g_aload_n hC dX5_key_0 rfl 0 rfl ?_
  refine g_bipush (v := 6) hC dX5_key_1 (by decide) ?_
  refine g_iload_n hC dX5_key_3 rfl 1 rfl ?_
  refine g_calli0 hC (g_runV hC (met_X5_of hz 6 p_ (by omega)) kc_X5 mG_o (lw_V q3680 q3682 qs41 q89 q3683) rfl md_X5_of dX5_key_4 rfl ⟨by omega, by omega⟩ (by omega) (by omega) rfl (Nat.le_of_ble_eq_true rfl)) (fun r_1 G_1 n_1 u_1 hp_1 hn_1 hm_1 hu_1 => ?_)
  obtain ⟨rfl, rfl, rfl, rfl⟩ := hp_1
  obtain ⟨w, hw1, hw2, ew⟩ := hk p_ hp
  rw [ew]
  refine g_istore_n (L' := [(2, .int (nI w)), (0, .ref m0), (1, .int (nI p_))]) hC dX5_key_7 rfl (by decide) rfl ?_
  have hl_8 : ∀ (kf_ : Nat) (a : Nat) (f : Nat), (19683 ≤ a * 27 ^ f) → (kyD f a = keyN σ p_) → (0 < a ∧ a < 531441) → 19683 - a < kf_ → V Y p l e R s m args below meth c 3 n u (mG Y m0 σ B) n u Q 8 [(2, .int (nI a))] [] := by
    intro kf_
    induction kf_ with
    | zero => intro a f ha he hb hk_; exact absurd hk_ (Nat.not_lt_zero _)
    | succ kf_ ih_ =>
      intro a f ha he hb hk_
      refine g_iload_n hC dX5_key_8 rfl 0 rfl ?_
      refine g_sipush (v := 19683) hC dX5_key_9 (by decide) ?_
      refine g_icmp_geN hC a 19683 (by omega) (by omega) dX5_key_12 (tgt := 23) (by decide) (fun c_12 => ?_) (fun c_12 => ?_)
      · refine g_iload_n hC dX5_key_23 rfl 0 rfl ?_
        refine g_iret hC hr rfl ⟨_, rfl, ?_⟩ (by omega) (by omega) hE dX5_key_24
        exact ⟨by rw [← he, kyD_big c_12], rfl, rfl, rfl⟩
      · have hf : ∃ g, f = g + 1 := by
          rcases f with _ | g
          · simp at ha; omega
          · exact ⟨g, rfl⟩
        obtain ⟨g, rfl⟩ := hf
        refine g_iload_n hC dX5_key_15 rfl 0 rfl ?_
        refine g_bipush (v := 27) hC dX5_key_16 (by decide) ?_
        refine g_imulN hC a 27 dX5_key_18 ?_
        refine g_istore_n (L' := [(2, .int (nI (a * 27)))]) hC dX5_key_19 rfl (by decide) rfl ?_
        refine g_goto (tgt := 8) hC dX5_key_20 (by decide) ?_
        exact ih_ (a * 27) g (by rw [Nat.pow_succ] at ha; rw [Nat.mul_assoc, Nat.mul_comm 27]; exact ha) (by rw [← he]; show _ = kyD (g + 1) a; rw [kyD, if_pos c_12]) (by omega) (by omega)
  refine V.sub [0] rfl ?_
  exact hl_8 (19683 - w + 1) w 4 (by omega) ((keyN_eq ew hw2).symm) (by omega) (by omega)
set_option maxHeartbeats 1000000 in
theorem met_X5_provides {Y : YT} {l : Launch} {m0 n u : Nat} {σ : MS} {B : AH} (hz : yz Y ≤ m0) (p_ : Nat) (s_ : Nat) {N : Nat} (hN : σ.1 0 0 = nI N) (hN2 : N ≤ 12) (hp : p_ < 12) : GM Y l yX5_provides (ws_ yX5_provides cX5_provides 5 (some FieldType.int)) 2 46 [.ref m0, .int (nI p_), .int (nI s_)] (mG Y m0 σ B) n u 0 0 (pI (fun r G' n' u' => oI (foldN (pvS σ p_ s_) none N) = r ∧ mG Y m0 σ B = G' ∧ n = n' ∧ u = u')) noX := by
  refine GM.intro (own := RX5) rfl (by decide +kernel) (Nat.le_of_ble_eq_true rfl) ?_
  intro p e s m args below meth c R Q hC hr hnm hF hL hE
  have hE1 := hE.1
  have hE2 := hE.2.1
  show V Y p l e R s m args below meth c 5 n u (mG Y m0 σ B) n u Q 0 [(0, .ref m0), (1, .int (nI p_)), (2, .int (nI s_))] []
  refine g_iconst (v := (-1)) hC dX5_provides_0 rfl ?_
  refine g_istore_n (L' := [(3, .int (-1)), (0, .ref m0), (1, .int (nI p_)), (2, .int (nI s_))]) hC dX5_provides_1 rfl (by decide) rfl ?_
  refine g_iconst (v := 0) hC dX5_provides_2 rfl ?_
  refine g_istore (L' := [(4, .int 0), (3, .int (-1)), (0, .ref m0), (1, .int (nI p_)), (2, .int (nI s_))]) hC dX5_provides_3 (by decide) rfl ?_
  have hl_5 : ∀ (kf_ : Nat) (q : Nat), (q ≤ N) → N - q < kf_ → V Y p l e R s m args below meth c 5 n u (mG Y m0 σ B) n u Q 5 [(4, .int (nI q)), (3, .int (oI (foldN (pvS σ p_ s_) none q))), (0, .ref m0), (1, .int (nI p_)), (2, .int (nI s_))] [] := by
    intro kf_
    induction kf_ with
    | zero => intro q hi hk_; exact absurd hk_ (Nat.not_lt_zero _)
    | succ kf_ ih_ =>
      intro q hi hk_
      rcases hf : foldN (pvS σ p_ s_) none q with _ | f
      · refine g_iload hC dX5_provides_5 0 rfl ?_
        refine g_aload_n hC dX5_provides_7 rfl 2 rfl ?_
        refine m_get (v := .int (nI N)) hC 0 (by decide) q3521 (congrArg (fun z => some (Value.int z)) hN) dX5_provides_8 ?_
        refine g_icmp_geN hC q N (by omega) (by omega) dX5_provides_11 (tgt := 105) (by decide) (fun c_11 => ?_) (fun c_11 => ?_)
        · have ee_ : N = q := by omega
          subst ee_
          refine g_iload_n hC dX5_provides_105 rfl 1 rfl ?_
          refine g_iret hC hr rfl ⟨_, rfl, ?_⟩ (by omega) (by omega) hE dX5_provides_106
          exact ⟨by first | rfl | (rw [hf]), rfl, rfl, rfl⟩
        · refine g_iload hC dX5_provides_14 0 rfl ?_
          refine g_iload_n hC dX5_provides_16 rfl 3 rfl ?_
          refine g_icmp_eqN hC q p_ (by omega) (by omega) dX5_provides_17 (tgt := 99) (by decide) (fun c_17 => ?_) (fun c_17 => ?_)
          · refine g_iincN (L' := [(4, .int (nI (q + 1))), (3, .int (-1)), (0, .ref m0), (1, .int (nI p_)), (2, .int (nI s_))]) hC 1 q dX5_provides_99 (k := 0) rfl (by decide) (by decide) rfl ?_
            refine g_goto (tgt := 5) hC dX5_provides_102 (by decide) ?_
            have h_ := ih_ (q + 1) (by omega) (by omega)
            have e_0 : foldN (pvS σ p_ s_) none (q + 1) = none := by show pvS σ p_ s_ (foldN (pvS σ p_ s_) none q) q = _; rw [hf]; simp [pvS, betF, c_17] <;> (intro z; omega)
            rw [e_0] at h_
            exact h_
          · refine g_aload_n hC dX5_provides_20 rfl 2 rfl ?_
            refine g_iload hC dX5_provides_21 0 rfl ?_
            refine g_calli0 hC (g_runV hC (met_X5_state hz q (by omega)) kc_X5 mG_o (lw_V q3708 q3710 qs44 q89 q3711) rfl md_X5_state dX5_provides_23 rfl ⟨by omega, by omega⟩ (by omega) (by omega) rfl (Nat.le_of_ble_eq_true rfl)) (fun r_1 G_1 n_1 u_1 hp_1 hn_1 hm_1 hu_1 => ?_)
            obtain ⟨rfl, rfl, rfl, rfl⟩ := hp_1
            refine g_iconst (v := 1) hC dX5_provides_26 rfl ?_
            refine g_icmp_ne hC dX5_provides_27 (tgt := 99) (by decide) (fun c_27 => ?_) (fun c_27 => ?_)
            · refine g_iincN (L' := [(4, .int (nI (q + 1))), (3, .int (-1)), (0, .ref m0), (1, .int (nI p_)), (2, .int (nI s_))]) hC 1 q dX5_provides_99 (k := 0) rfl (by decide) (by decide) rfl ?_
              refine g_goto (tgt := 5) hC dX5_provides_102 (by decide) ?_
              have h_ := ih_ (q + 1) (by omega) (by omega)
              have e_0 : foldN (pvS σ p_ s_) none (q + 1) = none := by show pvS σ p_ s_ (foldN (pvS σ p_ s_) none q) q = _; rw [hf]; simp [pvS, betF, c_17, c_27] <;> (intro z; omega)
              rw [e_0] at h_
              exact h_
            · refine g_aload_n hC dX5_provides_30 rfl 2 rfl ?_
              refine g_iload hC dX5_provides_31 0 rfl ?_
              refine g_iload_n hC dX5_provides_33 rfl 4 rfl ?_
              refine g_calli0 hC (g_runV hC (met_X5_isOffered hz q s_ (by omega)) kc_X5 mG_o (lw_V q3779 q3781 qs55 q89 q3782) rfl md_X5_isOffered dX5_provides_34 rfl ⟨by omega, by omega⟩ (by omega) (by omega) rfl (Nat.le_of_ble_eq_true rfl)) (fun r_2 G_2 n_2 u_2 hp_2 hn_2 hm_2 hu_2 => ?_)
              obtain ⟨rfl, rfl, rfl, rfl⟩ := hp_2
              refine g_if_eqB hC (offF σ  q s_) dX5_provides_37 (tgt := 99) (by decide) (fun c_37 => ?_) (fun c_37 => ?_)
              · refine g_iincN (L' := [(4, .int (nI (q + 1))), (3, .int (-1)), (0, .ref m0), (1, .int (nI p_)), (2, .int (nI s_))]) hC 1 q dX5_provides_99 (k := 0) rfl (by decide) (by decide) rfl ?_
                refine g_goto (tgt := 5) hC dX5_provides_102 (by decide) ?_
                have h_ := ih_ (q + 1) (by omega) (by omega)
                have e_0 : foldN (pvS σ p_ s_) none (q + 1) = none := by show pvS σ p_ s_ (foldN (pvS σ p_ s_) none q) q = _; rw [hf]; simp [pvS, betF, c_17, c_27, c_37] <;> (intro z; omega)
                rw [e_0] at h_
                exact h_
              · refine g_aload_n hC dX5_provides_40 rfl 2 rfl ?_
                refine g_iload hC dX5_provides_41 0 rfl ?_
                refine g_iload_n hC dX5_provides_43 rfl 3 rfl ?_
                refine g_calli0 hC (g_runV hC (met_X5_isOlder hz q p_ (by omega) (by omega)) kc_X5 mG_o (lw_V q3783 q3785 qs56 q89 q3786) rfl md_X5_isOlder dX5_provides_44 rfl ⟨by omega, by omega⟩ (by omega) (by omega) rfl (Nat.le_of_ble_eq_true rfl)) (fun r_3 G_3 n_3 u_3 hp_3 hn_3 hm_3 hu_3 => ?_)
                obtain ⟨rfl, rfl, rfl, rfl⟩ := hp_3
                refine g_if_neB hC (oldF σ  q p_) dX5_provides_47 (tgt := 53) (by decide) (fun c_47 => ?_) (fun c_47 => ?_)
                · refine g_iload_n hC dX5_provides_53 rfl 1 rfl ?_
                  refine g_iconst (v := (-1)) hC dX5_provides_54 rfl ?_
                  refine g_icmp_eq hC dX5_provides_55 (tgt := 96) (by decide) (fun c_55 => ?_) (fun c_55 => ?_)
                  · refine g_iload hC dX5_provides_96 0 rfl ?_
                    refine g_istore_n (L' := [(3, .int (nI q)), (4, .int (nI q)), (0, .ref m0), (1, .int (nI p_)), (2, .int (nI s_))]) hC dX5_provides_98 rfl (by decide) rfl ?_
                    refine g_iincN (L' := [(4, .int (nI (q + 1))), (3, .int (nI q)), (0, .ref m0), (1, .int (nI p_)), (2, .int (nI s_))]) hC 1 q dX5_provides_99 (k := 1) rfl (by decide) (by decide) rfl ?_
                    refine g_goto (tgt := 5) hC dX5_provides_102 (by decide) ?_
                    have h_ := ih_ (q + 1) (by omega) (by omega)
                    have e_0 : foldN (pvS σ p_ s_) none (q + 1) = some q := by show pvS σ p_ s_ (foldN (pvS σ p_ s_) none q) q = _; rw [hf]; simp [pvS, betF, c_17, c_27, c_37, c_47, c_55] <;> (intro z; omega)
                    rw [e_0] at h_
                    exact h_
                  · exact absurd rfl c_55
                · refine g_goto (tgt := 99) hC dX5_provides_50 (by decide) ?_
                  refine g_iincN (L' := [(4, .int (nI (q + 1))), (3, .int (-1)), (0, .ref m0), (1, .int (nI p_)), (2, .int (nI s_))]) hC 1 q dX5_provides_99 (k := 0) rfl (by decide) (by decide) rfl ?_
                  refine g_goto (tgt := 5) hC dX5_provides_102 (by decide) ?_
                  have h_ := ih_ (q + 1) (by omega) (by omega)
                  have e_0 : foldN (pvS σ p_ s_) none (q + 1) = none := by show pvS σ p_ s_ (foldN (pvS σ p_ s_) none q) q = _; rw [hf]; simp [pvS, betF, c_17, c_27, c_37, c_47] <;> (intro z; omega)
                  rw [e_0] at h_
                  exact h_
      · have hf2 := pvS_lt hf
        refine g_iload hC dX5_provides_5 0 rfl ?_
        refine g_aload_n hC dX5_provides_7 rfl 2 rfl ?_
        refine m_get (v := .int (nI N)) hC 0 (by decide) q3521 (congrArg (fun z => some (Value.int z)) hN) dX5_provides_8 ?_
        refine g_icmp_geN hC q N (by omega) (by omega) dX5_provides_11 (tgt := 105) (by decide) (fun c_11 => ?_) (fun c_11 => ?_)
        · have ee_ : N = q := by omega
          subst ee_
          refine g_iload_n hC dX5_provides_105 rfl 1 rfl ?_
          refine g_iret hC hr rfl ⟨_, rfl, ?_⟩ (by omega) (by omega) hE dX5_provides_106
          exact ⟨by first | rfl | (rw [hf]), rfl, rfl, rfl⟩
        · refine g_iload hC dX5_provides_14 0 rfl ?_
          refine g_iload_n hC dX5_provides_16 rfl 3 rfl ?_
          refine g_icmp_eqN hC q p_ (by omega) (by omega) dX5_provides_17 (tgt := 99) (by decide) (fun c_17 => ?_) (fun c_17 => ?_)
          · refine g_iincN (L' := [(4, .int (nI (q + 1))), (3, .int (nI f)), (0, .ref m0), (1, .int (nI p_)), (2, .int (nI s_))]) hC 1 q dX5_provides_99 (k := 0) rfl (by decide) (by decide) rfl ?_
            refine g_goto (tgt := 5) hC dX5_provides_102 (by decide) ?_
            have h_ := ih_ (q + 1) (by omega) (by omega)
            have e_0 : foldN (pvS σ p_ s_) none (q + 1) = some f := by show pvS σ p_ s_ (foldN (pvS σ p_ s_) none q) q = _; rw [hf]; simp [pvS, betF, c_17] <;> (intro z; omega)
            rw [e_0] at h_
            exact h_
          · refine g_aload_n hC dX5_provides_20 rfl 2 rfl ?_
            refine g_iload hC dX5_provides_21 0 rfl ?_
            refine g_calli0 hC (g_runV hC (met_X5_state hz q (by omega)) kc_X5 mG_o (lw_V q3708 q3710 qs44 q89 q3711) rfl md_X5_state dX5_provides_23 rfl ⟨by omega, by omega⟩ (by omega) (by omega) rfl (Nat.le_of_ble_eq_true rfl)) (fun r_4 G_4 n_4 u_4 hp_4 hn_4 hm_4 hu_4 => ?_)
            obtain ⟨rfl, rfl, rfl, rfl⟩ := hp_4
            refine g_iconst (v := 1) hC dX5_provides_26 rfl ?_
            refine g_icmp_ne hC dX5_provides_27 (tgt := 99) (by decide) (fun c_27 => ?_) (fun c_27 => ?_)
            · refine g_iincN (L' := [(4, .int (nI (q + 1))), (3, .int (nI f)), (0, .ref m0), (1, .int (nI p_)), (2, .int (nI s_))]) hC 1 q dX5_provides_99 (k := 0) rfl (by decide) (by decide) rfl ?_
              refine g_goto (tgt := 5) hC dX5_provides_102 (by decide) ?_
              have h_ := ih_ (q + 1) (by omega) (by omega)
              have e_0 : foldN (pvS σ p_ s_) none (q + 1) = some f := by show pvS σ p_ s_ (foldN (pvS σ p_ s_) none q) q = _; rw [hf]; simp [pvS, betF, c_17, c_27] <;> (intro z; omega)
              rw [e_0] at h_
              exact h_
            · refine g_aload_n hC dX5_provides_30 rfl 2 rfl ?_
              refine g_iload hC dX5_provides_31 0 rfl ?_
              refine g_iload_n hC dX5_provides_33 rfl 4 rfl ?_
              refine g_calli0 hC (g_runV hC (met_X5_isOffered hz q s_ (by omega)) kc_X5 mG_o (lw_V q3779 q3781 qs55 q89 q3782) rfl md_X5_isOffered dX5_provides_34 rfl ⟨by omega, by omega⟩ (by omega) (by omega) rfl (Nat.le_of_ble_eq_true rfl)) (fun r_5 G_5 n_5 u_5 hp_5 hn_5 hm_5 hu_5 => ?_)
              obtain ⟨rfl, rfl, rfl, rfl⟩ := hp_5
              refine g_if_eqB hC (offF σ  q s_) dX5_provides_37 (tgt := 99) (by decide) (fun c_37 => ?_) (fun c_37 => ?_)
              · refine g_iincN (L' := [(4, .int (nI (q + 1))), (3, .int (nI f)), (0, .ref m0), (1, .int (nI p_)), (2, .int (nI s_))]) hC 1 q dX5_provides_99 (k := 0) rfl (by decide) (by decide) rfl ?_
                refine g_goto (tgt := 5) hC dX5_provides_102 (by decide) ?_
                have h_ := ih_ (q + 1) (by omega) (by omega)
                have e_0 : foldN (pvS σ p_ s_) none (q + 1) = some f := by show pvS σ p_ s_ (foldN (pvS σ p_ s_) none q) q = _; rw [hf]; simp [pvS, betF, c_17, c_27, c_37] <;> (intro z; omega)
                rw [e_0] at h_
                exact h_
              · refine g_aload_n hC dX5_provides_40 rfl 2 rfl ?_
                refine g_iload hC dX5_provides_41 0 rfl ?_
                refine g_iload_n hC dX5_provides_43 rfl 3 rfl ?_
                refine g_calli0 hC (g_runV hC (met_X5_isOlder hz q p_ (by omega) (by omega)) kc_X5 mG_o (lw_V q3783 q3785 qs56 q89 q3786) rfl md_X5_isOlder dX5_provides_44 rfl ⟨by omega, by omega⟩ (by omega) (by omega) rfl (Nat.le_of_ble_eq_true rfl)) (fun r_6 G_6 n_6 u_6 hp_6 hn_6 hm_6 hu_6 => ?_)
                obtain ⟨rfl, rfl, rfl, rfl⟩ := hp_6
                refine g_if_neB hC (oldF σ  q p_) dX5_provides_47 (tgt := 53) (by decide) (fun c_47 => ?_) (fun c_47 => ?_)
                · refine g_iload_n hC dX5_provides_53 rfl 1 rfl ?_
                  refine g_iconst (v := (-1)) hC dX5_provides_54 rfl ?_
                  refine g_icmp_eq hC dX5_provides_55 (tgt := 96) (by decide) (fun c_55 => ?_) (fun c_55 => ?_)
                  · first | exact absurd c_55 (nI_m1 (by omega)) | exact absurd (Classical.not_not.mp c_55) (nI_m1 (by omega))
                  · refine g_aload_n hC dX5_provides_58 rfl 2 rfl ?_
                    refine g_iload hC dX5_provides_59 0 rfl ?_
                    refine g_calli0 hC (g_runV hC (met_X5_strength hz q (by omega)) kc_X5 mG_o (lw_V q3691 q3693 qs42 q89 q3694) rfl md_X5_strength dX5_provides_61 rfl ⟨by omega, by omega⟩ (by omega) (by omega) rfl (Nat.le_of_ble_eq_true rfl)) (fun r_7 G_7 n_7 u_7 hp_7 hn_7 hm_7 hu_7 => ?_)
                    obtain ⟨rfl, rfl, rfl, rfl⟩ := hp_7
                    refine g_aload_n hC dX5_provides_64 rfl 2 rfl ?_
                    refine g_iload_n hC dX5_provides_65 rfl 1 rfl ?_
                    refine g_calli0 hC (g_runV hC (met_X5_strength hz f (by omega)) kc_X5 mG_o (lw_V q3691 q3693 qs42 q89 q3694) rfl md_X5_strength dX5_provides_66 rfl ⟨by omega, by omega⟩ (by omega) (by omega) rfl (Nat.le_of_ble_eq_true rfl)) (fun r_8 G_8 n_8 u_8 hp_8 hn_8 hm_8 hu_8 => ?_)
                    obtain ⟨rfl, rfl, rfl, rfl⟩ := hp_8
                    refine g_icmp_gt hC dX5_provides_69 (tgt := 96) (by decide) (fun c_69 => ?_) (fun c_69 => ?_)
                    · refine g_iload hC dX5_provides_96 0 rfl ?_
                      refine g_istore_n (L' := [(3, .int (nI q)), (4, .int (nI q)), (0, .ref m0), (1, .int (nI p_)), (2, .int (nI s_))]) hC dX5_provides_98 rfl (by decide) rfl ?_
                      refine g_iincN (L' := [(4, .int (nI (q + 1))), (3, .int (nI q)), (0, .ref m0), (1, .int (nI p_)), (2, .int (nI s_))]) hC 1 q dX5_provides_99 (k := 1) rfl (by decide) (by decide) rfl ?_
                      refine g_goto (tgt := 5) hC dX5_provides_102 (by decide) ?_
                      have h_ := ih_ (q + 1) (by omega) (by omega)
                      have e_0 : foldN (pvS σ p_ s_) none (q + 1) = some q := by show pvS σ p_ s_ (foldN (pvS σ p_ s_) none q) q = _; rw [hf]; simp [pvS, betF, c_17, c_27, c_37, c_47, c_55, c_69] <;> (intro z; omega)
                      rw [e_0] at h_
                      exact h_
                    · refine g_aload_n hC dX5_provides_72 rfl 2 rfl ?_
                      refine g_iload hC dX5_provides_73 0 rfl ?_
                      refine g_calli0 hC (g_runV hC (met_X5_strength hz q (by omega)) kc_X5 mG_o (lw_V q3691 q3693 qs42 q89 q3694) rfl md_X5_strength dX5_provides_75 rfl ⟨by omega, by omega⟩ (by omega) (by omega) rfl (Nat.le_of_ble_eq_true rfl)) (fun r_9 G_9 n_9 u_9 hp_9 hn_9 hm_9 hu_9 => ?_)
                      obtain ⟨rfl, rfl, rfl, rfl⟩ := hp_9
                      refine g_aload_n hC dX5_provides_78 rfl 2 rfl ?_
                      refine g_iload_n hC dX5_provides_79 rfl 1 rfl ?_
                      refine g_calli0 hC (g_runV hC (met_X5_strength hz f (by omega)) kc_X5 mG_o (lw_V q3691 q3693 qs42 q89 q3694) rfl md_X5_strength dX5_provides_80 rfl ⟨by omega, by omega⟩ (by omega) (by omega) rfl (Nat.le_of_ble_eq_true rfl)) (fun r_10 G_10 n_10 u_10 hp_10 hn_10 hm_10 hu_10 => ?_)
                      obtain ⟨rfl, rfl, rfl, rfl⟩ := hp_10
                      refine g_icmp_ne hC dX5_provides_83 (tgt := 99) (by decide) (fun c_83 => ?_) (fun c_83 => ?_)
                      · refine g_iincN (L' := [(4, .int (nI (q + 1))), (3, .int (nI f)), (0, .ref m0), (1, .int (nI p_)), (2, .int (nI s_))]) hC 1 q dX5_provides_99 (k := 0) rfl (by decide) (by decide) rfl ?_
                        refine g_goto (tgt := 5) hC dX5_provides_102 (by decide) ?_
                        have h_ := ih_ (q + 1) (by omega) (by omega)
                        have e_0 : foldN (pvS σ p_ s_) none (q + 1) = some f := by show pvS σ p_ s_ (foldN (pvS σ p_ s_) none q) q = _; rw [hf]; simp [pvS, betF, c_17, c_27, c_37, c_47, c_55, c_69, c_83] <;> (intro z; omega)
                        rw [e_0] at h_
                        exact h_
                      · refine g_aload_n hC dX5_provides_86 rfl 2 rfl ?_
                        refine g_iload hC dX5_provides_87 0 rfl ?_
                        refine g_iload_n hC dX5_provides_89 rfl 1 rfl ?_
                        refine g_calli0 hC (g_runV hC (met_X5_isOlder hz q f (by omega) (by omega)) kc_X5 mG_o (lw_V q3783 q3785 qs56 q89 q3786) rfl md_X5_isOlder dX5_provides_90 rfl ⟨by omega, by omega⟩ (by omega) (by omega) rfl (Nat.le_of_ble_eq_true rfl)) (fun r_11 G_11 n_11 u_11 hp_11 hn_11 hm_11 hu_11 => ?_)
                        obtain ⟨rfl, rfl, rfl, rfl⟩ := hp_11
                        refine g_if_eqB hC (oldF σ  q f) dX5_provides_93 (tgt := 99) (by decide) (fun c_93 => ?_) (fun c_93 => ?_)
                        · refine g_iincN (L' := [(4, .int (nI (q + 1))), (3, .int (nI f)), (0, .ref m0), (1, .int (nI p_)), (2, .int (nI s_))]) hC 1 q dX5_provides_99 (k := 0) rfl (by decide) (by decide) rfl ?_
                          refine g_goto (tgt := 5) hC dX5_provides_102 (by decide) ?_
                          have h_ := ih_ (q + 1) (by omega) (by omega)
                          have e_0 : foldN (pvS σ p_ s_) none (q + 1) = some f := by show pvS σ p_ s_ (foldN (pvS σ p_ s_) none q) q = _; rw [hf]; simp [pvS, betF, c_17, c_27, c_37, c_47, c_55, c_69, c_83, c_93] <;> (intro z; omega)
                          rw [e_0] at h_
                          exact h_
                        · refine g_iload hC dX5_provides_96 0 rfl ?_
                          refine g_istore_n (L' := [(3, .int (nI q)), (4, .int (nI q)), (0, .ref m0), (1, .int (nI p_)), (2, .int (nI s_))]) hC dX5_provides_98 rfl (by decide) rfl ?_
                          refine g_iincN (L' := [(4, .int (nI (q + 1))), (3, .int (nI q)), (0, .ref m0), (1, .int (nI p_)), (2, .int (nI s_))]) hC 1 q dX5_provides_99 (k := 1) rfl (by decide) (by decide) rfl ?_
                          refine g_goto (tgt := 5) hC dX5_provides_102 (by decide) ?_
                          have h_ := ih_ (q + 1) (by omega) (by omega)
                          have e_0 : foldN (pvS σ p_ s_) none (q + 1) = some q := by show pvS σ p_ s_ (foldN (pvS σ p_ s_) none q) q = _; rw [hf]; simp [pvS, betF, c_17, c_27, c_37, c_47, c_55, c_69, c_83, c_93] <;> (intro z; omega)
                          rw [e_0] at h_
                          exact h_
                · refine g_goto (tgt := 99) hC dX5_provides_50 (by decide) ?_
                  refine g_iincN (L' := [(4, .int (nI (q + 1))), (3, .int (nI f)), (0, .ref m0), (1, .int (nI p_)), (2, .int (nI s_))]) hC 1 q dX5_provides_99 (k := 0) rfl (by decide) (by decide) rfl ?_
                  refine g_goto (tgt := 5) hC dX5_provides_102 (by decide) ?_
                  have h_ := ih_ (q + 1) (by omega) (by omega)
                  have e_0 : foldN (pvS σ p_ s_) none (q + 1) = some f := by show pvS σ p_ s_ (foldN (pvS σ p_ s_) none q) q = _; rw [hf]; simp [pvS, betF, c_17, c_27, c_37, c_47] <;> (intro z; omega)
                  rw [e_0] at h_
                  exact h_
  exact hl_5 (N - 0 + 1) 0 (by omega) (by omega)
set_option maxHeartbeats 1000000 in
theorem met_X5_taken {Y : YT} {l : Launch} {m0 n u : Nat} {σ : MS} {B : AH} (hz : yz Y ≤ m0) (p_ : Nat) (s_ : Nat) {N : Nat} (hN : σ.1 0 0 = nI N) (hN2 : N ≤ 12) (hp : p_ < 12) (hk : ∀ q, q < N → ∃ w, 0 < w ∧ w < 531441 ∧ tl σ 6 q = nI w) : GM Y l yX5_taken (ws_ yX5_taken cX5_taken 5 (some FieldType.int)) 2 46 [.ref m0, .int (nI p_), .int (nI s_)] (mG Y m0 σ B) n u 0 0 (pI (fun r G' n' u' => oI (foldN (tkS σ p_ s_) none N) = r ∧ mG Y m0 σ B = G' ∧ n = n' ∧ u = u')) noX := by
  refine GM.intro (own := RX5) rfl (by decide +kernel) (Nat.le_of_ble_eq_true rfl) ?_
  intro p e s m args below meth c R Q hC hr hnm hF hL hE
  have hE1 := hE.1
  have hE2 := hE.2.1
  show V Y p l e R s m args below meth c 5 n u (mG Y m0 σ B) n u Q 0 [(0, .ref m0), (1, .int (nI p_)), (2, .int (nI s_))] []
  refine g_iconst (v := (-1)) hC dX5_taken_0 rfl ?_
  refine g_istore_n (L' := [(3, .int (-1)), (0, .ref m0), (1, .int (nI p_)), (2, .int (nI s_))]) hC dX5_taken_1 rfl (by decide) rfl ?_
  refine g_iconst (v := 0) hC dX5_taken_2 rfl ?_
  refine g_istore (L' := [(4, .int 0), (3, .int (-1)), (0, .ref m0), (1, .int (nI p_)), (2, .int (nI s_))]) hC dX5_taken_3 (by decide) rfl ?_
  have hl_5 : ∀ (kf_ : Nat) (q : Nat), (q ≤ N) → N - q < kf_ → V Y p l e R s m args below meth c 5 n u (mG Y m0 σ B) n u Q 5 [(4, .int (nI q)), (3, .int (oI (foldN (tkS σ p_ s_) none q))), (0, .ref m0), (1, .int (nI p_)), (2, .int (nI s_))] [] := by
    intro kf_
    induction kf_ with
    | zero => intro q hi hk_; exact absurd hk_ (Nat.not_lt_zero _)
    | succ kf_ ih_ =>
      intro q hi hk_
      rcases hf : foldN (tkS σ p_ s_) none q with _ | f
      · refine g_iload hC dX5_taken_5 0 rfl ?_
        refine g_aload_n hC dX5_taken_7 rfl 2 rfl ?_
        refine m_get (v := .int (nI N)) hC 0 (by decide) q3521 (congrArg (fun z => some (Value.int z)) hN) dX5_taken_8 ?_
        refine g_icmp_geN hC q N (by omega) (by omega) dX5_taken_11 (tgt := 98) (by decide) (fun c_11 => ?_) (fun c_11 => ?_)
        · have ee_ : N = q := by omega
          subst ee_
          refine g_iload_n hC dX5_taken_98 rfl 1 rfl ?_
          refine g_iret hC hr rfl ⟨_, rfl, ?_⟩ (by omega) (by omega) hE dX5_taken_99
          exact ⟨by first | rfl | (rw [hf]), rfl, rfl, rfl⟩
        · refine g_iload hC dX5_taken_14 0 rfl ?_
          refine g_iload_n hC dX5_taken_16 rfl 3 rfl ?_
          refine g_icmp_eqN hC q p_ (by omega) (by omega) dX5_taken_17 (tgt := 92) (by decide) (fun c_17 => ?_) (fun c_17 => ?_)
          · refine g_iincN (L' := [(4, .int (nI (q + 1))), (3, .int (-1)), (0, .ref m0), (1, .int (nI p_)), (2, .int (nI s_))]) hC 1 q dX5_taken_92 (k := 0) rfl (by decide) (by decide) rfl ?_
            refine g_goto (tgt := 5) hC dX5_taken_95 (by decide) ?_
            have h_ := ih_ (q + 1) (by omega) (by omega)
            have e_0 : foldN (tkS σ p_ s_) none (q + 1) = none := by show tkS σ p_ s_ (foldN (tkS σ p_ s_) none q) q = _; rw [hf]; simp [tkS, betK, c_17] <;> (intro z; omega)
            rw [e_0] at h_
            exact h_
          · refine g_aload_n hC dX5_taken_20 rfl 2 rfl ?_
            refine g_iload hC dX5_taken_21 0 rfl ?_
            refine g_calli0 hC (g_runV hC (met_X5_state hz q (by omega)) kc_X5 mG_o (lw_V q3708 q3710 qs44 q89 q3711) rfl md_X5_state dX5_taken_23 rfl ⟨by omega, by omega⟩ (by omega) (by omega) rfl (Nat.le_of_ble_eq_true rfl)) (fun r_1 G_1 n_1 u_1 hp_1 hn_1 hm_1 hu_1 => ?_)
            obtain ⟨rfl, rfl, rfl, rfl⟩ := hp_1
            refine g_if_ne hC dX5_taken_26 (tgt := 92) (by decide) (fun c_26 => ?_) (fun c_26 => ?_)
            · refine g_iincN (L' := [(4, .int (nI (q + 1))), (3, .int (-1)), (0, .ref m0), (1, .int (nI p_)), (2, .int (nI s_))]) hC 1 q dX5_taken_92 (k := 0) rfl (by decide) (by decide) rfl ?_
              refine g_goto (tgt := 5) hC dX5_taken_95 (by decide) ?_
              have h_ := ih_ (q + 1) (by omega) (by omega)
              have e_0 : foldN (tkS σ p_ s_) none (q + 1) = none := by show tkS σ p_ s_ (foldN (tkS σ p_ s_) none q) q = _; rw [hf]; simp [tkS, betK, c_17, c_26] <;> (intro z; omega)
              rw [e_0] at h_
              exact h_
            · refine g_aload_n hC dX5_taken_29 rfl 2 rfl ?_
              refine g_iload hC dX5_taken_30 0 rfl ?_
              refine g_iload_n hC dX5_taken_32 rfl 4 rfl ?_
              refine g_calli0 hC (g_runV hC (met_X5_isOffered hz q s_ (by omega)) kc_X5 mG_o (lw_V q3779 q3781 qs55 q89 q3782) rfl md_X5_isOffered dX5_taken_33 rfl ⟨by omega, by omega⟩ (by omega) (by omega) rfl (Nat.le_of_ble_eq_true rfl)) (fun r_2 G_2 n_2 u_2 hp_2 hn_2 hm_2 hu_2 => ?_)
              obtain ⟨rfl, rfl, rfl, rfl⟩ := hp_2
              refine g_if_neB hC (offF σ  q s_) dX5_taken_36 (tgt := 42) (by decide) (fun c_36 => ?_) (fun c_36 => ?_)
              · refine g_iload_n hC dX5_taken_42 rfl 1 rfl ?_
                refine g_iconst (v := (-1)) hC dX5_taken_43 rfl ?_
                refine g_icmp_eq hC dX5_taken_44 (tgt := 89) (by decide) (fun c_44 => ?_) (fun c_44 => ?_)
                · refine g_iload hC dX5_taken_89 0 rfl ?_
                  refine g_istore_n (L' := [(3, .int (nI q)), (4, .int (nI q)), (0, .ref m0), (1, .int (nI p_)), (2, .int (nI s_))]) hC dX5_taken_91 rfl (by decide) rfl ?_
                  refine g_iincN (L' := [(4, .int (nI (q + 1))), (3, .int (nI q)), (0, .ref m0), (1, .int (nI p_)), (2, .int (nI s_))]) hC 1 q dX5_taken_92 (k := 1) rfl (by decide) (by decide) rfl ?_
                  refine g_goto (tgt := 5) hC dX5_taken_95 (by decide) ?_
                  have h_ := ih_ (q + 1) (by omega) (by omega)
                  have e_0 : foldN (tkS σ p_ s_) none (q + 1) = some q := by show tkS σ p_ s_ (foldN (tkS σ p_ s_) none q) q = _; rw [hf]; simp [tkS, betK, c_17, c_26, c_36, c_44] <;> (intro z; omega)
                  rw [e_0] at h_
                  exact h_
                · exact absurd rfl c_44
              · refine g_goto (tgt := 92) hC dX5_taken_39 (by decide) ?_
                refine g_iincN (L' := [(4, .int (nI (q + 1))), (3, .int (-1)), (0, .ref m0), (1, .int (nI p_)), (2, .int (nI s_))]) hC 1 q dX5_taken_92 (k := 0) rfl (by decide) (by decide) rfl ?_
                refine g_goto (tgt := 5) hC dX5_taken_95 (by decide) ?_
                have h_ := ih_ (q + 1) (by omega) (by omega)
                have e_0 : foldN (tkS σ p_ s_) none (q + 1) = none := by show tkS σ p_ s_ (foldN (tkS σ p_ s_) none q) q = _; rw [hf]; simp [tkS, betK, c_17, c_26, c_36] <;> (intro z; omega)
                rw [e_0] at h_
                exact h_
      · have hf2 := tkS_lt hf
        refine g_iload hC dX5_taken_5 0 rfl ?_
        refine g_aload_n hC dX5_taken_7 rfl 2 rfl ?_
        refine m_get (v := .int (nI N)) hC 0 (by decide) q3521 (congrArg (fun z => some (Value.int z)) hN) dX5_taken_8 ?_
        refine g_icmp_geN hC q N (by omega) (by omega) dX5_taken_11 (tgt := 98) (by decide) (fun c_11 => ?_) (fun c_11 => ?_)
        · have ee_ : N = q := by omega
          subst ee_
          refine g_iload_n hC dX5_taken_98 rfl 1 rfl ?_
          refine g_iret hC hr rfl ⟨_, rfl, ?_⟩ (by omega) (by omega) hE dX5_taken_99
          exact ⟨by first | rfl | (rw [hf]), rfl, rfl, rfl⟩
        · refine g_iload hC dX5_taken_14 0 rfl ?_
          refine g_iload_n hC dX5_taken_16 rfl 3 rfl ?_
          refine g_icmp_eqN hC q p_ (by omega) (by omega) dX5_taken_17 (tgt := 92) (by decide) (fun c_17 => ?_) (fun c_17 => ?_)
          · refine g_iincN (L' := [(4, .int (nI (q + 1))), (3, .int (nI f)), (0, .ref m0), (1, .int (nI p_)), (2, .int (nI s_))]) hC 1 q dX5_taken_92 (k := 0) rfl (by decide) (by decide) rfl ?_
            refine g_goto (tgt := 5) hC dX5_taken_95 (by decide) ?_
            have h_ := ih_ (q + 1) (by omega) (by omega)
            have e_0 : foldN (tkS σ p_ s_) none (q + 1) = some f := by show tkS σ p_ s_ (foldN (tkS σ p_ s_) none q) q = _; rw [hf]; simp [tkS, betK, c_17] <;> (intro z; omega)
            rw [e_0] at h_
            exact h_
          · refine g_aload_n hC dX5_taken_20 rfl 2 rfl ?_
            refine g_iload hC dX5_taken_21 0 rfl ?_
            refine g_calli0 hC (g_runV hC (met_X5_state hz q (by omega)) kc_X5 mG_o (lw_V q3708 q3710 qs44 q89 q3711) rfl md_X5_state dX5_taken_23 rfl ⟨by omega, by omega⟩ (by omega) (by omega) rfl (Nat.le_of_ble_eq_true rfl)) (fun r_3 G_3 n_3 u_3 hp_3 hn_3 hm_3 hu_3 => ?_)
            obtain ⟨rfl, rfl, rfl, rfl⟩ := hp_3
            refine g_if_ne hC dX5_taken_26 (tgt := 92) (by decide) (fun c_26 => ?_) (fun c_26 => ?_)
            · refine g_iincN (L' := [(4, .int (nI (q + 1))), (3, .int (nI f)), (0, .ref m0), (1, .int (nI p_)), (2, .int (nI s_))]) hC 1 q dX5_taken_92 (k := 0) rfl (by decide) (by decide) rfl ?_
              refine g_goto (tgt := 5) hC dX5_taken_95 (by decide) ?_
              have h_ := ih_ (q + 1) (by omega) (by omega)
              have e_0 : foldN (tkS σ p_ s_) none (q + 1) = some f := by show tkS σ p_ s_ (foldN (tkS σ p_ s_) none q) q = _; rw [hf]; simp [tkS, betK, c_17, c_26] <;> (intro z; omega)
              rw [e_0] at h_
              exact h_
            · refine g_aload_n hC dX5_taken_29 rfl 2 rfl ?_
              refine g_iload hC dX5_taken_30 0 rfl ?_
              refine g_iload_n hC dX5_taken_32 rfl 4 rfl ?_
              refine g_calli0 hC (g_runV hC (met_X5_isOffered hz q s_ (by omega)) kc_X5 mG_o (lw_V q3779 q3781 qs55 q89 q3782) rfl md_X5_isOffered dX5_taken_33 rfl ⟨by omega, by omega⟩ (by omega) (by omega) rfl (Nat.le_of_ble_eq_true rfl)) (fun r_4 G_4 n_4 u_4 hp_4 hn_4 hm_4 hu_4 => ?_)
              obtain ⟨rfl, rfl, rfl, rfl⟩ := hp_4
              refine g_if_neB hC (offF σ  q s_) dX5_taken_36 (tgt := 42) (by decide) (fun c_36 => ?_) (fun c_36 => ?_)
              · refine g_iload_n hC dX5_taken_42 rfl 1 rfl ?_
                refine g_iconst (v := (-1)) hC dX5_taken_43 rfl ?_
                refine g_icmp_eq hC dX5_taken_44 (tgt := 89) (by decide) (fun c_44 => ?_) (fun c_44 => ?_)
                · first | exact absurd c_44 (nI_m1 (by omega)) | exact absurd (Classical.not_not.mp c_44) (nI_m1 (by omega))
                · refine g_aload_n hC dX5_taken_47 rfl 2 rfl ?_
                  refine g_iload hC dX5_taken_48 0 rfl ?_
                  refine g_calli0 hC (g_runV hC (met_X5_strength hz q (by omega)) kc_X5 mG_o (lw_V q3691 q3693 qs42 q89 q3694) rfl md_X5_strength dX5_taken_50 rfl ⟨by omega, by omega⟩ (by omega) (by omega) rfl (Nat.le_of_ble_eq_true rfl)) (fun r_5 G_5 n_5 u_5 hp_5 hn_5 hm_5 hu_5 => ?_)
                  obtain ⟨rfl, rfl, rfl, rfl⟩ := hp_5
                  refine g_aload_n hC dX5_taken_53 rfl 2 rfl ?_
                  refine g_iload_n hC dX5_taken_54 rfl 1 rfl ?_
                  refine g_calli0 hC (g_runV hC (met_X5_strength hz f (by omega)) kc_X5 mG_o (lw_V q3691 q3693 qs42 q89 q3694) rfl md_X5_strength dX5_taken_55 rfl ⟨by omega, by omega⟩ (by omega) (by omega) rfl (Nat.le_of_ble_eq_true rfl)) (fun r_6 G_6 n_6 u_6 hp_6 hn_6 hm_6 hu_6 => ?_)
                  obtain ⟨rfl, rfl, rfl, rfl⟩ := hp_6
                  refine g_icmp_gt hC dX5_taken_58 (tgt := 89) (by decide) (fun c_58 => ?_) (fun c_58 => ?_)
                  · refine g_iload hC dX5_taken_89 0 rfl ?_
                    refine g_istore_n (L' := [(3, .int (nI q)), (4, .int (nI q)), (0, .ref m0), (1, .int (nI p_)), (2, .int (nI s_))]) hC dX5_taken_91 rfl (by decide) rfl ?_
                    refine g_iincN (L' := [(4, .int (nI (q + 1))), (3, .int (nI q)), (0, .ref m0), (1, .int (nI p_)), (2, .int (nI s_))]) hC 1 q dX5_taken_92 (k := 1) rfl (by decide) (by decide) rfl ?_
                    refine g_goto (tgt := 5) hC dX5_taken_95 (by decide) ?_
                    have h_ := ih_ (q + 1) (by omega) (by omega)
                    have e_0 : foldN (tkS σ p_ s_) none (q + 1) = some q := by show tkS σ p_ s_ (foldN (tkS σ p_ s_) none q) q = _; rw [hf]; simp [tkS, betK, c_17, c_26, c_36, c_44, c_58] <;> (intro z; omega)
                    rw [e_0] at h_
                    exact h_
                  · refine g_aload_n hC dX5_taken_61 rfl 2 rfl ?_
                    refine g_iload hC dX5_taken_62 0 rfl ?_
                    refine g_calli0 hC (g_runV hC (met_X5_strength hz q (by omega)) kc_X5 mG_o (lw_V q3691 q3693 qs42 q89 q3694) rfl md_X5_strength dX5_taken_64 rfl ⟨by omega, by omega⟩ (by omega) (by omega) rfl (Nat.le_of_ble_eq_true rfl)) (fun r_7 G_7 n_7 u_7 hp_7 hn_7 hm_7 hu_7 => ?_)
                    obtain ⟨rfl, rfl, rfl, rfl⟩ := hp_7
                    refine g_aload_n hC dX5_taken_67 rfl 2 rfl ?_
                    refine g_iload_n hC dX5_taken_68 rfl 1 rfl ?_
                    refine g_calli0 hC (g_runV hC (met_X5_strength hz f (by omega)) kc_X5 mG_o (lw_V q3691 q3693 qs42 q89 q3694) rfl md_X5_strength dX5_taken_69 rfl ⟨by omega, by omega⟩ (by omega) (by omega) rfl (Nat.le_of_ble_eq_true rfl)) (fun r_8 G_8 n_8 u_8 hp_8 hn_8 hm_8 hu_8 => ?_)
                    obtain ⟨rfl, rfl, rfl, rfl⟩ := hp_8
                    refine g_icmp_ne hC dX5_taken_72 (tgt := 92) (by decide) (fun c_72 => ?_) (fun c_72 => ?_)
                    · refine g_iincN (L' := [(4, .int (nI (q + 1))), (3, .int (nI f)), (0, .ref m0), (1, .int (nI p_)), (2, .int (nI s_))]) hC 1 q dX5_taken_92 (k := 0) rfl (by decide) (by decide) rfl ?_
                      refine g_goto (tgt := 5) hC dX5_taken_95 (by decide) ?_
                      have h_ := ih_ (q + 1) (by omega) (by omega)
                      have e_0 : foldN (tkS σ p_ s_) none (q + 1) = some f := by show tkS σ p_ s_ (foldN (tkS σ p_ s_) none q) q = _; rw [hf]; simp [tkS, betK, c_17, c_26, c_36, c_44, c_58, c_72] <;> (intro z; omega)
                      rw [e_0] at h_
                      exact h_
                    · refine g_aload_n hC dX5_taken_75 rfl 2 rfl ?_
                      refine g_iload hC dX5_taken_76 0 rfl ?_
                      obtain ⟨w1, hw1, hw2, ew1⟩ := hk q (by omega)
                      obtain ⟨w2, hw3, hw4, ew2⟩ := hk f (by omega)
                      have hky1 : keyN σ q < 531441 := by rw [keyN_eq ew1 hw2]; exact kyD_lt _ _ hw2
                      have hky2 : keyN σ f < 531441 := by rw [keyN_eq ew2 hw4]; exact kyD_lt _ _ hw4
                      refine g_calli0 hC (g_runV hC (met_X5_key hz q (hN2) (by omega) (hk)) kc_X5 mG_o (lw_V q3815 q3817 qs63 q89 q3818) rfl md_X5_key dX5_taken_78 rfl ⟨by omega, by omega⟩ (by omega) (by omega) rfl (Nat.le_of_ble_eq_true rfl)) (fun r_9 G_9 n_9 u_9 hp_9 hn_9 hm_9 hu_9 => ?_)
                      obtain ⟨rfl, rfl, rfl, rfl⟩ := hp_9
                      refine g_aload_n hC dX5_taken_81 rfl 2 rfl ?_
                      refine g_iload_n hC dX5_taken_82 rfl 1 rfl ?_
                      refine g_calli0 hC (g_runV hC (met_X5_key hz f (hN2) (by omega) (hk)) kc_X5 mG_o (lw_V q3815 q3817 qs63 q89 q3818) rfl md_X5_key dX5_taken_83 rfl ⟨by omega, by omega⟩ (by omega) (by omega) rfl (Nat.le_of_ble_eq_true rfl)) (fun r_10 G_10 n_10 u_10 hp_10 hn_10 hm_10 hu_10 => ?_)
                      obtain ⟨rfl, rfl, rfl, rfl⟩ := hp_10
                      refine g_icmp_geN hC (keyN σ q) (keyN σ f) (by omega) (by omega) dX5_taken_86 (tgt := 92) (by decide) (fun c_86 => ?_) (fun c_86 => ?_)
                      · refine g_iincN (L' := [(4, .int (nI (q + 1))), (3, .int (nI f)), (0, .ref m0), (1, .int (nI p_)), (2, .int (nI s_))]) hC 1 q dX5_taken_92 (k := 0) rfl (by decide) (by decide) rfl ?_
                        refine g_goto (tgt := 5) hC dX5_taken_95 (by decide) ?_
                        have h_ := ih_ (q + 1) (by omega) (by omega)
                        have e_0 : foldN (tkS σ p_ s_) none (q + 1) = some f := by show tkS σ p_ s_ (foldN (tkS σ p_ s_) none q) q = _; rw [hf]; simp [tkS, betK, c_17, c_26, c_36, c_44, c_58, c_72, c_86] <;> (intro z; omega)
                        rw [e_0] at h_
                        exact h_
                      · refine g_iload hC dX5_taken_89 0 rfl ?_
                        refine g_istore_n (L' := [(3, .int (nI q)), (4, .int (nI q)), (0, .ref m0), (1, .int (nI p_)), (2, .int (nI s_))]) hC dX5_taken_91 rfl (by decide) rfl ?_
                        refine g_iincN (L' := [(4, .int (nI (q + 1))), (3, .int (nI q)), (0, .ref m0), (1, .int (nI p_)), (2, .int (nI s_))]) hC 1 q dX5_taken_92 (k := 1) rfl (by decide) (by decide) rfl ?_
                        refine g_goto (tgt := 5) hC dX5_taken_95 (by decide) ?_
                        have h_ := ih_ (q + 1) (by omega) (by omega)
                        have e_0 : foldN (tkS σ p_ s_) none (q + 1) = some q := by show tkS σ p_ s_ (foldN (tkS σ p_ s_) none q) q = _; rw [hf]; simp [tkS, betK, c_17, c_26, c_36, c_44, c_58, c_72, c_86] <;> (intro z; omega)
                        rw [e_0] at h_
                        exact h_
              · refine g_goto (tgt := 92) hC dX5_taken_39 (by decide) ?_
                refine g_iincN (L' := [(4, .int (nI (q + 1))), (3, .int (nI f)), (0, .ref m0), (1, .int (nI p_)), (2, .int (nI s_))]) hC 1 q dX5_taken_92 (k := 0) rfl (by decide) (by decide) rfl ?_
                refine g_goto (tgt := 5) hC dX5_taken_95 (by decide) ?_
                have h_ := ih_ (q + 1) (by omega) (by omega)
                have e_0 : foldN (tkS σ p_ s_) none (q + 1) = some f := by show tkS σ p_ s_ (foldN (tkS σ p_ s_) none q) q = _; rw [hf]; simp [tkS, betK, c_17, c_26, c_36] <;> (intro z; omega)
                rw [e_0] at h_
                exact h_
  exact hl_5 (N - 0 + 1) 0 (by omega) (by omega)
