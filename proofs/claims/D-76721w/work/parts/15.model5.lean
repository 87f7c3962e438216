set_option maxRecDepth 100000
/-! THE MODEL, 5: plug-ins, waves, stops -/
def bt (x : Int32) (i : Nat) : Bool := x.toBitVec.getLsbD i
theorem b_ext {x y : Int32} (h : ∀ i, i < 32 → bt x i = bt y i) : x = y := Int32.toBitVec_inj.mp (BitVec.eq_of_getLsbD_eq (fun i hi => h i hi))
theorem b_or (x y : Int32) (i : Nat) : bt (x ||| y) i = (bt x i || bt y i) := by unfold bt; rw [Int32.toBitVec_or, BitVec.getLsbD_or]
theorem b_and (x y : Int32) (i : Nat) : bt (x &&& y) i = (bt x i && bt y i) := by unfold bt; rw [Int32.toBitVec_and, BitVec.getLsbD_and]
theorem b_xor (x y : Int32) (i : Nat) : bt (x ^^^ y) i = (bt x i ^^ bt y i) := by unfold bt; rw [Int32.toBitVec_xor, BitVec.getLsbD_xor]
theorem b_m1 : ∀ i, i < 32 → bt (-1) i = true := by decide +kernel
theorem b_0 (i : Nat) : bt 0 i = false := BitVec.getLsbD_zero
theorem b_1 : ∀ i, i < 32 → bt 1 i = decide (i = 0) := by decide +kernel
theorem s_l : ∀ n, n < 32 → ((nI n &&& 31).toBitVec.smod 32).toNat = n := by decide +kernel
theorem b_shl (n : Nat) (hn : n < 32) (x : Int32) {i : Nat} (hi : i < 32) : bt (x <<< (nI n &&& 31)) i = (decide (n ≤ i) && bt x (i - n)) := by
  unfold bt
  rw [Int32.toBitVec_shiftLeft]
  show (x.toBitVec <<< ((nI n &&& 31).toBitVec.smod 32).toNat).getLsbD i = _
  rw [s_l n hn, BitVec.getLsbD_shiftLeft]
  rcases Nat.lt_or_ge i n with h | h
  · simp [h, Nat.not_le.mpr h]
  · simp [hi, h, Nat.not_lt.mpr h]
theorem b_sshr (n : Nat) (hn : n < 32) (x : Int32) {i : Nat} (hi : i < 32) : bt (x >>> (nI n &&& 31)) i = if n + i < 32 then bt x (n + i) else bt x 31 := by
  unfold bt
  rw [Int32.toBitVec_shiftRight]
  show (x.toBitVec.sshiftRight ((nI n &&& 31).toBitVec.smod 32).toNat).getLsbD i = _
  rw [s_l n hn, BitVec.getLsbD_sshiftRight, BitVec.msb_eq_getLsbD_last]
  simp [hi]
theorem b_bitI {q i : Nat} (hq : q < 32) (hi : i < 32) : bt (bitI q) i = decide (i = q) := by
  unfold bitI
  rw [b_shl q hq 1 hi]
  by_cases h : q ≤ i
  · rw [b_1 _ (by omega)]; by_cases e : i = q <;> simp [e, h] <;> omega
  · simp [h]; omega
theorem b_test {x : Int32} {q : Nat} (hq : q < 32) : ((x >>> (nI q &&& 31)) &&& 1 = 1) ↔ bt x q = true := by
  have h0 : bt ((x >>> (nI q &&& 31)) &&& 1) 0 = bt x q := by rw [b_and, b_sshr q hq x (by omega), b_1 0 (by omega)]; simp [hq]
  constructor
  · intro h; rw [← h0, h]; rfl
  · intro h
    apply b_ext
    intro i hi
    by_cases e : i = 0
    · subst e; rw [h0, h, b_1 0 (by omega)]; rfl
    · rw [b_and, b_1 i hi]; simp [e]
theorem need_bt {σ : MS} {p k : Nat} (h : k < 32) : needF σ p k = bt (tl σ 3 p) k := by
  unfold needF
  cases e : bt (tl σ 3 p) k with
  | true => exact decide_eq_true ((b_test h).mpr e)
  | false => exact decide_eq_false (fun q => by rw [(b_test h).mp q] at e; cases e)
theorem off_bt {σ : MS} {p k : Nat} (h : k < 32) : offF σ p k = bt (tl σ 4 p) k := by
  unfold offF
  cases e : bt (tl σ 4 p) k with
  | true => exact decide_eq_true ((b_test h).mpr e)
  | false => exact decide_eq_false (fun q => by rw [(b_test h).mp q] at e; cases e)
def bF (P : Nat → Bool) (n : Nat) : Int32 := foldN (fun b q => if P q = true then b ||| bitI q else b) 0 n
theorem bF_bt (P : Nat → Bool) : ∀ n, n ≤ 32 → ∀ q, q < 32 → bt (bF P n) q = (decide (q < n) && P q) := by
  intro n
  induction n with
  | zero => intro _ q _; exact b_0 q
  | succ n ih =>
    intro hn q hq
    have hr := ih (by omega) q hq
    show bt (if P n = true then bF P n ||| bitI n else bF P n) q = _
    by_cases e : q = n
    · subst e
      cases hp : P q with
      | true => rw [if_pos rfl, b_or, b_bitI hq hq]; simp
      | false => rw [if_neg (by simp), hr]; simp [hp]
    · have e2 : decide (q < n + 1) = decide (q < n) := by by_cases c : q < n <;> simp [c] <;> omega
      rw [e2]
      split
      · rw [b_or, b_bitI (by omega) hq, hr]; simp [e]
      · exact hr
theorem bF_0 {P : Nat → Bool} {n : Nat} (hn : n ≤ 32) : bF P n = 0 ↔ anyN P n = false := by
  constructor
  · intro h
    cases e : anyN P n with
    | false => rfl
    | true =>
      obtain ⟨i, h1, h2⟩ := anyN_iff.mp e
      have := bF_bt P n hn i (by omega)
      rw [h, b_0, h2] at this
      simp [h1] at this
  · intro h
    apply b_ext
    intro i hi
    rw [bF_bt P n hn i hi, b_0]
    by_cases c : i < n
    · cases e : P i with
      | false => simp
      | true => rw [anyN_t c e] at h; cases h
    · simp [c]
theorem anyN_mono {P : Nat → Bool} {i n : Nat} (h : anyN P i = true) (hi : i ≤ n) : anyN P n = true := by
  obtain ⟨j, h1, h2⟩ := anyN_iff.mp h
  exact anyN_t (by omega) h2
theorem held_mono {x : Bool} {P : Nat → Bool} {i n : Nat} (h : true = (!x || anyN P i)) (hi : i ≤ n) : true = (!x || anyN P n) := by
  cases x with
  | false => rfl
  | true => exact (anyN_mono (h.symm : anyN P i = true) hi).symm
theorem bF_bit {P : Nat → Bool} {n q : Nat} (hn : n ≤ 32) (hq : q < n) : ((bF P n >>> (nI q &&& 31)) &&& 1 = 1) ↔ P q = true := by
  rw [b_test (by omega), bF_bt P n hn q (by omega)]; simp [hq]
def cntB (P : Nat → Bool) (n : Nat) : Nat := foldN (fun a q => if P q = true then a + 1 else a) 0 n
theorem cntB_le {P Q : Nat → Bool} : ∀ n, (∀ q, q < n → Q q = true → P q = true) → cntB Q n ≤ cntB P n := by
  intro n
  induction n with
  | zero => intro _; exact Nat.le_refl _
  | succ n ih =>
    intro h
    have h1 := ih (fun q hq => h q (by omega))
    show (if Q n = true then cntB Q n + 1 else cntB Q n) ≤ (if P n = true then cntB P n + 1 else cntB P n)
    by_cases hq : Q n = true
    · rw [if_pos hq, if_pos (h n (by omega) hq)]; omega
    · rw [if_neg hq]; split <;> omega
theorem cntB_lt {P Q : Nat → Bool} : ∀ n, (∀ q, q < n → Q q = true → P q = true) → (∃ i, i < n ∧ P i = true ∧ Q i = false) → cntB Q n < cntB P n := by
  intro n
  induction n with
  | zero => rintro _ ⟨i, h, _⟩; omega
  | succ n ih =>
    rintro h ⟨i, hi, hp, hq⟩
    show (if Q n = true then cntB Q n + 1 else cntB Q n) < (if P n = true then cntB P n + 1 else cntB P n)
    by_cases e : i = n
    · subst e
      rw [if_neg (by rw [hq]; simp), if_pos hp]
      have := cntB_le (P := P) (Q := Q) i (fun q hq => h q (by omega))
      omega
    · have h1 := ih (fun q hq => h q (by omega)) ⟨i, by omega, hp, hq⟩
      by_cases c : Q n = true
      · rw [if_pos c, if_pos (h n (by omega) c)]; omega
      · rw [if_neg c]; split <;> omega
theorem cntB_n (P : Nat → Bool) : ∀ n, cntB P n ≤ n := by
  intro n
  induction n with
  | zero => exact Nat.le_refl _
  | succ n ih => show (if P n = true then cntB P n + 1 else cntB P n) ≤ n + 1; split <;> omega
def plugF (σ : MS) (N : Nat) (k r ne of fa na : Int32) : Int32 × MS :=
  if wi k 0 4 = true then
    (if (wi r 0 9 = true ∧ wi ne 0 255 = true ∧ wi of 0 255 = true ∧ wi fa 0 9 = true ∧ nmF na = true) ∧ anyN (thereP σ na) N = false then
      (if N = 12 then (-7, mNo σ 7) else (nI N, npF σ N k r ne of fa na)) else (-6, mNo σ 6)) else (-1, mNo σ 1)
def worthF (σ : MS) (p k : Nat) : Int32 := if k = 0 then tl σ 2 p else if k % 2 = 1 then bitC (tl σ 4 p) else strF σ p
def saysF (σ : MS) (j k : Int32) : Int32 × MS :=
  if wi j 0 7 = true ∧ wi k 0 4 = true then
    (if σ.1 6 j.toNatClampNeg < 0 then (-3, mNo σ 3) else
     if rwF σ j.toNatClampNeg = false ∧ unF (tl σ 1 (σ.1 6 j.toNatClampNeg).toNatClampNeg).toNatClampNeg k.toNatClampNeg = true then (worthF σ (σ.1 6 j.toNatClampNeg).toNatClampNeg k.toNatClampNeg, σ) else (-2, mNo σ 2))
  else (-1, mNo σ 1)
def provF (σ : MS) (N : Nat) (p k : Int32) : Int32 × MS :=
  if wi p 0 (nI N - 1) = true ∧ wi k 0 7 = true then (if tl σ 0 p.toNatClampNeg = 1 ∧ needF σ p.toNatClampNeg k.toNatClampNeg = true then oI (foldN (pvS σ p.toNatClampNeg k.toNatClampNeg) none N) else -1, σ) else (-1 - 10, mNo σ 1)
def hO (z : MS) (q k o : Nat) : Bool := decide (tl z 0 o = 1) && decide (z.1 22 o = -1) && offF z o k && oldF z o q
def lackF (N : Nat) (z : MS) (q k : Nat) : Bool := needF z q k && !(anyN (hO z q k) N)
def heldF (N : Nat) (z : MS) (q : Nat) : Bool := !(anyN (lackF N z q) 8)
def PW (N : Nat) (z : MS) (q : Nat) : Bool := decide (tl z 0 q = 1) && decide (z.1 22 q = -1) && !(heldF N z q)
def apS (N : Nat) (z0 : MS) (k : Nat) (z : MS) (q : Nat) : MS := if PW N z0 q = true then mu z 22 q (nI k) else z
def rnd (N : Nat) (z : MS) (k : Nat) : MS := foldN (apS N z k) z N
def wvI (N : Nat) : Nat → Nat → MS → MS
  | 0, _, z => z
  | f + 1, k, z => if anyN (PW N z) N = true then wvI N f (k + 1) (rnd N z k) else z
def wvS (z : MS) (q : Nat) : MS := mu z 22 q (-1)
def wv0 (σ : MS) (p : Nat) : MS := mu (foldN wvS σ 12) 22 p 0
def wavesF (N : Nat) (σ : MS) (p : Nat) : MS := wvI N 13 1 (wv0 σ p)
theorem wv0_ne {σ : MS} {p k i : Nat} (h : k ≠ 22) : (wv0 σ p).1 k i = σ.1 k i := (mu_nk h).trans (fold_keep (f := wvS) (g := fun z : MS => z.1 k i) (fun a i => mu_nk h) _ _)
theorem ap_ne {N k i q : Nat} {z0 z : MS} {w : Nat} (h : k ≠ 22) : (apS N z0 w z q).1 k i = z.1 k i := by unfold apS; split; exact mu_nk h; rfl
theorem apf_ne {N k i n : Nat} {z0 z : MS} {w : Nat} (h : k ≠ 22) : (foldN (apS N z0 w) z n).1 k i = z.1 k i := fold_keep (f := apS N z0 w) (g := fun z : MS => z.1 k i) (fun a i => ap_ne h) _ _
theorem rnd_ne {N k i : Nat} {z : MS} {w : Nat} (h : k ≠ 22) : (rnd N z w).1 k i = z.1 k i := apf_ne h
theorem apf_at {N : Nat} {z0 z : MS} {w q : Nat} : ∀ n, (foldN (apS N z0 w) z n).1 22 q = if q < n ∧ PW N z0 q = true then nI w else z.1 22 q := by
  intro n
  induction n with
  | zero => simp [foldN]
  | succ n ih =>
    show (apS N z0 w (foldN (apS N z0 w) z n) n).1 22 q = _
    generalize foldN (apS N z0 w) z n = Z at ih ⊢
    unfold apS
    by_cases e : q = n
    · subst e
      by_cases hp : PW N z0 q = true
      · rw [if_pos hp, mu_hit, if_pos ⟨by omega, hp⟩]
      · rw [if_neg hp, ih, if_neg (fun x => hp x.2), if_neg (fun x => hp x.2)]
    · have : (if PW N z0 n = true then mu Z 22 n (nI w) else Z).1 22 q = Z.1 22 q := by split; exact mu_ni e; rfl
      rw [this, ih]
      by_cases c : q < n
      · have c2 : q < n + 1 := by omega
        simp [c, c2]
      · have c2 : ¬ q < n + 1 := by omega
        simp [c, c2]
theorem rnd_none {N : Nat} {z : MS} {w : Nat} (h : anyN (PW N z) N = false) : rnd N z w = z := by
  have : ∀ n, n ≤ N → foldN (apS N z w) z n = z := by
    intro n
    induction n with
    | zero => intro _; rfl
    | succ n ih =>
      intro hn
      show apS N z w (foldN (apS N z w) z n) n = z
      rw [ih (by omega)]
      unfold apS
      rw [if_neg (fun q => by rw [anyN_t (show n < N by omega) q] at h; cases h)]
  exact this N (Nat.le_refl _)
def unw (z : MS) (N : Nat) : Nat := cntB (fun q => decide (z.1 22 q = -1)) N
theorem unw_rnd {N : Nat} {z : MS} {w : Nat} (hw : w < 2 ^ 31) (h : anyN (PW N z) N = true) : unw (rnd N z w) N < unw z N := by
  obtain ⟨i, hi, hp⟩ := anyN_iff.mp h
  refine cntB_lt N (fun q hq hh => ?_) ⟨i, hi, ?_, ?_⟩
  · have h1 : (rnd N z w).1 22 q = -1 := of_decide_eq_true hh
    rw [show (rnd N z w).1 22 q = _ from apf_at N] at h1
    split at h1
    · exact absurd h1 (nI_m1 hw)
    · exact decide_eq_true h1
  · unfold PW at hp
    simp only [Bool.and_eq_true] at hp
    exact hp.1.2
  · refine decide_eq_false ?_
    rw [show (rnd N z w).1 22 i = _ from apf_at N, if_pos ⟨hi, hp⟩]
    exact nI_m1 hw
set_option maxHeartbeats 1000000 in
theorem met_X5_plug {Y : YT} {l : Launch} {m0 n u : Nat} {σ : MS} {B : AH} (hz : yz Y ≤ m0) (k_ : Int32) (r_ : Int32) (ne_ : Int32) (of_ : Int32) (fa_ : Int32) (na_ : Int32) {N : Nat} (hN : σ.1 0 0 = nI N) (hN2 : N ≤ 12) : GM Y l yX5_plug (ws_ yX5_plug cX5_plug 7 (some FieldType.int)) 2 44 [.ref m0, .int k_, .int r_, .int ne_, .int of_, .int fa_, .int na_] (mG Y m0 σ B) n u 0 0 (pI (fun r G' n' u' => (plugF σ N k_ r_ ne_ of_ fa_ na_).1 = r ∧ mG Y m0 ((plugF σ N k_ r_ ne_ of_ fa_ na_).2) B = G' ∧ n = n' ∧ u = u')) noX := by
  refine GM.intro (own := RX5) rfl (by decide +kernel) (Nat.le_of_ble_eq_true rfl) ?_
  intro p e s m args below meth c R Q hC hr hnm hF hL hE
  have hE1 := hE.1
  have hE2 := hE.2.1
  show V Y p l e R s m args below meth c 7 n u (mG Y m0 σ B) n u Q 0 [(0, .ref m0), (1, .int k_), (2, .int r_), (3, .int ne_), (4, .int of_), (5, .int fa_), (6, .int na_)] []
  refine g_iload_n hC dX5_plug_0 rfl 1 rfl ?_
  refine g_iconst (v := 0) hC dX5_plug_1 rfl ?_
  refine g_iconst (v := 4) hC dX5_plug_2 rfl ?_
  refine g_calli0 hC (g_runS hC (met_X5_within hz k_ 0 4 ) (lw_S q3637 q3638 q89 q3639) md_X5_within dX5_plug_3 rfl ⟨by omega, by omega⟩ (by omega) (by omega) rfl (Nat.le_of_ble_eq_true rfl)) (fun r_1 G_1 n_1 u_1 hp_1 hn_1 hm_1 hu_1 => ?_)
  obtain ⟨rfl, rfl, rfl, rfl⟩ := hp_1
  refine g_if_neB hC (wi k_ 0 4) dX5_plug_6 (tgt := 15) (by decide) (fun c_6 => ?_) (fun c_6 => ?_)
  · have hj_76 : (¬ ((wi r_ 0 9 = true ∧ wi ne_ 0 255 = true ∧ wi of_ 0 255 = true ∧ wi fa_ 0 9 = true ∧ nmF na_ = true) ∧ anyN (thereP σ na_) N = false)) → V Y p l e R s m args below meth c 7 n u (mG Y m0 σ B) n u Q 76 [(0, .ref m0), (1, .int k_), (2, .int r_), (3, .int ne_), (4, .int of_), (5, .int fa_), (6, .int na_)] [] := by
      intro k76
      refine g_aload_n hC dX5_plug_76 rfl 0 rfl ?_
      refine g_bipush (v := (-6)) hC dX5_plug_77 (by decide) ?_
      refine g_calli0 hC (g_runV hC (met_X5_no hz 6 (by omega)) kc_X5 mG_o (lw_V q3640 q3642 qs37 q89 q3643) rfl md_X5_no dX5_plug_79 rfl ⟨by omega, by omega⟩ (by omega) (by omega) rfl (Nat.le_of_ble_eq_true rfl)) (fun r_2 G_2 n_2 u_2 hp_2 hn_2 hm_2 hu_2 => ?_)
      obtain ⟨rfl, rfl, rfl, rfl⟩ := hp_2
      refine g_iret hC hr rfl ⟨_, rfl, ?_⟩ (by omega) (by omega) hE dX5_plug_82
      have h9 : plugF σ N k_ r_ ne_ of_ fa_ na_ = (-(nI 6), mNo σ 6) := by
        first | (simp [plugF, c_6, k76]; done) | (simp [plugF, c_6, k76]; rfl)
      exact ⟨by rw [h9], by rw [h9], rfl, rfl⟩
    refine g_iload_n hC dX5_plug_15 rfl 2 rfl ?_
    refine g_iconst (v := 0) hC dX5_plug_16 rfl ?_
    refine g_bipush (v := 9) hC dX5_plug_17 (by decide) ?_
    refine g_calli0 hC (g_runS hC (met_X5_within hz r_ 0 9 ) (lw_S q3637 q3638 q89 q3639) md_X5_within dX5_plug_19 rfl ⟨by omega, by omega⟩ (by omega) (by omega) rfl (Nat.le_of_ble_eq_true rfl)) (fun r_3 G_3 n_3 u_3 hp_3 hn_3 hm_3 hu_3 => ?_)
    obtain ⟨rfl, rfl, rfl, rfl⟩ := hp_3
    refine g_if_eqB hC (wi r_ 0 9) dX5_plug_22 (tgt := 76) (by decide) (fun c_22 => ?_) (fun c_22 => ?_)
    · exact hj_76 (by simp [c_6, c_22])
    · refine g_iload_n hC dX5_plug_25 rfl 3 rfl ?_
      refine g_iconst (v := 0) hC dX5_plug_26 rfl ?_
      refine g_sipush (v := 255) hC dX5_plug_27 (by decide) ?_
      refine g_calli0 hC (g_runS hC (met_X5_within hz ne_ 0 255 ) (lw_S q3637 q3638 q89 q3639) md_X5_within dX5_plug_30 rfl ⟨by omega, by omega⟩ (by omega) (by omega) rfl (Nat.le_of_ble_eq_true rfl)) (fun r_4 G_4 n_4 u_4 hp_4 hn_4 hm_4 hu_4 => ?_)
      obtain ⟨rfl, rfl, rfl, rfl⟩ := hp_4
      refine g_if_eqB hC (wi ne_ 0 255) dX5_plug_33 (tgt := 76) (by decide) (fun c_33 => ?_) (fun c_33 => ?_)
      · exact hj_76 (by simp [c_6, c_22, c_33])
      · refine g_iload hC dX5_plug_36 4 rfl ?_
        refine g_iconst (v := 0) hC dX5_plug_38 rfl ?_
        refine g_sipush (v := 255) hC dX5_plug_39 (by decide) ?_
        refine g_calli0 hC (g_runS hC (met_X5_within hz of_ 0 255 ) (lw_S q3637 q3638 q89 q3639) md_X5_within dX5_plug_42 rfl ⟨by omega, by omega⟩ (by omega) (by omega) rfl (Nat.le_of_ble_eq_true rfl)) (fun r_5 G_5 n_5 u_5 hp_5 hn_5 hm_5 hu_5 => ?_)
        obtain ⟨rfl, rfl, rfl, rfl⟩ := hp_5
        refine g_if_eqB hC (wi of_ 0 255) dX5_plug_45 (tgt := 76) (by decide) (fun c_45 => ?_) (fun c_45 => ?_)
        · exact hj_76 (by simp [c_6, c_22, c_33, c_45])
        · refine g_iload hC dX5_plug_48 5 rfl ?_
          refine g_iconst (v := 0) hC dX5_plug_50 rfl ?_
          refine g_bipush (v := 9) hC dX5_plug_51 (by decide) ?_
          refine g_calli0 hC (g_runS hC (met_X5_within hz fa_ 0 9 ) (lw_S q3637 q3638 q89 q3639) md_X5_within dX5_plug_53 rfl ⟨by omega, by omega⟩ (by omega) (by omega) rfl (Nat.le_of_ble_eq_true rfl)) (fun r_6 G_6 n_6 u_6 hp_6 hn_6 hm_6 hu_6 => ?_)
          obtain ⟨rfl, rfl, rfl, rfl⟩ := hp_6
          refine g_if_eqB hC (wi fa_ 0 9) dX5_plug_56 (tgt := 76) (by decide) (fun c_56 => ?_) (fun c_56 => ?_)
          · exact hj_76 (by simp [c_6, c_22, c_33, c_45, c_56])
          · refine g_iload hC dX5_plug_59 6 rfl ?_
            refine g_calli0 hC (g_runS hC (met_X5_isName hz na_ ) (lw_S q3700 q3701 q89 q3702) md_X5_isName dX5_plug_61 rfl ⟨by omega, by omega⟩ (by omega) (by omega) rfl (Nat.le_of_ble_eq_true rfl)) (fun r_7 G_7 n_7 u_7 hp_7 hn_7 hm_7 hu_7 => ?_)
            obtain ⟨rfl, rfl, rfl, rfl⟩ := hp_7
            refine g_if_eqB hC (nmF na_) dX5_plug_64 (tgt := 76) (by decide) (fun c_64 => ?_) (fun c_64 => ?_)
            · exact hj_76 (by simp [c_6, c_22, c_33, c_45, c_56, c_64])
            · refine g_aload_n hC dX5_plug_67 rfl 0 rfl ?_
              refine g_iload hC dX5_plug_68 6 rfl ?_
              refine g_calli0 hC (g_runV hC (met_X5_isThere hz na_ (hN) (hN2)) kc_X5 mG_o (lw_V q3704 q3706 qs43 q89 q3707) rfl md_X5_isThere dX5_plug_70 rfl ⟨by omega, by omega⟩ (by omega) (by omega) rfl (Nat.le_of_ble_eq_true rfl)) (fun r_8 G_8 n_8 u_8 hp_8 hn_8 hm_8 hu_8 => ?_)
              obtain ⟨rfl, rfl, rfl, rfl⟩ := hp_8
              refine g_if_eqB hC (anyN (thereP σ na_) N) dX5_plug_73 (tgt := 83) (by decide) (fun c_73 => ?_) (fun c_73 => ?_)
              · refine g_aload_n hC dX5_plug_83 rfl 0 rfl ?_
                refine m_get (v := .int (nI N)) hC 0 (by decide) q3521 (congrArg (fun z => some (Value.int z)) hN) dX5_plug_84 ?_
                refine g_bipush (v := 12) hC dX5_plug_87 (by decide) ?_
                refine g_icmp_neN hC N 12 (by omega) (by omega) dX5_plug_89 (tgt := 101) (by decide) (fun c_89 => ?_) (fun c_89 => ?_)
                · refine g_aload_n hC dX5_plug_101 rfl 0 rfl ?_
                  refine g_iload_n hC dX5_plug_102 rfl 1 rfl ?_
                  refine g_iload_n hC dX5_plug_103 rfl 2 rfl ?_
                  refine g_iload_n hC dX5_plug_104 rfl 3 rfl ?_
                  refine g_iload hC dX5_plug_105 4 rfl ?_
                  refine g_iload hC dX5_plug_107 5 rfl ?_
                  refine g_iload hC dX5_plug_109 6 rfl ?_
                  refine g_calli0 hC (g_runV hC (met_X5_newPlug hz k_ r_ ne_ of_ fa_ na_ (hN) (by omega)) kc_X5 mG_o (lw_V q3712 q3714 qs45 q89 q3715) rfl md_X5_newPlug dX5_plug_111 rfl ⟨by omega, by omega⟩ (by omega) (by omega) rfl (Nat.le_of_ble_eq_true rfl)) (fun r_9 G_9 n_9 u_9 hp_9 hn_9 hm_9 hu_9 => ?_)
                  obtain ⟨rfl, rfl, rfl, rfl⟩ := hp_9
                  refine g_iret hC hr rfl ⟨_, rfl, ?_⟩ (by omega) (by omega) hE dX5_plug_114
                  have h9 : plugF σ N k_ r_ ne_ of_ fa_ na_ = (nI N, npF σ N k_ r_ ne_ of_ fa_ na_) := by
                    first | (simp [plugF, c_6, c_22, c_33, c_45, c_56, c_64, c_73, c_89]; done) | (simp [plugF, c_6, c_22, c_33, c_45, c_56, c_64, c_73, c_89]; rfl)
                  exact ⟨by rw [h9], by rw [h9], rfl, rfl⟩
                · refine g_aload_n hC dX5_plug_92 rfl 0 rfl ?_
                  refine g_bipush (v := (-7)) hC dX5_plug_93 (by decide) ?_
                  refine g_calli0 hC (g_runV hC (met_X5_no hz 7 (by omega)) kc_X5 mG_o (lw_V q3640 q3642 qs37 q89 q3643) rfl md_X5_no dX5_plug_95 rfl ⟨by omega, by omega⟩ (by omega) (by omega) rfl (Nat.le_of_ble_eq_true rfl)) (fun r_10 G_10 n_10 u_10 hp_10 hn_10 hm_10 hu_10 => ?_)
                  obtain ⟨rfl, rfl, rfl, rfl⟩ := hp_10
                  refine g_goto (tgt := 114) hC dX5_plug_98 (by decide) ?_
                  refine g_iret hC hr rfl ⟨_, rfl, ?_⟩ (by omega) (by omega) hE dX5_plug_114
                  have h9 : plugF σ N k_ r_ ne_ of_ fa_ na_ = (-(nI 7), mNo σ 7) := by
                    simp [plugF, c_6, c_22, c_33, c_45, c_56, c_64, c_73]
                    rw [if_pos c_89]; rfl
                  exact ⟨by rw [h9], by rw [h9], rfl, rfl⟩
              · exact hj_76 (by simp [c_6, c_22, c_33, c_45, c_56, c_64, c_73])
  · refine g_aload_n hC dX5_plug_9 rfl 0 rfl ?_
    refine g_iconst (v := (-1)) hC dX5_plug_10 rfl ?_
    refine g_calli0 hC (g_runV hC (met_X5_no hz 1 (by omega)) kc_X5 mG_o (lw_V q3640 q3642 qs37 q89 q3643) rfl md_X5_no dX5_plug_11 rfl ⟨by omega, by omega⟩ (by omega) (by omega) rfl (Nat.le_of_ble_eq_true rfl)) (fun r_11 G_11 n_11 u_11 hp_11 hn_11 hm_11 hu_11 => ?_)
    obtain ⟨rfl, rfl, rfl, rfl⟩ := hp_11
    refine g_iret hC hr rfl ⟨_, rfl, ?_⟩ (by omega) (by omega) hE dX5_plug_14
    have h9 : plugF σ N k_ r_ ne_ of_ fa_ na_ = (-(nI 1), mNo σ 1) := by
      first | (simp [plugF, c_6]; done) | (simp [plugF, c_6]; rfl)
    exact ⟨by rw [h9], by rw [h9], rfl, rfl⟩
set_option maxHeartbeats 1000000 in
theorem met_X5_says {Y : YT} {l : Launch} {m0 n u : Nat} {σ : MS} {B : AH} (hz : yz Y ≤ m0) (s_ : Int32) (k_ : Int32) {N : Nat} (hN2 : N ≤ 12) (hh : ∀ j, j < 8 → ¬ σ.1 6 j < 0 → rwF σ j = false → ∃ q, q < N ∧ σ.1 6 j = nI q) (hkd : ∀ q, q < N → ∃ t, t ≤ 4 ∧ tl σ 1 q = nI t) : GM Y l yX5_says (ws_ yX5_says cX5_says 4 (some FieldType.int)) 2 46 [.ref m0, .int s_, .int k_] (mG Y m0 σ B) n u 0 0 (pI (fun r G' n' u' => (saysF σ  s_ k_).1 = r ∧ mG Y m0 ((saysF σ  s_ k_).2) B = G' ∧ n = n' ∧ u = u')) noX := by
  refine GM.intro (own := RX5) rfl (by decide +kernel) (Nat.le_of_ble_eq_true rfl) ?_
  intro p e s m args below meth c R Q hC hr hnm hF hL hE
  have hE1 := hE.1
  have hE2 := hE.2.1
  show V Y p l e R s m args below meth c 4 n u (mG Y m0 σ B) n u Q 0 [(0, .ref m0), (1, .int s_), (2, .int k_)] []
  refine g_iload_n hC dX5_says_0 rfl 1 rfl ?_
  refine g_iconst (v := 0) hC dX5_says_1 rfl ?_
  refine g_bipush (v := 7) hC dX5_says_2 (by decide) ?_
  refine g_calli0 hC (g_runS hC (met_X5_within hz s_ 0 7 ) (lw_S q3637 q3638 q89 q3639) md_X5_within dX5_says_4 rfl ⟨by omega, by omega⟩ (by omega) (by omega) rfl (Nat.le_of_ble_eq_true rfl)) (fun r_1 G_1 n_1 u_1 hp_1 hn_1 hm_1 hu_1 => ?_)
  obtain ⟨rfl, rfl, rfl, rfl⟩ := hp_1
  refine g_if_eqB hC (wi s_ 0 7) dX5_says_7 (tgt := 19) (by decide) (fun c_7 => ?_) (fun c_7 => ?_)
  · refine g_aload_n hC dX5_says_19 rfl 0 rfl ?_
    refine g_iconst (v := (-1)) hC dX5_says_20 rfl ?_
    refine g_calli0 hC (g_runV hC (met_X5_no hz 1 (by omega)) kc_X5 mG_o (lw_V q3640 q3642 qs37 q89 q3643) rfl md_X5_no dX5_says_21 rfl ⟨by omega, by omega⟩ (by omega) (by omega) rfl (Nat.le_of_ble_eq_true rfl)) (fun r_2 G_2 n_2 u_2 hp_2 hn_2 hm_2 hu_2 => ?_)
    obtain ⟨rfl, rfl, rfl, rfl⟩ := hp_2
    refine g_iret hC hr rfl ⟨_, rfl, ?_⟩ (by omega) (by omega) hE dX5_says_24
    have h9 : saysF σ s_ k_ = (-(nI 1), mNo σ 1) := by
      first | (simp [saysF, worthF, c_7]; done) | (simp [saysF, worthF, c_7]; rfl)
    exact ⟨by rw [h9], by rw [h9], rfl, rfl⟩
  · refine g_iload_n hC dX5_says_10 rfl 2 rfl ?_
    refine g_iconst (v := 0) hC dX5_says_11 rfl ?_
    refine g_iconst (v := 4) hC dX5_says_12 rfl ?_
    refine g_calli0 hC (g_runS hC (met_X5_within hz k_ 0 4 ) (lw_S q3637 q3638 q89 q3639) md_X5_within dX5_says_13 rfl ⟨by omega, by omega⟩ (by omega) (by omega) rfl (Nat.le_of_ble_eq_true rfl)) (fun r_3 G_3 n_3 u_3 hp_3 hn_3 hm_3 hu_3 => ?_)
    obtain ⟨rfl, rfl, rfl, rfl⟩ := hp_3
    refine g_if_neB hC (wi k_ 0 4) dX5_says_16 (tgt := 25) (by decide) (fun c_16 => ?_) (fun c_16 => ?_)
    · have c7 : wi s_ 0 (nI 7) = true := c_7
      obtain ⟨j, hj, rfl⟩ := wi_nI (by decide) c7
      have cl_j : (nI j).toNatClampNeg = j := nI_clamp (by omega)
      have c16 : wi k_ 0 (nI 4) = true := c_16
      obtain ⟨k, hk, rfl⟩ := wi_nI (by decide) c16
      have cl_k : (nI k).toNatClampNeg = k := nI_clamp (by omega)
      
      refine g_aload_n hC dX5_says_25 rfl 0 rfl ?_
      refine m_get (v := .ref (m0 + 3)) hC 6 (by decide) q3527 rfl dX5_says_26 ?_
      refine g_iload_n hC dX5_says_29 rfl 1 rfl ?_
      refine m_ald (v := σ.1 6 j) hC 6 j rfl (show j < 8 from by omega) (by omega) rfl dX5_says_30 ?_
      refine g_istore_n (L' := [(3, .int (σ.1 6 j)), (0, .ref m0), (1, .int (nI j)), (2, .int (nI k))]) hC dX5_says_31 rfl (by decide) rfl ?_
      have hj_57 : (¬ σ.1 6 j < 0) → (¬ (rwF σ j = false ∧ unF (tl σ 1 (σ.1 6 j).toNatClampNeg).toNatClampNeg k = true)) → V Y p l e R s m args below meth c 4 n u (mG Y m0 σ B) n u Q 57 [(3, .int (σ.1 6 j)), (0, .ref m0), (1, .int (nI j)), (2, .int (nI k))] [] := by
        intro n57 k57
        refine g_aload_n hC dX5_says_57 rfl 1 rfl ?_
        refine g_bipush (v := (-2)) hC dX5_says_58 (by decide) ?_
        refine g_calli0 hC (g_runV hC (met_X5_no hz 2 (by omega)) kc_X5 mG_o (lw_V q3640 q3642 qs37 q89 q3643) rfl md_X5_no dX5_says_60 rfl ⟨by omega, by omega⟩ (by omega) (by omega) rfl (Nat.le_of_ble_eq_true rfl)) (fun r_4 G_4 n_4 u_4 hp_4 hn_4 hm_4 hu_4 => ?_)
        obtain ⟨rfl, rfl, rfl, rfl⟩ := hp_4
        refine g_iret hC hr rfl ⟨_, rfl, ?_⟩ (by omega) (by omega) hE dX5_says_63
        have h9 : saysF σ (nI j) (nI k) = (-(nI 2), mNo σ 2) := by
          first | (simp [saysF, worthF, c_7, c_16, cl_j, cl_k, c7, c16, n57, k57]; done) | (simp [saysF, worthF, c_7, c_16, cl_j, cl_k, c7, c16, n57, k57]; rfl)
        exact ⟨by rw [h9], by rw [h9], rfl, rfl⟩
      refine g_iload_n hC dX5_says_32 rfl 0 rfl ?_
      refine g_if_lt hC dX5_says_33 (tgt := 64) (by decide) (fun c_33 => ?_) (fun c_33 => ?_)
      · refine g_iload_n hC dX5_says_64 rfl 0 rfl ?_
        refine g_if_ge hC dX5_says_65 (tgt := 75) (by decide) (fun c_65 => ?_) (fun c_65 => ?_)
        · first | exact absurd c_65 (Int32.not_le.mpr c_33) | exact absurd (Int32.not_lt.mp c_33) c_65 | exact absurd c_33 c_65 | exact absurd c_65 c_33
        · refine g_aload_n hC dX5_says_68 rfl 1 rfl ?_
          refine g_bipush (v := (-3)) hC dX5_says_69 (by decide) ?_
          refine g_calli0 hC (g_runV hC (met_X5_no hz 3 (by omega)) kc_X5 mG_o (lw_V q3640 q3642 qs37 q89 q3643) rfl md_X5_no dX5_says_71 rfl ⟨by omega, by omega⟩ (by omega) (by omega) rfl (Nat.le_of_ble_eq_true rfl)) (fun r_5 G_5 n_5 u_5 hp_5 hn_5 hm_5 hu_5 => ?_)
          obtain ⟨rfl, rfl, rfl, rfl⟩ := hp_5
          refine g_iret hC hr rfl ⟨_, rfl, ?_⟩ (by omega) (by omega) hE dX5_says_74
          have h9 : saysF σ (nI j) (nI k) = (-(nI 3), mNo σ 3) := by
            first | (simp [saysF, worthF, c_7, c_16, cl_j, cl_k, c7, c16, c_33, c_65]; done) | (simp [saysF, worthF, c_7, c_16, cl_j, cl_k, c7, c16, c_33, c_65]; rfl)
          exact ⟨by rw [h9], by rw [h9], rfl, rfl⟩
      · refine g_aload_n hC dX5_says_36 rfl 1 rfl ?_
        refine g_iload_n hC dX5_says_37 rfl 2 rfl ?_
        refine g_calli0 hC (g_runV hC (met_X5_isRow hz j (by omega)) kc_X5 mG_o (lw_V q3652 q3654 qs39 q89 q3655) rfl md_X5_isRow dX5_says_38 rfl ⟨by omega, by omega⟩ (by omega) (by omega) rfl (Nat.le_of_ble_eq_true rfl)) (fun r_6 G_6 n_6 u_6 hp_6 hn_6 hm_6 hu_6 => ?_)
        obtain ⟨rfl, rfl, rfl, rfl⟩ := hp_6
        refine g_if_neB hC (rwF σ  j) dX5_says_41 (tgt := 57) (by decide) (fun c_41 => ?_) (fun c_41 => ?_)
        · exact hj_57 (c_33) (by simp [c_7, c_16, cl_j, cl_k, c7, c16, c_33, c_41])
        · obtain ⟨q, hq, eq1⟩ := hh j (by omega) c_33 c_41
          obtain ⟨t, ht, et⟩ := hkd q hq
          have cl_q : (nI q).toNatClampNeg = q := nI_clamp (by omega)
          have cl_t : (nI t).toNatClampNeg = t := nI_clamp (by omega)
          have nq : ¬ nI q < 0 := nI_pos (by omega)
          rw [eq1]
          refine g_aload_n hC dX5_says_44 rfl 1 rfl ?_
          refine g_iconst (v := 1) hC dX5_says_45 rfl ?_
          refine g_iload_n hC dX5_says_46 rfl 0 rfl ?_
          refine g_calli0 hC (g_runV hC (met_X5_of hz 1 q (by omega)) kc_X5 mG_o (lw_V q3680 q3682 qs41 q89 q3683) rfl md_X5_of dX5_says_47 rfl ⟨by omega, by omega⟩ (by omega) (by omega) rfl (Nat.le_of_ble_eq_true rfl)) (fun r_7 G_7 n_7 u_7 hp_7 hn_7 hm_7 hu_7 => ?_)
          obtain ⟨rfl, rfl, rfl, rfl⟩ := hp_7
          rw [et]
          refine g_iload_n hC dX5_says_50 rfl 3 rfl ?_
          refine g_calli0 hC (g_runS hC (met_X5_isUnder hz t k (by omega) (by omega)) (lw_S q3684 q3685 q89 q3686) md_X5_isUnder dX5_says_51 rfl ⟨by omega, by omega⟩ (by omega) (by omega) rfl (Nat.le_of_ble_eq_true rfl)) (fun r_8 G_8 n_8 u_8 hp_8 hn_8 hm_8 hu_8 => ?_)
          obtain ⟨rfl, rfl, rfl, rfl⟩ := hp_8
          refine g_if_neB hC (unF t k) dX5_says_54 (tgt := 64) (by decide) (fun c_54 => ?_) (fun c_54 => ?_)
          · refine g_iload_n hC dX5_says_64 rfl 0 rfl ?_
            refine g_if_geN hC q (by omega) dX5_says_65 (tgt := 75) (by decide) (fun c_65 => ?_) (fun c_65 => ?_)
            · refine g_iload_n hC dX5_says_75 rfl 3 rfl ?_
              refine g_if_neN hC k (by omega) dX5_says_76 (tgt := 88) (by decide) (fun c_76 => ?_) (fun c_76 => ?_)
              · refine g_iload_n hC dX5_says_88 rfl 3 rfl ?_
                refine g_iconst (v := 2) hC dX5_says_89 rfl ?_
                refine g_iremN hC k 2 (by omega) (by omega) (by omega) dX5_says_90 ?_
                refine g_iconst (v := 1) hC dX5_says_91 rfl ?_
                refine g_icmp_neN hC (k % 2) 1 (by omega) (by omega) dX5_says_92 (tgt := 107) (by decide) (fun c_92 => ?_) (fun c_92 => ?_)
                · refine g_aload_n hC dX5_says_107 rfl 1 rfl ?_
                  refine g_iload_n hC dX5_says_108 rfl 0 rfl ?_
                  refine g_calli0 hC (g_runV hC (met_X5_strength hz q (by omega)) kc_X5 mG_o (lw_V q3691 q3693 qs42 q89 q3694) rfl md_X5_strength dX5_says_109 rfl ⟨by omega, by omega⟩ (by omega) (by omega) rfl (Nat.le_of_ble_eq_true rfl)) (fun r_9 G_9 n_9 u_9 hp_9 hn_9 hm_9 hu_9 => ?_)
                  obtain ⟨rfl, rfl, rfl, rfl⟩ := hp_9
                  refine g_iret hC hr rfl ⟨_, rfl, ?_⟩ (by omega) (by omega) hE dX5_says_112
                  have h9 : saysF σ (nI j) (nI k) = (strF σ  q, σ) := by
                    first | (simp [saysF, worthF, c_7, c_16, cl_j, cl_k, c7, c16, c_33, c_41, cl_q, cl_t, eq1, et, nq, c_54, c_65, c_76, c_92]; done) | (simp [saysF, worthF, c_7, c_16, cl_j, cl_k, c7, c16, c_33, c_41, cl_q, cl_t, eq1, et, nq, c_54, c_65, c_76, c_92]; rfl)
                  exact ⟨by rw [h9], by rw [h9], rfl, rfl⟩
                · refine g_aload_n hC dX5_says_95 rfl 1 rfl ?_
                  refine g_iconst (v := 4) hC dX5_says_96 rfl ?_
                  refine g_iload_n hC dX5_says_97 rfl 0 rfl ?_
                  refine g_calli0 hC (g_runV hC (met_X5_of hz 4 q (by omega)) kc_X5 mG_o (lw_V q3680 q3682 qs41 q89 q3683) rfl md_X5_of dX5_says_98 rfl ⟨by omega, by omega⟩ (by omega) (by omega) rfl (Nat.le_of_ble_eq_true rfl)) (fun r_10 G_10 n_10 u_10 hp_10 hn_10 hm_10 hu_10 => ?_)
                  obtain ⟨rfl, rfl, rfl, rfl⟩ := hp_10
                  refine g_calli0 hC (g_runS hC (met_J12_bitCount (tl σ  4 q) ) (lw_S q3690 q735 q106 q736) md_J12_bitCount dX5_says_101 rfl ⟨by omega, by omega⟩ (by omega) (by omega) rfl (Nat.le_of_ble_eq_true rfl)) (fun r_11 G_11 n_11 u_11 hp_11 hn_11 hm_11 hu_11 => ?_)
                  obtain ⟨rfl, rfl, rfl, rfl⟩ := hp_11
                  refine g_goto (tgt := 112) hC dX5_says_104 (by decide) ?_
                  refine g_iret hC hr rfl ⟨_, rfl, ?_⟩ (by omega) (by omega) hE dX5_says_112
                  have h9 : saysF σ (nI j) (nI k) = (bitC (tl σ  4 q), σ) := by
                    first | (simp [saysF, worthF, c_7, c_16, cl_j, cl_k, c7, c16, c_33, c_41, cl_q, cl_t, eq1, et, nq, c_54, c_65, c_76, c_92]; done) | (simp [saysF, worthF, c_7, c_16, cl_j, cl_k, c7, c16, c_33, c_41, cl_q, cl_t, eq1, et, nq, c_54, c_65, c_76, c_92]; rfl)
                  exact ⟨by rw [h9], by rw [h9], rfl, rfl⟩
              · refine g_aload_n hC dX5_says_79 rfl 1 rfl ?_
                refine g_iconst (v := 2) hC dX5_says_80 rfl ?_
                refine g_iload_n hC dX5_says_81 rfl 0 rfl ?_
                refine g_calli0 hC (g_runV hC (met_X5_of hz 2 q (by omega)) kc_X5 mG_o (lw_V q3680 q3682 qs41 q89 q3683) rfl md_X5_of dX5_says_82 rfl ⟨by omega, by omega⟩ (by omega) (by omega) rfl (Nat.le_of_ble_eq_true rfl)) (fun r_12 G_12 n_12 u_12 hp_12 hn_12 hm_12 hu_12 => ?_)
                obtain ⟨rfl, rfl, rfl, rfl⟩ := hp_12
                refine g_goto (tgt := 112) hC dX5_says_85 (by decide) ?_
                refine g_iret hC hr rfl ⟨_, rfl, ?_⟩ (by omega) (by omega) hE dX5_says_112
                have h9 : saysF σ (nI j) (nI k) = (tl σ  2 q, σ) := by
                  simp [saysF, worthF, c_7, c_16, cl_j, cl_k, c7, c16, c_33, c_41, cl_q, cl_t, eq1, et, nq, c_54, c_65]
                  first | (rw [if_pos c_76]; done) | (intro h; exact absurd c_76 h)
                exact ⟨by rw [h9], by rw [h9], rfl, rfl⟩
            · exact absurd c_65 (by omega)
          · rw [← eq1]
            exact hj_57 (c_33) (by simp [c_7, c_16, cl_j, cl_k, c7, c16, c_33, c_41, cl_q, cl_t, eq1, et, nq, c_54])
    · refine g_aload_n hC dX5_says_19 rfl 0 rfl ?_
      refine g_iconst (v := (-1)) hC dX5_says_20 rfl ?_
      refine g_calli0 hC (g_runV hC (met_X5_no hz 1 (by omega)) kc_X5 mG_o (lw_V q3640 q3642 qs37 q89 q3643) rfl md_X5_no dX5_says_21 rfl ⟨by omega, by omega⟩ (by omega) (by omega) rfl (Nat.le_of_ble_eq_true rfl)) (fun r_13 G_13 n_13 u_13 hp_13 hn_13 hm_13 hu_13 => ?_)
      obtain ⟨rfl, rfl, rfl, rfl⟩ := hp_13
      refine g_iret hC hr rfl ⟨_, rfl, ?_⟩ (by omega) (by omega) hE dX5_says_24
      have h9 : saysF σ s_ k_ = (-(nI 1), mNo σ 1) := by
        first | (simp [saysF, worthF, c_7, c_16]; done) | (simp [saysF, worthF, c_7, c_16]; rfl)
      exact ⟨by rw [h9], by rw [h9], rfl, rfl⟩
set_option maxHeartbeats 1000000 in
theorem met_X5_provider {Y : YT} {l : Launch} {m0 n u : Nat} {σ : MS} {B : AH} (hz : yz Y ≤ m0) (x_ : Int32) (k_ : Int32) {N : Nat} (hN : σ.1 0 0 = nI N) (hN2 : N ≤ 12) : GM Y l yX5_provider (ws_ yX5_provider cX5_provider 3 (some FieldType.int)) 3 70 [.ref m0, .int x_, .int k_] (mG Y m0 σ B) n u 0 0 (pI (fun r G' n' u' => (provF σ N x_ k_).1 = r ∧ mG Y m0 ((provF σ N x_ k_).2) B = G' ∧ n = n' ∧ u = u')) noX := by
  refine GM.intro (own := RX5) rfl (by decide +kernel) (Nat.le_of_ble_eq_true rfl) ?_
  intro p e s m args below meth c R Q hC hr hnm hF hL hE
  have hE1 := hE.1
  have hE2 := hE.2.1
  show V Y p l e R s m args below meth c 3 n u (mG Y m0 σ B) n u Q 0 [(0, .ref m0), (1, .int x_), (2, .int k_)] []
  refine g_aload_n hC dX5_provider_0 rfl 0 rfl ?_
  refine g_iload_n hC dX5_provider_1 rfl 1 rfl ?_
  refine g_calli0 hC (g_runV hC (met_X5_isPlug hz x_ ) kc_X5 mG_o (lw_V q3668 q3670 qs40 q89 q3671) rfl md_X5_isPlug dX5_provider_2 rfl ⟨by omega, by omega⟩ (by omega) (by omega) rfl (Nat.le_of_ble_eq_true rfl)) (fun r_1 G_1 n_1 u_1 hp_1 hn_1 hm_1 hu_1 => ?_)
  obtain ⟨rfl, rfl, rfl, rfl⟩ := hp_1
  refine g_if_eqB hC (wi x_ 0 (σ.1 0 0 - 1)) dX5_provider_5 (tgt := 15) (by decide) (fun c_5 => ?_) (fun c_5 => ?_)
  · refine g_aload_n hC dX5_provider_15 rfl 0 rfl ?_
    refine g_iconst (v := (-1)) hC dX5_provider_16 rfl ?_
    refine g_calli0 hC (g_runV hC (met_X5_no10 hz 1 (by omega)) kc_X5 mG_o (lw_V q3756 q3758 qs52 q89 q3759) rfl md_X5_no10 dX5_provider_17 rfl ⟨by omega, by omega⟩ (by omega) (by omega) rfl (Nat.le_of_ble_eq_true rfl)) (fun r_2 G_2 n_2 u_2 hp_2 hn_2 hm_2 hu_2 => ?_)
    obtain ⟨rfl, rfl, rfl, rfl⟩ := hp_2
    refine g_iret hC hr rfl ⟨_, rfl, ?_⟩ (by omega) (by omega) hE dX5_provider_20
    have h9 : provF σ N x_ k_ = (-(nI 1) - 10, mNo σ 1) := by
      rw [hN] at c_5
      first | (simp [provF, c_5]; done) | (simp [provF, c_5]; rfl)
    exact ⟨by rw [h9], by rw [h9], rfl, rfl⟩
  · obtain ⟨j, hj, rfl⟩ := wi_pl hN (by omega) c_5
    have cl_j : (nI j).toNatClampNeg = j := nI_clamp (by omega)
    refine g_iload_n hC dX5_provider_8 rfl 2 rfl ?_
    refine g_calli0 hC (g_runS hC (met_X5_isService hz k_ ) (lw_S q3768 q3769 q89 q3770) md_X5_isService dX5_provider_9 rfl ⟨by omega, by omega⟩ (by omega) (by omega) rfl (Nat.le_of_ble_eq_true rfl)) (fun r_3 G_3 n_3 u_3 hp_3 hn_3 hm_3 hu_3 => ?_)
    obtain ⟨rfl, rfl, rfl, rfl⟩ := hp_3
    refine g_if_neB hC (wi k_ 0 7) dX5_provider_12 (tgt := 21) (by decide) (fun c_12 => ?_) (fun c_12 => ?_)
    · have c12 : wi k_ 0 (nI 7) = true := c_12
      obtain ⟨k, hk, rfl⟩ := wi_nI (by decide) c12
      have cl_k : (nI k).toNatClampNeg = k := nI_clamp (by omega)
      
      refine g_aload_n hC dX5_provider_21 rfl 0 rfl ?_
      refine g_iload_n hC dX5_provider_22 rfl 1 rfl ?_
      refine g_calli0 hC (g_runV hC (met_X5_state hz j (by omega)) kc_X5 mG_o (lw_V q3708 q3710 qs44 q89 q3711) rfl md_X5_state dX5_provider_23 rfl ⟨by omega, by omega⟩ (by omega) (by omega) rfl (Nat.le_of_ble_eq_true rfl)) (fun r_4 G_4 n_4 u_4 hp_4 hn_4 hm_4 hu_4 => ?_)
      obtain ⟨rfl, rfl, rfl, rfl⟩ := hp_4
      refine g_iconst (v := 1) hC dX5_provider_26 rfl ?_
      refine g_icmp_ne hC dX5_provider_27 (tgt := 48) (by decide) (fun c_27 => ?_) (fun c_27 => ?_)
      · refine g_iconst (v := (-1)) hC dX5_provider_48 rfl ?_
        refine g_iret hC hr rfl ⟨_, rfl, ?_⟩ (by omega) (by omega) hE dX5_provider_49
        have h9 : provF σ N (nI j) (nI k) = ((-1), σ) := by
          rw [hN] at c_5
          first | (simp [provF, c_5, cl_j, c_12, cl_k, c12, c_27]; done) | (simp [provF, c_5, cl_j, c_12, cl_k, c12, c_27]; rfl)
        exact ⟨by rw [h9], by rw [h9], rfl, rfl⟩
      · refine g_aload_n hC dX5_provider_30 rfl 0 rfl ?_
        refine g_iload_n hC dX5_provider_31 rfl 1 rfl ?_
        refine g_iload_n hC dX5_provider_32 rfl 2 rfl ?_
        refine g_calli0 hC (g_runV hC (met_X5_isNeeded hz j k (by omega)) kc_X5 mG_o (lw_V q3771 q3773 qs53 q89 q3774) rfl md_X5_isNeeded dX5_provider_33 rfl ⟨by omega, by omega⟩ (by omega) (by omega) rfl (Nat.le_of_ble_eq_true rfl)) (fun r_5 G_5 n_5 u_5 hp_5 hn_5 hm_5 hu_5 => ?_)
        obtain ⟨rfl, rfl, rfl, rfl⟩ := hp_5
        refine g_if_eqB hC (needF σ  j k) dX5_provider_36 (tgt := 48) (by decide) (fun c_36 => ?_) (fun c_36 => ?_)
        · refine g_iconst (v := (-1)) hC dX5_provider_48 rfl ?_
          refine g_iret hC hr rfl ⟨_, rfl, ?_⟩ (by omega) (by omega) hE dX5_provider_49
          have h9 : provF σ N (nI j) (nI k) = ((-1), σ) := by
            rw [hN] at c_5
            first | (simp [provF, c_5, cl_j, c_12, cl_k, c12, c_27, c_36]; done) | (simp [provF, c_5, cl_j, c_12, cl_k, c12, c_27, c_36]; rfl)
          exact ⟨by rw [h9], by rw [h9], rfl, rfl⟩
        · refine g_aload_n hC dX5_provider_39 rfl 0 rfl ?_
          refine g_iload_n hC dX5_provider_40 rfl 1 rfl ?_
          refine g_iload_n hC dX5_provider_41 rfl 2 rfl ?_
          refine g_calli0 hC (g_runV hC (met_X5_provides hz j k (hN) (hN2) (by omega)) kc_X5 mG_o (lw_V q3775 q3777 qs54 q89 q3778) rfl md_X5_provides dX5_provider_42 rfl ⟨by omega, by omega⟩ (by omega) (by omega) rfl (Nat.le_of_ble_eq_true rfl)) (fun r_6 G_6 n_6 u_6 hp_6 hn_6 hm_6 hu_6 => ?_)
          obtain ⟨rfl, rfl, rfl, rfl⟩ := hp_6
          refine g_goto (tgt := 49) hC dX5_provider_45 (by decide) ?_
          refine g_iret hC hr rfl ⟨_, rfl, ?_⟩ (by omega) (by omega) hE dX5_provider_49
          have h9 : provF σ N (nI j) (nI k) = (oI (foldN (pvS σ j k) none N), σ) := by
            rw [hN] at c_5
            first | (simp [provF, c_5, cl_j, c_12, cl_k, c12, c_27, c_36]; done) | (simp [provF, c_5, cl_j, c_12, cl_k, c12, c_27, c_36]; rfl)
          exact ⟨by rw [h9], by rw [h9], rfl, rfl⟩
    · refine g_aload_n hC dX5_provider_15 rfl 0 rfl ?_
      refine g_iconst (v := (-1)) hC dX5_provider_16 rfl ?_
      refine g_calli0 hC (g_runV hC (met_X5_no10 hz 1 (by omega)) kc_X5 mG_o (lw_V q3756 q3758 qs52 q89 q3759) rfl md_X5_no10 dX5_provider_17 rfl ⟨by omega, by omega⟩ (by omega) (by omega) rfl (Nat.le_of_ble_eq_true rfl)) (fun r_7 G_7 n_7 u_7 hp_7 hn_7 hm_7 hu_7 => ?_)
      obtain ⟨rfl, rfl, rfl, rfl⟩ := hp_7
      refine g_iret hC hr rfl ⟨_, rfl, ?_⟩ (by omega) (by omega) hE dX5_provider_20
      have h9 : provF σ N (nI j) k_ = (-(nI 1) - 10, mNo σ 1) := by
        rw [hN] at c_5
        first | (simp [provF, c_5, cl_j, c_12]; done) | (simp [provF, c_5, cl_j, c_12]; rfl)
      exact ⟨by rw [h9], by rw [h9], rfl, rfl⟩
set_option maxHeartbeats 1000000 in
theorem met_X5_isHeld {Y : YT} {l : Launch} {m0 n u : Nat} {σ : MS} {B : AH} (hz : yz Y ≤ m0) (q_ : Nat) {N : Nat} (hN : σ.1 0 0 = nI N) (hN2 : N ≤ 12) (hq : q_ < 12) : GM Y l yX5_isHeld (ws_ yX5_isHeld cX5_isHeld 5 (some FieldType.boolean)) 2 44 [.ref m0, .int (nI q_)] (mG Y m0 σ B) n u 0 0 (pI (fun r G' n' u' => b2i (heldF N σ q_) = r ∧ mG Y m0 σ B = G' ∧ n = n' ∧ u = u')) noX := by
  refine GM.intro (own := RX5) rfl (by decide +kernel) (Nat.le_of_ble_eq_true rfl) ?_
  intro p e s m args below meth c R Q hC hr hnm hF hL hE
  have hE1 := hE.1
  have hE2 := hE.2.1
  show V Y p l e R s m args below meth c 5 n u (mG Y m0 σ B) n u Q 0 [(0, .ref m0), (1, .int (nI q_))] []
  refine g_iconst (v := 0) hC dX5_isHeld_0 rfl ?_
  refine g_istore_n (L' := [(2, .int 0), (0, .ref m0), (1, .int (nI q_))]) hC dX5_isHeld_1 rfl (by decide) rfl ?_
  have hl_2 : ∀ (kf_ : Nat) (k : Nat), (k ≤ 8) → (anyN (lackF N σ q_) k = false) → 8 - k < kf_ → V Y p l e R s m args below meth c 5 n u (mG Y m0 σ B) n u Q 2 [(2, .int (nI k)), (0, .ref m0), (1, .int (nI q_))] [] := by
    intro kf_
    induction kf_ with
    | zero => intro k hio hn hk_; exact absurd hk_ (Nat.not_lt_zero _)
    | succ kf_ ih_o =>
      intro k hio hn hk_
      refine g_iload_n hC dX5_isHeld_2 rfl 0 rfl ?_
      refine g_bipush (v := 8) hC dX5_isHeld_3 (by decide) ?_
      refine g_icmp_geN hC k 8 (by omega) (by omega) dX5_isHeld_5 (tgt := 104) (by decide) (fun c_5 => ?_) (fun c_5 => ?_)
      · have ee_ : 8 = k := by omega
        subst ee_
        refine g_iconst (v := 1) hC dX5_isHeld_104 rfl ?_
        refine g_iret hC hr rfl ⟨_, rfl, ?_⟩ (by omega) (by omega) hE dX5_isHeld_105
        exact ⟨by first | (rw [show heldF N σ q_ = true from by simp [heldF, hn]]; rfl) | (rw [show heldF N σ q_ = false from by unfold heldF; rw [anyN_t (P := lackF N σ q_) c_5 (by rw [c_93] at k92; revert k92; unfold lackF; cases needF σ q_ k <;> cases anyN (hO σ q_ k) N <;> simp)]; rfl]; rfl), rfl, rfl, rfl⟩
      · have hj_92 : ∀ (d : Bool), (d = (!(needF σ q_ k) || anyN (hO σ q_ k) N)) → V Y p l e R s m args below meth c 5 n u (mG Y m0 σ B) n u Q 92 [(3, .int (b2i d)), (0, .ref m0), (1, .int (nI q_)), (2, .int (nI k))] [] := by
          intro d k92
          refine g_iload_n hC dX5_isHeld_92 rfl 0 rfl ?_
          refine g_if_neB hC d dX5_isHeld_93 (tgt := 98) (by decide) (fun c_93 => ?_) (fun c_93 => ?_)
          · refine g_iincN (L' := [(2, .int (nI (k + 1))), (3, .int (b2i d)), (0, .ref m0), (1, .int (nI q_))]) hC 1 k dX5_isHeld_98 (k := 3) rfl (by decide) (by decide) rfl ?_
            refine g_goto (tgt := 2) hC dX5_isHeld_101 (by decide) ?_
            refine V.sub [0, 2, 3] rfl ?_
            exact ih_o (k + 1) (by omega) (anyN_s hn (by rw [c_93] at k92; revert k92; unfold lackF; cases needF σ q_ k <;> cases anyN (hO σ q_ k) N <;> simp)) (by omega)
          · refine g_iconst (v := 0) hC dX5_isHeld_96 rfl ?_
            refine g_iret hC hr rfl ⟨_, rfl, ?_⟩ (by omega) (by omega) hE dX5_isHeld_97
            exact ⟨by first | (rw [show heldF N σ q_ = true from by simp [heldF, hn]]; rfl) | (rw [show heldF N σ q_ = false from by unfold heldF; rw [anyN_t (P := lackF N σ q_) c_5 (by rw [c_93] at k92; revert k92; unfold lackF; cases needF σ q_ k <;> cases anyN (hO σ q_ k) N <;> simp)]; rfl]; rfl), rfl, rfl, rfl⟩
        have hj_23 : ∀ (d : Bool), (d = !(needF σ q_ k)) → V Y p l e R s m args below meth c 5 n u (mG Y m0 σ B) n u Q 23 [(3, .int (b2i d)), (0, .ref m0), (1, .int (nI q_)), (2, .int (nI k))] [] := by
          intro d k23
          refine g_iconst (v := 0) hC dX5_isHeld_23 rfl ?_
          refine g_istore (L' := [(4, .int 0), (3, .int (b2i d)), (0, .ref m0), (1, .int (nI q_)), (2, .int (nI k))]) hC dX5_isHeld_24 (by decide) rfl ?_
          have hl_26 : ∀ (kf_ : Nat) (o : Nat) (b : Bool), (o ≤ N) → (b = (!(needF σ q_ k) || anyN (hO σ q_ k) o)) → N - o < kf_ → V Y p l e R s m args below meth c 5 n u (mG Y m0 σ B) n u Q 26 [(4, .int (nI o)), (3, .int (b2i b)), (0, .ref m0), (1, .int (nI q_)), (2, .int (nI k))] [] := by
            intro kf_
            induction kf_ with
            | zero => intro o b ho hb hk_; exact absurd hk_ (Nat.not_lt_zero _)
            | succ kf_ ih_i =>
              intro o b ho hb hk_
              refine g_iload hC dX5_isHeld_26 0 rfl ?_
              refine g_aload_n hC dX5_isHeld_28 rfl 2 rfl ?_
              refine m_get (v := .int (nI N)) hC 0 (by decide) q3521 (congrArg (fun z => some (Value.int z)) hN) dX5_isHeld_29 ?_
              refine g_icmp_geN hC o N (by omega) (by omega) dX5_isHeld_32 (tgt := 92) (by decide) (fun c_32 => ?_) (fun c_32 => ?_)
              · refine V.sub [1, 2, 3, 4] rfl ?_
                exact hj_92 b (by rw [hb, show o = N by omega])
              · refine g_iload_n hC dX5_isHeld_35 rfl 1 rfl ?_
                refine g_if_neB hC b dX5_isHeld_36 (tgt := 92) (by decide) (fun c_36 => ?_) (fun c_36 => ?_)
                · refine V.sub [1, 2, 3, 4] rfl ?_
                  exact hj_92 b (by rw [c_36] at hb ⊢; exact held_mono hb ho)
                · refine g_aload_n hC dX5_isHeld_39 rfl 2 rfl ?_
                  refine g_iload hC dX5_isHeld_40 0 rfl ?_
                  refine g_calli0 hC (g_runV hC (met_X5_state hz o (by omega)) kc_X5 mG_o (lw_V q3708 q3710 qs44 q89 q3711) rfl md_X5_state dX5_isHeld_42 rfl ⟨by omega, by omega⟩ (by omega) (by omega) rfl (Nat.le_of_ble_eq_true rfl)) (fun r_1 G_1 n_1 u_1 hp_1 hn_1 hm_1 hu_1 => ?_)
                  obtain ⟨rfl, rfl, rfl, rfl⟩ := hp_1
                  refine g_iconst (v := 1) hC dX5_isHeld_45 rfl ?_
                  refine g_icmp_ne hC dX5_isHeld_46 (tgt := 84) (by decide) (fun c_46 => ?_) (fun c_46 => ?_)
                  · refine g_iconst (v := 0) hC dX5_isHeld_84 rfl ?_
                    refine g_istore_n (L' := [(3, .int 0), (4, .int (nI o)), (0, .ref m0), (1, .int (nI q_)), (2, .int (nI k))]) hC dX5_isHeld_85 rfl (by decide) rfl ?_
                    refine g_iincN (L' := [(4, .int (nI (o + 1))), (3, .int 0), (0, .ref m0), (1, .int (nI q_)), (2, .int (nI k))]) hC 1 o dX5_isHeld_86 (k := 1) rfl (by decide) (by decide) rfl ?_
                    refine g_goto (tgt := 26) hC dX5_isHeld_89 (by decide) ?_
                    exact ih_i (o + 1) false (by omega) (by (rw [c_36] at hb; have h8 : hO σ q_ k o = false := (by simp [hO, c_46]); show _ = (!(needF σ q_ k) || (anyN (hO σ q_ k) o || hO σ q_ k o)); rw [h8]; revert hb; cases needF σ q_ k <;> cases anyN (hO σ q_ k) o <;> simp)) (by omega)
                  · refine g_aload_n hC dX5_isHeld_49 rfl 2 rfl ?_
                    refine m_get (v := .ref (m0 + 10)) hC 22 (by decide) q3543 rfl dX5_isHeld_50 ?_
                    refine g_iload hC dX5_isHeld_53 0 rfl ?_
                    refine m_ald (v := σ.1 22 o) hC 22 o rfl (show o < 12 from by omega) (by omega) rfl dX5_isHeld_55 ?_
                    refine g_iconst (v := (-1)) hC dX5_isHeld_56 rfl ?_
                    refine g_icmp_ne hC dX5_isHeld_57 (tgt := 84) (by decide) (fun c_57 => ?_) (fun c_57 => ?_)
                    · refine g_iconst (v := 0) hC dX5_isHeld_84 rfl ?_
                      refine g_istore_n (L' := [(3, .int 0), (4, .int (nI o)), (0, .ref m0), (1, .int (nI q_)), (2, .int (nI k))]) hC dX5_isHeld_85 rfl (by decide) rfl ?_
                      refine g_iincN (L' := [(4, .int (nI (o + 1))), (3, .int 0), (0, .ref m0), (1, .int (nI q_)), (2, .int (nI k))]) hC 1 o dX5_isHeld_86 (k := 1) rfl (by decide) (by decide) rfl ?_
                      refine g_goto (tgt := 26) hC dX5_isHeld_89 (by decide) ?_
                      exact ih_i (o + 1) false (by omega) (by (rw [c_36] at hb; have h8 : hO σ q_ k o = false := (by simp [hO, c_46, c_57]); show _ = (!(needF σ q_ k) || (anyN (hO σ q_ k) o || hO σ q_ k o)); rw [h8]; revert hb; cases needF σ q_ k <;> cases anyN (hO σ q_ k) o <;> simp)) (by omega)
                    · refine g_aload_n hC dX5_isHeld_60 rfl 2 rfl ?_
                      refine g_iload hC dX5_isHeld_61 0 rfl ?_
                      refine g_iload_n hC dX5_isHeld_63 rfl 4 rfl ?_
                      refine g_calli0 hC (g_runV hC (met_X5_isOffered hz o k (by omega)) kc_X5 mG_o (lw_V q3779 q3781 qs55 q89 q3782) rfl md_X5_isOffered dX5_isHeld_64 rfl ⟨by omega, by omega⟩ (by omega) (by omega) rfl (Nat.le_of_ble_eq_true rfl)) (fun r_2 G_2 n_2 u_2 hp_2 hn_2 hm_2 hu_2 => ?_)
                      obtain ⟨rfl, rfl, rfl, rfl⟩ := hp_2
                      refine g_if_eqB hC (offF σ  o k) dX5_isHeld_67 (tgt := 84) (by decide) (fun c_67 => ?_) (fun c_67 => ?_)
                      · refine g_iconst (v := 0) hC dX5_isHeld_84 rfl ?_
                        refine g_istore_n (L' := [(3, .int 0), (4, .int (nI o)), (0, .ref m0), (1, .int (nI q_)), (2, .int (nI k))]) hC dX5_isHeld_85 rfl (by decide) rfl ?_
                        refine g_iincN (L' := [(4, .int (nI (o + 1))), (3, .int 0), (0, .ref m0), (1, .int (nI q_)), (2, .int (nI k))]) hC 1 o dX5_isHeld_86 (k := 1) rfl (by decide) (by decide) rfl ?_
                        refine g_goto (tgt := 26) hC dX5_isHeld_89 (by decide) ?_
                        exact ih_i (o + 1) false (by omega) (by (rw [c_36] at hb; have h8 : hO σ q_ k o = false := (by simp [hO, c_46, c_57, c_67]); show _ = (!(needF σ q_ k) || (anyN (hO σ q_ k) o || hO σ q_ k o)); rw [h8]; revert hb; cases needF σ q_ k <;> cases anyN (hO σ q_ k) o <;> simp)) (by omega)
                      · refine g_aload_n hC dX5_isHeld_70 rfl 2 rfl ?_
                        refine g_iload hC dX5_isHeld_71 0 rfl ?_
                        refine g_iload_n hC dX5_isHeld_73 rfl 3 rfl ?_
                        refine g_calli0 hC (g_runV hC (met_X5_isOlder hz o q_ (by omega) (by omega)) kc_X5 mG_o (lw_V q3783 q3785 qs56 q89 q3786) rfl md_X5_isOlder dX5_isHeld_74 rfl ⟨by omega, by omega⟩ (by omega) (by omega) rfl (Nat.le_of_ble_eq_true rfl)) (fun r_3 G_3 n_3 u_3 hp_3 hn_3 hm_3 hu_3 => ?_)
                        obtain ⟨rfl, rfl, rfl, rfl⟩ := hp_3
                        refine g_if_eqB hC (oldF σ  o q_) dX5_isHeld_77 (tgt := 84) (by decide) (fun c_77 => ?_) (fun c_77 => ?_)
                        · refine g_iconst (v := 0) hC dX5_isHeld_84 rfl ?_
                          refine g_istore_n (L' := [(3, .int 0), (4, .int (nI o)), (0, .ref m0), (1, .int (nI q_)), (2, .int (nI k))]) hC dX5_isHeld_85 rfl (by decide) rfl ?_
                          refine g_iincN (L' := [(4, .int (nI (o + 1))), (3, .int 0), (0, .ref m0), (1, .int (nI q_)), (2, .int (nI k))]) hC 1 o dX5_isHeld_86 (k := 1) rfl (by decide) (by decide) rfl ?_
                          refine g_goto (tgt := 26) hC dX5_isHeld_89 (by decide) ?_
                          exact ih_i (o + 1) false (by omega) (by (rw [c_36] at hb; have h8 : hO σ q_ k o = false := (by simp [hO, c_46, c_57, c_67, c_77]); show _ = (!(needF σ q_ k) || (anyN (hO σ q_ k) o || hO σ q_ k o)); rw [h8]; revert hb; cases needF σ q_ k <;> cases anyN (hO σ q_ k) o <;> simp)) (by omega)
                        · refine g_iconst (v := 1) hC dX5_isHeld_80 rfl ?_
                          refine g_goto (tgt := 85) hC dX5_isHeld_81 (by decide) ?_
                          refine g_istore_n (L' := [(3, .int 1), (4, .int (nI o)), (0, .ref m0), (1, .int (nI q_)), (2, .int (nI k))]) hC dX5_isHeld_85 rfl (by decide) rfl ?_
                          refine g_iincN (L' := [(4, .int (nI (o + 1))), (3, .int 1), (0, .ref m0), (1, .int (nI q_)), (2, .int (nI k))]) hC 1 o dX5_isHeld_86 (k := 1) rfl (by decide) (by decide) rfl ?_
                          refine g_goto (tgt := 26) hC dX5_isHeld_89 (by decide) ?_
                          exact ih_i (o + 1) true (by omega) (by (rw [c_36] at hb; have h8 : hO σ q_ k o = true := (by simp [hO, c_46, c_57, c_67, c_77]); show _ = (!(needF σ q_ k) || (anyN (hO σ q_ k) o || hO σ q_ k o)); rw [h8]; revert hb; cases needF σ q_ k <;> cases anyN (hO σ q_ k) o <;> simp)) (by omega)
          exact hl_26 (N + 1) 0 d (by omega) (by rw [k23]; simp [anyN]) (by omega)
        refine g_aload_n hC dX5_isHeld_8 rfl 1 rfl ?_
        refine g_iload_n hC dX5_isHeld_9 rfl 2 rfl ?_
        refine g_iload_n hC dX5_isHeld_10 rfl 0 rfl ?_
        refine g_calli0 hC (g_runV hC (met_X5_isNeeded hz q_ k (by omega)) kc_X5 mG_o (lw_V q3771 q3773 qs53 q89 q3774) rfl md_X5_isNeeded dX5_isHeld_11 rfl ⟨by omega, by omega⟩ (by omega) (by omega) rfl (Nat.le_of_ble_eq_true rfl)) (fun r_4 G_4 n_4 u_4 hp_4 hn_4 hm_4 hu_4 => ?_)
        obtain ⟨rfl, rfl, rfl, rfl⟩ := hp_4
        refine g_if_neB hC (needF σ  q_ k) dX5_isHeld_14 (tgt := 21) (by decide) (fun c_14 => ?_) (fun c_14 => ?_)
        · refine g_iconst (v := 0) hC dX5_isHeld_21 rfl ?_
          refine g_istore_n (L' := [(3, .int 0), (2, .int (nI k)), (0, .ref m0), (1, .int (nI q_))]) hC dX5_isHeld_22 rfl (by decide) rfl ?_
          refine V.sub [0, 2, 3, 1] rfl ?_
          exact hj_23 false (by simp [c_14])
        · refine g_iconst (v := 1) hC dX5_isHeld_17 rfl ?_
          refine g_goto (tgt := 22) hC dX5_isHeld_18 (by decide) ?_
          refine g_istore_n (L' := [(3, .int 1), (2, .int (nI k)), (0, .ref m0), (1, .int (nI q_))]) hC dX5_isHeld_22 rfl (by decide) rfl ?_
          refine V.sub [0, 2, 3, 1] rfl ?_
          exact hj_23 true (by simp [c_14])
  exact hl_2 (8 - 0 + 1) 0 (by omega) (rfl) (by omega)
set_option maxHeartbeats 1000000 in
theorem met_X5_waves {Y : YT} {l : Launch} {m0 n u : Nat} {σ : MS} {B : AH} (hz : yz Y ≤ m0) (p_ : Nat) {N : Nat} (hN : σ.1 0 0 = nI N) (hN2 : N ≤ 12) (hp : p_ < 12) : GM Y l yX5_waves (ws_ yX5_waves cX5_waves 6 none) 3 68 [.ref m0, .int (nI p_)] (mG Y m0 σ B) n u 0 0 (pV (fun G' n' u' => mG Y m0 (wavesF N σ p_) B = G' ∧ n = n' ∧ u = u')) noX := by
  refine GM.intro (own := RX5) rfl (by decide +kernel) (Nat.le_of_ble_eq_true rfl) ?_
  intro p e s m args below meth c R Q hC hr hnm hF hL hE
  have hE1 := hE.1
  have hE2 := hE.2.1
  show V Y p l e R s m args below meth c 6 n u (mG Y m0 σ B) n u Q 0 [(0, .ref m0), (1, .int (nI p_))] []
  refine g_iconst (v := 0) hC dX5_waves_0 rfl ?_
  refine g_istore_n (L' := [(2, .int 0), (0, .ref m0), (1, .int (nI p_))]) hC dX5_waves_1 rfl (by decide) rfl ?_
  have hl_2 : ∀ (kf_ : Nat) (i : Nat), (i ≤ 12) → 12 - i < kf_ → V Y p l e R s m args below meth c 6 n u (mG Y m0 (foldN wvS σ i) B) n u Q 2 [(2, .int (nI i)), (0, .ref m0), (1, .int (nI p_))] [] := by
    intro kf_
    induction kf_ with
    | zero => intro i hia hk_; exact absurd hk_ (Nat.not_lt_zero _)
    | succ kf_ ih_a =>
      intro i hia hk_
      refine g_iload_n hC dX5_waves_2 rfl 0 rfl ?_
      refine g_bipush (v := 12) hC dX5_waves_3 (by decide) ?_
      refine g_icmp_geN hC i 12 (by omega) (by omega) dX5_waves_5 (tgt := 21) (by decide) (fun c_5 => ?_) (fun c_5 => ?_)
      · have ee_ : 12 = i := by omega
        subst ee_
        generalize e_z1 : foldN wvS σ 12 = z1
        refine g_aload_n hC dX5_waves_21 rfl 1 rfl ?_
        refine m_get (v := .ref (m0 + 10)) hC 22 (by decide) q3543 rfl dX5_waves_22 ?_
        refine g_iload_n hC dX5_waves_25 rfl 2 rfl ?_
        refine g_iconst (v := 0) hC dX5_waves_26 rfl ?_
        refine m_ast hC 22 p_ rfl (show p_ < 12 from by omega) (by omega) hz dX5_waves_27 ?_
        refine g_iconst (v := 1) hC dX5_waves_28 rfl ?_
        refine g_istore_n (L' := [(2, .int 1), (0, .ref m0), (1, .int (nI p_))]) hC dX5_waves_29 rfl (by decide) rfl ?_
        subst e_z1
        obtain ⟨z0, ez0⟩ : ∃ z0, wv0 σ p_ = z0 := ⟨_, rfl⟩
        have hz01 : z0.1 0 0 = nI N := by rw [← ez0]; exact (wv0_ne (by decide)).trans hN
        have hun : unw z0 N < 13 := Nat.lt_of_le_of_lt (cntB_n _ _) (by omega)
        show V Y p l e R s m args below meth c 6 n u (mG Y m0 (wv0 σ p_) B) n u Q 30 _ _
        rw [ez0]
        refine g_iconst (v := 1) hC dX5_waves_30 rfl ?_
        refine g_istore_n (L' := [(3, .int 1), (2, .int 1), (0, .ref m0), (1, .int (nI p_))]) hC dX5_waves_31 rfl (by decide) rfl ?_
        have hl_32 : ∀ (kf_ : Nat) (z : MS) (g : Bool) (wn : Nat) (f : Nat), (z.1 0 0 = nI N) → ((if g = true then wvI N f wn z else z) = wvI N 13 1 z0) → (g = true → unw z N < f) → (wn + f ≤ 14) → f + g.toNat < kf_ → V Y p l e R s m args below meth c 6 n u (mG Y m0 z B) n u Q 32 [(2, .int (b2i g)), (3, .int (nI wn)), (0, .ref m0)] [] := by
          intro kf_
          induction kf_ with
          | zero => intro z g wn f hz0 hfin hcnt hw hk_; exact absurd hk_ (Nat.not_lt_zero _)
          | succ kf_ ih_o =>
            intro z g wn f hz0 hfin hcnt hw hk_
            rcases g with _ | _
            · refine g_iload_n hC dX5_waves_32 rfl 0 rfl ?_
              refine g_if_eqN hC 0 (by omega) dX5_waves_33 (tgt := 150) (by decide) (fun c_33 => ?_) (fun c_33 => ?_)
              · refine g_vret hC hr ⟨rfl, ?_⟩ (by omega) (by omega) hE dX5_waves_150
                exact ⟨by unfold wavesF; rw [ez0, ← hfin]; rfl, rfl, rfl⟩
              · first | exact absurd c_33 (by decide) | exact absurd c_33 (by omega)
            · obtain ⟨f, rfl⟩ : ∃ k, f = k + 1 := ⟨f - 1, by have := hcnt rfl; omega⟩
              refine g_iload_n hC dX5_waves_32 rfl 0 rfl ?_
              refine g_if_eqN hC 1 (by omega) dX5_waves_33 (tgt := 150) (by decide) (fun c_33 => ?_) (fun c_33 => ?_)
              · first | exact absurd c_33 (by decide) | exact absurd c_33 (by omega)
              · refine g_iconst (v := 0) hC dX5_waves_36 rfl ?_
                refine g_istore (L' := [(4, .int 0), (2, .int 1), (3, .int (nI wn)), (0, .ref m0)]) hC dX5_waves_37 (by decide) rfl ?_
                refine g_iconst (v := 0) hC dX5_waves_39 rfl ?_
                refine g_istore (L' := [(5, .int 0), (4, .int 0), (2, .int 1), (3, .int (nI wn)), (0, .ref m0)]) hC dX5_waves_40 (by decide) rfl ?_
                have hl_42 : ∀ (kf_ : Nat) (q : Nat), (q ≤ N) → N - q < kf_ → V Y p l e R s m args below meth c 6 n u (mG Y m0 z B) n u Q 42 [(5, .int (nI q)), (4, .int (bF (PW N z) q)), (3, .int (nI wn)), (0, .ref m0)] [] := by
                  intro kf_
                  induction kf_ with
                  | zero => intro q hib hk_; exact absurd hk_ (Nat.not_lt_zero _)
                  | succ kf_ ih_b =>
                    intro q hib hk_
                    refine g_iload hC dX5_waves_42 0 rfl ?_
                    refine g_aload_n hC dX5_waves_44 rfl 3 rfl ?_
                    refine m_get (v := .int (nI N)) hC 0 (by decide) q3521 (congrArg (fun z => some (Value.int z)) hz0) dX5_waves_45 ?_
                    refine g_icmp_geN hC q N (by omega) (by omega) dX5_waves_48 (tgt := 96) (by decide) (fun c_48 => ?_) (fun c_48 => ?_)
                    · have ee_ : N = q := by omega
                      subst ee_
                      refine g_iconst (v := 0) hC dX5_waves_96 rfl ?_
                      refine g_istore (L' := [(5, .int 0), (4, .int (bF (PW N z) N)), (3, .int (nI wn)), (0, .ref m0)]) hC dX5_waves_97 (by decide) rfl ?_
                      have hl_99 : ∀ (kf_ : Nat) (q : Nat), (q ≤ N) → N - q < kf_ → V Y p l e R s m args below meth c 6 n u (mG Y m0 (foldN (apS N z wn) z q) B) n u Q 99 [(5, .int (nI q)), (4, .int (bF (PW N z) N)), (3, .int (nI wn)), (0, .ref m0)] [] := by
                        intro kf_
                        induction kf_ with
                        | zero => intro q hic hk_; exact absurd hk_ (Nat.not_lt_zero _)
                        | succ kf_ ih_c =>
                          intro q hic hk_
                          refine g_iload hC dX5_waves_99 0 rfl ?_
                          refine g_aload_n hC dX5_waves_101 rfl 3 rfl ?_
                          refine m_get (v := .int (nI N)) hC 0 (by decide) q3521 (congrArg (fun z => some (Value.int z)) ((apf_ne (by decide)).trans hz0)) dX5_waves_102 ?_
                          refine g_icmp_geN hC q N (by omega) (by omega) dX5_waves_105 (tgt := 133) (by decide) (fun c_105 => ?_) (fun c_105 => ?_)
                          · have ee_ : N = q := by omega
                            subst ee_
                            show V Y p l e R s m args below meth c 6 n u (mG Y m0 (rnd N z wn) B) n u Q 133 _ _
                            
                            refine g_iload hC dX5_waves_133 1 rfl ?_
                            refine g_if_eq hC dX5_waves_135 (tgt := 142) (by decide) (fun c_135 => ?_) (fun c_135 => ?_)
                            · have hany : anyN (PW N z) N = false := (bF_0 (by omega)).mp c_135
                              refine g_iconst (v := 0) hC dX5_waves_142 rfl ?_
                              refine g_istore_n (L' := [(2, .int 0), (5, .int (nI N)), (4, .int (bF (PW N z) N)), (3, .int (nI wn)), (0, .ref m0)]) hC dX5_waves_143 rfl (by decide) rfl ?_
                              refine g_iincN (L' := [(3, .int (nI (wn + 1))), (2, .int 0), (5, .int (nI N)), (4, .int (bF (PW N z) N)), (0, .ref m0)]) hC 1 wn dX5_waves_144 (k := 3) rfl (by decide) (by decide) rfl ?_
                              refine g_goto (tgt := 32) hC dX5_waves_147 (by decide) ?_
                              refine V.sub [1, 0, 4] rfl ?_
                              exact ih_o (rnd N z wn) false (wn + 1) f ((rnd_ne (by decide)).trans hz0) (by rw [← hfin]; simp [wvI, hany, rnd_none hany]) (fun q => by cases q) (by omega) (by (have e1 : (true).toNat = 1 := rfl); (have e2 : (false).toNat = 0 := rfl); omega)
                            · have hany : anyN (PW N z) N = true := by
                                cases e9 : anyN (PW N z) N with
                                | true => rfl
                                | false => exact absurd ((bF_0 (by omega)).mpr e9) c_135
                              refine g_iconst (v := 1) hC dX5_waves_138 rfl ?_
                              refine g_goto (tgt := 143) hC dX5_waves_139 (by decide) ?_
                              refine g_istore_n (L' := [(2, .int 1), (5, .int (nI N)), (4, .int (bF (PW N z) N)), (3, .int (nI wn)), (0, .ref m0)]) hC dX5_waves_143 rfl (by decide) rfl ?_
                              refine g_iincN (L' := [(3, .int (nI (wn + 1))), (2, .int 1), (5, .int (nI N)), (4, .int (bF (PW N z) N)), (0, .ref m0)]) hC 1 wn dX5_waves_144 (k := 3) rfl (by decide) (by decide) rfl ?_
                              refine g_goto (tgt := 32) hC dX5_waves_147 (by decide) ?_
                              refine V.sub [1, 0, 4] rfl ?_
                              exact ih_o (rnd N z wn) true (wn + 1) f ((rnd_ne (by decide)).trans hz0) (by rw [← hfin]; simp [wvI, hany]) (fun _ => by have := unw_rnd (w := wn) (by omega) hany; have := hcnt rfl; omega) (by omega) (by (have e1 : (true).toNat = 1 := rfl); (have e2 : (false).toNat = 0 := rfl); omega)
                          · refine g_iload hC dX5_waves_108 1 rfl ?_
                            refine g_iload hC dX5_waves_110 0 rfl ?_
                            refine g_ishr hC dX5_waves_112 ?_
                            refine g_iconst (v := 1) hC dX5_waves_113 rfl ?_
                            refine g_iand hC dX5_waves_114 ?_
                            refine g_iconst (v := 1) hC dX5_waves_115 rfl ?_
                            refine g_icmp_ne hC dX5_waves_116 (tgt := 127) (by decide) (fun c_116 => ?_) (fun c_116 => ?_)
                            · have hPW : ¬ PW N z q = true := fun x => c_116 ((bF_bit (by omega) c_105).mpr x)
                              refine g_iincN (L' := [(5, .int (nI (q + 1))), (4, .int (bF (PW N z) N)), (3, .int (nI wn)), (0, .ref m0)]) hC 1 q dX5_waves_127 (k := 0) rfl (by decide) (by decide) rfl ?_
                              refine g_goto (tgt := 99) hC dX5_waves_130 (by decide) ?_
                              have h_ := ih_c (q + 1) (by omega) (by omega)
                              have e_0 : foldN (apS N z wn) z (q + 1) = foldN (apS N z wn) z q := by show apS N z wn (foldN (apS N z wn) z q) q = _; unfold apS; first | rw [if_pos hPW] | rw [if_neg hPW]
                              rw [e_0] at h_
                              exact h_
                            · have hPW : PW N z q = true := (bF_bit (by omega) c_105).mp c_116
                              refine g_aload_n hC dX5_waves_119 rfl 3 rfl ?_
                              refine m_get (v := .ref (m0 + 10)) hC 22 (by decide) q3543 rfl dX5_waves_120 ?_
                              refine g_iload hC dX5_waves_123 0 rfl ?_
                              refine g_iload_n hC dX5_waves_125 rfl 2 rfl ?_
                              refine m_ast hC 22 q rfl (show q < 12 from by omega) (by omega) hz dX5_waves_126 ?_
                              refine g_iincN (L' := [(5, .int (nI (q + 1))), (4, .int (bF (PW N z) N)), (3, .int (nI wn)), (0, .ref m0)]) hC 1 q dX5_waves_127 (k := 0) rfl (by decide) (by decide) rfl ?_
                              refine g_goto (tgt := 99) hC dX5_waves_130 (by decide) ?_
                              have h_ := ih_c (q + 1) (by omega) (by omega)
                              have e_0 : foldN (apS N z wn) z (q + 1) = (mu (foldN (apS N z wn) z q) 22 q (nI wn)) := by show apS N z wn (foldN (apS N z wn) z q) q = _; unfold apS; first | rw [if_pos hPW] | rw [if_neg hPW]
                              rw [e_0] at h_
                              exact h_
                      exact hl_99 (N - 0 + 1) 0 (by omega) (by omega)
                    · refine g_aload_n hC dX5_waves_51 rfl 3 rfl ?_
                      refine g_iload hC dX5_waves_52 0 rfl ?_
                      refine g_calli0 hC (g_runV hC (met_X5_state hz q (by omega)) kc_X5 mG_o (lw_V q3708 q3710 qs44 q89 q3711) rfl md_X5_state dX5_waves_54 rfl ⟨by omega, by omega⟩ (by omega) (by omega) rfl (Nat.le_of_ble_eq_true rfl)) (fun r_1 G_1 n_1 u_1 hp_1 hn_1 hm_1 hu_1 => ?_)
                      obtain ⟨rfl, rfl, rfl, rfl⟩ := hp_1
                      refine g_iconst (v := 1) hC dX5_waves_57 rfl ?_
                      refine g_icmp_ne hC dX5_waves_58 (tgt := 90) (by decide) (fun c_58 => ?_) (fun c_58 => ?_)
                      · refine g_iincN (L' := [(5, .int (nI (q + 1))), (4, .int (bF (PW N z) q)), (3, .int (nI wn)), (0, .ref m0)]) hC 1 q dX5_waves_90 (k := 0) rfl (by decide) (by decide) rfl ?_
                        refine g_goto (tgt := 42) hC dX5_waves_93 (by decide) ?_
                        have h_ := ih_b (q + 1) (by omega) (by omega)
                        have e_0 : bF (PW N z) (q + 1) = bF (PW N z) q := by show (if PW N z q = true then bF (PW N z) q ||| bitI q else bF (PW N z) q) = _; simp [PW, bitI, c_58]
                        rw [e_0] at h_
                        exact h_
                      · refine g_aload_n hC dX5_waves_61 rfl 3 rfl ?_
                        refine m_get (v := .ref (m0 + 10)) hC 22 (by decide) q3543 rfl dX5_waves_62 ?_
                        refine g_iload hC dX5_waves_65 0 rfl ?_
                        refine m_ald (v := z.1 22 q) hC 22 q rfl (show q < 12 from by omega) (by omega) rfl dX5_waves_67 ?_
                        refine g_iconst (v := (-1)) hC dX5_waves_68 rfl ?_
                        refine g_icmp_ne hC dX5_waves_69 (tgt := 90) (by decide) (fun c_69 => ?_) (fun c_69 => ?_)
                        · refine g_iincN (L' := [(5, .int (nI (q + 1))), (4, .int (bF (PW N z) q)), (3, .int (nI wn)), (0, .ref m0)]) hC 1 q dX5_waves_90 (k := 0) rfl (by decide) (by decide) rfl ?_
                          refine g_goto (tgt := 42) hC dX5_waves_93 (by decide) ?_
                          have h_ := ih_b (q + 1) (by omega) (by omega)
                          have e_0 : bF (PW N z) (q + 1) = bF (PW N z) q := by show (if PW N z q = true then bF (PW N z) q ||| bitI q else bF (PW N z) q) = _; simp [PW, bitI, c_58, c_69]
                          rw [e_0] at h_
                          exact h_
                        · refine g_aload_n hC dX5_waves_72 rfl 3 rfl ?_
                          refine g_iload hC dX5_waves_73 0 rfl ?_
                          refine g_calli0 hC (g_runV hC (met_X5_isHeld hz q (hz0) (hN2) (by omega)) kc_X5 mG_o (lw_V q3843 q3845 qs68 q89 q3846) rfl md_X5_isHeld dX5_waves_75 rfl ⟨by omega, by omega⟩ (by omega) (by omega) rfl (Nat.le_of_ble_eq_true rfl)) (fun r_2 G_2 n_2 u_2 hp_2 hn_2 hm_2 hu_2 => ?_)
                          obtain ⟨rfl, rfl, rfl, rfl⟩ := hp_2
                          refine g_if_neB hC (heldF N z q) dX5_waves_78 (tgt := 90) (by decide) (fun c_78 => ?_) (fun c_78 => ?_)
                          · refine g_iincN (L' := [(5, .int (nI (q + 1))), (4, .int (bF (PW N z) q)), (3, .int (nI wn)), (0, .ref m0)]) hC 1 q dX5_waves_90 (k := 0) rfl (by decide) (by decide) rfl ?_
                            refine g_goto (tgt := 42) hC dX5_waves_93 (by decide) ?_
                            have h_ := ih_b (q + 1) (by omega) (by omega)
                            have e_0 : bF (PW N z) (q + 1) = bF (PW N z) q := by show (if PW N z q = true then bF (PW N z) q ||| bitI q else bF (PW N z) q) = _; simp [PW, bitI, c_58, c_69, c_78]
                            rw [e_0] at h_
                            exact h_
                          · refine g_iload hC dX5_waves_81 1 rfl ?_
                            refine g_iconst (v := 1) hC dX5_waves_83 rfl ?_
                            refine g_iload hC dX5_waves_84 0 rfl ?_
                            refine g_ishl hC dX5_waves_86 ?_
                            refine g_ior hC dX5_waves_87 ?_
                            refine g_istore (L' := [(4, .int ((bF (PW N z) q) ||| (1 <<< ((nI q) &&& 31)))), (5, .int (nI q)), (3, .int (nI wn)), (0, .ref m0)]) hC dX5_waves_88 (by decide) rfl ?_
                            refine g_iincN (L' := [(5, .int (nI (q + 1))), (4, .int ((bF (PW N z) q) ||| (1 <<< ((nI q) &&& 31)))), (3, .int (nI wn)), (0, .ref m0)]) hC 1 q dX5_waves_90 (k := 1) rfl (by decide) (by decide) rfl ?_
                            refine g_goto (tgt := 42) hC dX5_waves_93 (by decide) ?_
                            have h_ := ih_b (q + 1) (by omega) (by omega)
                            have e_0 : bF (PW N z) (q + 1) = (bF (PW N z) q) ||| (1 <<< ((nI q) &&& 31)) := by show (if PW N z q = true then bF (PW N z) q ||| bitI q else bF (PW N z) q) = _; simp [PW, bitI, c_58, c_69, c_78]
                            rw [e_0] at h_
                            exact h_
                refine V.sub [0, 1, 3, 4] rfl ?_
                exact hl_42 (N - 0 + 1) 0 (by omega) (by omega)
        refine V.sub [1, 0, 2] rfl ?_
        exact hl_32 (13 + (true).toNat + 1) z0 true 1 13 (hz01) (if_pos rfl) (fun _ => hun) (by omega) (by omega)
      · refine g_aload_n hC dX5_waves_8 rfl 1 rfl ?_
        refine m_get (v := .ref (m0 + 10)) hC 22 (by decide) q3543 rfl dX5_waves_9 ?_
        refine g_iload_n hC dX5_waves_12 rfl 0 rfl ?_
        refine g_iconst (v := (-1)) hC dX5_waves_13 rfl ?_
        refine m_ast hC 22 i rfl (show i < 12 from by omega) (by omega) hz dX5_waves_14 ?_
        refine g_iincN (L' := [(2, .int (nI (i + 1))), (0, .ref m0), (1, .int (nI p_))]) hC 1 i dX5_waves_15 (k := 0) rfl (by decide) (by decide) rfl ?_
        refine g_goto (tgt := 2) hC dX5_waves_18 (by decide) ?_
        have h_ := ih_a (i + 1) (by omega) (by omega)
        have e_0 : foldN wvS σ (i + 1) = (mu (foldN wvS σ i) 22 i (-1)) := by first | rfl | (simp [foldN, wvS, c_5]; done)
        rw [e_0] at h_
        exact h_
  exact hl_2 (12 - 0 + 1) 0 (by omega) (by omega)
