set_option maxRecDepth 100000
/-! THE MODEL, 4: the image, copies -/
def foldD {α : Type} (f : α → Nat → α) (a : α) : Nat → α
  | 0 => a
  | n + 1 => foldD f (f a n) n
def kp1 (j : Nat) (z : MS) (i : Nat) : MS := mu z j i (z.1 1 i)
def kp2 (j : Nat) (z : MS) (i : Nat) : MS := mu z j (108 + i) (z.1 5 i)
def kp3 (j : Nat) (z : MS) : MS := mu (mu (mu (mu z j 228 (z.1 0 0)) j 229 (z.1 4 0)) j 230 (z.1 2 0)) j 231 (z.1 3 0)
def keepF (j : Nat) (σ : MS) : MS := kp3 j (foldN (kp2 j) (foldN (kp1 j) σ 108) 120)
def ag1 (j : Nat) (z : MS) (i : Nat) : MS := mu z 1 i (z.1 j i)
def ag2 (j : Nat) (z : MS) (i : Nat) : MS := mu z 5 i (z.1 j (108 + i))
def ag3 (j : Nat) (z : MS) : MS := mu (mu (mu (mu z 0 0 (z.1 j 228)) 4 0 (z.1 j 229)) 2 0 (z.1 j 230)) 3 0 (z.1 j 231)
def againF (j : Nat) (σ : MS) : MS := ag3 j (foldN (ag2 j) (foldN (ag1 j) σ 108) 120)
def imageF (σ : MS) : MS := keepF 35 (mu σ 34 0 1)
def rsS (N : Int32) (z : MS) (s : Nat) : MS := if rwF z s = false ∧ ¬ z.1 6 s < N then mu z 6 s (-1) else z
def rstF (σ : MS) : Int32 × MS := if σ.1 34 0 = 0 then (-6, mNo σ 6) else (σ.1 35 228, foldN (rsS (σ.1 35 228)) (againF 35 σ) 8)
def fitF (σ : MS) (p : Nat) (i n : Int32) : Bool := decide (¬ i < 0) && decide (¬ 0 < lg_cmp (i.toInt64 + n.toInt64) (σ.1 7 p).toInt64)
def cpS (p q i j : Nat) (z : MS) (k : Nat) : MS := mw z (160 * q + j + k) (z.2 (160 * p + i + k))
def cp2 (σ : MS) (p q : Nat) : Bool := ((decide (¬ σ.1 6 p < 0) && ! rwF σ p) || (decide (¬ σ.1 6 q < 0) && ! rwF σ q)) || (rwF σ p && rwF σ q && decide (¬ σ.1 6 p = σ.1 6 q))
def copyF (σ : MS) (p q i j n : Int32) : Int32 × MS :=
  if wi p 0 7 = true ∧ wi q 0 7 = true then
    (if cp2 σ p.toNatClampNeg q.toNatClampNeg = true then (-2, mNo σ 2) else
     if σ.1 6 p.toNatClampNeg < 0 then (-3, mNo σ 3) else
     if ¬ 0 ≤ σ.1 6 q.toNatClampNeg then (-3, mNo σ 3) else
     if ¬ 0 ≤ n then (-4, mNo σ 4) else
     if fitF σ p.toNatClampNeg i n = true ∧ fitF σ q.toNatClampNeg j n = true then
       (1, (if p.toNatClampNeg = q.toNatClampNeg ∧ i < j then foldD else foldN) (cpS p.toNatClampNeg q.toNatClampNeg i.toNatClampNeg j.toNatClampNeg) σ n.toNatClampNeg)
     else (-5, mNo σ 5))
  else (-1, mNo σ 1)
theorem lg_le {a b c : Nat} (ha : a < 2 ^ 31) (hb : b < 2 ^ 31) (hc : c < 2 ^ 31) : lg_cmp ((nI a).toInt64 + (nI b).toInt64) (nI c).toInt64 ≤ 0 ↔ a + b ≤ c := by
  rw [nI_l ha, nI_l hb, nI_l hc, lN_add]
  have h1 : (lN (a + b)).toInt = ((a + b : Nat) : Int) := Int64.toInt_ofNat_of_lt (by omega)
  have h2 : (lN c).toInt = (c : Int) := lN_toInt hc
  unfold lg_cmp
  by_cases g : lN c < lN (a + b)
  · rw [if_pos g]
    have := Int64.lt_iff_toInt_lt.mp g
    rw [h1, h2] at this
    exact ⟨fun q => absurd q (by decide), fun q => absurd q (by omega)⟩
  · rw [if_neg g]
    have : ¬ (lN c).toInt < (lN (a + b)).toInt := fun q => g (Int64.lt_iff_toInt_lt.mpr q)
    rw [h1, h2] at this
    exact ⟨fun _ => by omega, fun _ => by split <;> decide⟩
theorem nI_pm {b : Nat} : nI (b + 1) + (-1) = nI b := pk_m1 b
theorem rw_neg {σ : MS} {j : Nat} (h : σ.1 6 j < 0) : rwF σ j = false := decide_eq_false (fun q => absurd (Int32.lt_of_le_of_lt q h) (by decide))
theorem fold_keep {α β : Type} {f : α → Nat → α} {g : α → β} (h : ∀ a i, g (f a i) = g a) (a : α) : ∀ n, g (foldN f a n) = g a := by
  intro n
  induction n with
  | zero => rfl
  | succ n ih => exact (h _ _).trans ih
theorem keep_ne {j k i : Nat} {σ : MS} (h : k ≠ j) : (keepF j σ).1 k i = σ.1 k i := by
  unfold keepF kp3
  rw [mu_nk h, mu_nk h, mu_nk h, mu_nk h]
  exact (fold_keep (f := kp2 j) (g := fun z : MS => z.1 k i) (fun a i => mu_nk h) _ _).trans (fold_keep (f := kp1 j) (g := fun z : MS => z.1 k i) (fun a i => mu_nk h) _ _)
theorem keep_2 {j : Nat} {σ : MS} : (keepF j σ).2 = σ.2 := by
  show (foldN (kp2 j) (foldN (kp1 j) σ 108) 120).2 = _
  exact (fold_keep (f := kp2 j) (g := fun z : MS => z.2) (fun a i => rfl) _ _).trans (fold_keep (f := kp1 j) (g := fun z : MS => z.2) (fun a i => rfl) _ _)
theorem foldN_congr {α : Type} {f g : α → Nat → α} (a : α) : ∀ n, (∀ i, i < n → ∀ x, f x i = g x i) → foldN f a n = foldN g a n := by
  intro n
  induction n with
  | zero => intro _; rfl
  | succ n ih => intro h; show f _ n = g _ n; rw [ih (fun i hi => h i (by omega)), h n (by omega)]
set_option maxHeartbeats 1000000 in
theorem met_X5_inState {Y : YT} {l : Launch} {m0 n u : Nat} {σ : MS} {B : AH} (hz : yz Y ≤ m0) (x_ : Int32) {N : Nat} (hN : σ.1 0 0 = nI N) (hN2 : N ≤ 12) : GM Y l yX5_inState (ws_ yX5_inState cX5_inState 4 (some FieldType.int)) 1 21 [.ref m0, .int x_] (mG Y m0 σ B) n u 0 0 (pI (fun r G' n' u' => nI (cntF σ x_ N) = r ∧ mG Y m0 σ B = G' ∧ n = n' ∧ u = u')) noX := by
  refine GM.intro (own := RX5) rfl (by decide +kernel) (Nat.le_of_ble_eq_true rfl) ?_
  intro p e s m args below meth c R Q hC hr hnm hF hL hE
  have hE1 := hE.1
  have hE2 := hE.2.1
  show V Y p l e R s m args below meth c 4 n u (mG Y m0 σ B) n u Q 0 [(0, .ref m0), (1, .int x_)] []
  refine g_iconst (v := 0) hC dX5_inState_0 rfl ?_
  refine g_istore_n (L' := [(2, .int 0), (0, .ref m0), (1, .int x_)]) hC dX5_inState_1 rfl (by decide) rfl ?_
  refine g_iconst (v := 0) hC dX5_inState_2 rfl ?_
  refine g_istore_n (L' := [(3, .int 0), (2, .int 0), (0, .ref m0), (1, .int x_)]) hC dX5_inState_3 rfl (by decide) rfl ?_
  have hl_4 : ∀ (kf_ : Nat) (q : Nat), (q ≤ N) → N - q < kf_ → V Y p l e R s m args below meth c 4 n u (mG Y m0 σ B) n u Q 4 [(3, .int (nI q)), (2, .int (nI (cntF σ x_ q))), (0, .ref m0), (1, .int x_)] [] := by
    intro kf_
    induction kf_ with
    | zero => intro q hi hk_; exact absurd hk_ (Nat.not_lt_zero _)
    | succ kf_ ih_ =>
      intro q hi hk_
      have hcl := cntF_le σ x_ q
      refine g_iload_n hC dX5_inState_4 rfl 0 rfl ?_
      refine g_aload_n hC dX5_inState_5 rfl 2 rfl ?_
      refine m_get (v := .int (nI N)) hC 0 (by decide) q3521 (congrArg (fun z => some (Value.int z)) hN) dX5_inState_6 ?_
      refine g_icmp_geN hC q N (by omega) (by omega) dX5_inState_9 (tgt := 30) (by decide) (fun c_9 => ?_) (fun c_9 => ?_)
      · have ee_ : N = q := by omega
        subst ee_
        refine g_iload_n hC dX5_inState_30 rfl 1 rfl ?_
        refine g_iret hC hr rfl ⟨_, rfl, ?_⟩ (by omega) (by omega) hE dX5_inState_31
        exact ⟨rfl, rfl, rfl, rfl⟩
      · refine g_aload_n hC dX5_inState_12 rfl 2 rfl ?_
        refine g_iload_n hC dX5_inState_13 rfl 0 rfl ?_
        refine g_calli0 hC (g_runV hC (met_X5_state hz q (by omega)) kc_X5 mG_o (lw_V q3708 q3710 qs44 q89 q3711) rfl md_X5_state dX5_inState_14 rfl ⟨by omega, by omega⟩ (by omega) (by omega) rfl (Nat.le_of_ble_eq_true rfl)) (fun r_1 G_1 n_1 u_1 hp_1 hn_1 hm_1 hu_1 => ?_)
        obtain ⟨rfl, rfl, rfl, rfl⟩ := hp_1
        refine g_iload_n hC dX5_inState_17 rfl 3 rfl ?_
        refine g_icmp_ne hC dX5_inState_18 (tgt := 24) (by decide) (fun c_18 => ?_) (fun c_18 => ?_)
        · refine g_iincN (L' := [(3, .int (nI (q + 1))), (2, .int (nI (cntF σ x_ q))), (0, .ref m0), (1, .int x_)]) hC 1 q dX5_inState_24 (k := 0) rfl (by decide) (by decide) rfl ?_
          refine g_goto (tgt := 4) hC dX5_inState_27 (by decide) ?_
          have h_ := ih_ (q + 1) (by omega) (by omega)
          have e_0 : cntF σ x_ (q + 1) = cntF σ x_ q := by first | rfl | (simp [foldN, cntF, c_9, c_18]; done)
          rw [e_0] at h_
          exact h_
        · refine g_iincN (L' := [(2, .int (nI (cntF σ x_ q + 1))), (3, .int (nI q)), (0, .ref m0), (1, .int x_)]) hC 1 (cntF σ x_ q) dX5_inState_21 (k := 1) rfl (by decide) (by decide) rfl ?_
          refine g_iincN (L' := [(3, .int (nI (q + 1))), (2, .int (nI (cntF σ x_ q + 1))), (0, .ref m0), (1, .int x_)]) hC 1 q dX5_inState_24 (k := 1) rfl (by decide) (by decide) rfl ?_
          refine g_goto (tgt := 4) hC dX5_inState_27 (by decide) ?_
          have h_ := ih_ (q + 1) (by omega) (by omega)
          have e_0 : cntF σ x_ (q + 1) = cntF σ x_ q + 1 := by first | rfl | (simp [foldN, cntF, c_9, c_18]; done)
          rw [e_0] at h_
          exact h_
  exact hl_4 (N - 0 + 1) 0 (by omega) (by omega)
set_option maxHeartbeats 1000000 in
theorem met_X5_offered {Y : YT} {l : Launch} {m0 n u : Nat} {σ : MS} {B : AH} (hz : yz Y ≤ m0) (s_ : Int32) {N : Nat} (hN : σ.1 0 0 = nI N) (hN2 : N ≤ 12) : GM Y l yX5_offered (ws_ yX5_offered cX5_offered 4 (some FieldType.int)) 2 44 [.ref m0, .int s_] (mG Y m0 σ B) n u 0 0 (pI (fun r G' n' u' => (offeredF σ N s_).1 = r ∧ mG Y m0 ((offeredF σ N s_).2) B = G' ∧ n = n' ∧ u = u')) noX := by
  refine GM.intro (own := RX5) rfl (by decide +kernel) (Nat.le_of_ble_eq_true rfl) ?_
  intro p e s m args below meth c R Q hC hr hnm hF hL hE
  have hE1 := hE.1
  have hE2 := hE.2.1
  show V Y p l e R s m args below meth c 4 n u (mG Y m0 σ B) n u Q 0 [(0, .ref m0), (1, .int s_)] []
  refine g_iload_n hC dX5_offered_0 rfl 1 rfl ?_
  refine g_calli0 hC (g_runS hC (met_X5_isService hz s_ ) (lw_S q3768 q3769 q89 q3770) md_X5_isService dX5_offered_1 rfl ⟨by omega, by omega⟩ (by omega) (by omega) rfl (Nat.le_of_ble_eq_true rfl)) (fun r_1 G_1 n_1 u_1 hp_1 hn_1 hm_1 hu_1 => ?_)
  obtain ⟨rfl, rfl, rfl, rfl⟩ := hp_1
  refine g_if_neB hC (wi s_ 0 7) dX5_offered_4 (tgt := 13) (by decide) (fun c_4 => ?_) (fun c_4 => ?_)
  · have c4 : wi s_ 0 (nI 7) = true := c_4
    obtain ⟨j, hj, rfl⟩ := wi_nI (by decide) c4
    have cl_j : (nI j).toNatClampNeg = j := nI_clamp (by omega)
    have hj : j < 8 := by omega
    refine g_iconst (v := 0) hC dX5_offered_13 rfl ?_
    refine g_istore_n (L' := [(2, .int 0), (0, .ref m0), (1, .int (nI j))]) hC dX5_offered_14 rfl (by decide) rfl ?_
    refine g_iconst (v := 0) hC dX5_offered_15 rfl ?_
    refine g_istore_n (L' := [(3, .int 0), (2, .int 0), (0, .ref m0), (1, .int (nI j))]) hC dX5_offered_16 rfl (by decide) rfl ?_
    have hl_17 : ∀ (kf_ : Nat) (q : Nat), (q ≤ N) → N - q < kf_ → V Y p l e R s m args below meth c 4 n u (mG Y m0 σ B) n u Q 17 [(3, .int (nI q)), (2, .int (offB σ j q)), (0, .ref m0), (1, .int (nI j))] [] := by
      intro kf_
      induction kf_ with
      | zero => intro q hi hk_; exact absurd hk_ (Nat.not_lt_zero _)
      | succ kf_ ih_ =>
        intro q hi hk_
        refine g_iload_n hC dX5_offered_17 rfl 0 rfl ?_
        refine g_aload_n hC dX5_offered_18 rfl 2 rfl ?_
        refine m_get (v := .int (nI N)) hC 0 (by decide) q3521 (congrArg (fun z => some (Value.int z)) hN) dX5_offered_19 ?_
        refine g_icmp_geN hC q N (by omega) (by omega) dX5_offered_22 (tgt := 55) (by decide) (fun c_22 => ?_) (fun c_22 => ?_)
        · have ee_ : N = q := by omega
          subst ee_
          refine g_iload_n hC dX5_offered_55 rfl 1 rfl ?_
          refine g_iret hC hr rfl ⟨_, rfl, ?_⟩ (by omega) (by omega) hE dX5_offered_56
          have h9 : offeredF σ N (nI j) = (offB σ j N, σ) := by first | (simp [offeredF, c_4, cl_j, c4, c_22]; done) | (simp [offeredF, c_4, cl_j, c4, c_22]; rfl)
          exact ⟨by rw [h9], by rw [h9], rfl, rfl⟩
        · refine g_aload_n hC dX5_offered_25 rfl 2 rfl ?_
          refine g_iload_n hC dX5_offered_26 rfl 0 rfl ?_
          refine g_calli0 hC (g_runV hC (met_X5_state hz q (by omega)) kc_X5 mG_o (lw_V q3708 q3710 qs44 q89 q3711) rfl md_X5_state dX5_offered_27 rfl ⟨by omega, by omega⟩ (by omega) (by omega) rfl (Nat.le_of_ble_eq_true rfl)) (fun r_2 G_2 n_2 u_2 hp_2 hn_2 hm_2 hu_2 => ?_)
          obtain ⟨rfl, rfl, rfl, rfl⟩ := hp_2
          refine g_iconst (v := 1) hC dX5_offered_30 rfl ?_
          refine g_icmp_ne hC dX5_offered_31 (tgt := 49) (by decide) (fun c_31 => ?_) (fun c_31 => ?_)
          · refine g_iincN (L' := [(3, .int (nI (q + 1))), (2, .int (offB σ j q)), (0, .ref m0), (1, .int (nI j))]) hC 1 q dX5_offered_49 (k := 0) rfl (by decide) (by decide) rfl ?_
            refine g_goto (tgt := 17) hC dX5_offered_52 (by decide) ?_
            have h_ := ih_ (q + 1) (by omega) (by omega)
            have e_0 : offB σ j (q + 1) = offB σ j q := by first | rfl | (simp [foldN, offB, bitI, c_4, cl_j, c4, c_22, c_31]; done)
            rw [e_0] at h_
            exact h_
          · refine g_aload_n hC dX5_offered_34 rfl 2 rfl ?_
            refine g_iload_n hC dX5_offered_35 rfl 0 rfl ?_
            refine g_iload_n hC dX5_offered_36 rfl 3 rfl ?_
            refine g_calli0 hC (g_runV hC (met_X5_isOffered hz q j (by omega)) kc_X5 mG_o (lw_V q3779 q3781 qs55 q89 q3782) rfl md_X5_isOffered dX5_offered_37 rfl ⟨by omega, by omega⟩ (by omega) (by omega) rfl (Nat.le_of_ble_eq_true rfl)) (fun r_3 G_3 n_3 u_3 hp_3 hn_3 hm_3 hu_3 => ?_)
            obtain ⟨rfl, rfl, rfl, rfl⟩ := hp_3
            refine g_if_eqB hC (offF σ  q j) dX5_offered_40 (tgt := 49) (by decide) (fun c_40 => ?_) (fun c_40 => ?_)
            · refine g_iincN (L' := [(3, .int (nI (q + 1))), (2, .int (offB σ j q)), (0, .ref m0), (1, .int (nI j))]) hC 1 q dX5_offered_49 (k := 0) rfl (by decide) (by decide) rfl ?_
              refine g_goto (tgt := 17) hC dX5_offered_52 (by decide) ?_
              have h_ := ih_ (q + 1) (by omega) (by omega)
              have e_0 : offB σ j (q + 1) = offB σ j q := by first | rfl | (simp [foldN, offB, bitI, c_4, cl_j, c4, c_22, c_31, c_40]; done)
              rw [e_0] at h_
              exact h_
            · refine g_iload_n hC dX5_offered_43 rfl 1 rfl ?_
              refine g_iconst (v := 1) hC dX5_offered_44 rfl ?_
              refine g_iload_n hC dX5_offered_45 rfl 0 rfl ?_
              refine g_ishl hC dX5_offered_46 ?_
              refine g_ior hC dX5_offered_47 ?_
              refine g_istore_n (L' := [(2, .int ((offB σ j q) ||| (1 <<< ((nI q) &&& 31)))), (3, .int (nI q)), (0, .ref m0), (1, .int (nI j))]) hC dX5_offered_48 rfl (by decide) rfl ?_
              refine g_iincN (L' := [(3, .int (nI (q + 1))), (2, .int ((offB σ j q) ||| (1 <<< ((nI q) &&& 31)))), (0, .ref m0), (1, .int (nI j))]) hC 1 q dX5_offered_49 (k := 1) rfl (by decide) (by decide) rfl ?_
              refine g_goto (tgt := 17) hC dX5_offered_52 (by decide) ?_
              have h_ := ih_ (q + 1) (by omega) (by omega)
              have e_0 : offB σ j (q + 1) = (offB σ j q) ||| (1 <<< ((nI q) &&& 31)) := by first | rfl | (simp [foldN, offB, bitI, c_4, cl_j, c4, c_22, c_31, c_40]; done)
              rw [e_0] at h_
              exact h_
    exact hl_17 (N - 0 + 1) 0 (by omega) (by omega)
  · refine g_aload_n hC dX5_offered_7 rfl 0 rfl ?_
    refine g_iconst (v := (-1)) hC dX5_offered_8 rfl ?_
    refine g_calli0 hC (g_runV hC (met_X5_no hz 1 (by omega)) kc_X5 mG_o (lw_V q3640 q3642 qs37 q89 q3643) rfl md_X5_no dX5_offered_9 rfl ⟨by omega, by omega⟩ (by omega) (by omega) rfl (Nat.le_of_ble_eq_true rfl)) (fun r_4 G_4 n_4 u_4 hp_4 hn_4 hm_4 hu_4 => ?_)
    obtain ⟨rfl, rfl, rfl, rfl⟩ := hp_4
    refine g_iret hC hr rfl ⟨_, rfl, ?_⟩ (by omega) (by omega) hE dX5_offered_12
    have h9 : offeredF σ N s_ = (-(nI 1), mNo σ 1) := by first | (simp [offeredF, c_4]; done) | (simp [offeredF, c_4]; rfl)
    exact ⟨by rw [h9], by rw [h9], rfl, rfl⟩
set_option maxHeartbeats 1000000 in
theorem met_X5_keep35 {Y : YT} {l : Launch} {m0 n u : Nat} {σ : MS} {B : AH} (hz : yz Y ≤ m0)   : GM Y l yX5_keep (ws_ yX5_keep cX5_keep 3 none) 0 0 [.ref m0, .ref (m0 + 16)] (mG Y m0 σ B) n u 0 0 (pV (fun G' n' u' => mG Y m0 (keepF 35 σ) B = G' ∧ n = n' ∧ u = u')) noX := by
  refine GM.intro (own := RX5) rfl (by decide +kernel) (Nat.le_of_ble_eq_true rfl) ?_
  intro p e s m args below meth c R Q hC hr hnm hF hL hE
  have hE1 := hE.1
  have hE2 := hE.2.1
  show V Y p l e R s m args below meth c 3 n u (mG Y m0 σ B) n u Q 0 [(0, .ref m0), (1, .ref (m0 + 16))] []
  refine g_iconst (v := 0) hC dX5_keep_0 rfl ?_
  refine g_istore_n (L' := [(2, .int 0), (0, .ref m0), (1, .ref (m0 + 16))]) hC dX5_keep_1 rfl (by decide) rfl ?_
  have hl_2 : ∀ (kf_ : Nat) (i : Nat), (i ≤ 108) → 108 - i < kf_ → V Y p l e R s m args below meth c 3 n u (mG Y m0 (foldN (kp1 35) σ i) B) n u Q 2 [(2, .int (nI i)), (0, .ref m0), (1, .ref (m0 + 16))] [] := by
    intro kf_
    induction kf_ with
    | zero => intro i hia hk_; exact absurd hk_ (Nat.not_lt_zero _)
    | succ kf_ ih_a =>
      intro i hia hk_
      refine g_iload_n hC dX5_keep_2 rfl 0 rfl ?_
      refine g_bipush (v := 108) hC dX5_keep_3 (by decide) ?_
      refine g_icmp_geN hC i 108 (by omega) (by omega) dX5_keep_5 (tgt := 23) (by decide) (fun c_5 => ?_) (fun c_5 => ?_)
      · have ee_ : 108 = i := by omega
        subst ee_
        generalize e_z1 : foldN (kp1 35) σ 108 = z1
        refine g_iconst (v := 0) hC dX5_keep_23 rfl ?_
        refine g_istore_n (L' := [(2, .int 0), (0, .ref m0), (1, .ref (m0 + 16))]) hC dX5_keep_24 rfl (by decide) rfl ?_
        have hl_25 : ∀ (kf_ : Nat) (i : Nat), (i ≤ 120) → 120 - i < kf_ → V Y p l e R s m args below meth c 3 n u (mG Y m0 (foldN (kp2 35) z1 i) B) n u Q 25 [(2, .int (nI i)), (0, .ref m0), (1, .ref (m0 + 16))] [] := by
          intro kf_
          induction kf_ with
          | zero => intro i hib hk_; exact absurd hk_ (Nat.not_lt_zero _)
          | succ kf_ ih_b =>
            intro i hib hk_
            refine g_iload_n hC dX5_keep_25 rfl 0 rfl ?_
            refine g_bipush (v := 120) hC dX5_keep_26 (by decide) ?_
            refine g_icmp_geN hC i 120 (by omega) (by omega) dX5_keep_28 (tgt := 49) (by decide) (fun c_28 => ?_) (fun c_28 => ?_)
            · have ee_ : 120 = i := by omega
              subst ee_
              generalize e_z2 : foldN (kp2 35) z1 120 = z2
              refine g_aload_n hC dX5_keep_49 rfl 2 rfl ?_
              refine g_sipush (v := 228) hC dX5_keep_50 (by decide) ?_
              refine g_aload_n hC dX5_keep_53 rfl 1 rfl ?_
              refine m_get (v := .int (z2.1 0 0)) hC 0 (by decide) q3521 rfl dX5_keep_54 ?_
              refine m_ast hC 35 228 rfl (show 228 < 232 from by omega) (by omega) hz dX5_keep_57 ?_
              refine g_aload_n hC dX5_keep_58 rfl 2 rfl ?_
              refine g_sipush (v := 229) hC dX5_keep_59 (by decide) ?_
              refine g_aload_n hC dX5_keep_62 rfl 1 rfl ?_
              refine m_get (v := .int (z2.1 4 0)) hC 4 (by decide) q3525 (congrArg (fun z => some (Value.int z)) (mu_nk (by decide))) dX5_keep_63 ?_
              refine m_ast hC 35 229 rfl (show 229 < 232 from by omega) (by omega) hz dX5_keep_66 ?_
              refine g_aload_n hC dX5_keep_67 rfl 2 rfl ?_
              refine g_sipush (v := 230) hC dX5_keep_68 (by decide) ?_
              refine g_aload_n hC dX5_keep_71 rfl 1 rfl ?_
              refine m_get (v := .int (z2.1 2 0)) hC 2 (by decide) q3523 (congrArg (fun z => some (Value.int z)) ((mu_nk (by decide)).trans (mu_nk (by decide)))) dX5_keep_72 ?_
              refine m_ast hC 35 230 rfl (show 230 < 232 from by omega) (by omega) hz dX5_keep_75 ?_
              refine g_aload_n hC dX5_keep_76 rfl 2 rfl ?_
              refine g_sipush (v := 231) hC dX5_keep_77 (by decide) ?_
              refine g_aload_n hC dX5_keep_80 rfl 1 rfl ?_
              refine m_get (v := .int (z2.1 3 0)) hC 3 (by decide) q3524 (congrArg (fun z => some (Value.int z)) ((mu_nk (by decide)).trans ((mu_nk (by decide)).trans (mu_nk (by decide))))) dX5_keep_81 ?_
              refine m_ast hC 35 231 rfl (show 231 < 232 from by omega) (by omega) hz dX5_keep_84 ?_
              refine g_vret hC hr ⟨rfl, ?_⟩ (by omega) (by omega) hE dX5_keep_85
              subst e_z2
              subst e_z1
              exact ⟨rfl, rfl, rfl⟩
            · refine g_aload_n hC dX5_keep_31 rfl 2 rfl ?_
              refine g_bipush (v := 108) hC dX5_keep_32 (by decide) ?_
              refine g_iload_n hC dX5_keep_34 rfl 0 rfl ?_
              refine g_iaddN hC 108 i dX5_keep_35 ?_
              refine g_aload_n hC dX5_keep_36 rfl 1 rfl ?_
              refine m_get (v := .ref (m0 + 2)) hC 5 (by decide) q3526 rfl dX5_keep_37 ?_
              refine g_iload_n hC dX5_keep_40 rfl 0 rfl ?_
              refine m_ald (v := (foldN (kp2 35) z1 i).1 5 i) hC 5 i rfl (show i < 120 from by omega) (by omega) rfl dX5_keep_41 ?_
              refine m_ast hC 35 (108 + i) rfl (show 108 + i < 232 from by omega) (by omega) hz dX5_keep_42 ?_
              refine g_iincN (L' := [(2, .int (nI (i + 1))), (0, .ref m0), (1, .ref (m0 + 16))]) hC 1 i dX5_keep_43 (k := 0) rfl (by decide) (by decide) rfl ?_
              refine g_goto (tgt := 25) hC dX5_keep_46 (by decide) ?_
              have h_ := ih_b (i + 1) (by omega) (by omega)
              have e_0 : foldN (kp2 35) z1 (i + 1) = (mu (foldN (kp2 35) z1 i) 35 (108 + i) ((foldN (kp2 35) z1 i).1 5 i)) := by first | rfl | (simp [foldN, kp2, c_5, c_28]; done)
              rw [e_0] at h_
              exact h_
        exact hl_25 (120 - 0 + 1) 0 (by omega) (by omega)
      · refine g_aload_n hC dX5_keep_8 rfl 2 rfl ?_
        refine g_iload_n hC dX5_keep_9 rfl 0 rfl ?_
        refine g_aload_n hC dX5_keep_10 rfl 1 rfl ?_
        refine m_get (v := .ref (m0 + 1)) hC 1 (by decide) q3522 rfl dX5_keep_11 ?_
        refine g_iload_n hC dX5_keep_14 rfl 0 rfl ?_
        refine m_ald (v := (foldN (kp1 35) σ i).1 1 i) hC 1 i rfl (show i < 108 from by omega) (by omega) rfl dX5_keep_15 ?_
        refine m_ast hC 35 i rfl (show i < 232 from by omega) (by omega) hz dX5_keep_16 ?_
        refine g_iincN (L' := [(2, .int (nI (i + 1))), (0, .ref m0), (1, .ref (m0 + 16))]) hC 1 i dX5_keep_17 (k := 0) rfl (by decide) (by decide) rfl ?_
        refine g_goto (tgt := 2) hC dX5_keep_20 (by decide) ?_
        have h_ := ih_a (i + 1) (by omega) (by omega)
        have e_0 : foldN (kp1 35) σ (i + 1) = (mu (foldN (kp1 35) σ i) 35 i ((foldN (kp1 35) σ i).1 1 i)) := by first | rfl | (simp [foldN, kp1, c_5]; done)
        rw [e_0] at h_
        exact h_
  exact hl_2 (108 - 0 + 1) 0 (by omega) (by omega)
set_option maxHeartbeats 1000000 in
theorem met_X5_keep36 {Y : YT} {l : Launch} {m0 n u : Nat} {σ : MS} {B : AH} (hz : yz Y ≤ m0)   : GM Y l yX5_keep (ws_ yX5_keep cX5_keep 3 none) 0 0 [.ref m0, .ref (m0 + 17)] (mG Y m0 σ B) n u 0 0 (pV (fun G' n' u' => mG Y m0 (keepF 36 σ) B = G' ∧ n = n' ∧ u = u')) noX := by
  refine GM.intro (own := RX5) rfl (by decide +kernel) (Nat.le_of_ble_eq_true rfl) ?_
  intro p e s m args below meth c R Q hC hr hnm hF hL hE
  have hE1 := hE.1
  have hE2 := hE.2.1
  show V Y p l e R s m args below meth c 3 n u (mG Y m0 σ B) n u Q 0 [(0, .ref m0), (1, .ref (m0 + 17))] []
  refine g_iconst (v := 0) hC dX5_keep_0 rfl ?_
  refine g_istore_n (L' := [(2, .int 0), (0, .ref m0), (1, .ref (m0 + 17))]) hC dX5_keep_1 rfl (by decide) rfl ?_
  have hl_2 : ∀ (kf_ : Nat) (i : Nat), (i ≤ 108) → 108 - i < kf_ → V Y p l e R s m args below meth c 3 n u (mG Y m0 (foldN (kp1 36) σ i) B) n u Q 2 [(2, .int (nI i)), (0, .ref m0), (1, .ref (m0 + 17))] [] := by
    intro kf_
    induction kf_ with
    | zero => intro i hia hk_; exact absurd hk_ (Nat.not_lt_zero _)
    | succ kf_ ih_a =>
      intro i hia hk_
      refine g_iload_n hC dX5_keep_2 rfl 0 rfl ?_
      refine g_bipush (v := 108) hC dX5_keep_3 (by decide) ?_
      refine g_icmp_geN hC i 108 (by omega) (by omega) dX5_keep_5 (tgt := 23) (by decide) (fun c_5 => ?_) (fun c_5 => ?_)
      · have ee_ : 108 = i := by omega
        subst ee_
        generalize e_z1 : foldN (kp1 36) σ 108 = z1
        refine g_iconst (v := 0) hC dX5_keep_23 rfl ?_
        refine g_istore_n (L' := [(2, .int 0), (0, .ref m0), (1, .ref (m0 + 17))]) hC dX5_keep_24 rfl (by decide) rfl ?_
        have hl_25 : ∀ (kf_ : Nat) (i : Nat), (i ≤ 120) → 120 - i < kf_ → V Y p l e R s m args below meth c 3 n u (mG Y m0 (foldN (kp2 36) z1 i) B) n u Q 25 [(2, .int (nI i)), (0, .ref m0), (1, .ref (m0 + 17))] [] := by
          intro kf_
          induction kf_ with
          | zero => intro i hib hk_; exact absurd hk_ (Nat.not_lt_zero _)
          | succ kf_ ih_b =>
            intro i hib hk_
            refine g_iload_n hC dX5_keep_25 rfl 0 rfl ?_
            refine g_bipush (v := 120) hC dX5_keep_26 (by decide) ?_
            refine g_icmp_geN hC i 120 (by omega) (by omega) dX5_keep_28 (tgt := 49) (by decide) (fun c_28 => ?_) (fun c_28 => ?_)
            · have ee_ : 120 = i := by omega
              subst ee_
              generalize e_z2 : foldN (kp2 36) z1 120 = z2
              refine g_aload_n hC dX5_keep_49 rfl 2 rfl ?_
              refine g_sipush (v := 228) hC dX5_keep_50 (by decide) ?_
              refine g_aload_n hC dX5_keep_53 rfl 1 rfl ?_
              refine m_get (v := .int (z2.1 0 0)) hC 0 (by decide) q3521 rfl dX5_keep_54 ?_
              refine m_ast hC 36 228 rfl (show 228 < 232 from by omega) (by omega) hz dX5_keep_57 ?_
              refine g_aload_n hC dX5_keep_58 rfl 2 rfl ?_
              refine g_sipush (v := 229) hC dX5_keep_59 (by decide) ?_
              refine g_aload_n hC dX5_keep_62 rfl 1 rfl ?_
              refine m_get (v := .int (z2.1 4 0)) hC 4 (by decide) q3525 (congrArg (fun z => some (Value.int z)) (mu_nk (by decide))) dX5_keep_63 ?_
              refine m_ast hC 36 229 rfl (show 229 < 232 from by omega) (by omega) hz dX5_keep_66 ?_
              refine g_aload_n hC dX5_keep_67 rfl 2 rfl ?_
              refine g_sipush (v := 230) hC dX5_keep_68 (by decide) ?_
              refine g_aload_n hC dX5_keep_71 rfl 1 rfl ?_
              refine m_get (v := .int (z2.1 2 0)) hC 2 (by decide) q3523 (congrArg (fun z => some (Value.int z)) ((mu_nk (by decide)).trans (mu_nk (by decide)))) dX5_keep_72 ?_
              refine m_ast hC 36 230 rfl (show 230 < 232 from by omega) (by omega) hz dX5_keep_75 ?_
              refine g_aload_n hC dX5_keep_76 rfl 2 rfl ?_
              refine g_sipush (v := 231) hC dX5_keep_77 (by decide) ?_
              refine g_aload_n hC dX5_keep_80 rfl 1 rfl ?_
              refine m_get (v := .int (z2.1 3 0)) hC 3 (by decide) q3524 (congrArg (fun z => some (Value.int z)) ((mu_nk (by decide)).trans ((mu_nk (by decide)).trans (mu_nk (by decide))))) dX5_keep_81 ?_
              refine m_ast hC 36 231 rfl (show 231 < 232 from by omega) (by omega) hz dX5_keep_84 ?_
              refine g_vret hC hr ⟨rfl, ?_⟩ (by omega) (by omega) hE dX5_keep_85
              subst e_z2
              subst e_z1
              exact ⟨rfl, rfl, rfl⟩
            · refine g_aload_n hC dX5_keep_31 rfl 2 rfl ?_
              refine g_bipush (v := 108) hC dX5_keep_32 (by decide) ?_
              refine g_iload_n hC dX5_keep_34 rfl 0 rfl ?_
              refine g_iaddN hC 108 i dX5_keep_35 ?_
              refine g_aload_n hC dX5_keep_36 rfl 1 rfl ?_
              refine m_get (v := .ref (m0 + 2)) hC 5 (by decide) q3526 rfl dX5_keep_37 ?_
              refine g_iload_n hC dX5_keep_40 rfl 0 rfl ?_
              refine m_ald (v := (foldN (kp2 36) z1 i).1 5 i) hC 5 i rfl (show i < 120 from by omega) (by omega) rfl dX5_keep_41 ?_
              refine m_ast hC 36 (108 + i) rfl (show 108 + i < 232 from by omega) (by omega) hz dX5_keep_42 ?_
              refine g_iincN (L' := [(2, .int (nI (i + 1))), (0, .ref m0), (1, .ref (m0 + 17))]) hC 1 i dX5_keep_43 (k := 0) rfl (by decide) (by decide) rfl ?_
              refine g_goto (tgt := 25) hC dX5_keep_46 (by decide) ?_
              have h_ := ih_b (i + 1) (by omega) (by omega)
              have e_0 : foldN (kp2 36) z1 (i + 1) = (mu (foldN (kp2 36) z1 i) 36 (108 + i) ((foldN (kp2 36) z1 i).1 5 i)) := by first | rfl | (simp [foldN, kp2, c_5, c_28]; done)
              rw [e_0] at h_
              exact h_
        exact hl_25 (120 - 0 + 1) 0 (by omega) (by omega)
      · refine g_aload_n hC dX5_keep_8 rfl 2 rfl ?_
        refine g_iload_n hC dX5_keep_9 rfl 0 rfl ?_
        refine g_aload_n hC dX5_keep_10 rfl 1 rfl ?_
        refine m_get (v := .ref (m0 + 1)) hC 1 (by decide) q3522 rfl dX5_keep_11 ?_
        refine g_iload_n hC dX5_keep_14 rfl 0 rfl ?_
        refine m_ald (v := (foldN (kp1 36) σ i).1 1 i) hC 1 i rfl (show i < 108 from by omega) (by omega) rfl dX5_keep_15 ?_
        refine m_ast hC 36 i rfl (show i < 232 from by omega) (by omega) hz dX5_keep_16 ?_
        refine g_iincN (L' := [(2, .int (nI (i + 1))), (0, .ref m0), (1, .ref (m0 + 17))]) hC 1 i dX5_keep_17 (k := 0) rfl (by decide) (by decide) rfl ?_
        refine g_goto (tgt := 2) hC dX5_keep_20 (by decide) ?_
        have h_ := ih_a (i + 1) (by omega) (by omega)
        have e_0 : foldN (kp1 36) σ (i + 1) = (mu (foldN (kp1 36) σ i) 36 i ((foldN (kp1 36) σ i).1 1 i)) := by first | rfl | (simp [foldN, kp1, c_5]; done)
        rw [e_0] at h_
        exact h_
  exact hl_2 (108 - 0 + 1) 0 (by omega) (by omega)
set_option maxHeartbeats 1000000 in
theorem met_X5_again35 {Y : YT} {l : Launch} {m0 n u : Nat} {σ : MS} {B : AH} (hz : yz Y ≤ m0)   : GM Y l yX5_again (ws_ yX5_again cX5_again 3 none) 0 0 [.ref m0, .ref (m0 + 16)] (mG Y m0 σ B) n u 0 0 (pV (fun G' n' u' => mG Y m0 (againF 35 σ) B = G' ∧ n = n' ∧ u = u')) noX := by
  refine GM.intro (own := RX5) rfl (by decide +kernel) (Nat.le_of_ble_eq_true rfl) ?_
  intro p e s m args below meth c R Q hC hr hnm hF hL hE
  have hE1 := hE.1
  have hE2 := hE.2.1
  show V Y p l e R s m args below meth c 3 n u (mG Y m0 σ B) n u Q 0 [(0, .ref m0), (1, .ref (m0 + 16))] []
  refine g_iconst (v := 0) hC dX5_again_0 rfl ?_
  refine g_istore_n (L' := [(2, .int 0), (0, .ref m0), (1, .ref (m0 + 16))]) hC dX5_again_1 rfl (by decide) rfl ?_
  have hl_2 : ∀ (kf_ : Nat) (i : Nat), (i ≤ 108) → 108 - i < kf_ → V Y p l e R s m args below meth c 3 n u (mG Y m0 (foldN (ag1 35) σ i) B) n u Q 2 [(2, .int (nI i)), (0, .ref m0), (1, .ref (m0 + 16))] [] := by
    intro kf_
    induction kf_ with
    | zero => intro i hia hk_; exact absurd hk_ (Nat.not_lt_zero _)
    | succ kf_ ih_a =>
      intro i hia hk_
      refine g_iload_n hC dX5_again_2 rfl 0 rfl ?_
      refine g_bipush (v := 108) hC dX5_again_3 (by decide) ?_
      refine g_icmp_geN hC i 108 (by omega) (by omega) dX5_again_5 (tgt := 23) (by decide) (fun c_5 => ?_) (fun c_5 => ?_)
      · have ee_ : 108 = i := by omega
        subst ee_
        generalize e_z1 : foldN (ag1 35) σ 108 = z1
        refine g_iconst (v := 0) hC dX5_again_23 rfl ?_
        refine g_istore_n (L' := [(2, .int 0), (0, .ref m0), (1, .ref (m0 + 16))]) hC dX5_again_24 rfl (by decide) rfl ?_
        have hl_25 : ∀ (kf_ : Nat) (i : Nat), (i ≤ 120) → 120 - i < kf_ → V Y p l e R s m args below meth c 3 n u (mG Y m0 (foldN (ag2 35) z1 i) B) n u Q 25 [(2, .int (nI i)), (0, .ref m0), (1, .ref (m0 + 16))] [] := by
          intro kf_
          induction kf_ with
          | zero => intro i hib hk_; exact absurd hk_ (Nat.not_lt_zero _)
          | succ kf_ ih_b =>
            intro i hib hk_
            refine g_iload_n hC dX5_again_25 rfl 0 rfl ?_
            refine g_bipush (v := 120) hC dX5_again_26 (by decide) ?_
            refine g_icmp_geN hC i 120 (by omega) (by omega) dX5_again_28 (tgt := 49) (by decide) (fun c_28 => ?_) (fun c_28 => ?_)
            · have ee_ : 120 = i := by omega
              subst ee_
              generalize e_z2 : foldN (ag2 35) z1 120 = z2
              refine g_aload_n hC dX5_again_49 rfl 1 rfl ?_
              refine g_aload_n hC dX5_again_50 rfl 2 rfl ?_
              refine g_sipush (v := 228) hC dX5_again_51 (by decide) ?_
              refine m_ald (v := z2.1 35 228) hC 35 228 rfl (show 228 < 232 from by omega) (by omega) rfl dX5_again_54 ?_
              refine m_put hC 0 (by decide) rfl (by decide) q3521 rfl rfl rfl hz dX5_again_55 ?_
              refine g_aload_n hC dX5_again_58 rfl 1 rfl ?_
              refine g_aload_n hC dX5_again_59 rfl 2 rfl ?_
              refine g_sipush (v := 229) hC dX5_again_60 (by decide) ?_
              refine m_ald (v := z2.1 35 229) hC 35 229 rfl (show 229 < 232 from by omega) (by omega) (mu_nk (by decide)) dX5_again_63 ?_
              refine m_put hC 4 (by decide) rfl (by decide) q3525 rfl rfl rfl hz dX5_again_64 ?_
              refine g_aload_n hC dX5_again_67 rfl 1 rfl ?_
              refine g_aload_n hC dX5_again_68 rfl 2 rfl ?_
              refine g_sipush (v := 230) hC dX5_again_69 (by decide) ?_
              refine m_ald (v := z2.1 35 230) hC 35 230 rfl (show 230 < 232 from by omega) (by omega) ((mu_nk (by decide)).trans (mu_nk (by decide))) dX5_again_72 ?_
              refine m_put hC 2 (by decide) rfl (by decide) q3523 rfl rfl rfl hz dX5_again_73 ?_
              refine g_aload_n hC dX5_again_76 rfl 1 rfl ?_
              refine g_aload_n hC dX5_again_77 rfl 2 rfl ?_
              refine g_sipush (v := 231) hC dX5_again_78 (by decide) ?_
              refine m_ald (v := z2.1 35 231) hC 35 231 rfl (show 231 < 232 from by omega) (by omega) ((mu_nk (by decide)).trans ((mu_nk (by decide)).trans (mu_nk (by decide)))) dX5_again_81 ?_
              refine m_put hC 3 (by decide) rfl (by decide) q3524 rfl rfl rfl hz dX5_again_82 ?_
              refine g_vret hC hr ⟨rfl, ?_⟩ (by omega) (by omega) hE dX5_again_85
              subst e_z2
              subst e_z1
              exact ⟨rfl, rfl, rfl⟩
            · refine g_aload_n hC dX5_again_31 rfl 1 rfl ?_
              refine m_get (v := .ref (m0 + 2)) hC 5 (by decide) q3526 rfl dX5_again_32 ?_
              refine g_iload_n hC dX5_again_35 rfl 0 rfl ?_
              refine g_aload_n hC dX5_again_36 rfl 2 rfl ?_
              refine g_bipush (v := 108) hC dX5_again_37 (by decide) ?_
              refine g_iload_n hC dX5_again_39 rfl 0 rfl ?_
              refine g_iaddN hC 108 i dX5_again_40 ?_
              refine m_ald (v := (foldN (ag2 35) z1 i).1 35 (108 + i)) hC 35 (108 + i) rfl (show 108 + i < 232 from by omega) (by omega) rfl dX5_again_41 ?_
              refine m_ast hC 5 i rfl (show i < 120 from by omega) (by omega) hz dX5_again_42 ?_
              refine g_iincN (L' := [(2, .int (nI (i + 1))), (0, .ref m0), (1, .ref (m0 + 16))]) hC 1 i dX5_again_43 (k := 0) rfl (by decide) (by decide) rfl ?_
              refine g_goto (tgt := 25) hC dX5_again_46 (by decide) ?_
              have h_ := ih_b (i + 1) (by omega) (by omega)
              have e_0 : foldN (ag2 35) z1 (i + 1) = (mu (foldN (ag2 35) z1 i) 5 i ((foldN (ag2 35) z1 i).1 35 (108 + i))) := by first | rfl | (simp [foldN, ag2, c_5, c_28]; done)
              rw [e_0] at h_
              exact h_
        exact hl_25 (120 - 0 + 1) 0 (by omega) (by omega)
      · refine g_aload_n hC dX5_again_8 rfl 1 rfl ?_
        refine m_get (v := .ref (m0 + 1)) hC 1 (by decide) q3522 rfl dX5_again_9 ?_
        refine g_iload_n hC dX5_again_12 rfl 0 rfl ?_
        refine g_aload_n hC dX5_again_13 rfl 2 rfl ?_
        refine g_iload_n hC dX5_again_14 rfl 0 rfl ?_
        refine m_ald (v := (foldN (ag1 35) σ i).1 35 i) hC 35 i rfl (show i < 232 from by omega) (by omega) rfl dX5_again_15 ?_
        refine m_ast hC 1 i rfl (show i < 108 from by omega) (by omega) hz dX5_again_16 ?_
        refine g_iincN (L' := [(2, .int (nI (i + 1))), (0, .ref m0), (1, .ref (m0 + 16))]) hC 1 i dX5_again_17 (k := 0) rfl (by decide) (by decide) rfl ?_
        refine g_goto (tgt := 2) hC dX5_again_20 (by decide) ?_
        have h_ := ih_a (i + 1) (by omega) (by omega)
        have e_0 : foldN (ag1 35) σ (i + 1) = (mu (foldN (ag1 35) σ i) 1 i ((foldN (ag1 35) σ i).1 35 i)) := by first | rfl | (simp [foldN, ag1, c_5]; done)
        rw [e_0] at h_
        exact h_
  exact hl_2 (108 - 0 + 1) 0 (by omega) (by omega)
set_option maxHeartbeats 1000000 in
theorem met_X5_again36 {Y : YT} {l : Launch} {m0 n u : Nat} {σ : MS} {B : AH} (hz : yz Y ≤ m0)   : GM Y l yX5_again (ws_ yX5_again cX5_again 3 none) 0 0 [.ref m0, .ref (m0 + 17)] (mG Y m0 σ B) n u 0 0 (pV (fun G' n' u' => mG Y m0 (againF 36 σ) B = G' ∧ n = n' ∧ u = u')) noX := by
  refine GM.intro (own := RX5) rfl (by decide +kernel) (Nat.le_of_ble_eq_true rfl) ?_
  intro p e s m args below meth c R Q hC hr hnm hF hL hE
  have hE1 := hE.1
  have hE2 := hE.2.1
  show V Y p l e R s m args below meth c 3 n u (mG Y m0 σ B) n u Q 0 [(0, .ref m0), (1, .ref (m0 + 17))] []
  refine g_iconst (v := 0) hC dX5_again_0 rfl ?_
  refine g_istore_n (L' := [(2, .int 0), (0, .ref m0), (1, .ref (m0 + 17))]) hC dX5_again_1 rfl (by decide) rfl ?_
  have hl_2 : ∀ (kf_ : Nat) (i : Nat), (i ≤ 108) → 108 - i < kf_ → V Y p l e R s m args below meth c 3 n u (mG Y m0 (foldN (ag1 36) σ i) B) n u Q 2 [(2, .int (nI i)), (0, .ref m0), (1, .ref (m0 + 17))] [] := by
    intro kf_
    induction kf_ with
    | zero => intro i hia hk_; exact absurd hk_ (Nat.not_lt_zero _)
    | succ kf_ ih_a =>
      intro i hia hk_
      refine g_iload_n hC dX5_again_2 rfl 0 rfl ?_
      refine g_bipush (v := 108) hC dX5_again_3 (by decide) ?_
      refine g_icmp_geN hC i 108 (by omega) (by omega) dX5_again_5 (tgt := 23) (by decide) (fun c_5 => ?_) (fun c_5 => ?_)
      · have ee_ : 108 = i := by omega
        subst ee_
        generalize e_z1 : foldN (ag1 36) σ 108 = z1
        refine g_iconst (v := 0) hC dX5_again_23 rfl ?_
        refine g_istore_n (L' := [(2, .int 0), (0, .ref m0), (1, .ref (m0 + 17))]) hC dX5_again_24 rfl (by decide) rfl ?_
        have hl_25 : ∀ (kf_ : Nat) (i : Nat), (i ≤ 120) → 120 - i < kf_ → V Y p l e R s m args below meth c 3 n u (mG Y m0 (foldN (ag2 36) z1 i) B) n u Q 25 [(2, .int (nI i)), (0, .ref m0), (1, .ref (m0 + 17))] [] := by
          intro kf_
          induction kf_ with
          | zero => intro i hib hk_; exact absurd hk_ (Nat.not_lt_zero _)
          | succ kf_ ih_b =>
            intro i hib hk_
            refine g_iload_n hC dX5_again_25 rfl 0 rfl ?_
            refine g_bipush (v := 120) hC dX5_again_26 (by decide) ?_
            refine g_icmp_geN hC i 120 (by omega) (by omega) dX5_again_28 (tgt := 49) (by decide) (fun c_28 => ?_) (fun c_28 => ?_)
            · have ee_ : 120 = i := by omega
              subst ee_
              generalize e_z2 : foldN (ag2 36) z1 120 = z2
              refine g_aload_n hC dX5_again_49 rfl 1 rfl ?_
              refine g_aload_n hC dX5_again_50 rfl 2 rfl ?_
              refine g_sipush (v := 228) hC dX5_again_51 (by decide) ?_
              refine m_ald (v := z2.1 36 228) hC 36 228 rfl (show 228 < 232 from by omega) (by omega) rfl dX5_again_54 ?_
              refine m_put hC 0 (by decide) rfl (by decide) q3521 rfl rfl rfl hz dX5_again_55 ?_
              refine g_aload_n hC dX5_again_58 rfl 1 rfl ?_
              refine g_aload_n hC dX5_again_59 rfl 2 rfl ?_
              refine g_sipush (v := 229) hC dX5_again_60 (by decide) ?_
              refine m_ald (v := z2.1 36 229) hC 36 229 rfl (show 229 < 232 from by omega) (by omega) (mu_nk (by decide)) dX5_again_63 ?_
              refine m_put hC 4 (by decide) rfl (by decide) q3525 rfl rfl rfl hz dX5_again_64 ?_
              refine g_aload_n hC dX5_again_67 rfl 1 rfl ?_
              refine g_aload_n hC dX5_again_68 rfl 2 rfl ?_
              refine g_sipush (v := 230) hC dX5_again_69 (by decide) ?_
              refine m_ald (v := z2.1 36 230) hC 36 230 rfl (show 230 < 232 from by omega) (by omega) ((mu_nk (by decide)).trans (mu_nk (by decide))) dX5_again_72 ?_
              refine m_put hC 2 (by decide) rfl (by decide) q3523 rfl rfl rfl hz dX5_again_73 ?_
              refine g_aload_n hC dX5_again_76 rfl 1 rfl ?_
              refine g_aload_n hC dX5_again_77 rfl 2 rfl ?_
              refine g_sipush (v := 231) hC dX5_again_78 (by decide) ?_
              refine m_ald (v := z2.1 36 231) hC 36 231 rfl (show 231 < 232 from by omega) (by omega) ((mu_nk (by decide)).trans ((mu_nk (by decide)).trans (mu_nk (by decide)))) dX5_again_81 ?_
              refine m_put hC 3 (by decide) rfl (by decide) q3524 rfl rfl rfl hz dX5_again_82 ?_
              refine g_vret hC hr ⟨rfl, ?_⟩ (by omega) (by omega) hE dX5_again_85
              subst e_z2
              subst e_z1
              exact ⟨rfl, rfl, rfl⟩
            · refine g_aload_n hC dX5_again_31 rfl 1 rfl ?_
              refine m_get (v := .ref (m0 + 2)) hC 5 (by decide) q3526 rfl dX5_again_32 ?_
              refine g_iload_n hC dX5_again_35 rfl 0 rfl ?_
              refine g_aload_n hC dX5_again_36 rfl 2 rfl ?_
              refine g_bipush (v := 108) hC dX5_again_37 (by decide) ?_
              refine g_iload_n hC dX5_again_39 rfl 0 rfl ?_
              refine g_iaddN hC 108 i dX5_again_40 ?_
              refine m_ald (v := (foldN (ag2 36) z1 i).1 36 (108 + i)) hC 36 (108 + i) rfl (show 108 + i < 232 from by omega) (by omega) rfl dX5_again_41 ?_
              refine m_ast hC 5 i rfl (show i < 120 from by omega) (by omega) hz dX5_again_42 ?_
              refine g_iincN (L' := [(2, .int (nI (i + 1))), (0, .ref m0), (1, .ref (m0 + 17))]) hC 1 i dX5_again_43 (k := 0) rfl (by decide) (by decide) rfl ?_
              refine g_goto (tgt := 25) hC dX5_again_46 (by decide) ?_
              have h_ := ih_b (i + 1) (by omega) (by omega)
              have e_0 : foldN (ag2 36) z1 (i + 1) = (mu (foldN (ag2 36) z1 i) 5 i ((foldN (ag2 36) z1 i).1 36 (108 + i))) := by first | rfl | (simp [foldN, ag2, c_5, c_28]; done)
              rw [e_0] at h_
              exact h_
        exact hl_25 (120 - 0 + 1) 0 (by omega) (by omega)
      · refine g_aload_n hC dX5_again_8 rfl 1 rfl ?_
        refine m_get (v := .ref (m0 + 1)) hC 1 (by decide) q3522 rfl dX5_again_9 ?_
        refine g_iload_n hC dX5_again_12 rfl 0 rfl ?_
        refine g_aload_n hC dX5_again_13 rfl 2 rfl ?_
        refine g_iload_n hC dX5_again_14 rfl 0 rfl ?_
        refine m_ald (v := (foldN (ag1 36) σ i).1 36 i) hC 36 i rfl (show i < 232 from by omega) (by omega) rfl dX5_again_15 ?_
        refine m_ast hC 1 i rfl (show i < 108 from by omega) (by omega) hz dX5_again_16 ?_
        refine g_iincN (L' := [(2, .int (nI (i + 1))), (0, .ref m0), (1, .ref (m0 + 17))]) hC 1 i dX5_again_17 (k := 0) rfl (by decide) (by decide) rfl ?_
        refine g_goto (tgt := 2) hC dX5_again_20 (by decide) ?_
        have h_ := ih_a (i + 1) (by omega) (by omega)
        have e_0 : foldN (ag1 36) σ (i + 1) = (mu (foldN (ag1 36) σ i) 1 i ((foldN (ag1 36) σ i).1 36 i)) := by first | rfl | (simp [foldN, ag1, c_5]; done)
        rw [e_0] at h_
        exact h_
  exact hl_2 (108 - 0 + 1) 0 (by omega) (by omega)
set_option maxHeartbeats 1000000 in
theorem met_X5_image {Y : YT} {l : Launch} {m0 n u : Nat} {σ : MS} {B : AH} (hz : yz Y ≤ m0)   : GM Y l yX5_image (ws_ yX5_image cX5_image 1 (some FieldType.int)) 1 22 [.ref m0] (mG Y m0 σ B) n u 0 0 (pI (fun r G' n' u' => σ.1 0 0 = r ∧ mG Y m0 (imageF σ) B = G' ∧ n = n' ∧ u = u')) noX := by
  refine GM.intro (own := RX5) rfl (by decide +kernel) (Nat.le_of_ble_eq_true rfl) ?_
  intro p e s m args below meth c R Q hC hr hnm hF hL hE
  have hE1 := hE.1
  have hE2 := hE.2.1
  show V Y p l e R s m args below meth c 1 n u (mG Y m0 σ B) n u Q 0 [(0, .ref m0)] []
  refine g_aload_n hC dX5_image_0 rfl 0 rfl ?_
  refine g_iconst (v := 1) hC dX5_image_1 rfl ?_
  refine m_put hC 34 (by decide) rfl (by decide) q3555 rfl rfl rfl hz dX5_image_2 ?_
  refine g_aload_n hC dX5_image_5 rfl 0 rfl ?_
  refine g_aload_n hC dX5_image_6 rfl 0 rfl ?_
  refine m_get (v := .ref (m0 + 16)) hC 35 (by decide) q3556 rfl dX5_image_7 ?_
  refine g_callv0 hC (g_runV hC (met_X5_keep35 hz  ) kc_X5 mG_o (lw_V q3863 q3865 qs69 q89 q3866) rfl md_X5_keep dX5_image_10 rfl ⟨by omega, by omega⟩ (by omega) (by omega) rfl (Nat.le_of_ble_eq_true rfl)) (fun G_1 n_1 u_1 hp_1 hn_1 hm_1 hu_1 => ?_)
  obtain ⟨rfl, rfl, rfl⟩ := hp_1
  refine g_aload_n hC dX5_image_13 rfl 0 rfl ?_
  refine m_get (v := .int ((keepF 35 (mu σ 34 0 1)).1 0 0)) hC 0 (by decide) q3521 rfl dX5_image_14 ?_
  refine g_iret hC hr rfl ⟨_, rfl, ?_⟩ (by omega) (by omega) hE dX5_image_17
  exact ⟨((keep_ne (by decide)).trans (mu_nk (by decide))).symm, rfl, rfl, rfl⟩
set_option maxHeartbeats 1000000 in
theorem met_X5_restore {Y : YT} {l : Launch} {m0 n u : Nat} {σ : MS} {B : AH} (hz : yz Y ≤ m0)   : GM Y l yX5_restore (ws_ yX5_restore cX5_restore 2 (some FieldType.int)) 1 22 [.ref m0] (mG Y m0 σ B) n u 0 0 (pI (fun r G' n' u' => (rstF σ  ).1 = r ∧ mG Y m0 ((rstF σ  ).2) B = G' ∧ n = n' ∧ u = u')) noX := by
  refine GM.intro (own := RX5) rfl (by decide +kernel) (Nat.le_of_ble_eq_true rfl) ?_
  intro p e s m args below meth c R Q hC hr hnm hF hL hE
  have hE1 := hE.1
  have hE2 := hE.2.1
  show V Y p l e R s m args below meth c 2 n u (mG Y m0 σ B) n u Q 0 [(0, .ref m0)] []
  refine g_aload_n hC dX5_restore_0 rfl 0 rfl ?_
  refine m_get (v := .int (σ.1 34 0)) hC 34 (by decide) q3555 rfl dX5_restore_1 ?_
  refine g_if_ne hC dX5_restore_4 (tgt := 14) (by decide) (fun c_4 => ?_) (fun c_4 => ?_)
  · refine g_aload_n hC dX5_restore_14 rfl 0 rfl ?_
    refine g_aload_n hC dX5_restore_15 rfl 0 rfl ?_
    refine m_get (v := .ref (m0 + 16)) hC 35 (by decide) q3556 rfl dX5_restore_16 ?_
    refine g_callv0 hC (g_runV hC (met_X5_again35 hz  ) kc_X5 mG_o (lw_V q3867 q3869 qs70 q89 q3870) rfl md_X5_again dX5_restore_19 rfl ⟨by omega, by omega⟩ (by omega) (by omega) rfl (Nat.le_of_ble_eq_true rfl)) (fun G_1 n_1 u_1 hp_1 hn_1 hm_1 hu_1 => ?_)
    obtain ⟨rfl, rfl, rfl⟩ := hp_1
    refine g_iconst (v := 0) hC dX5_restore_22 rfl ?_
    refine g_istore_n (L' := [(1, .int 0), (0, .ref m0)]) hC dX5_restore_23 rfl (by decide) rfl ?_
    have hl_24 : ∀ (kf_ : Nat) (i : Nat) (z : MS), (i ≤ 8) → (z.1 0 0 = σ.1 35 228) → (foldN (rsS (σ.1 35 228)) (againF 35 σ) i = z) → 8 - i < kf_ → V Y p l e R s m args below meth c 2 n u (mG Y m0 z B) n u Q 24 [(1, .int (nI i)), (0, .ref m0)] [] := by
      intro kf_
      induction kf_ with
      | zero => intro i z hi hz1 hz2 hk_; exact absurd hk_ (Nat.not_lt_zero _)
      | succ kf_ ih_ =>
        intro i z hi hz1 hz2 hk_
        refine g_iload_n hC dX5_restore_24 rfl 0 rfl ?_
        refine g_bipush (v := 8) hC dX5_restore_25 (by decide) ?_
        refine g_icmp_geN hC i 8 (by omega) (by omega) dX5_restore_27 (tgt := 64) (by decide) (fun c_27 => ?_) (fun c_27 => ?_)
        · have ee_ : 8 = i := by omega
          subst ee_
          refine g_aload_n hC dX5_restore_64 rfl 1 rfl ?_
          refine m_get (v := .int (z.1 0 0)) hC 0 (by decide) q3521 rfl dX5_restore_65 ?_
          refine g_iret hC hr rfl ⟨_, rfl, ?_⟩ (by omega) (by omega) hE dX5_restore_68
          first
          | (have h9 : rstF σ = (-6, mNo σ 6) := by simp [rstF, c_4]
             exact ⟨by rw [h9]; rfl, by rw [h9], rfl, rfl⟩)
          | (have h9 : rstF σ = (σ.1 35 228, z) := by simp [rstF, c_4, hz2]
             exact ⟨by rw [h9, hz1], by rw [h9], rfl, rfl⟩)
        · refine g_aload_n hC dX5_restore_30 rfl 1 rfl ?_
          refine g_iload_n hC dX5_restore_31 rfl 0 rfl ?_
          refine g_calli0 hC (g_runV hC (met_X5_isRow hz i (by omega)) kc_X5 mG_o (lw_V q3652 q3654 qs39 q89 q3655) rfl md_X5_isRow dX5_restore_32 rfl ⟨by omega, by omega⟩ (by omega) (by omega) rfl (Nat.le_of_ble_eq_true rfl)) (fun r_2 G_2 n_2 u_2 hp_2 hn_2 hm_2 hu_2 => ?_)
          obtain ⟨rfl, rfl, rfl, rfl⟩ := hp_2
          refine g_if_neB hC (rwF z  i) dX5_restore_35 (tgt := 58) (by decide) (fun c_35 => ?_) (fun c_35 => ?_)
          · refine g_iincN (L' := [(1, .int (nI (i + 1))), (0, .ref m0)]) hC 1 i dX5_restore_58 (k := 0) rfl (by decide) (by decide) rfl ?_
            refine g_goto (tgt := 24) hC dX5_restore_61 (by decide) ?_
            exact ih_ (i + 1) z (by omega) (hz1) (by show rsS _ (foldN _ _ i) i = _; rw [hz2]; simp [rsS, ← hz1, c_4, c_27, c_35]) (by omega)
          · refine g_aload_n hC dX5_restore_38 rfl 1 rfl ?_
            refine m_get (v := .ref (m0 + 3)) hC 6 (by decide) q3527 rfl dX5_restore_39 ?_
            refine g_iload_n hC dX5_restore_42 rfl 0 rfl ?_
            refine m_ald (v := z.1 6 i) hC 6 i rfl (show i < 8 from by omega) (by omega) rfl dX5_restore_43 ?_
            refine g_aload_n hC dX5_restore_44 rfl 1 rfl ?_
            refine m_get (v := .int (z.1 0 0)) hC 0 (by decide) q3521 rfl dX5_restore_45 ?_
            refine g_icmp_lt hC dX5_restore_48 (tgt := 58) (by decide) (fun c_48 => ?_) (fun c_48 => ?_)
            · refine g_iincN (L' := [(1, .int (nI (i + 1))), (0, .ref m0)]) hC 1 i dX5_restore_58 (k := 0) rfl (by decide) (by decide) rfl ?_
              refine g_goto (tgt := 24) hC dX5_restore_61 (by decide) ?_
              exact ih_ (i + 1) z (by omega) (hz1) (by show rsS _ (foldN _ _ i) i = _; rw [hz2]; simp [rsS, ← hz1, c_4, c_27, c_35, c_48]) (by omega)
            · refine g_aload_n hC dX5_restore_51 rfl 1 rfl ?_
              refine m_get (v := .ref (m0 + 3)) hC 6 (by decide) q3527 rfl dX5_restore_52 ?_
              refine g_iload_n hC dX5_restore_55 rfl 0 rfl ?_
              refine g_iconst (v := (-1)) hC dX5_restore_56 rfl ?_
              refine m_ast hC 6 i rfl (show i < 8 from by omega) (by omega) hz dX5_restore_57 ?_
              refine g_iincN (L' := [(1, .int (nI (i + 1))), (0, .ref m0)]) hC 1 i dX5_restore_58 (k := 0) rfl (by decide) (by decide) rfl ?_
              refine g_goto (tgt := 24) hC dX5_restore_61 (by decide) ?_
              exact ih_ (i + 1) (mu z 6 i (-1)) (by omega) ((mu_nk (by decide)).trans hz1) (by show rsS _ (foldN _ _ i) i = _; rw [hz2]; simp [rsS, ← hz1, c_4, c_27, c_35, c_48]) (by omega)
    exact hl_24 (8 - 0 + 1) 0 (againF 35 σ) (by omega) (rfl) (rfl) (by omega)
  · refine g_aload_n hC dX5_restore_7 rfl 0 rfl ?_
    refine g_bipush (v := (-6)) hC dX5_restore_8 (by decide) ?_
    refine g_calli0 hC (g_runV hC (met_X5_no hz 6 (by omega)) kc_X5 mG_o (lw_V q3640 q3642 qs37 q89 q3643) rfl md_X5_no dX5_restore_10 rfl ⟨by omega, by omega⟩ (by omega) (by omega) rfl (Nat.le_of_ble_eq_true rfl)) (fun r_3 G_3 n_3 u_3 hp_3 hn_3 hm_3 hu_3 => ?_)
    obtain ⟨rfl, rfl, rfl, rfl⟩ := hp_3
    refine g_iret hC hr rfl ⟨_, rfl, ?_⟩ (by omega) (by omega) hE dX5_restore_13
    first
    | (have h9 : rstF σ = (-6, mNo σ 6) := by simp [rstF, c_4]
       exact ⟨by rw [h9]; rfl, by rw [h9], rfl, rfl⟩)
    | (have h9 : rstF σ = (σ.1 35 228, z) := by simp [rstF, c_4, hz2]
       exact ⟨by rw [h9, hz1], by rw [h9], rfl, rfl⟩)
set_option maxHeartbeats 1000000 in
theorem met_X5_copy {Y : YT} {l : Launch} {m0 n u : Nat} {σ : MS} {B : AH} (hz : yz Y ≤ m0) (p_ : Int32) (q_ : Int32) (i_ : Int32) (j_ : Int32) (n_ : Int32) (hl : ∀ j, j < 8 → ∃ t, t ≤ 160 ∧ σ.1 7 j = nI t) : GM Y l yX5_copy (ws_ yX5_copy cX5_copy 7 (some FieldType.int)) 1 22 [.ref m0, .int p_, .int q_, .int i_, .int j_, .int n_] (mG Y m0 σ B) n u 0 0 (pI (fun r G' n' u' => (copyF σ  p_ q_ i_ j_ n_).1 = r ∧ mG Y m0 ((copyF σ  p_ q_ i_ j_ n_).2) B = G' ∧ n = n' ∧ u = u')) noX := by
  refine GM.intro (own := RX5) rfl (by decide +kernel) (Nat.le_of_ble_eq_true rfl) ?_
  intro p e s m args below meth c R Q hC hr hnm hF hL hE
  have hE1 := hE.1
  have hE2 := hE.2.1
  show V Y p l e R s m args below meth c 7 n u (mG Y m0 σ B) n u Q 0 [(0, .ref m0), (1, .int p_), (2, .int q_), (3, .int i_), (4, .int j_), (5, .int n_)] []
  refine g_iload_n hC dX5_copy_0 rfl 1 rfl ?_
  refine g_iconst (v := 0) hC dX5_copy_1 rfl ?_
  refine g_bipush (v := 7) hC dX5_copy_2 (by decide) ?_
  refine g_calli0 hC (g_runS hC (met_X5_within hz p_ 0 7 ) (lw_S q3637 q3638 q89 q3639) md_X5_within dX5_copy_4 rfl ⟨by omega, by omega⟩ (by omega) (by omega) rfl (Nat.le_of_ble_eq_true rfl)) (fun r_1 G_1 n_1 u_1 hp_1 hn_1 hm_1 hu_1 => ?_)
  obtain ⟨rfl, rfl, rfl, rfl⟩ := hp_1
  refine g_if_eqB hC (wi p_ 0 7) dX5_copy_7 (tgt := 20) (by decide) (fun c_7 => ?_) (fun c_7 => ?_)
  · refine g_aload_n hC dX5_copy_20 rfl 0 rfl ?_
    refine g_iconst (v := (-1)) hC dX5_copy_21 rfl ?_
    refine g_calli0 hC (g_runV hC (met_X5_no hz 1 (by omega)) kc_X5 mG_o (lw_V q3640 q3642 qs37 q89 q3643) rfl md_X5_no dX5_copy_22 rfl ⟨by omega, by omega⟩ (by omega) (by omega) rfl (Nat.le_of_ble_eq_true rfl)) (fun r_2 G_2 n_2 u_2 hp_2 hn_2 hm_2 hu_2 => ?_)
    obtain ⟨rfl, rfl, rfl, rfl⟩ := hp_2
    refine g_iret hC hr rfl ⟨_, rfl, ?_⟩ (by omega) (by omega) hE dX5_copy_25
    have h9 : copyF σ p_ q_ i_ j_ n_ = (-(nI 1), mNo σ 1) := by
      first | (simp [copyF, c_7]; done) | (simp [copyF, c_7]; rfl)
    exact ⟨by rw [h9], by rw [h9], rfl, rfl⟩
  · have c7 : wi p_ 0 (nI 7) = true := c_7
    obtain ⟨c1, hc1, rfl⟩ := wi_nI (by decide) c7
    have cl_c1 : (nI c1).toNatClampNeg = c1 := nI_clamp (by omega)
    obtain ⟨t1, ht1, et1⟩ := hl c1 (by omega)
    refine g_iload_n hC dX5_copy_10 rfl 2 rfl ?_
    refine g_iconst (v := 0) hC dX5_copy_11 rfl ?_
    refine g_bipush (v := 7) hC dX5_copy_12 (by decide) ?_
    refine g_calli0 hC (g_runS hC (met_X5_within hz q_ 0 7 ) (lw_S q3637 q3638 q89 q3639) md_X5_within dX5_copy_14 rfl ⟨by omega, by omega⟩ (by omega) (by omega) rfl (Nat.le_of_ble_eq_true rfl)) (fun r_3 G_3 n_3 u_3 hp_3 hn_3 hm_3 hu_3 => ?_)
    obtain ⟨rfl, rfl, rfl, rfl⟩ := hp_3
    refine g_if_neB hC (wi q_ 0 7) dX5_copy_17 (tgt := 26) (by decide) (fun c_17 => ?_) (fun c_17 => ?_)
    · have c17 : wi q_ 0 (nI 7) = true := c_17
      obtain ⟨c2, hc2, rfl⟩ := wi_nI (by decide) c17
      have cl_c2 : (nI c2).toNatClampNeg = c2 := nI_clamp (by omega)
      obtain ⟨t2, ht2, et2⟩ := hl c2 (by omega)
      have hj_91 : (cp2 σ c1 c2 = true) → V Y p l e R s m args below meth c 7 n u (mG Y m0 σ B) n u Q 91 [(0, .ref m0), (1, .int (nI c1)), (2, .int (nI c2)), (3, .int i_), (4, .int j_), (5, .int n_)] [] := by
        intro k91
        refine g_aload_n hC dX5_copy_91 rfl 0 rfl ?_
        refine g_bipush (v := (-2)) hC dX5_copy_92 (by decide) ?_
        refine g_calli0 hC (g_runV hC (met_X5_no hz 2 (by omega)) kc_X5 mG_o (lw_V q3640 q3642 qs37 q89 q3643) rfl md_X5_no dX5_copy_94 rfl ⟨by omega, by omega⟩ (by omega) (by omega) rfl (Nat.le_of_ble_eq_true rfl)) (fun r_4 G_4 n_4 u_4 hp_4 hn_4 hm_4 hu_4 => ?_)
        obtain ⟨rfl, rfl, rfl, rfl⟩ := hp_4
        refine g_iret hC hr rfl ⟨_, rfl, ?_⟩ (by omega) (by omega) hE dX5_copy_97
        have h9 : copyF σ (nI c1) (nI c2) i_ j_ n_ = (-(nI 2), mNo σ 2) := by
          first | (simp [copyF, c_7, cl_c1, c7, c_17, cl_c2, c17, k91]; done) | (simp [copyF, c_7, cl_c1, c7, c_17, cl_c2, c17, k91]; rfl)
        exact ⟨by rw [h9], by rw [h9], rfl, rfl⟩
      have hj_98 : (cp2 σ c1 c2 = false) → V Y p l e R s m args below meth c 7 n u (mG Y m0 σ B) n u Q 98 [(0, .ref m0), (1, .int (nI c1)), (2, .int (nI c2)), (3, .int i_), (4, .int j_), (5, .int n_)] [] := by
        intro k98
        refine g_aload_n hC dX5_copy_98 rfl 0 rfl ?_
        refine m_get (v := .ref (m0 + 3)) hC 6 (by decide) q3527 rfl dX5_copy_99 ?_
        refine g_iload_n hC dX5_copy_102 rfl 1 rfl ?_
        refine m_ald (v := σ.1 6 c1) hC 6 c1 rfl (show c1 < 8 from by omega) (by omega) rfl dX5_copy_103 ?_
        refine g_if_lt hC dX5_copy_104 (tgt := 116) (by decide) (fun c_104 => ?_) (fun c_104 => ?_)
        · refine g_aload_n hC dX5_copy_116 rfl 0 rfl ?_
          refine g_bipush (v := (-3)) hC dX5_copy_117 (by decide) ?_
          refine g_calli0 hC (g_runV hC (met_X5_no hz 3 (by omega)) kc_X5 mG_o (lw_V q3640 q3642 qs37 q89 q3643) rfl md_X5_no dX5_copy_119 rfl ⟨by omega, by omega⟩ (by omega) (by omega) rfl (Nat.le_of_ble_eq_true rfl)) (fun r_5 G_5 n_5 u_5 hp_5 hn_5 hm_5 hu_5 => ?_)
          obtain ⟨rfl, rfl, rfl, rfl⟩ := hp_5
          refine g_iret hC hr rfl ⟨_, rfl, ?_⟩ (by omega) (by omega) hE dX5_copy_122
          have h9 : copyF σ (nI c1) (nI c2) i_ j_ n_ = (-(nI 3), mNo σ 3) := by
            first | (simp [copyF, c_7, cl_c1, c7, c_17, cl_c2, c17, k98, c_104]; done) | (simp [copyF, c_7, cl_c1, c7, c_17, cl_c2, c17, k98, c_104]; rfl)
          exact ⟨by rw [h9], by rw [h9], rfl, rfl⟩
        · refine g_aload_n hC dX5_copy_107 rfl 0 rfl ?_
          refine m_get (v := .ref (m0 + 3)) hC 6 (by decide) q3527 rfl dX5_copy_108 ?_
          refine g_iload_n hC dX5_copy_111 rfl 2 rfl ?_
          refine m_ald (v := σ.1 6 c2) hC 6 c2 rfl (show c2 < 8 from by omega) (by omega) rfl dX5_copy_112 ?_
          refine g_if_ge hC dX5_copy_113 (tgt := 123) (by decide) (fun c_113 => ?_) (fun c_113 => ?_)
          · refine g_iload hC dX5_copy_123 5 rfl ?_
            refine g_if_ge hC dX5_copy_125 (tgt := 135) (by decide) (fun c_125 => ?_) (fun c_125 => ?_)
            · obtain ⟨c5, hc5, rfl⟩ := nI_of (Int32.not_lt.mpr c_125)
              have cl_c5 : (nI c5).toNatClampNeg = c5 := nI_clamp (by omega)
              have hj_179 : (¬ (fitF σ c1 i_ (nI c5) = true ∧ fitF σ c2 j_ (nI c5) = true)) → V Y p l e R s m args below meth c 7 n u (mG Y m0 σ B) n u Q 179 [(0, .ref m0), (1, .int (nI c1)), (2, .int (nI c2)), (3, .int i_), (4, .int j_), (5, .int (nI c5))] [] := by
                intro k179
                refine g_aload_n hC dX5_copy_179 rfl 0 rfl ?_
                refine g_bipush (v := (-5)) hC dX5_copy_180 (by decide) ?_
                refine g_calli0 hC (g_runV hC (met_X5_no hz 5 (by omega)) kc_X5 mG_o (lw_V q3640 q3642 qs37 q89 q3643) rfl md_X5_no dX5_copy_182 rfl ⟨by omega, by omega⟩ (by omega) (by omega) rfl (Nat.le_of_ble_eq_true rfl)) (fun r_6 G_6 n_6 u_6 hp_6 hn_6 hm_6 hu_6 => ?_)
                obtain ⟨rfl, rfl, rfl, rfl⟩ := hp_6
                refine g_iret hC hr rfl ⟨_, rfl, ?_⟩ (by omega) (by omega) hE dX5_copy_185
                have h9 : copyF σ (nI c1) (nI c2) i_ j_ (nI c5) = (-(nI 5), mNo σ 5) := by
                  first | (simp [copyF, c_7, cl_c1, c7, c_17, cl_c2, c17, k98, c_104, c_113, c_125, cl_c5, k179]; done) | (simp [copyF, c_7, cl_c1, c7, c_17, cl_c2, c17, k98, c_104, c_113, c_125, cl_c5, k179]; rfl)
                exact ⟨by rw [h9], by rw [h9], rfl, rfl⟩
              refine g_iload_n hC dX5_copy_135 rfl 3 rfl ?_
              refine g_if_lt hC dX5_copy_136 (tgt := 179) (by decide) (fun c_136 => ?_) (fun c_136 => ?_)
              · exact hj_179 (by have := @Int32.not_le; simp [fitF, c_7, cl_c1, c7, c_17, cl_c2, c17, k98, c_104, c_113, c_125, cl_c5, c_136])
              · refine g_iload hC dX5_copy_139 4 rfl ?_
                refine g_if_lt hC dX5_copy_141 (tgt := 179) (by decide) (fun c_141 => ?_) (fun c_141 => ?_)
                · exact hj_179 (by have := @Int32.not_le; simp [fitF, c_7, cl_c1, c7, c_17, cl_c2, c17, k98, c_104, c_113, c_125, cl_c5, c_136, c_141])
                · refine g_iload_n hC dX5_copy_144 rfl 3 rfl ?_
                  refine g_i2l (v := i_.toInt64) hC dX5_copy_145 rfl ?_
                  refine g_iload hC dX5_copy_146 5 rfl ?_
                  refine g_i2l (v := (nI c5).toInt64) hC dX5_copy_148 rfl ?_
                  refine g_ladd hC dX5_copy_149 ?_
                  refine g_aload_n hC dX5_copy_150 rfl 0 rfl ?_
                  refine m_get (v := .ref (m0 + 4)) hC 7 (by decide) q3528 rfl dX5_copy_151 ?_
                  refine g_iload_n hC dX5_copy_154 rfl 1 rfl ?_
                  refine m_ald (v := σ.1 7 c1) hC 7 c1 rfl (show c1 < 8 from by omega) (by omega) rfl dX5_copy_155 ?_
                  refine g_i2l (v := (σ.1 7 c1).toInt64) hC dX5_copy_156 rfl ?_
                  refine g_lcmp hC dX5_copy_157 ?_
                  refine g_if_gt hC dX5_copy_158 (tgt := 179) (by decide) (fun c_158 => ?_) (fun c_158 => ?_)
                  · exact hj_179 (by have := @Int32.not_le; simp [fitF, c_7, cl_c1, c7, c_17, cl_c2, c17, k98, c_104, c_113, c_125, cl_c5, c_136, c_141, c_158])
                  · refine g_iload hC dX5_copy_161 4 rfl ?_
                    refine g_i2l (v := j_.toInt64) hC dX5_copy_163 rfl ?_
                    refine g_iload hC dX5_copy_164 5 rfl ?_
                    refine g_i2l (v := (nI c5).toInt64) hC dX5_copy_166 rfl ?_
                    refine g_ladd hC dX5_copy_167 ?_
                    refine g_aload_n hC dX5_copy_168 rfl 0 rfl ?_
                    refine m_get (v := .ref (m0 + 4)) hC 7 (by decide) q3528 rfl dX5_copy_169 ?_
                    refine g_iload_n hC dX5_copy_172 rfl 2 rfl ?_
                    refine m_ald (v := σ.1 7 c2) hC 7 c2 rfl (show c2 < 8 from by omega) (by omega) rfl dX5_copy_173 ?_
                    refine g_i2l (v := (σ.1 7 c2).toInt64) hC dX5_copy_174 rfl ?_
                    refine g_lcmp hC dX5_copy_175 ?_
                    refine g_if_le hC dX5_copy_176 (tgt := 186) (by decide) (fun c_176 => ?_) (fun c_176 => ?_)
                    · obtain ⟨c3, hc3, rfl⟩ := nI_of c_136
                      obtain ⟨c4, hc4, rfl⟩ := nI_of c_141
                      have f1 : fitF σ c1 (nI c3) (nI c5) = true := by have := @Int32.not_le; simp [fitF, c_136, c_141, c_158]
                      have f2 : fitF σ c2 (nI c4) (nI c5) = true := by have := @Int32.not_le; simp [fitF, c_136, c_141, c_176]
                      have k3 := (lg_le hc3 hc5 (by omega)).mp (et1 ▸ Int32.not_lt.mp c_158)
                      have k4 := (lg_le hc4 hc5 (by omega)).mp (et2 ▸ c_176)
                      have q3 : (nI c3).toNatClampNeg = c3 := nI_clamp hc3
                      have q4 : (nI c4).toNatClampNeg = c4 := nI_clamp hc4
                      have q5 : (nI c3 < nI c4) = (c3 < c4) := propext (nI_ltI hc3 hc4)
                      have hj_248 : (¬ (c1 = c2 ∧ c3 < c4)) → V Y p l e R s m args below meth c 7 n u (mG Y m0 σ B) n u Q 248 [(0, .ref m0), (1, .int (nI c1)), (2, .int (nI c2)), (3, .int (nI c3)), (4, .int (nI c4)), (5, .int (nI c5))] [] := by
                        intro k248
                        refine g_iconst (v := 0) hC dX5_copy_248 rfl ?_
                        refine g_istore (L' := [(6, .int 0), (0, .ref m0), (1, .int (nI c1)), (2, .int (nI c2)), (3, .int (nI c3)), (4, .int (nI c4)), (5, .int (nI c5))]) hC dX5_copy_249 (by decide) rfl ?_
                        have hl_251 : ∀ (kf_ : Nat) (k : Nat), (k ≤ c5) → c5 - k < kf_ → V Y p l e R s m args below meth c 7 n u (mG Y m0 (foldN (cpS c1 c2 c3 c4) σ k) B) n u Q 251 [(6, .int (nI k)), (0, .ref m0), (1, .int (nI c1)), (2, .int (nI c2)), (3, .int (nI c3)), (4, .int (nI c4)), (5, .int (nI c5))] [] := by
                          intro kf_
                          induction kf_ with
                          | zero => intro k hiu hk_; exact absurd hk_ (Nat.not_lt_zero _)
                          | succ kf_ ih_u =>
                            intro k hiu hk_
                            refine g_iload hC dX5_copy_251 0 rfl ?_
                            refine g_iload hC dX5_copy_253 6 rfl ?_
                            refine g_icmp_geN hC k c5 (by omega) (by omega) dX5_copy_255 (tgt := 295) (by decide) (fun c_255 => ?_) (fun c_255 => ?_)
                            · have ee_ : c5 = k := by omega
                              subst ee_
                              refine g_iconst (v := 1) hC dX5_copy_295 rfl ?_
                              refine g_iret hC hr rfl ⟨_, rfl, ?_⟩ (by omega) (by omega) hE dX5_copy_296
                              have h9 : copyF σ (nI c1) (nI c2) (nI c3) (nI c4) (nI c5) = (1, foldN (cpS c1 c2 c3 c4) σ c5) := by
                                first | (simp [copyF, c_7, cl_c1, c7, c_17, cl_c2, c17, k98, c_104, c_113, c_125, cl_c5, c_136, c_141, c_158, c_176, f1, f2, q3, q4, q5, k248, c_255]; done) | (simp [copyF, c_7, cl_c1, c7, c_17, cl_c2, c17, k98, c_104, c_113, c_125, cl_c5, c_136, c_141, c_158, c_176, f1, f2, q3, q4, q5, k248, c_255]; rfl)
                              exact ⟨by rw [h9], by rw [h9], rfl, rfl⟩
                            · refine g_aload_n hC dX5_copy_258 rfl 1 rfl ?_
                              refine m_get (v := .ref (m0 + 5)) hC 8 (by decide) q3529 rfl dX5_copy_259 ?_
                              refine g_sipush (v := 160) hC dX5_copy_262 (by decide) ?_
                              refine g_iload_n hC dX5_copy_265 rfl 3 rfl ?_
                              refine g_imulN hC 160 c2 dX5_copy_266 ?_
                              refine g_iload hC dX5_copy_267 5 rfl ?_
                              refine g_iaddN hC (160 * c2) c4 dX5_copy_269 ?_
                              refine g_iload hC dX5_copy_270 0 rfl ?_
                              refine g_iaddN hC ((160 * c2) + c4) k dX5_copy_272 ?_
                              refine g_aload_n hC dX5_copy_273 rfl 1 rfl ?_
                              refine m_get (v := .ref (m0 + 5)) hC 8 (by decide) q3529 rfl dX5_copy_274 ?_
                              refine g_sipush (v := 160) hC dX5_copy_277 (by decide) ?_
                              refine g_iload_n hC dX5_copy_280 rfl 2 rfl ?_
                              refine g_imulN hC 160 c1 dX5_copy_281 ?_
                              refine g_iload_n hC dX5_copy_282 rfl 4 rfl ?_
                              refine g_iaddN hC (160 * c1) c3 dX5_copy_283 ?_
                              refine g_iload hC dX5_copy_284 0 rfl ?_
                              refine g_iaddN hC ((160 * c1) + c3) k dX5_copy_286 ?_
                              refine m_lald (v := (foldN (cpS c1 c2 c3 c4) σ k).2 (((160 * c1) + c3) + k)) hC (((160 * c1) + c3) + k) (by omega) rfl dX5_copy_287 ?_
                              refine m_last hC (((160 * c2) + c4) + k) (by omega) hz dX5_copy_288 ?_
                              refine g_iincN (L' := [(6, .int (nI (k + 1))), (0, .ref m0), (1, .int (nI c1)), (2, .int (nI c2)), (3, .int (nI c3)), (4, .int (nI c4)), (5, .int (nI c5))]) hC 1 k dX5_copy_289 (k := 0) rfl (by decide) (by decide) rfl ?_
                              refine g_goto (tgt := 251) hC dX5_copy_292 (by decide) ?_
                              have h_ := ih_u (k + 1) (by omega) (by omega)
                              have e_0 : foldN (cpS c1 c2 c3 c4) σ (k + 1) = (mw (foldN (cpS c1 c2 c3 c4) σ k) (((160 * c2) + c4) + k) ((foldN (cpS c1 c2 c3 c4) σ k).2 (((160 * c1) + c3) + k))) := by first | rfl | (simp [foldN, cpS, c_7, cl_c1, c7, c_17, cl_c2, c17, k98, c_104, c_113, c_125, cl_c5, c_136, c_141, c_158, c_176, f1, f2, q3, q4, q5, k248, c_255]; done)
                              rw [e_0] at h_
                              exact h_
                        exact hl_251 (c5 - 0 + 1) 0 (by omega) (by omega)
                      refine g_iload_n hC dX5_copy_186 rfl 1 rfl ?_
                      refine g_iload_n hC dX5_copy_187 rfl 2 rfl ?_
                      refine g_icmp_neN hC c1 c2 (by omega) (by omega) dX5_copy_188 (tgt := 248) (by decide) (fun c_188 => ?_) (fun c_188 => ?_)
                      · exact hj_248 (by omega)
                      · refine g_iload_n hC dX5_copy_191 rfl 3 rfl ?_
                        refine g_iload hC dX5_copy_192 4 rfl ?_
                        refine g_icmp_geN hC c3 c4 (by omega) (by omega) dX5_copy_194 (tgt := 248) (by decide) (fun c_194 => ?_) (fun c_194 => ?_)
                        · exact hj_248 (by omega)
                        · refine g_iload hC dX5_copy_197 5 rfl ?_
                          refine g_iconst (v := 1) hC dX5_copy_199 rfl ?_
                          refine g_isub hC dX5_copy_200 ?_
                          rw [Int32.sub_eq_add_neg]
                          refine g_istore (L' := [(6, .int (nI c5 + (-1))), (0, .ref m0), (1, .int (nI c1)), (2, .int (nI c2)), (3, .int (nI c3)), (4, .int (nI c4)), (5, .int (nI c5))]) hC dX5_copy_201 (by decide) rfl ?_
                          have hl_203 : ∀ (kf_ : Nat) (z : MS) (a : Nat), (foldD (cpS c1 c2 c3 c4) z a = foldD (cpS c1 c2 c3 c4) σ c5) → (a ≤ c5) → a < kf_ → V Y p l e R s m args below meth c 7 n u (mG Y m0 z B) n u Q 203 [(6, .int (nI a + (-1))), (0, .ref m0), (1, .int (nI c1)), (2, .int (nI c2)), (3, .int (nI c3)), (4, .int (nI c4)), (5, .int (nI c5))] [] := by
                            intro kf_
                            induction kf_ with
                            | zero => intro z a hz2 ha hk_; exact absurd hk_ (Nat.not_lt_zero _)
                            | succ kf_ ih_d =>
                              intro z a hz2 ha hk_
                              rcases a with _ | a
                              · rw [show nI 0 + (-1) = -1 from by decide]
                                refine g_iload hC dX5_copy_203 0 rfl ?_
                                refine g_if_lt hC dX5_copy_205 (tgt := 245) (by decide) (fun c_205 => ?_) (fun c_205 => ?_)
                                · have hz3 : z = foldD (cpS c1 c2 c3 c4) σ c5 := hz2
                                  refine g_goto (tgt := 295) hC dX5_copy_245 (by decide) ?_
                                  refine g_iconst (v := 1) hC dX5_copy_295 rfl ?_
                                  refine g_iret hC hr rfl ⟨_, rfl, ?_⟩ (by omega) (by omega) hE dX5_copy_296
                                  have h9 : copyF σ (nI c1) (nI c2) (nI c3) (nI c4) (nI c5) = (1, z) := by
                                    simp [copyF, c_7, cl_c1, c7, c_17, cl_c2, c17, k98, c_104, c_113, c_125, cl_c5, c_136, c_141, c_158, c_176, f1, f2, q3, q4, q5, c_194, c_205, hz3]
                                    rw [if_pos c_188]
                                  exact ⟨by rw [h9], by rw [h9], rfl, rfl⟩
                                · first | exact absurd c_205 (by decide) | exact absurd c_205 (by omega)
                              · rw [nI_pm]
                                refine g_iload hC dX5_copy_203 0 rfl ?_
                                refine g_if_ltN hC a (by omega) dX5_copy_205 (tgt := 245) (by decide) (fun c_205 => ?_) (fun c_205 => ?_)
                                · exact absurd c_205 (by omega)
                                · refine g_aload_n hC dX5_copy_208 rfl 1 rfl ?_
                                  refine m_get (v := .ref (m0 + 5)) hC 8 (by decide) q3529 rfl dX5_copy_209 ?_
                                  refine g_sipush (v := 160) hC dX5_copy_212 (by decide) ?_
                                  refine g_iload_n hC dX5_copy_215 rfl 3 rfl ?_
                                  refine g_imulN hC 160 c2 dX5_copy_216 ?_
                                  refine g_iload hC dX5_copy_217 5 rfl ?_
                                  refine g_iaddN hC (160 * c2) c4 dX5_copy_219 ?_
                                  refine g_iload hC dX5_copy_220 0 rfl ?_
                                  refine g_iaddN hC ((160 * c2) + c4) a dX5_copy_222 ?_
                                  refine g_aload_n hC dX5_copy_223 rfl 1 rfl ?_
                                  refine m_get (v := .ref (m0 + 5)) hC 8 (by decide) q3529 rfl dX5_copy_224 ?_
                                  refine g_sipush (v := 160) hC dX5_copy_227 (by decide) ?_
                                  refine g_iload_n hC dX5_copy_230 rfl 2 rfl ?_
                                  refine g_imulN hC 160 c1 dX5_copy_231 ?_
                                  refine g_iload_n hC dX5_copy_232 rfl 4 rfl ?_
                                  refine g_iaddN hC (160 * c1) c3 dX5_copy_233 ?_
                                  refine g_iload hC dX5_copy_234 0 rfl ?_
                                  refine g_iaddN hC ((160 * c1) + c3) a dX5_copy_236 ?_
                                  refine m_lald (v := z.2 (((160 * c1) + c3) + a)) hC (((160 * c1) + c3) + a) (by omega) rfl dX5_copy_237 ?_
                                  refine m_last hC (((160 * c2) + c4) + a) (by omega) hz dX5_copy_238 ?_
                                  refine g_iinc (v := (nI a) + (-1)) (L' := [(6, .int ((nI a) + (-1))), (0, .ref m0), (1, .int (nI c1)), (2, .int (nI c2)), (3, .int (nI c3)), (4, .int (nI c4)), (5, .int (nI c5))]) hC dX5_copy_239 (k := 0) rfl rfl (by decide) rfl ?_
                                  refine g_goto (tgt := 203) hC dX5_copy_242 (by decide) ?_
                                  exact ih_d (mw z (((160 * c2) + c4) + a) (z.2 (((160 * c1) + c3) + a))) a (hz2) (by omega) (by omega)
                          exact hl_203 (c5 + 1) σ c5 (rfl) (by omega) (by omega)
                    · exact hj_179 (by have := @Int32.not_le; simp [fitF, c_7, cl_c1, c7, c_17, cl_c2, c17, k98, c_104, c_113, c_125, cl_c5, c_136, c_141, c_158, c_176])
            · refine g_aload_n hC dX5_copy_128 rfl 0 rfl ?_
              refine g_bipush (v := (-4)) hC dX5_copy_129 (by decide) ?_
              refine g_calli0 hC (g_runV hC (met_X5_no hz 4 (by omega)) kc_X5 mG_o (lw_V q3640 q3642 qs37 q89 q3643) rfl md_X5_no dX5_copy_131 rfl ⟨by omega, by omega⟩ (by omega) (by omega) rfl (Nat.le_of_ble_eq_true rfl)) (fun r_7 G_7 n_7 u_7 hp_7 hn_7 hm_7 hu_7 => ?_)
              obtain ⟨rfl, rfl, rfl, rfl⟩ := hp_7
              refine g_iret hC hr rfl ⟨_, rfl, ?_⟩ (by omega) (by omega) hE dX5_copy_134
              have h9 : copyF σ (nI c1) (nI c2) i_ j_ n_ = (-(nI 4), mNo σ 4) := by
                first | (simp [copyF, c_7, cl_c1, c7, c_17, cl_c2, c17, k98, c_104, c_113, c_125]; done) | (simp [copyF, c_7, cl_c1, c7, c_17, cl_c2, c17, k98, c_104, c_113, c_125]; rfl)
              exact ⟨by rw [h9], by rw [h9], rfl, rfl⟩
          · refine g_aload_n hC dX5_copy_116 rfl 0 rfl ?_
            refine g_bipush (v := (-3)) hC dX5_copy_117 (by decide) ?_
            refine g_calli0 hC (g_runV hC (met_X5_no hz 3 (by omega)) kc_X5 mG_o (lw_V q3640 q3642 qs37 q89 q3643) rfl md_X5_no dX5_copy_119 rfl ⟨by omega, by omega⟩ (by omega) (by omega) rfl (Nat.le_of_ble_eq_true rfl)) (fun r_8 G_8 n_8 u_8 hp_8 hn_8 hm_8 hu_8 => ?_)
            obtain ⟨rfl, rfl, rfl, rfl⟩ := hp_8
            refine g_iret hC hr rfl ⟨_, rfl, ?_⟩ (by omega) (by omega) hE dX5_copy_122
            have h9 : copyF σ (nI c1) (nI c2) i_ j_ n_ = (-(nI 3), mNo σ 3) := by
              first | (simp [copyF, c_7, cl_c1, c7, c_17, cl_c2, c17, k98, c_104, c_113]; done) | (simp [copyF, c_7, cl_c1, c7, c_17, cl_c2, c17, k98, c_104, c_113]; rfl)
            exact ⟨by rw [h9], by rw [h9], rfl, rfl⟩
      refine g_aload_n hC dX5_copy_26 rfl 0 rfl ?_
      refine m_get (v := .ref (m0 + 3)) hC 6 (by decide) q3527 rfl dX5_copy_27 ?_
      refine g_iload_n hC dX5_copy_30 rfl 1 rfl ?_
      refine m_ald (v := σ.1 6 c1) hC 6 c1 rfl (show c1 < 8 from by omega) (by omega) rfl dX5_copy_31 ?_
      refine g_if_lt hC dX5_copy_32 (tgt := 43) (by decide) (fun c_32 => ?_) (fun c_32 => ?_)
      · refine g_aload_n hC dX5_copy_43 rfl 0 rfl ?_
        refine m_get (v := .ref (m0 + 3)) hC 6 (by decide) q3527 rfl dX5_copy_44 ?_
        refine g_iload_n hC dX5_copy_47 rfl 2 rfl ?_
        refine m_ald (v := σ.1 6 c2) hC 6 c2 rfl (show c2 < 8 from by omega) (by omega) rfl dX5_copy_48 ?_
        refine g_if_lt hC dX5_copy_49 (tgt := 60) (by decide) (fun c_49 => ?_) (fun c_49 => ?_)
        · refine g_aload_n hC dX5_copy_60 rfl 0 rfl ?_
          refine g_iload_n hC dX5_copy_61 rfl 1 rfl ?_
          refine g_calli0 hC (g_runV hC (met_X5_isRow hz c1 (by omega)) kc_X5 mG_o (lw_V q3652 q3654 qs39 q89 q3655) rfl md_X5_isRow dX5_copy_62 rfl ⟨by omega, by omega⟩ (by omega) (by omega) rfl (Nat.le_of_ble_eq_true rfl)) (fun r_9 G_9 n_9 u_9 hp_9 hn_9 hm_9 hu_9 => ?_)
          obtain ⟨rfl, rfl, rfl, rfl⟩ := hp_9
          refine g_if_eqB hC (rwF σ  c1) dX5_copy_65 (tgt := 98) (by decide) (fun c_65 => ?_) (fun c_65 => ?_)
          · exact hj_98 (by first | (simp [cp2, c_7, cl_c1, c7, c_17, cl_c2, c17, c_32, c_49, c_65]; done) | (exfalso; have z1 := @rw_neg σ c1; have z2 := @rw_neg σ c2; simp_all))
          · refine g_aload_n hC dX5_copy_68 rfl 0 rfl ?_
            refine g_iload_n hC dX5_copy_69 rfl 2 rfl ?_
            refine g_calli0 hC (g_runV hC (met_X5_isRow hz c2 (by omega)) kc_X5 mG_o (lw_V q3652 q3654 qs39 q89 q3655) rfl md_X5_isRow dX5_copy_70 rfl ⟨by omega, by omega⟩ (by omega) (by omega) rfl (Nat.le_of_ble_eq_true rfl)) (fun r_10 G_10 n_10 u_10 hp_10 hn_10 hm_10 hu_10 => ?_)
            obtain ⟨rfl, rfl, rfl, rfl⟩ := hp_10
            refine g_if_eqB hC (rwF σ  c2) dX5_copy_73 (tgt := 98) (by decide) (fun c_73 => ?_) (fun c_73 => ?_)
            · exact hj_98 (by first | (simp [cp2, c_7, cl_c1, c7, c_17, cl_c2, c17, c_32, c_49, c_65, c_73]; done) | (exfalso; have z1 := @rw_neg σ c1; have z2 := @rw_neg σ c2; simp_all))
            · refine g_aload_n hC dX5_copy_76 rfl 0 rfl ?_
              refine m_get (v := .ref (m0 + 3)) hC 6 (by decide) q3527 rfl dX5_copy_77 ?_
              refine g_iload_n hC dX5_copy_80 rfl 1 rfl ?_
              refine m_ald (v := σ.1 6 c1) hC 6 c1 rfl (show c1 < 8 from by omega) (by omega) rfl dX5_copy_81 ?_
              refine g_aload_n hC dX5_copy_82 rfl 0 rfl ?_
              refine m_get (v := .ref (m0 + 3)) hC 6 (by decide) q3527 rfl dX5_copy_83 ?_
              refine g_iload_n hC dX5_copy_86 rfl 2 rfl ?_
              refine m_ald (v := σ.1 6 c2) hC 6 c2 rfl (show c2 < 8 from by omega) (by omega) rfl dX5_copy_87 ?_
              refine g_icmp_eq hC dX5_copy_88 (tgt := 98) (by decide) (fun c_88 => ?_) (fun c_88 => ?_)
              · exact hj_98 (by first | (simp [cp2, c_7, cl_c1, c7, c_17, cl_c2, c17, c_32, c_49, c_65, c_73, c_88]; done) | (exfalso; have z1 := @rw_neg σ c1; have z2 := @rw_neg σ c2; simp_all))
              · exact hj_91 (by first | (simp [cp2, c_7, cl_c1, c7, c_17, cl_c2, c17, c_32, c_49, c_65, c_73, c_88]; done) | (exfalso; have z1 := @rw_neg σ c1; have z2 := @rw_neg σ c2; simp_all))
        · refine g_aload_n hC dX5_copy_52 rfl 0 rfl ?_
          refine g_iload_n hC dX5_copy_53 rfl 2 rfl ?_
          refine g_calli0 hC (g_runV hC (met_X5_isRow hz c2 (by omega)) kc_X5 mG_o (lw_V q3652 q3654 qs39 q89 q3655) rfl md_X5_isRow dX5_copy_54 rfl ⟨by omega, by omega⟩ (by omega) (by omega) rfl (Nat.le_of_ble_eq_true rfl)) (fun r_11 G_11 n_11 u_11 hp_11 hn_11 hm_11 hu_11 => ?_)
          obtain ⟨rfl, rfl, rfl, rfl⟩ := hp_11
          refine g_if_eqB hC (rwF σ  c2) dX5_copy_57 (tgt := 91) (by decide) (fun c_57 => ?_) (fun c_57 => ?_)
          · exact hj_91 (by first | (simp [cp2, c_7, cl_c1, c7, c_17, cl_c2, c17, c_32, c_49, c_57]; done) | (exfalso; have z1 := @rw_neg σ c1; have z2 := @rw_neg σ c2; simp_all))
          · refine g_aload_n hC dX5_copy_60 rfl 0 rfl ?_
            refine g_iload_n hC dX5_copy_61 rfl 1 rfl ?_
            refine g_calli0 hC (g_runV hC (met_X5_isRow hz c1 (by omega)) kc_X5 mG_o (lw_V q3652 q3654 qs39 q89 q3655) rfl md_X5_isRow dX5_copy_62 rfl ⟨by omega, by omega⟩ (by omega) (by omega) rfl (Nat.le_of_ble_eq_true rfl)) (fun r_12 G_12 n_12 u_12 hp_12 hn_12 hm_12 hu_12 => ?_)
            obtain ⟨rfl, rfl, rfl, rfl⟩ := hp_12
            refine g_if_eqB hC (rwF σ  c1) dX5_copy_65 (tgt := 98) (by decide) (fun c_65 => ?_) (fun c_65 => ?_)
            · exact hj_98 (by first | (simp [cp2, c_7, cl_c1, c7, c_17, cl_c2, c17, c_32, c_49, c_57, c_65]; done) | (exfalso; have z1 := @rw_neg σ c1; have z2 := @rw_neg σ c2; simp_all))
            · refine g_aload_n hC dX5_copy_68 rfl 0 rfl ?_
              refine g_iload_n hC dX5_copy_69 rfl 2 rfl ?_
              refine g_calli0 hC (g_runV hC (met_X5_isRow hz c2 (by omega)) kc_X5 mG_o (lw_V q3652 q3654 qs39 q89 q3655) rfl md_X5_isRow dX5_copy_70 rfl ⟨by omega, by omega⟩ (by omega) (by omega) rfl (Nat.le_of_ble_eq_true rfl)) (fun r_13 G_13 n_13 u_13 hp_13 hn_13 hm_13 hu_13 => ?_)
              obtain ⟨rfl, rfl, rfl, rfl⟩ := hp_13
              refine g_if_eqB hC (rwF σ  c2) dX5_copy_73 (tgt := 98) (by decide) (fun c_73 => ?_) (fun c_73 => ?_)
              · exact Bool.noConfusion (c_57.symm.trans c_73)
              · refine g_aload_n hC dX5_copy_76 rfl 0 rfl ?_
                refine m_get (v := .ref (m0 + 3)) hC 6 (by decide) q3527 rfl dX5_copy_77 ?_
                refine g_iload_n hC dX5_copy_80 rfl 1 rfl ?_
                refine m_ald (v := σ.1 6 c1) hC 6 c1 rfl (show c1 < 8 from by omega) (by omega) rfl dX5_copy_81 ?_
                refine g_aload_n hC dX5_copy_82 rfl 0 rfl ?_
                refine m_get (v := .ref (m0 + 3)) hC 6 (by decide) q3527 rfl dX5_copy_83 ?_
                refine g_iload_n hC dX5_copy_86 rfl 2 rfl ?_
                refine m_ald (v := σ.1 6 c2) hC 6 c2 rfl (show c2 < 8 from by omega) (by omega) rfl dX5_copy_87 ?_
                refine g_icmp_eq hC dX5_copy_88 (tgt := 98) (by decide) (fun c_88 => ?_) (fun c_88 => ?_)
                · exact hj_98 (by first | (simp [cp2, c_7, cl_c1, c7, c_17, cl_c2, c17, c_32, c_49, c_57, c_65, c_73, c_88]; done) | (exfalso; have z1 := @rw_neg σ c1; have z2 := @rw_neg σ c2; simp_all))
                · exact hj_91 (by first | (simp [cp2, c_7, cl_c1, c7, c_17, cl_c2, c17, c_32, c_49, c_57, c_65, c_73, c_88]; done) | (exfalso; have z1 := @rw_neg σ c1; have z2 := @rw_neg σ c2; simp_all))
      · refine g_aload_n hC dX5_copy_35 rfl 0 rfl ?_
        refine g_iload_n hC dX5_copy_36 rfl 1 rfl ?_
        refine g_calli0 hC (g_runV hC (met_X5_isRow hz c1 (by omega)) kc_X5 mG_o (lw_V q3652 q3654 qs39 q89 q3655) rfl md_X5_isRow dX5_copy_37 rfl ⟨by omega, by omega⟩ (by omega) (by omega) rfl (Nat.le_of_ble_eq_true rfl)) (fun r_14 G_14 n_14 u_14 hp_14 hn_14 hm_14 hu_14 => ?_)
        obtain ⟨rfl, rfl, rfl, rfl⟩ := hp_14
        refine g_if_eqB hC (rwF σ  c1) dX5_copy_40 (tgt := 91) (by decide) (fun c_40 => ?_) (fun c_40 => ?_)
        · exact hj_91 (by first | (simp [cp2, c_7, cl_c1, c7, c_17, cl_c2, c17, c_32, c_40]; done) | (exfalso; have z1 := @rw_neg σ c1; have z2 := @rw_neg σ c2; simp_all))
        · refine g_aload_n hC dX5_copy_43 rfl 0 rfl ?_
          refine m_get (v := .ref (m0 + 3)) hC 6 (by decide) q3527 rfl dX5_copy_44 ?_
          refine g_iload_n hC dX5_copy_47 rfl 2 rfl ?_
          refine m_ald (v := σ.1 6 c2) hC 6 c2 rfl (show c2 < 8 from by omega) (by omega) rfl dX5_copy_48 ?_
          refine g_if_lt hC dX5_copy_49 (tgt := 60) (by decide) (fun c_49 => ?_) (fun c_49 => ?_)
          · refine g_aload_n hC dX5_copy_60 rfl 0 rfl ?_
            refine g_iload_n hC dX5_copy_61 rfl 1 rfl ?_
            refine g_calli0 hC (g_runV hC (met_X5_isRow hz c1 (by omega)) kc_X5 mG_o (lw_V q3652 q3654 qs39 q89 q3655) rfl md_X5_isRow dX5_copy_62 rfl ⟨by omega, by omega⟩ (by omega) (by omega) rfl (Nat.le_of_ble_eq_true rfl)) (fun r_15 G_15 n_15 u_15 hp_15 hn_15 hm_15 hu_15 => ?_)
            obtain ⟨rfl, rfl, rfl, rfl⟩ := hp_15
            refine g_if_eqB hC (rwF σ  c1) dX5_copy_65 (tgt := 98) (by decide) (fun c_65 => ?_) (fun c_65 => ?_)
            · exact Bool.noConfusion (c_40.symm.trans c_65)
            · refine g_aload_n hC dX5_copy_68 rfl 0 rfl ?_
              refine g_iload_n hC dX5_copy_69 rfl 2 rfl ?_
              refine g_calli0 hC (g_runV hC (met_X5_isRow hz c2 (by omega)) kc_X5 mG_o (lw_V q3652 q3654 qs39 q89 q3655) rfl md_X5_isRow dX5_copy_70 rfl ⟨by omega, by omega⟩ (by omega) (by omega) rfl (Nat.le_of_ble_eq_true rfl)) (fun r_16 G_16 n_16 u_16 hp_16 hn_16 hm_16 hu_16 => ?_)
              obtain ⟨rfl, rfl, rfl, rfl⟩ := hp_16
              refine g_if_eqB hC (rwF σ  c2) dX5_copy_73 (tgt := 98) (by decide) (fun c_73 => ?_) (fun c_73 => ?_)
              · exact hj_98 (by first | (simp [cp2, c_7, cl_c1, c7, c_17, cl_c2, c17, c_32, c_40, c_49, c_65, c_73]; done) | (exfalso; have z1 := @rw_neg σ c1; have z2 := @rw_neg σ c2; simp_all))
              · refine g_aload_n hC dX5_copy_76 rfl 0 rfl ?_
                refine m_get (v := .ref (m0 + 3)) hC 6 (by decide) q3527 rfl dX5_copy_77 ?_
                refine g_iload_n hC dX5_copy_80 rfl 1 rfl ?_
                refine m_ald (v := σ.1 6 c1) hC 6 c1 rfl (show c1 < 8 from by omega) (by omega) rfl dX5_copy_81 ?_
                refine g_aload_n hC dX5_copy_82 rfl 0 rfl ?_
                refine m_get (v := .ref (m0 + 3)) hC 6 (by decide) q3527 rfl dX5_copy_83 ?_
                refine g_iload_n hC dX5_copy_86 rfl 2 rfl ?_
                refine m_ald (v := σ.1 6 c2) hC 6 c2 rfl (show c2 < 8 from by omega) (by omega) rfl dX5_copy_87 ?_
                refine g_icmp_eq hC dX5_copy_88 (tgt := 98) (by decide) (fun c_88 => ?_) (fun c_88 => ?_)
                · exact hj_98 (by first | (simp [cp2, c_7, cl_c1, c7, c_17, cl_c2, c17, c_32, c_40, c_49, c_65, c_73, c_88]; done) | (exfalso; have z1 := @rw_neg σ c1; have z2 := @rw_neg σ c2; simp_all))
                · exact hj_91 (by first | (simp [cp2, c_7, cl_c1, c7, c_17, cl_c2, c17, c_32, c_40, c_49, c_65, c_73, c_88]; done) | (exfalso; have z1 := @rw_neg σ c1; have z2 := @rw_neg σ c2; simp_all))
          · refine g_aload_n hC dX5_copy_52 rfl 0 rfl ?_
            refine g_iload_n hC dX5_copy_53 rfl 2 rfl ?_
            refine g_calli0 hC (g_runV hC (met_X5_isRow hz c2 (by omega)) kc_X5 mG_o (lw_V q3652 q3654 qs39 q89 q3655) rfl md_X5_isRow dX5_copy_54 rfl ⟨by omega, by omega⟩ (by omega) (by omega) rfl (Nat.le_of_ble_eq_true rfl)) (fun r_17 G_17 n_17 u_17 hp_17 hn_17 hm_17 hu_17 => ?_)
            obtain ⟨rfl, rfl, rfl, rfl⟩ := hp_17
            refine g_if_eqB hC (rwF σ  c2) dX5_copy_57 (tgt := 91) (by decide) (fun c_57 => ?_) (fun c_57 => ?_)
            · exact hj_91 (by first | (simp [cp2, c_7, cl_c1, c7, c_17, cl_c2, c17, c_32, c_40, c_49, c_57]; done) | (exfalso; have z1 := @rw_neg σ c1; have z2 := @rw_neg σ c2; simp_all))
            · refine g_aload_n hC dX5_copy_60 rfl 0 rfl ?_
              refine g_iload_n hC dX5_copy_61 rfl 1 rfl ?_
              refine g_calli0 hC (g_runV hC (met_X5_isRow hz c1 (by omega)) kc_X5 mG_o (lw_V q3652 q3654 qs39 q89 q3655) rfl md_X5_isRow dX5_copy_62 rfl ⟨by omega, by omega⟩ (by omega) (by omega) rfl (Nat.le_of_ble_eq_true rfl)) (fun r_18 G_18 n_18 u_18 hp_18 hn_18 hm_18 hu_18 => ?_)
              obtain ⟨rfl, rfl, rfl, rfl⟩ := hp_18
              refine g_if_eqB hC (rwF σ  c1) dX5_copy_65 (tgt := 98) (by decide) (fun c_65 => ?_) (fun c_65 => ?_)
              · exact Bool.noConfusion (c_40.symm.trans c_65)
              · refine g_aload_n hC dX5_copy_68 rfl 0 rfl ?_
                refine g_iload_n hC dX5_copy_69 rfl 2 rfl ?_
                refine g_calli0 hC (g_runV hC (met_X5_isRow hz c2 (by omega)) kc_X5 mG_o (lw_V q3652 q3654 qs39 q89 q3655) rfl md_X5_isRow dX5_copy_70 rfl ⟨by omega, by omega⟩ (by omega) (by omega) rfl (Nat.le_of_ble_eq_true rfl)) (fun r_19 G_19 n_19 u_19 hp_19 hn_19 hm_19 hu_19 => ?_)
                obtain ⟨rfl, rfl, rfl, rfl⟩ := hp_19
                refine g_if_eqB hC (rwF σ  c2) dX5_copy_73 (tgt := 98) (by decide) (fun c_73 => ?_) (fun c_73 => ?_)
                · exact Bool.noConfusion (c_57.symm.trans c_73)
                · refine g_aload_n hC dX5_copy_76 rfl 0 rfl ?_
                  refine m_get (v := .ref (m0 + 3)) hC 6 (by decide) q3527 rfl dX5_copy_77 ?_
                  refine g_iload_n hC dX5_copy_80 rfl 1 rfl ?_
                  refine m_ald (v := σ.1 6 c1) hC 6 c1 rfl (show c1 < 8 from by omega) (by omega) rfl dX5_copy_81 ?_
                  refine g_aload_n hC dX5_copy_82 rfl 0 rfl ?_
                  refine m_get (v := .ref (m0 + 3)) hC 6 (by decide) q3527 rfl dX5_copy_83 ?_
                  refine g_iload_n hC dX5_copy_86 rfl 2 rfl ?_
                  refine m_ald (v := σ.1 6 c2) hC 6 c2 rfl (show c2 < 8 from by omega) (by omega) rfl dX5_copy_87 ?_
                  refine g_icmp_eq hC dX5_copy_88 (tgt := 98) (by decide) (fun c_88 => ?_) (fun c_88 => ?_)
                  · exact hj_98 (by first | (simp [cp2, c_7, cl_c1, c7, c_17, cl_c2, c17, c_32, c_40, c_49, c_57, c_65, c_73, c_88]; done) | (exfalso; have z1 := @rw_neg σ c1; have z2 := @rw_neg σ c2; simp_all))
                  · exact hj_91 (by first | (simp [cp2, c_7, cl_c1, c7, c_17, cl_c2, c17, c_32, c_40, c_49, c_57, c_65, c_73, c_88]; done) | (exfalso; have z1 := @rw_neg σ c1; have z2 := @rw_neg σ c2; simp_all))
    · refine g_aload_n hC dX5_copy_20 rfl 0 rfl ?_
      refine g_iconst (v := (-1)) hC dX5_copy_21 rfl ?_
      refine g_calli0 hC (g_runV hC (met_X5_no hz 1 (by omega)) kc_X5 mG_o (lw_V q3640 q3642 qs37 q89 q3643) rfl md_X5_no dX5_copy_22 rfl ⟨by omega, by omega⟩ (by omega) (by omega) rfl (Nat.le_of_ble_eq_true rfl)) (fun r_20 G_20 n_20 u_20 hp_20 hn_20 hm_20 hu_20 => ?_)
      obtain ⟨rfl, rfl, rfl, rfl⟩ := hp_20
      refine g_iret hC hr rfl ⟨_, rfl, ?_⟩ (by omega) (by omega) hE dX5_copy_25
      have h9 : copyF σ (nI c1) q_ i_ j_ n_ = (-(nI 1), mNo σ 1) := by
        first | (simp [copyF, c_7, cl_c1, c7, c_17]; done) | (simp [copyF, c_7, cl_c1, c7, c_17]; rfl)
      exact ⟨by rw [h9], by rw [h9], rfl, rfl⟩
