set_option maxRecDepth 100000
/-! THE MODEL, 16: what it reads -/
theorem mu_mu {σ : MS} {k i : Nat} {x y : Int32} : mu (mu σ k i x) k i y = mu σ k i y := by
  refine Prod.ext (funext fun a => funext fun b => ?_) rfl
  show (if a = k ∧ b = i then y else if a = k ∧ b = i then x else σ.1 a b) = if a = k ∧ b = i then y else σ.1 a b
  split <;> rfl
theorem mu_com {σ : MS} {k i k' i' : Nat} {x y : Int32} (h : k ≠ k') : mu (mu σ k i x) k' i' y = mu (mu σ k' i' y) k i x := by
  refine Prod.ext (funext fun a => funext fun b => ?_) rfl
  show (if a = k' ∧ b = i' then y else if a = k ∧ b = i then x else σ.1 a b) = if a = k ∧ b = i then x else if a = k' ∧ b = i' then y else σ.1 a b
  by_cases h1 : a = k' ∧ b = i'
  · rw [if_pos h1, if_neg (fun q => h (q.1.symm.trans h1.1)), if_pos h1]
  · rw [if_neg h1, if_neg h1]
theorem mu_eq {σ : MS} {k i : Nat} {x : Int32} (h : σ.1 k i = x) : mu σ k i x = σ := by
  refine Prod.ext (funext fun a => funext fun b => ?_) rfl
  show (if a = k ∧ b = i then x else σ.1 a b) = σ.1 a b
  split
  · rename_i q; rw [q.1, q.2, h]
  · rfl
def txF (v : Nat → Int64) (j L a : Nat) : Int32 := if a < L then (v (160 * j + a)).toInt32 else -1
def at_ (σ : MS) (a : Nat) : MS := mu σ 11 0 (nI a)
theorem at_at {σ : MS} {a b : Nat} : at_ (at_ σ a) b = at_ σ b := mu_mu
abbrev RD (σ : MS) (j L a : Nat) (t : Nat → Int32) : Prop :=
  (σ.1 10 0 = nI j) ∧
  (σ.1 7 j = nI L) ∧
  (σ.1 11 0 = nI a) ∧
  (j < 8) ∧
  (L ≤ 160) ∧
  (a ≤ L) ∧
  (txF σ.2 j L = t)
theorem RD.h10 {σ : MS} {j L a : Nat} {t : Nat → Int32} (h : RD σ j L a t) : σ.1 10 0 = nI j := h.1
theorem RD.h7 {σ : MS} {j L a : Nat} {t : Nat → Int32} (h : RD σ j L a t) : σ.1 7 j = nI L := h.2.1
theorem RD.h11 {σ : MS} {j L a : Nat} {t : Nat → Int32} (h : RD σ j L a t) : σ.1 11 0 = nI a := h.2.2.1
theorem RD.hj {σ : MS} {j L a : Nat} {t : Nat → Int32} (h : RD σ j L a t) : j < 8 := h.2.2.2.1
theorem RD.hL {σ : MS} {j L a : Nat} {t : Nat → Int32} (h : RD σ j L a t) : L ≤ 160 := h.2.2.2.2.1
theorem RD.ha {σ : MS} {j L a : Nat} {t : Nat → Int32} (h : RD σ j L a t) : a ≤ L := h.2.2.2.2.2.1
theorem RD.ht {σ : MS} {j L a : Nat} {t : Nat → Int32} (h : RD σ j L a t) : txF σ.2 j L = t := h.2.2.2.2.2.2
theorem RD.mv {σ : MS} {j L a b : Nat} {t : Nat → Int32} (h : RD σ j L a t) (hb : b ≤ L) : RD (at_ σ b) j L b t :=
  ⟨(mu_nk (by decide)).trans h.h10, (mu_nk (by decide)).trans h.h7, mu_hit, h.hj, h.hL, hb, h.ht⟩
theorem RD.put {σ : MS} {j L a k i : Nat} {x : Int32} {t : Nat → Int32} (h : RD σ j L a t) (h1 : k ≠ 7) (h2 : k ≠ 10) (h3 : k ≠ 11) : RD (mu σ k i x) j L a t :=
  ⟨(mu_nk (Ne.symm h2)).trans h.h10, (mu_nk (Ne.symm h1)).trans h.h7, (mu_nk (Ne.symm h3)).trans h.h11, h.hj, h.hL, h.ha, h.ht⟩
theorem RD.lt {σ : MS} {j L a : Nat} {t : Nat → Int32} (h : RD σ j L a t) (hn : t a ≠ -1) : a < L := by
  refine Nat.lt_of_not_le (fun q => hn ?_)
  rw [← h.ht]; exact if_neg (by omega)
theorem RD.eq {σ : MS} {j L a : Nat} {t : Nat → Int32} (h : RD σ j L a t) : Eq (at_ σ a) σ := mu_eq h.h11
def dgK (t : Nat → Int32) (a : Nat) (b : Int32) : Bool := wi (t a) 48 57 && decide (¬ b < t a - 48)
def nmL (t : Nat → Int32) : Nat → Nat → Nat → Nat × Nat
  | 0, v, a => (v, a)
  | f + 1, v, a => if wi (t a) 97 122 = true then nmL t f (27 * v + (t a).toNatClampNeg - 97 + 1) (a + 1) else (v, a)
def nmP (t : Nat → Int32) (a : Nat) (has : Int32 → Bool) : Nat × Nat :=
  if (nmL t 4 0 a).2 = a ∨ ¬ t (nmL t 4 0 a).2 = 32 then (0, (nmL t 4 0 a).2) else if has (nI (nmL t 4 0 a).1) = true then (0, a) else ((nmL t 4 0 a).1, (nmL t 4 0 a).2 + 1)
theorem wi_ne {x : Int32} {a b : Nat} (ha : a < 2 ^ 31) (hb : b < 2 ^ 31) (h : wi x (nI a) (nI b) = true) : x ≠ -1 := by
  obtain ⟨j, _, _, rfl⟩ := wi_rg ha hb h
  exact nI_m1 (by omega)
theorem nI_sub {a b : Nat} (h : b ≤ a) : nI a - nI b = nI (a - b) := by
  obtain ⟨d, rfl⟩ := Nat.le.dest h
  rw [Nat.add_sub_cancel_left, show nI (b + d) = nI b + nI d from (nI_add b d).symm, Int32.add_comm, Int32.add_sub_cancel]
theorem dg_ne {x : Int32} (h : wi x 48 57 = true) : ¬ x - 48 = -1 := by
  obtain ⟨j, h1, h2, rfl⟩ := wi_rg (a := 48) (b := 57) (by decide) (by decide) h
  rw [show (48 : Int32) = nI 48 from rfl, nI_sub h1]
  exact nI_m1 (by omega)
set_option maxHeartbeats 1000000 in
theorem met_X5_sign {Y : YT} {l : Launch} {m0 n u : Nat} {σ : MS} {B : AH} (hz : yz Y ≤ m0)  {j L a : Nat} {t : Nat → Int32} (hrd : RD σ j L a t) : GM Y l yX5_sign (ws_ yX5_sign cX5_sign 1 (some FieldType.int)) 0 0 [.ref m0] (mG Y m0 σ B) n u 0 0 (pI (fun r G' n' u' => t a = r ∧ mG Y m0 σ B = G' ∧ n = n' ∧ u = u')) noX := by
  refine GM.intro (own := RX5) rfl (by decide +kernel) (Nat.le_of_ble_eq_true rfl) ?_
  intro p e s m args below meth c R Q hC hr hnm hF hL hE
  have hE1 := hE.1
  have hE2 := hE.2.1
  show V Y p l e R s m args below meth c 1 n u (mG Y m0 σ B) n u Q 0 [(0, .ref m0)] []
  have hj := hrd.hj
  have hL := hrd.hL
  have ha := hrd.ha
  refine g_aload_n hC dX5_sign_0 rfl 0 rfl ?_
  refine m_get (v := .int (nI a)) hC 11 (by decide) q3532 (congrArg (fun z => some (Value.int z)) hrd.h11) dX5_sign_1 ?_
  refine g_aload_n hC dX5_sign_4 rfl 0 rfl ?_
  refine m_get (v := .ref (m0 + 4)) hC 7 (by decide) q3528 rfl dX5_sign_5 ?_
  refine g_aload_n hC dX5_sign_8 rfl 0 rfl ?_
  refine m_get (v := .int (nI j)) hC 10 (by decide) q3531 (congrArg (fun z => some (Value.int z)) hrd.h10) dX5_sign_9 ?_
  refine m_ald (v := nI L) hC 7 j rfl (show j < 8 from by omega) (by omega) hrd.h7 dX5_sign_12 ?_
  refine g_icmp_geN hC a L (by omega) (by omega) dX5_sign_13 (tgt := 38) (by decide) (fun c_13 => ?_) (fun c_13 => ?_)
  · refine g_iconst (v := (-1)) hC dX5_sign_38 rfl ?_
    refine g_iret hC hr rfl ⟨_, rfl, ?_⟩ (by omega) (by omega) hE dX5_sign_39
    exact ⟨by rw [← hrd.ht]; exact if_neg (by omega), rfl, rfl, rfl⟩
  · refine g_aload_n hC dX5_sign_16 rfl 0 rfl ?_
    refine m_get (v := .ref (m0 + 5)) hC 8 (by decide) q3529 rfl dX5_sign_17 ?_
    refine g_sipush (v := 160) hC dX5_sign_20 (by decide) ?_
    refine g_aload_n hC dX5_sign_23 rfl 0 rfl ?_
    refine m_get (v := .int (nI j)) hC 10 (by decide) q3531 (congrArg (fun z => some (Value.int z)) hrd.h10) dX5_sign_24 ?_
    refine g_imulN hC 160 j dX5_sign_27 ?_
    refine g_aload_n hC dX5_sign_28 rfl 0 rfl ?_
    refine m_get (v := .int (nI a)) hC 11 (by decide) q3532 (congrArg (fun z => some (Value.int z)) hrd.h11) dX5_sign_29 ?_
    refine g_iaddN hC (160 * j) a dX5_sign_32 ?_
    refine m_lald (v := σ.2 ((160 * j) + a)) hC ((160 * j) + a) (by omega) rfl dX5_sign_33 ?_
    refine g_l2i (v := (σ.2 ((160 * j) + a)).toInt32) hC dX5_sign_34 rfl ?_
    refine g_goto (tgt := 39) hC dX5_sign_35 (by decide) ?_
    refine g_iret hC hr rfl ⟨_, rfl, ?_⟩ (by omega) (by omega) hE dX5_sign_39
    exact ⟨by rw [← hrd.ht]; exact if_pos c_13, rfl, rfl, rfl⟩
set_option maxHeartbeats 1000000 in
theorem met_X5_is {Y : YT} {l : Launch} {m0 n u : Nat} {σ : MS} {B : AH} (hz : yz Y ≤ m0) (x_ : Int32) {j L a : Nat} {t : Nat → Int32} (hrd : RD σ j L a t) (hx : x_ ≠ -1) : GM Y l yX5_is (ws_ yX5_is cX5_is 2 (some FieldType.boolean)) 1 20 [.ref m0, .int x_] (mG Y m0 σ B) n u 0 0 (pI (fun r G' n' u' => b2i (decide (t a = x_)) = r ∧ mG Y m0 (if t a = x_ then at_ σ (a + 1) else σ) B = G' ∧ n = n' ∧ u = u')) noX := by
  refine GM.intro (own := RX5) rfl (by decide +kernel) (Nat.le_of_ble_eq_true rfl) ?_
  intro p e s m args below meth c R Q hC hr hnm hF hL hE
  have hE1 := hE.1
  have hE2 := hE.2.1
  show V Y p l e R s m args below meth c 2 n u (mG Y m0 σ B) n u Q 0 [(0, .ref m0), (1, .int x_)] []
  refine g_aload_n hC dX5_is_0 rfl 0 rfl ?_
  refine g_calli0 hC (g_runV hC (met_X5_sign hz  (hrd)) kc_X5 mG_o (lw_V q3728 q3730 qs48 q89 q3731) rfl md_X5_sign dX5_is_1 rfl ⟨by omega, by omega⟩ (by omega) (by omega) rfl (Nat.le_of_ble_eq_true rfl)) (fun r_1 G_1 n_1 u_1 hp_1 hn_1 hm_1 hu_1 => ?_)
  obtain ⟨rfl, rfl, rfl, rfl⟩ := hp_1
  refine g_iload_n hC dX5_is_4 rfl 1 rfl ?_
  refine g_icmp_eq hC dX5_is_5 (tgt := 10) (by decide) (fun c_5 => ?_) (fun c_5 => ?_)
  · refine g_aload_n hC dX5_is_10 rfl 0 rfl ?_
    refine g_dup hC dX5_is_11 rfl ?_
    refine m_get (v := .int (nI a)) hC 11 (by decide) q3532 (congrArg (fun z => some (Value.int z)) hrd.h11) dX5_is_12 ?_
    refine g_iconst (v := 1) hC dX5_is_15 rfl ?_
    refine g_iaddN hC a 1 dX5_is_16 ?_
    refine m_put hC 11 (by decide) rfl (by decide) q3532 rfl rfl rfl hz dX5_is_17 ?_
    refine g_iconst (v := 1) hC dX5_is_20 rfl ?_
    refine g_iret hC hr rfl ⟨_, rfl, ?_⟩ (by omega) (by omega) hE dX5_is_21
    exact ⟨by rw [decide_eq_true c_5]; rfl, by rw [if_pos c_5]; rfl, rfl, rfl⟩
  · refine g_iconst (v := 0) hC dX5_is_8 rfl ?_
    refine g_iret hC hr rfl ⟨_, rfl, ?_⟩ (by omega) (by omega) hE dX5_is_9
    exact ⟨by rw [decide_eq_false c_5]; rfl, by rw [if_neg c_5], rfl, rfl⟩
set_option maxHeartbeats 1000000 in
theorem met_X5_digit {Y : YT} {l : Launch} {m0 n u : Nat} {σ : MS} {B : AH} (hz : yz Y ≤ m0) (b_ : Int32) {j L a : Nat} {t : Nat → Int32} (hrd : RD σ j L a t) : GM Y l yX5_digit (ws_ yX5_digit cX5_digit 3 (some FieldType.int)) 1 22 [.ref m0, .int b_] (mG Y m0 σ B) n u 0 0 (pI (fun r G' n' u' => (if dgK t a b_ = true then t a - 48 else -1) = r ∧ mG Y m0 (if dgK t a b_ = true then at_ σ (a + 1) else σ) B = G' ∧ n = n' ∧ u = u')) noX := by
  refine GM.intro (own := RX5) rfl (by decide +kernel) (Nat.le_of_ble_eq_true rfl) ?_
  intro p e s m args below meth c R Q hC hr hnm hF hL hE
  have hE1 := hE.1
  have hE2 := hE.2.1
  show V Y p l e R s m args below meth c 3 n u (mG Y m0 σ B) n u Q 0 [(0, .ref m0), (1, .int b_)] []
  refine g_aload_n hC dX5_digit_0 rfl 0 rfl ?_
  refine g_calli0 hC (g_runV hC (met_X5_sign hz  (hrd)) kc_X5 mG_o (lw_V q3728 q3730 qs48 q89 q3731) rfl md_X5_sign dX5_digit_1 rfl ⟨by omega, by omega⟩ (by omega) (by omega) rfl (Nat.le_of_ble_eq_true rfl)) (fun r_1 G_1 n_1 u_1 hp_1 hn_1 hm_1 hu_1 => ?_)
  obtain ⟨rfl, rfl, rfl, rfl⟩ := hp_1
  refine g_bipush (v := 48) hC dX5_digit_4 (by decide) ?_
  refine g_bipush (v := 57) hC dX5_digit_6 (by decide) ?_
  refine g_calli0 hC (g_runS hC (met_X5_within hz (t a) 48 57 ) (lw_S q3637 q3638 q89 q3639) md_X5_within dX5_digit_8 rfl ⟨by omega, by omega⟩ (by omega) (by omega) rfl (Nat.le_of_ble_eq_true rfl)) (fun r_2 G_2 n_2 u_2 hp_2 hn_2 hm_2 hu_2 => ?_)
  obtain ⟨rfl, rfl, rfl, rfl⟩ := hp_2
  refine g_if_eqB hC (wi (t a) 48 57) dX5_digit_11 (tgt := 24) (by decide) (fun c_11 => ?_) (fun c_11 => ?_)
  · refine g_iconst (v := (-1)) hC dX5_digit_24 rfl ?_
    refine g_istore_n (L' := [(2, .int (-1)), (0, .ref m0), (1, .int b_)]) hC dX5_digit_25 rfl (by decide) rfl ?_
    refine g_iload_n hC dX5_digit_26 rfl 0 rfl ?_
    refine g_iconst (v := (-1)) hC dX5_digit_27 rfl ?_
    refine g_icmp_eq hC dX5_digit_28 (tgt := 36) (by decide) (fun c_28 => ?_) (fun c_28 => ?_)
    · refine g_iconst (v := (-1)) hC dX5_digit_36 rfl ?_
      refine g_iret hC hr rfl ⟨_, rfl, ?_⟩ (by omega) (by omega) hE dX5_digit_37
      have h9 : ¬ dgK t a b_ = true := by unfold dgK; rw [c_11, Bool.false_and]; decide
      exact ⟨by rw [if_neg h9], by rw [if_neg h9], rfl, rfl⟩
    · exact absurd rfl c_28
  · refine g_aload_n hC dX5_digit_14 rfl 0 rfl ?_
    refine g_calli0 hC (g_runV hC (met_X5_sign hz  (hrd)) kc_X5 mG_o (lw_V q3728 q3730 qs48 q89 q3731) rfl md_X5_sign dX5_digit_15 rfl ⟨by omega, by omega⟩ (by omega) (by omega) rfl (Nat.le_of_ble_eq_true rfl)) (fun r_3 G_3 n_3 u_3 hp_3 hn_3 hm_3 hu_3 => ?_)
    obtain ⟨rfl, rfl, rfl, rfl⟩ := hp_3
    refine g_bipush (v := 48) hC dX5_digit_18 (by decide) ?_
    refine g_isub hC dX5_digit_20 ?_
    refine g_goto (tgt := 25) hC dX5_digit_21 (by decide) ?_
    refine g_istore_n (L' := [(2, .int ((t a) - 48)), (0, .ref m0), (1, .int b_)]) hC dX5_digit_25 rfl (by decide) rfl ?_
    refine g_iload_n hC dX5_digit_26 rfl 0 rfl ?_
    refine g_iconst (v := (-1)) hC dX5_digit_27 rfl ?_
    refine g_icmp_eq hC dX5_digit_28 (tgt := 36) (by decide) (fun c_28 => ?_) (fun c_28 => ?_)
    · exact absurd c_28 (dg_ne c_11)
    · refine g_iload_n hC dX5_digit_31 rfl 0 rfl ?_
      refine g_iload_n hC dX5_digit_32 rfl 2 rfl ?_
      refine g_icmp_le hC dX5_digit_33 (tgt := 38) (by decide) (fun c_33 => ?_) (fun c_33 => ?_)
      · refine g_aload_n hC dX5_digit_38 rfl 1 rfl ?_
        refine g_dup hC dX5_digit_39 rfl ?_
        refine m_get (v := .int (nI a)) hC 11 (by decide) q3532 (congrArg (fun z => some (Value.int z)) hrd.h11) dX5_digit_40 ?_
        refine g_iconst (v := 1) hC dX5_digit_43 rfl ?_
        refine g_iaddN hC a 1 dX5_digit_44 ?_
        refine m_put hC 11 (by decide) rfl (by decide) q3532 rfl rfl rfl hz dX5_digit_45 ?_
        refine g_iload_n hC dX5_digit_48 rfl 0 rfl ?_
        refine g_iret hC hr rfl ⟨_, rfl, ?_⟩ (by omega) (by omega) hE dX5_digit_49
        have h9 : dgK t a b_ = true := by unfold dgK; rw [c_11, decide_eq_true (Int32.not_lt.mpr c_33)]; rfl
        exact ⟨by rw [if_pos h9], by rw [if_pos h9]; rfl, rfl, rfl⟩
      · refine g_iconst (v := (-1)) hC dX5_digit_36 rfl ?_
        refine g_iret hC hr rfl ⟨_, rfl, ?_⟩ (by omega) (by omega) hE dX5_digit_37
        have h9 : ¬ dgK t a b_ = true := by unfold dgK; rw [decide_eq_false (fun y => c_33 (Int32.not_lt.mp y)), Bool.and_false]; decide
        exact ⟨by rw [if_neg h9], by rw [if_neg h9], rfl, rfl⟩
def hsF (N : Nat) (σ : MS) (x : Int32) : Bool := anyN (thereP σ x) N
theorem there_at {σ : MS} {a : Nat} {x : Int32} : thereP (at_ σ a) x = thereP σ x := by
  funext q; unfold thereP; rw [show tl (at_ σ a) 0 q = tl σ 0 q from mu_nk (by decide), show tl (at_ σ a) 6 q = tl σ 6 q from mu_nk (by decide)]
theorem hsF_at {N a : Nat} {σ : MS} : hsF N (at_ σ a) = hsF N σ := by funext x; unfold hsF; rw [there_at]
theorem RD.nx {σ : MS} {j L a b : Nat} {t : Nat → Int32} (h : RD (at_ σ a) j L a t) (hb : b ≤ L) : RD (at_ σ b) j L b t := at_at ▸ h.mv hb
theorem wi_nc {x : Int32} (h : wi x 97 122 = true) : ∃ q, 97 ≤ q ∧ q ≤ 122 ∧ x = nI q ∧ x.toNatClampNeg = q := by
  obtain ⟨j, h1, h2, rfl⟩ := wi_rg (a := 97) (b := 122) (by decide) (by decide) h
  exact ⟨j, h1, h2, rfl, nI_clamp (by omega)⟩
theorem nmL_le {σ : MS} {j L : Nat} {t : Nat → Int32} {a : Nat} (h : RD σ j L a t) : ∀ (f v b : Nat), b ≤ L → b ≤ (nmL t f v b).2 ∧ (nmL t f v b).2 ≤ L := by
  intro f
  induction f with
  | zero => intro v b hb; exact ⟨Nat.le_refl _, hb⟩
  | succ f ih =>
    intro v b hb
    unfold nmL
    split
    · rename_i hw
      have := (h.mv hb).lt (a := b) (wi_ne (a := 97) (b := 122) (by decide) (by decide) hw)
      obtain ⟨h1, h2⟩ := ih (27 * v + (t b).toNatClampNeg - 97 + 1) (b + 1) (by omega)
      exact ⟨by omega, h2⟩
    · exact ⟨Nat.le_refl _, hb⟩
theorem nmP_le {σ : MS} {j L a : Nat} {t : Nat → Int32} {has : Int32 → Bool} (h : RD σ j L a t) : (nmP t a has).2 ≤ L := by
  obtain ⟨h1, h2⟩ := nmL_le h 4 0 a h.ha
  unfold nmP
  split
  · exact h2
  · rename_i q
    split
    · exact h.ha
    · have h3 : t (nmL t 4 0 a).2 = 32 := Classical.not_not.mp (fun y => q (Or.inr y))
      exact (h.mv h2).lt (by rw [h3]; decide)
theorem nmL_x {t : Nat → Int32} {f v b : Nat} (h : ¬ wi (t b) 97 122 = true) : nmL t f v b = (v, b) := by
  cases f with
  | zero => rfl
  | succ f => rw [nmL, if_neg h]
theorem nmL_lt {t : Nat → Int32} : ∀ (f v b : Nat), (nmL t f v b).1 < (v + 1) * 27 ^ f := by
  intro f
  induction f with
  | zero => intro v b; show v < (v + 1) * 1; omega
  | succ f ih =>
    intro v b
    unfold nmL
    split
    · rename_i hw
      obtain ⟨q, h1, h2, _, h4⟩ := wi_nc hw
      refine Nat.lt_of_lt_of_le (ih _ _) ?_
      rw [h4, Nat.pow_succ, Nat.mul_comm (27 ^ f) 27, ← Nat.mul_assoc]
      exact Nat.mul_le_mul_right _ (by omega)
    · have : 0 < 27 ^ (f + 1) := Nat.pow_pos (by decide)
      exact Nat.lt_of_lt_of_le (Nat.lt_succ_self v) (Nat.le_mul_of_pos_right _ this)
theorem nmP_lt (t : Nat → Int32) (a : Nat) (has : Int32 → Bool) : (nmP t a has).1 < 531441 := by
  have h : (nmL t 4 0 a).1 < 531441 := nmL_lt 4 0 a
  unfold nmP
  split
  · show 0 < 531441; omega
  · split
    · show 0 < 531441; omega
    · exact h
def mkI (t : Nat → Int32) (p : Nat) : Nat → Nat → MS → Bool × MS
  | 0, _, y => (true, y)
  | f + 1, b, y => if t b = 33 then (if tl y 5 p = 9 then (false, y) else mkI t p f (b + 1) (mu (at_ y (b + 1)) 1 (60 + p) (y.1 1 (60 + p) + 1)))
    else if t b = 45 ∨ t b = 43 then (if dgK t (b + 1) 7 = true then mkI t p f (b + 1 + 1) (mu (at_ (at_ y (b + 1)) (b + 1 + 1)) 1 ((if t b = 45 then 36 else 48) + p) ((at_ (at_ y (b + 1)) (b + 1 + 1)).1 1 ((if t b = 45 then 36 else 48) + p) ||| (1 <<< ((t (b + 1) - 48) &&& 31)))) else (false, at_ y (b + 1)))
    else (true, y)
theorem dgK_wi {t : Nat → Int32} {a : Nat} {b : Int32} (h : dgK t a b = true) : wi (t a) 48 57 = true := by
  unfold dgK at h; exact (Bool.and_eq_true_iff.mp h).1
theorem dgK_ne {t : Nat → Int32} {a : Nat} {b : Int32} (h : dgK t a b = true) : t a ≠ -1 := wi_ne (a := 48) (b := 57) (by decide) (by decide) (dgK_wi h)
set_option maxHeartbeats 1000000 in
theorem met_X5_name {Y : YT} {l : Launch} {m0 n u : Nat} {σ : MS} {B : AH} (hz : yz Y ≤ m0)  {N : Nat} {j L a : Nat} {t : Nat → Int32} (hN : σ.1 0 0 = nI N) (hN2 : N ≤ 12) (hrd : RD σ j L a t) : GM Y l yX5_name (ws_ yX5_name cX5_name 3 (some FieldType.int)) 2 44 [.ref m0] (mG Y m0 σ B) n u 0 0 (pI (fun r G' n' u' => nI ((nmP t a (hsF N σ)).1) = r ∧ mG Y m0 (at_ σ (nmP t a (hsF N σ)).2) B = G' ∧ n = n' ∧ u = u')) noX := by
  refine GM.intro (own := RX5) rfl (by decide +kernel) (Nat.le_of_ble_eq_true rfl) ?_
  intro p e s m args below meth c R Q hC hr hnm hF hL hE
  have hE1 := hE.1
  have hE2 := hE.2.1
  show V Y p l e R s m args below meth c 3 n u (mG Y m0 σ B) n u Q 0 [(0, .ref m0)] []
  have hj := hrd.hj
  have hL := hrd.hL
  have ha := hrd.ha
  refine g_aload_n hC dX5_name_0 rfl 0 rfl ?_
  refine m_get (v := .int (nI a)) hC 11 (by decide) q3532 (congrArg (fun z => some (Value.int z)) hrd.h11) dX5_name_1 ?_
  refine g_istore_n (L' := [(1, .int (nI a)), (0, .ref m0)]) hC dX5_name_4 rfl (by decide) rfl ?_
  refine g_iconst (v := 0) hC dX5_name_5 rfl ?_
  rw [← hrd.eq]
  refine g_istore_n (L' := [(2, .int 0), (1, .int (nI a)), (0, .ref m0)]) hC dX5_name_6 rfl (by decide) rfl ?_
  have hl_7 : ∀ (kf_ : Nat) (v : Nat) (b : Nat) (f : Nat), (b + f = a + 4) → (b ≤ L) → ((f = 4 ∧ v < 1) ∨ (f = 3 ∧ v < 27) ∨ (f = 2 ∧ v < 729) ∨ (f = 1 ∧ v < 19683) ∨ (f = 0 ∧ v < 531441)) → (nmL t f v b = nmL t 4 0 a) → f < kf_ → V Y p l e R s m args below meth c 3 n u (mG Y m0 (at_ σ b) B) n u Q 7 [(1, .int (nI a)), (2, .int (nI v)), (0, .ref m0)] [] := by
    intro kf_
    induction kf_ with
    | zero => intro v b f hbf hbL hv hfin hk_; exact absurd hk_ (Nat.not_lt_zero _)
    | succ kf_ ih_ =>
      intro v b f hbf hbL hv hfin hk_
      refine g_aload_n hC dX5_name_7 rfl 2 rfl ?_
      have hrb : RD (at_ σ b) j L b t := hrd.mv hbL
      have hj_59 : (nmL t 4 0 a = (v, b)) → V Y p l e R s m args below meth c 3 n u (mG Y m0 (at_ σ b) B) n u Q 59 [(1, .int (nI a)), (2, .int (nI v)), (0, .ref m0)] [] := by
        intro hn
        refine g_aload_n hC dX5_name_59 rfl 2 rfl ?_
        refine m_get (v := .int (nI b)) hC 11 (by decide) q3532 (congrArg (fun z => some (Value.int z)) mu_hit) dX5_name_60 ?_
        refine g_iload_n hC dX5_name_63 rfl 0 rfl ?_
        refine g_icmp_eqN hC b a (by omega) (by omega) dX5_name_64 (tgt := 76) (by decide) (fun c_64 => ?_) (fun c_64 => ?_)
        · refine g_iconst (v := 0) hC dX5_name_76 rfl ?_
          refine g_iret hC hr rfl ⟨_, rfl, ?_⟩ (by omega) (by omega) hE dX5_name_77
          have h9 : nmP t a (hsF N σ) = (0, b) := by unfold nmP; rw [hn]; rw [if_pos (Or.inl c_64)]
          exact ⟨by (rw [h9]; first | done | rfl), by rw [h9], rfl, rfl⟩
        · refine g_aload_n hC dX5_name_67 rfl 2 rfl ?_
          refine g_bipush (v := 32) hC dX5_name_68 (by decide) ?_
          refine g_calli0 hC (g_runV hC (met_X5_is hz 32 (hrb) (by decide)) kc_X5 mG_o (lw_V q3724 q3726 qs47 q89 q3727) rfl md_X5_is dX5_name_70 rfl ⟨by omega, by omega⟩ (by omega) (by omega) rfl (Nat.le_of_ble_eq_true rfl)) (fun r_1 G_1 n_1 u_1 hp_1 hn_1 hm_1 hu_1 => ?_)
          obtain ⟨rfl, rfl, rfl, rfl⟩ := hp_1
          by_cases k_1 : t b = 32
          · rw [decide_eq_true k_1, if_pos k_1, at_at]
            refine g_if_neN hC 1 (by omega) dX5_name_73 (tgt := 78) (by decide) (fun c_73 => ?_) (fun c_73 => ?_)
            · refine g_aload_n hC dX5_name_78 rfl 2 rfl ?_
              refine g_iload_n hC dX5_name_79 rfl 1 rfl ?_
              refine g_calli0 hC (g_runV hC (met_X5_isThere hz (nI v) ((mu_nk (by decide)).trans hN) (hN2)) kc_X5 mG_o (lw_V q3704 q3706 qs43 q89 q3707) rfl md_X5_isThere dX5_name_80 rfl ⟨by omega, by omega⟩ (by omega) (by omega) rfl (Nat.le_of_ble_eq_true rfl)) (fun r_2 G_2 n_2 u_2 hp_2 hn_2 hm_2 hu_2 => ?_)
              obtain ⟨rfl, rfl, rfl, rfl⟩ := hp_2
              rw [there_at]
              show V Y p l e R s m args below meth c 3 n u _ n u Q 83 _ (.int (b2i (hsF N σ (nI v))) :: _)
              refine g_if_neB hC (hsF N σ (nI v)) dX5_name_83 (tgt := 88) (by decide) (fun c_83 => ?_) (fun c_83 => ?_)
              · refine g_aload_n hC dX5_name_88 rfl 2 rfl ?_
                refine g_iload_n hC dX5_name_89 rfl 0 rfl ?_
                refine m_put hC 11 (by decide) rfl (by decide) q3532 rfl rfl rfl hz dX5_name_90 ?_
                rw [show mu (at_ σ (b + 1)) 11 0 (nI a) = at_ σ a from mu_mu]
                refine g_iconst (v := 0) hC dX5_name_93 rfl ?_
                refine g_iret hC hr rfl ⟨_, rfl, ?_⟩ (by omega) (by omega) hE dX5_name_94
                have h9 : nmP t a (hsF N σ) = (0, a) := by unfold nmP; rw [hn]; rw [if_neg (fun y => y.elim c_64 (fun z => z k_1)), if_pos c_83]
                exact ⟨by (rw [h9]; first | done | rfl), by rw [h9], rfl, rfl⟩
              · refine g_iload_n hC dX5_name_86 rfl 1 rfl ?_
                refine g_iret hC hr rfl ⟨_, rfl, ?_⟩ (by omega) (by omega) hE dX5_name_87
                have h9 : nmP t a (hsF N σ) = (v, b + 1) := by unfold nmP; rw [hn]; rw [if_neg (fun y => y.elim c_64 (fun z => z k_1)), if_neg (fun y => Bool.noConfusion (c_83.symm.trans y))]
                exact ⟨by (rw [h9]; first | done | rfl), by rw [h9], rfl, rfl⟩
            · first | exact absurd c_73 (by decide) | exact absurd c_73 (by omega)
          · rw [decide_eq_false k_1, if_neg k_1]
            refine g_if_neN hC 0 (by omega) dX5_name_73 (tgt := 78) (by decide) (fun c_73 => ?_) (fun c_73 => ?_)
            · first | exact absurd c_73 (by decide) | exact absurd c_73 (by omega)
            · refine g_iconst (v := 0) hC dX5_name_76 rfl ?_
              refine g_iret hC hr rfl ⟨_, rfl, ?_⟩ (by omega) (by omega) hE dX5_name_77
              have h9 : nmP t a (hsF N σ) = (0, b) := by unfold nmP; rw [hn]; rw [if_pos (Or.inr k_1)]
              exact ⟨by (rw [h9]; first | done | rfl), by rw [h9], rfl, rfl⟩
      refine m_get (v := .int (nI b)) hC 11 (by decide) q3532 (congrArg (fun z => some (Value.int z)) mu_hit) dX5_name_8 ?_
      refine g_iload_n hC dX5_name_11 rfl 0 rfl ?_
      refine g_isubN hC b a (by omega) dX5_name_12 ?_
      refine g_iconst (v := 4) hC dX5_name_13 rfl ?_
      refine g_icmp_geN hC (b - a) 4 (by omega) (by omega) dX5_name_14 (tgt := 59) (by decide) (fun c_14 => ?_) (fun c_14 => ?_)
      · exact hj_59 (by obtain rfl : f = 0 := (by omega); rw [← hfin]; rfl)
      · refine g_aload_n hC dX5_name_17 rfl 2 rfl ?_
        refine g_calli0 hC (g_runV hC (met_X5_sign hz  (hrb)) kc_X5 mG_o (lw_V q3728 q3730 qs48 q89 q3731) rfl md_X5_sign dX5_name_18 rfl ⟨by omega, by omega⟩ (by omega) (by omega) rfl (Nat.le_of_ble_eq_true rfl)) (fun r_3 G_3 n_3 u_3 hp_3 hn_3 hm_3 hu_3 => ?_)
        obtain ⟨rfl, rfl, rfl, rfl⟩ := hp_3
        refine g_bipush (v := 97) hC dX5_name_21 (by decide) ?_
        refine g_bipush (v := 122) hC dX5_name_23 (by decide) ?_
        refine g_calli0 hC (g_runS hC (met_X5_within hz (t b) 97 122 ) (lw_S q3637 q3638 q89 q3639) md_X5_within dX5_name_25 rfl ⟨by omega, by omega⟩ (by omega) (by omega) rfl (Nat.le_of_ble_eq_true rfl)) (fun r_4 G_4 n_4 u_4 hp_4 hn_4 hm_4 hu_4 => ?_)
        obtain ⟨rfl, rfl, rfl, rfl⟩ := hp_4
        refine g_if_eqB hC (wi (t b) 97 122) dX5_name_28 (tgt := 59) (by decide) (fun c_28 => ?_) (fun c_28 => ?_)
        · exact hj_59 (by rw [← hfin]; exact nmL_x (by rw [c_28]; decide))
        · obtain ⟨ch, hch0, hch1, hch, hch2⟩ := wi_nc c_28
          have hbl := hrb.lt (wi_ne (a := 97) (b := 122) (by decide) (by decide) c_28)
          obtain ⟨f, rfl⟩ : ∃ d, f = d + 1 := ⟨f - 1, by omega⟩
          refine g_bipush (v := 27) hC dX5_name_31 (by decide) ?_
          refine g_iload_n hC dX5_name_33 rfl 1 rfl ?_
          refine g_imulN hC 27 v dX5_name_34 ?_
          refine g_aload_n hC dX5_name_35 rfl 2 rfl ?_
          refine g_calli0 hC (g_runV hC (met_X5_sign hz  (hrb)) kc_X5 mG_o (lw_V q3728 q3730 qs48 q89 q3731) rfl md_X5_sign dX5_name_36 rfl ⟨by omega, by omega⟩ (by omega) (by omega) rfl (Nat.le_of_ble_eq_true rfl)) (fun r_5 G_5 n_5 u_5 hp_5 hn_5 hm_5 hu_5 => ?_)
          obtain ⟨rfl, rfl, rfl, rfl⟩ := hp_5
          rw [hch]
          refine g_iaddN hC (27 * v) ch dX5_name_39 ?_
          refine g_bipush (v := 97) hC dX5_name_40 (by decide) ?_
          refine g_isubN hC ((27 * v) + ch) 97 (by omega) dX5_name_42 ?_
          refine g_iconst (v := 1) hC dX5_name_43 rfl ?_
          refine g_iaddN hC (((27 * v) + ch) - 97) 1 dX5_name_44 ?_
          refine g_istore_n (L' := [(2, .int (nI ((((27 * v) + ch) - 97) + 1))), (1, .int (nI a)), (0, .ref m0)]) hC dX5_name_45 rfl (by decide) rfl ?_
          refine g_aload_n hC dX5_name_46 rfl 2 rfl ?_
          refine g_dup hC dX5_name_47 rfl ?_
          refine m_get (v := .int (nI b)) hC 11 (by decide) q3532 (congrArg (fun z => some (Value.int z)) mu_hit) dX5_name_48 ?_
          refine g_iconst (v := 1) hC dX5_name_51 rfl ?_
          refine g_iaddN hC b 1 dX5_name_52 ?_
          refine m_put hC 11 (by decide) rfl (by decide) q3532 rfl rfl rfl hz dX5_name_53 ?_
          rw [show mu (at_ σ b) 11 0 (nI (b + 1)) = at_ σ (b + 1) from mu_mu]
          refine g_goto (tgt := 7) hC dX5_name_56 (by decide) ?_
          refine V.sub [1, 0, 2] rfl ?_
          exact ih_ (27 * v + ch - 97 + 1) (b + 1) f (by omega) (by omega) (by omega) (by rw [← hfin, nmL, if_pos c_28, hch2]) (by omega)
  refine V.sub [1, 0, 2] rfl ?_
  exact hl_7 (4 + 1) 0 a 4 (by omega) (hrd.ha) (by omega) (rfl) (by omega)
set_option maxHeartbeats 1000000 in
theorem met_X5_marks {Y : YT} {l : Launch} {m0 n u : Nat} {σ : MS} {B : AH} (hz : yz Y ≤ m0) (p_ : Nat) {j L a : Nat} {t : Nat → Int32} (hrd : RD σ j L a t) (hp : p_ < 12) : GM Y l yX5_marks (ws_ yX5_marks cX5_marks 4 (some FieldType.boolean)) 2 44 [.ref m0, .int (nI p_)] (mG Y m0 σ B) n u 0 0 (pI (fun r G' n' u' => b2i ((mkI t p_ 161 a σ).1) = r ∧ mG Y m0 ((mkI t p_ 161 a σ).2) B = G' ∧ n = n' ∧ u = u')) noX := by
  refine GM.intro (own := RX5) rfl (by decide +kernel) (Nat.le_of_ble_eq_true rfl) ?_
  intro p e s m args below meth c R Q hC hr hnm hF hL hE
  have hE1 := hE.1
  have hE2 := hE.2.1
  show V Y p l e R s m args below meth c 4 n u (mG Y m0 σ B) n u Q 0 [(0, .ref m0), (1, .int (nI p_))] []
  have hl_0 : ∀ (kf_ : Nat) (b : Nat) (y : MS) (f : Nat), (RD y j L b t) → (L < b + f) → (mkI t p_ f b y = mkI t p_ 161 a σ) → f < kf_ → V Y p l e R s m args below meth c 4 n u (mG Y m0 y B) n u Q 0 [(0, .ref m0), (1, .int (nI p_))] [] := by
    intro kf_
    induction kf_ with
    | zero => intro b y f hry hbf hfin hk_; exact absurd hk_ (Nat.not_lt_zero _)
    | succ kf_ ih_ =>
      intro b y f hry hbf hfin hk_
      refine g_aload_n hC dX5_marks_0 rfl 0 rfl ?_
      obtain ⟨f, rfl⟩ : ∃ d, f = d + 1 := ⟨f - 1, by have := hry.ha; omega⟩
      refine g_calli0 hC (g_runV hC (met_X5_sign hz  (hry)) kc_X5 mG_o (lw_V q3728 q3730 qs48 q89 q3731) rfl md_X5_sign dX5_marks_1 rfl ⟨by omega, by omega⟩ (by omega) (by omega) rfl (Nat.le_of_ble_eq_true rfl)) (fun r_1 G_1 n_1 u_1 hp_1 hn_1 hm_1 hu_1 => ?_)
      obtain ⟨rfl, rfl, rfl, rfl⟩ := hp_1
      refine g_istore_n (L' := [(2, .int (t b)), (0, .ref m0), (1, .int (nI p_))]) hC dX5_marks_4 rfl (by decide) rfl ?_
      refine g_iload_n hC dX5_marks_5 rfl 0 rfl ?_
      refine g_bipush (v := 33) hC dX5_marks_6 (by decide) ?_
      refine g_icmp_ne hC dX5_marks_8 (tgt := 50) (by decide) (fun c_8 => ?_) (fun c_8 => ?_)
      · refine g_iload_n hC dX5_marks_50 rfl 0 rfl ?_
        refine g_bipush (v := 45) hC dX5_marks_51 (by decide) ?_
        refine g_icmp_eq hC dX5_marks_53 (tgt := 62) (by decide) (fun c_53 => ?_) (fun c_53 => ?_)
        · have hb1 := hry.lt (by rw [c_53]; decide)
          refine g_aload_n hC dX5_marks_62 rfl 1 rfl ?_
          refine g_dup hC dX5_marks_63 rfl ?_
          refine m_get (v := .int (nI b)) hC 11 (by decide) q3532 (congrArg (fun z => some (Value.int z)) hry.h11) dX5_marks_64 ?_
          refine g_iconst (v := 1) hC dX5_marks_67 rfl ?_
          refine g_iaddN hC b 1 dX5_marks_68 ?_
          refine m_put hC 11 (by decide) rfl (by decide) q3532 rfl rfl rfl hz dX5_marks_69 ?_
          refine g_aload_n hC dX5_marks_72 rfl 1 rfl ?_
          refine g_bipush (v := 7) hC dX5_marks_73 (by decide) ?_
          refine g_calli0 hC (g_runV hC (met_X5_digit hz 7 (hry.mv hb1)) kc_X5 mG_o (lw_V q3736 q3738 qs50 q89 q3739) rfl md_X5_digit dX5_marks_75 rfl ⟨by omega, by omega⟩ (by omega) (by omega) rfl (Nat.le_of_ble_eq_true rfl)) (fun r_2 G_2 n_2 u_2 hp_2 hn_2 hm_2 hu_2 => ?_)
          obtain ⟨rfl, rfl, rfl, rfl⟩ := hp_2
          by_cases hk : dgK t (b + 1) 7 = true
          · have hb2 := (hry.mv hb1).lt (dgK_ne hk)
            rw [if_pos hk, if_pos hk]
            refine g_istore_n (L' := [(3, .int (t (b + 1) - 48)), (2, .int (t b)), (0, .ref m0), (1, .int (nI p_))]) hC dX5_marks_78 rfl (by decide) rfl ?_
            refine g_iload_n hC dX5_marks_79 rfl 0 rfl ?_
            refine g_iconst (v := (-1)) hC dX5_marks_80 rfl ?_
            refine g_icmp_ne hC dX5_marks_81 (tgt := 86) (by decide) (fun c_81 => ?_) (fun c_81 => ?_)
            · refine g_aload_n hC dX5_marks_86 rfl 2 rfl ?_
              refine m_get (v := .ref (m0 + 1)) hC 1 (by decide) q3522 rfl dX5_marks_87 ?_
              refine g_iload_n hC dX5_marks_90 rfl 1 rfl ?_
              refine g_bipush (v := 45) hC dX5_marks_91 (by decide) ?_
              refine g_icmp_ne hC dX5_marks_93 (tgt := 101) (by decide) (fun c_93 => ?_) (fun c_93 => ?_)
              · exact absurd c_53 c_93
              · refine g_bipush (v := 36) hC dX5_marks_96 (by decide) ?_
                refine g_goto (tgt := 103) hC dX5_marks_98 (by decide) ?_
                refine g_iload_n hC dX5_marks_103 rfl 3 rfl ?_
                refine g_iaddN hC 36 p_ dX5_marks_104 ?_
                refine g_dup2_11 hC dX5_marks_105 rfl rfl ?_
                refine m_ald (v := (at_ (mu y 11 0 (nI (b + 1))) (b + 1 + 1)).1 1 (36 + p_)) hC 1 (36 + p_) rfl (show 36 + p_ < 108 from by omega) (by omega) rfl dX5_marks_106 ?_
                refine g_iconst (v := 1) hC dX5_marks_107 rfl ?_
                refine g_iload_n hC dX5_marks_108 rfl 0 rfl ?_
                refine g_ishl hC dX5_marks_109 ?_
                refine g_ior hC dX5_marks_110 ?_
                refine m_ast hC 1 (36 + p_) rfl (show 36 + p_ < 108 from by omega) (by omega) hz dX5_marks_111 ?_
                refine g_goto (tgt := 117) hC dX5_marks_112 (by decide) ?_
                refine g_goto (tgt := 0) hC dX5_marks_117 (by decide) ?_
                refine V.sub [2, 3] rfl ?_
                exact ih_ (b + 1 + 1) (mu (at_ (mu y 11 0 (nI (b + 1))) (b + 1 + 1)) 1 (36 + p_) (((at_ (mu y 11 0 (nI (b + 1))) (b + 1 + 1)).1 1 (36 + p_)) ||| (1 <<< ((t (b + 1) - 48) &&& 31)))) f (((hry.mv hb1).mv hb2).put (by decide) (by decide) (by decide)) (by omega) (by rw [← hfin, mkI, if_neg c_8, if_pos (Or.inl c_53), if_pos hk, if_pos c_53]; rfl) (by omega)
            · exact absurd c_81 (dg_ne (dgK_wi hk))
          · rw [if_neg hk, if_neg hk]
            refine g_istore_n (L' := [(3, .int (-1)), (2, .int (t b)), (0, .ref m0), (1, .int (nI p_))]) hC dX5_marks_78 rfl (by decide) rfl ?_
            refine g_iload_n hC dX5_marks_79 rfl 0 rfl ?_
            refine g_iconst (v := (-1)) hC dX5_marks_80 rfl ?_
            refine g_icmp_ne hC dX5_marks_81 (tgt := 86) (by decide) (fun c_81 => ?_) (fun c_81 => ?_)
            · exact absurd rfl c_81
            · refine g_iconst (v := 0) hC dX5_marks_84 rfl ?_
              refine g_iret hC hr rfl ⟨_, rfl, ?_⟩ (by omega) (by omega) hE dX5_marks_85
              have h9 : mkI t p_ 161 a σ = (false, (mu y 11 0 (nI (b + 1)))) := by rw [← hfin, mkI, if_neg c_8, if_pos (Or.inl c_53), if_neg hk]; rfl
              exact ⟨by rw [h9]; rfl, by rw [h9], rfl, rfl⟩
        · refine g_iload_n hC dX5_marks_56 rfl 0 rfl ?_
          refine g_bipush (v := 43) hC dX5_marks_57 (by decide) ?_
          refine g_icmp_ne hC dX5_marks_59 (tgt := 115) (by decide) (fun c_59 => ?_) (fun c_59 => ?_)
          · refine g_iconst (v := 1) hC dX5_marks_115 rfl ?_
            refine g_iret hC hr rfl ⟨_, rfl, ?_⟩ (by omega) (by omega) hE dX5_marks_116
            have h9 : mkI t p_ 161 a σ = (true, y) := by rw [← hfin, mkI, if_neg c_8, if_neg (fun q => q.elim c_53 c_59)]
            exact ⟨by rw [h9]; rfl, by rw [h9], rfl, rfl⟩
          · have hb1 := hry.lt (by rw [c_59]; decide)
            refine g_aload_n hC dX5_marks_62 rfl 1 rfl ?_
            refine g_dup hC dX5_marks_63 rfl ?_
            refine m_get (v := .int (nI b)) hC 11 (by decide) q3532 (congrArg (fun z => some (Value.int z)) hry.h11) dX5_marks_64 ?_
            refine g_iconst (v := 1) hC dX5_marks_67 rfl ?_
            refine g_iaddN hC b 1 dX5_marks_68 ?_
            refine m_put hC 11 (by decide) rfl (by decide) q3532 rfl rfl rfl hz dX5_marks_69 ?_
            refine g_aload_n hC dX5_marks_72 rfl 1 rfl ?_
            refine g_bipush (v := 7) hC dX5_marks_73 (by decide) ?_
            refine g_calli0 hC (g_runV hC (met_X5_digit hz 7 (hry.mv hb1)) kc_X5 mG_o (lw_V q3736 q3738 qs50 q89 q3739) rfl md_X5_digit dX5_marks_75 rfl ⟨by omega, by omega⟩ (by omega) (by omega) rfl (Nat.le_of_ble_eq_true rfl)) (fun r_3 G_3 n_3 u_3 hp_3 hn_3 hm_3 hu_3 => ?_)
            obtain ⟨rfl, rfl, rfl, rfl⟩ := hp_3
            by_cases hk : dgK t (b + 1) 7 = true
            · have hb2 := (hry.mv hb1).lt (dgK_ne hk)
              rw [if_pos hk, if_pos hk]
              refine g_istore_n (L' := [(3, .int (t (b + 1) - 48)), (2, .int (t b)), (0, .ref m0), (1, .int (nI p_))]) hC dX5_marks_78 rfl (by decide) rfl ?_
              refine g_iload_n hC dX5_marks_79 rfl 0 rfl ?_
              refine g_iconst (v := (-1)) hC dX5_marks_80 rfl ?_
              refine g_icmp_ne hC dX5_marks_81 (tgt := 86) (by decide) (fun c_81 => ?_) (fun c_81 => ?_)
              · refine g_aload_n hC dX5_marks_86 rfl 2 rfl ?_
                refine m_get (v := .ref (m0 + 1)) hC 1 (by decide) q3522 rfl dX5_marks_87 ?_
                refine g_iload_n hC dX5_marks_90 rfl 1 rfl ?_
                refine g_bipush (v := 45) hC dX5_marks_91 (by decide) ?_
                refine g_icmp_ne hC dX5_marks_93 (tgt := 101) (by decide) (fun c_93 => ?_) (fun c_93 => ?_)
                · refine g_bipush (v := 48) hC dX5_marks_101 (by decide) ?_
                  refine g_iload_n hC dX5_marks_103 rfl 3 rfl ?_
                  refine g_iaddN hC 48 p_ dX5_marks_104 ?_
                  refine g_dup2_11 hC dX5_marks_105 rfl rfl ?_
                  refine m_ald (v := (at_ (mu y 11 0 (nI (b + 1))) (b + 1 + 1)).1 1 (48 + p_)) hC 1 (48 + p_) rfl (show 48 + p_ < 108 from by omega) (by omega) rfl dX5_marks_106 ?_
                  refine g_iconst (v := 1) hC dX5_marks_107 rfl ?_
                  refine g_iload_n hC dX5_marks_108 rfl 0 rfl ?_
                  refine g_ishl hC dX5_marks_109 ?_
                  refine g_ior hC dX5_marks_110 ?_
                  refine m_ast hC 1 (48 + p_) rfl (show 48 + p_ < 108 from by omega) (by omega) hz dX5_marks_111 ?_
                  refine g_goto (tgt := 117) hC dX5_marks_112 (by decide) ?_
                  refine g_goto (tgt := 0) hC dX5_marks_117 (by decide) ?_
                  refine V.sub [2, 3] rfl ?_
                  exact ih_ (b + 1 + 1) (mu (at_ (mu y 11 0 (nI (b + 1))) (b + 1 + 1)) 1 (48 + p_) (((at_ (mu y 11 0 (nI (b + 1))) (b + 1 + 1)).1 1 (48 + p_)) ||| (1 <<< ((t (b + 1) - 48) &&& 31)))) f (((hry.mv hb1).mv hb2).put (by decide) (by decide) (by decide)) (by omega) (by rw [← hfin, mkI, if_neg c_8, if_pos (Or.inr c_59), if_pos hk, if_neg c_53]; rfl) (by omega)
                · exact absurd c_93 c_53
              · exact absurd c_81 (dg_ne (dgK_wi hk))
            · rw [if_neg hk, if_neg hk]
              refine g_istore_n (L' := [(3, .int (-1)), (2, .int (t b)), (0, .ref m0), (1, .int (nI p_))]) hC dX5_marks_78 rfl (by decide) rfl ?_
              refine g_iload_n hC dX5_marks_79 rfl 0 rfl ?_
              refine g_iconst (v := (-1)) hC dX5_marks_80 rfl ?_
              refine g_icmp_ne hC dX5_marks_81 (tgt := 86) (by decide) (fun c_81 => ?_) (fun c_81 => ?_)
              · exact absurd rfl c_81
              · refine g_iconst (v := 0) hC dX5_marks_84 rfl ?_
                refine g_iret hC hr rfl ⟨_, rfl, ?_⟩ (by omega) (by omega) hE dX5_marks_85
                have h9 : mkI t p_ 161 a σ = (false, (mu y 11 0 (nI (b + 1)))) := by rw [← hfin, mkI, if_neg c_8, if_pos (Or.inr c_59), if_neg hk]; rfl
                exact ⟨by rw [h9]; rfl, by rw [h9], rfl, rfl⟩
      · have hb1 := hry.lt (by rw [c_8]; decide)
        refine g_aload_n hC dX5_marks_11 rfl 1 rfl ?_
        refine g_iconst (v := 5) hC dX5_marks_12 rfl ?_
        refine g_iload_n hC dX5_marks_13 rfl 2 rfl ?_
        refine g_calli0 hC (g_runV hC (met_X5_of hz 5 p_ (by omega)) kc_X5 mG_o (lw_V q3680 q3682 qs41 q89 q3683) rfl md_X5_of dX5_marks_14 rfl ⟨by omega, by omega⟩ (by omega) (by omega) rfl (Nat.le_of_ble_eq_true rfl)) (fun r_4 G_4 n_4 u_4 hp_4 hn_4 hm_4 hu_4 => ?_)
        obtain ⟨rfl, rfl, rfl, rfl⟩ := hp_4
        refine g_bipush (v := 9) hC dX5_marks_17 (by decide) ?_
        refine g_icmp_ne hC dX5_marks_19 (tgt := 24) (by decide) (fun c_19 => ?_) (fun c_19 => ?_)
        · refine g_aload_n hC dX5_marks_24 rfl 1 rfl ?_
          refine g_dup hC dX5_marks_25 rfl ?_
          refine m_get (v := .int (nI b)) hC 11 (by decide) q3532 (congrArg (fun z => some (Value.int z)) hry.h11) dX5_marks_26 ?_
          refine g_iconst (v := 1) hC dX5_marks_29 rfl ?_
          refine g_iaddN hC b 1 dX5_marks_30 ?_
          refine m_put hC 11 (by decide) rfl (by decide) q3532 rfl rfl rfl hz dX5_marks_31 ?_
          refine g_aload_n hC dX5_marks_34 rfl 1 rfl ?_
          refine m_get (v := .ref (m0 + 1)) hC 1 (by decide) q3522 rfl dX5_marks_35 ?_
          refine g_bipush (v := 60) hC dX5_marks_38 (by decide) ?_
          refine g_iload_n hC dX5_marks_40 rfl 2 rfl ?_
          refine g_iaddN hC 60 p_ dX5_marks_41 ?_
          refine g_dup2_11 hC dX5_marks_42 rfl rfl ?_
          refine m_ald (v := y.1 1 (60 + p_)) hC 1 (60 + p_) rfl (show 60 + p_ < 108 from by omega) (by omega) (mu_nk (by decide)) dX5_marks_43 ?_
          refine g_iconst (v := 1) hC dX5_marks_44 rfl ?_
          refine g_iadd hC dX5_marks_45 ?_
          refine m_ast hC 1 (60 + p_) rfl (show 60 + p_ < 108 from by omega) (by omega) hz dX5_marks_46 ?_
          refine g_goto (tgt := 117) hC dX5_marks_47 (by decide) ?_
          refine g_goto (tgt := 0) hC dX5_marks_117 (by decide) ?_
          refine V.sub [1, 2] rfl ?_
          exact ih_ (b + 1) (mu (mu y 11 0 (nI (b + 1))) 1 (60 + p_) ((y.1 1 (60 + p_)) + 1)) f ((hry.mv hb1).put (by decide) (by decide) (by decide)) (by omega) (by rw [← hfin, mkI, if_pos c_8, if_neg c_19]; rfl) (by omega)
        · refine g_iconst (v := 0) hC dX5_marks_22 rfl ?_
          refine g_iret hC hr rfl ⟨_, rfl, ?_⟩ (by omega) (by omega) hE dX5_marks_23
          have h9 : mkI t p_ 161 a σ = (false, y) := by rw [← hfin, mkI, if_pos c_8, if_pos c_19]
          exact ⟨by rw [h9]; rfl, by rw [h9], rfl, rfl⟩
  exact hl_0 (161 + 1) a σ 161 (hrd) (by have := hrd.hL; omega) (rfl) (by omega)
