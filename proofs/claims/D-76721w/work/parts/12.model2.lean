set_option maxRecDepth 100000
/-! THE MODEL, 2 -/
theorem nrc_0 {σ : MS} {s : Int32} (h : nrc σ s = 0) : ∃ j : Nat, j < 8 ∧ s = nI j ∧ ¬ σ.1 6 j < 0 ∧ rwF σ j = true := by
  unfold nrc at h
  split at h
  · omega
  · next h1 =>
    obtain ⟨j, hj, rfl⟩ := wi_nI (n := 7) (by decide) (show wi s 0 7 = true by simpa using h1)
    have hc : (nI j).toNatClampNeg = j := nI_clamp (by omega)
    rw [hc] at h
    split at h
    · omega
    · next h2 =>
      split at h
      · omega
      · next h3 => exact ⟨j, by omega, rfl, h3, by
          cases hr : rwF σ j with
          | true => rfl
          | false => exact absurd ⟨h3, hr⟩ h2⟩
def nvF (t : Int32) (v : Int64) : Int64 := if t = 0 then v.toInt32.toInt8.toInt32.toInt64 else if t = 1 then v.toInt32.toInt16.toInt32.toInt64 else if t = 2 then v.toInt32.toInt64 else v
def setF (σ : MS) (s i : Int32) (v : Int64) : Int32 × MS :=
  if nrc σ s = 0 then (if wi i 0 (σ.1 7 s.toNatClampNeg - 1) = true then (1, mw σ (160 * s.toNatClampNeg + i.toNatClampNeg) (nvF (σ.1 6 s.toNatClampNeg - 100) v)) else (-5, mNo σ 5)) else (-(nI (nrc σ s)), mNo σ (nrc σ s))
def elemF (σ : MS) (s i : Int32) : Int64 := if wi s 0 7 = true then (if rwF σ s.toNatClampNeg = true then (if wi i 0 (σ.1 7 s.toNatClampNeg - 1) = true then σ.2 (160 * s.toNatClampNeg + i.toNatClampNeg) else 0) else 0) else 0
def showF (σ : MS) (s p : Int32) : Int32 × MS := if wi s 0 7 = true ∧ (p = -1 ∨ wi p 0 (σ.1 0 0 - 1) = true) then (if p = -1 then 0 else 1, mu σ 6 s.toNatClampNeg p) else (-1, mNo σ 1)
def holdsF (σ : MS) (s : Int32) : Int32 := if wi s 0 7 = true then σ.1 6 s.toNatClampNeg else -1
def npF (σ : MS) (n : Nat) (k r ne of fa na : Int32) : MS := mu (mu (mu (mu (mu (mu (mu (mu (mu (mu σ 1 n 0) 1 (12 + n) k) 1 (24 + n) r) 1 (36 + n) ne) 1 (48 + n) of) 1 (60 + n) fa) 1 (72 + n) na) 1 (84 + n) 0) 1 (96 + n) 0) 0 0 (nI (n + 1))
def plugOfF (σ : MS) (x t : Int32) : Int32 × MS := if wi x 0 (σ.1 0 0 - 1) = true ∧ wi t 0 7 = true then (if 6 ≤ t then (if t = 6 then strF σ x.toNatClampNeg else tl σ 6 x.toNatClampNeg) else tl σ t.toNatClampNeg x.toNatClampNeg, σ) else (-5, mNo σ 5)
def ageF (σ : MS) (x : Int32) : Int32 × MS := if wi x 0 (σ.1 0 0 - 1) = true then (if tl σ 0 x.toNatClampNeg = 1 then tl σ 7 x.toNatClampNeg else -1, σ) else (-1 - 10, mNo σ 1)
def tallyF (σ : MS) (x : Int32) : Int32 := if wi x 0 (σ.1 0 0 - 1) = true then tl σ 8 x.toNatClampNeg else 0
def lgF (σ : MS) (g : Nat) (x : Int32) : MS := if σ.1 19 0 = 0 then mu (mu σ 21 (g % 40) x) 20 0 (nI (g + 1)) else σ
def flF (σ : MS) (f : Nat) (p y v : Int32) : MS := mu (mu (mu (mu σ 15 (3 * f) p) 15 (3 * f + 1) y) 15 (3 * f + 2) v) 14 0 (nI (f + 1))
def lgG (σ : MS) (x : Int32) : MS := lgF σ (σ.1 20 0).toNatClampNeg x
def flG (σ : MS) (p y v : Int32) : MS := flF σ (σ.1 14 0).toNatClampNeg p y v
def causeF (σ : MS) (c : Nat) (i t : Int32) : Int32 × MS := if wi i 0 (nI c - 1) = true ∧ wi t 0 2 = true then (σ.1 13 (3 * (c - 1 - i.toNatClampNeg) + t.toNatClampNeg), σ) else (-5, mNo σ 5)
def mendF (σ : MS) (x : Int32) : Int32 × MS := if wi x 0 (σ.1 0 0 - 1) = true then (if tl σ 0 x.toNatClampNeg = 2 then (tl (mu σ 1 x.toNatClampNeg 0) 5 x.toNatClampNeg, mu σ 1 x.toNatClampNeg 0) else (-6, mNo σ 6)) else (-1, mNo σ 1)
def hkF (σ : MS) (w h : Nat) : Int32 := σ.1 5 (24 * w + h)
def hookOfF (σ : MS) (x t : Int32) : Int32 × MS := if wi x 0 (σ.1 4 0 - 1) = true ∧ wi t 0 4 = true then (hkF σ t.toNatClampNeg x.toNatClampNeg + (if t = 2 then 10 else if t = 4 then 100 else 0), σ) else (-5, mNo σ 5)
def hookF (σ : MS) (K : Nat) (x pt pr f k : Int32) : Int32 × MS :=
  if wi x 0 (σ.1 0 0 - 1) = true ∧ ¬ tl σ 0 x.toNatClampNeg = 3 ∧ wi pt 0 3 = true then
    (if wi pr (-9) 9 = true ∧ wi f 0 8 = true ∧ wi k (-99) 99 = true then
      (if K = 24 then (-7, mNo σ 7) else (nI K, mu (mu (mu (mu (mu (mu σ 5 K x) 5 (24 + K) pt) 5 (48 + K) pr) 5 (72 + K) f) 5 (96 + K) k) 4 0 (nI (K + 1))))
    else (-6, mNo σ 6)) else (-1, mNo σ 1)
def aheadF (σ : MS) (g h : Nat) : Bool := if hkF σ 2 g = hkF σ 2 h then (if hkF σ 0 g = hkF σ 0 h then decide (g < h) else oldF σ (hkF σ 0 g).toNatClampNeg (hkF σ 0 h).toNatClampNeg) else decide (hkF σ 2 h < hkF σ 2 g)
def tenF (v : Int32) : Int32 := if v - v / 10 * 10 < 0 then v - v / 10 * 10 + 10 else v - v / 10 * 10
def throwF (σ : MS) (x : Int32) : MS := mu (mu σ 25 0 1) 26 0 x
def traceF (σ : MS) (i : Int32) : Int32 := if wi i 0 (imin 30 (σ.1 30 0) - 1) = true then σ.1 31 i.toNatClampNeg else -1
def logF (σ : MS) (g : Nat) (i : Int32) : Int32 := if wi i 0 (imin 40 (nI g) - 1) = true then σ.1 21 ((if 40 < g then g + i.toNatClampNeg else i.toNatClampNeg) % 40) else -1
def dsF (x : Int32) : Int32 := x * 1103515245 + 12345
def dT (x : Int32) : Nat := x.toBitVec.toNat / 65536
theorem dT_lt (x : Int32) : dT x < 65536 := by
  have := x.toBitVec.isLt
  unfold dT
  omega
theorem ush16 (x : Int32) : (x.toUInt32 >>> ((16 : Int32).toUInt32 &&& Int32.toUInt32 31)).toInt32 = nI (dT x) := by
  apply Int32.toBitVec_inj.mp
  apply BitVec.eq_of_toNat_eq
  rw [pk_ushr x 16 16 (by decide), pk_tn (by have := dT_lt x; omega)]
  rfl
theorem imin_N {a b : Nat} (ha : a < 2 ^ 31) (hb : b < 2 ^ 31) : imin (nI a) (nI b) = nI (min a b) := by
  unfold imin
  by_cases h : b < a
  · rw [if_pos ((nI_ltI hb ha).mpr h), Nat.min_eq_right (by omega)]
  · rw [if_neg (fun q => h ((nI_ltI hb ha).mp q)), Nat.min_eq_left (by omega)]
set_option maxHeartbeats 1000000 in
theorem met_X5_noRow {Y : YT} {l : Launch} {m0 n u : Nat} {σ : MS} {B : AH} (hz : yz Y ≤ m0) (s_ : Int32)  : GM Y l yX5_noRow (ws_ yX5_noRow cX5_noRow 2 (some FieldType.int)) 1 22 [.ref m0, .int s_] (mG Y m0 σ B) n u 0 0 (pI (fun r G' n' u' => -(nI (nrc σ  s_)) = r ∧ mG Y m0 σ B = G' ∧ n = n' ∧ u = u')) noX := by
  refine GM.intro (own := RX5) rfl (by decide +kernel) (Nat.le_of_ble_eq_true rfl) ?_
  intro p e s m args below meth c R Q hC hr hnm hF hL hE
  have hE1 := hE.1
  have hE2 := hE.2.1
  show V Y p l e R s m args below meth c 2 n u (mG Y m0 σ B) n u Q 0 [(0, .ref m0), (1, .int s_)] []
  refine g_iload_n hC dX5_noRow_0 rfl 1 rfl ?_
  refine g_iconst (v := 0) hC dX5_noRow_1 rfl ?_
  refine g_bipush (v := 7) hC dX5_noRow_2 (by decide) ?_
  refine g_calli0 hC (g_runS hC (met_X5_within hz s_ 0 7 ) (lw_S q3637 q3638 q89 q3639) md_X5_within dX5_noRow_4 rfl ⟨by omega, by omega⟩ (by omega) (by omega) rfl (Nat.le_of_ble_eq_true rfl)) (fun r_1 G_1 n_1 u_1 hp_1 hn_1 hm_1 hu_1 => ?_)
  obtain ⟨rfl, rfl, rfl, rfl⟩ := hp_1
  refine g_if_neB hC (wi s_ 0 7) dX5_noRow_7 (tgt := 12) (by decide) (fun c_7 => ?_) (fun c_7 => ?_)
  · have c7 : wi s_ 0 (nI 7) = true := c_7
    obtain ⟨j, hj, rfl⟩ := wi_nI (by decide) c7
    have cl_j : (nI j).toNatClampNeg = j := nI_clamp (by omega)
    refine g_aload_n hC dX5_noRow_12 rfl 0 rfl ?_
    refine m_get (v := .ref (m0 + 3)) hC 6 (by decide) q3527 rfl dX5_noRow_13 ?_
    refine g_iload_n hC dX5_noRow_16 rfl 1 rfl ?_
    refine m_ald (v := σ.1 6 j) hC 6 j rfl (show j < 8 from by omega) (by omega) rfl dX5_noRow_17 ?_
    refine g_if_lt hC dX5_noRow_18 (tgt := 32) (by decide) (fun c_18 => ?_) (fun c_18 => ?_)
    · refine g_aload_n hC dX5_noRow_32 rfl 0 rfl ?_
      refine m_get (v := .ref (m0 + 3)) hC 6 (by decide) q3527 rfl dX5_noRow_33 ?_
      refine g_iload_n hC dX5_noRow_36 rfl 1 rfl ?_
      refine m_ald (v := σ.1 6 j) hC 6 j rfl (show j < 8 from by omega) (by omega) rfl dX5_noRow_37 ?_
      refine g_if_ge hC dX5_noRow_38 (tgt := 46) (by decide) (fun c_38 => ?_) (fun c_38 => ?_)
      · first | exact absurd c_38 (Int32.not_le.mpr c_18) | exact absurd (Int32.not_lt.mp c_18) c_38 | exact absurd c_18 c_38 | exact absurd c_38 c_18
      · refine g_bipush (v := (-3)) hC dX5_noRow_41 (by decide) ?_
        refine g_goto (tgt := 47) hC dX5_noRow_43 (by decide) ?_
        refine g_iret hC hr rfl ⟨_, rfl, ?_⟩ (by omega) (by omega) hE dX5_noRow_47
        first
        | exact absurd c_38 (Int32.not_le.mpr c_18)
        | exact absurd (Int32.not_lt.mp c_38) c_18
        | exact absurd (Int32.not_le.mp c_38) c_18
        | (have h9 : nrc σ (nI j) = 3 := (by simp [nrc, c_7, cl_j, c_18, c_38]); exact ⟨by rw [h9]; rfl, rfl, rfl, rfl⟩)
    · refine g_aload_n hC dX5_noRow_21 rfl 0 rfl ?_
      refine g_iload_n hC dX5_noRow_22 rfl 1 rfl ?_
      refine g_calli0 hC (g_runV hC (met_X5_isRow hz j (by omega)) kc_X5 mG_o (lw_V q3652 q3654 qs39 q89 q3655) rfl md_X5_isRow dX5_noRow_23 rfl ⟨by omega, by omega⟩ (by omega) (by omega) rfl (Nat.le_of_ble_eq_true rfl)) (fun r_2 G_2 n_2 u_2 hp_2 hn_2 hm_2 hu_2 => ?_)
      obtain ⟨rfl, rfl, rfl, rfl⟩ := hp_2
      refine g_if_neB hC (rwF σ  j) dX5_noRow_26 (tgt := 32) (by decide) (fun c_26 => ?_) (fun c_26 => ?_)
      · refine g_aload_n hC dX5_noRow_32 rfl 0 rfl ?_
        refine m_get (v := .ref (m0 + 3)) hC 6 (by decide) q3527 rfl dX5_noRow_33 ?_
        refine g_iload_n hC dX5_noRow_36 rfl 1 rfl ?_
        refine m_ald (v := σ.1 6 j) hC 6 j rfl (show j < 8 from by omega) (by omega) rfl dX5_noRow_37 ?_
        refine g_if_ge hC dX5_noRow_38 (tgt := 46) (by decide) (fun c_38 => ?_) (fun c_38 => ?_)
        · refine g_iconst (v := 0) hC dX5_noRow_46 rfl ?_
          refine g_iret hC hr rfl ⟨_, rfl, ?_⟩ (by omega) (by omega) hE dX5_noRow_47
          first
          | exact absurd c_38 (Int32.not_le.mpr c_18)
          | exact absurd (Int32.not_lt.mp c_38) c_18
          | exact absurd (Int32.not_le.mp c_38) c_18
          | (have h9 : nrc σ (nI j) = 0 := (by simp [nrc, c_7, cl_j, c_18, c_26, c_38]); exact ⟨by rw [h9]; rfl, rfl, rfl, rfl⟩)
        · first | exact absurd c_38 (Int32.not_le.mpr c_18) | exact absurd (Int32.not_lt.mp c_18) c_38 | exact absurd c_18 c_38 | exact absurd c_38 c_18
      · refine g_bipush (v := (-2)) hC dX5_noRow_29 (by decide) ?_
        refine g_iret hC hr rfl ⟨_, rfl, ?_⟩ (by omega) (by omega) hE dX5_noRow_31
        first
        | exact absurd c_38 (Int32.not_le.mpr c_18)
        | exact absurd (Int32.not_lt.mp c_38) c_18
        | exact absurd (Int32.not_le.mp c_38) c_18
        | (have h9 : nrc σ (nI j) = 2 := (by simp [nrc, c_7, cl_j, c_18, c_26]); exact ⟨by rw [h9]; rfl, rfl, rfl, rfl⟩)
  · refine g_iconst (v := (-1)) hC dX5_noRow_10 rfl ?_
    refine g_iret hC hr rfl ⟨_, rfl, ?_⟩ (by omega) (by omega) hE dX5_noRow_11
    first
    | exact absurd c_38 (Int32.not_le.mpr c_18)
    | exact absurd (Int32.not_lt.mp c_38) c_18
    | exact absurd (Int32.not_le.mp c_38) c_18
    | (have h9 : nrc σ s_ = 1 := (by simp [nrc, c_7]); exact ⟨by rw [h9]; rfl, rfl, rfl, rfl⟩)
set_option maxHeartbeats 1000000 in
theorem met_X5_set {Y : YT} {l : Launch} {m0 n u : Nat} {σ : MS} {B : AH} (hz : yz Y ≤ m0) (s_ : Int32) (i_ : Int32) (v_ : Int64) (hl : ∀ j, j < 8 → ∃ t, t ≤ 160 ∧ σ.1 7 j = nI t) : GM Y l yX5_set (ws_ yX5_set cX5_set 7 (some FieldType.int)) 2 43 [.ref m0, .int s_, .int i_, .long v_] (mG Y m0 σ B) n u 0 0 (pI (fun r G' n' u' => (setF σ  s_ i_ v_).1 = r ∧ mG Y m0 ((setF σ  s_ i_ v_).2) B = G' ∧ n = n' ∧ u = u')) noX := by
  refine GM.intro (own := RX5) rfl (by decide +kernel) (Nat.le_of_ble_eq_true rfl) ?_
  intro p e s m args below meth c R Q hC hr hnm hF hL hE
  have hE1 := hE.1
  have hE2 := hE.2.1
  show V Y p l e R s m args below meth c 7 n u (mG Y m0 σ B) n u Q 0 [(0, .ref m0), (1, .int s_), (2, .int i_), (3, .long v_)] []
  refine g_aload_n hC dX5_set_0 rfl 0 rfl ?_
  refine g_iload_n hC dX5_set_1 rfl 1 rfl ?_
  refine g_calli0 hC (g_runV hC (met_X5_noRow hz s_ ) kc_X5 mG_o (lw_V q3648 q3650 qs38 q89 q3651) rfl md_X5_noRow dX5_set_2 rfl ⟨by omega, by omega⟩ (by omega) (by omega) rfl (Nat.le_of_ble_eq_true rfl)) (fun r_1 G_1 n_1 u_1 hp_1 hn_1 hm_1 hu_1 => ?_)
  obtain ⟨rfl, rfl, rfl, rfl⟩ := hp_1
  refine g_istore (L' := [(5, .int (-(nI (nrc σ  s_)))), (0, .ref m0), (1, .int s_), (2, .int i_), (3, .long v_)]) hC dX5_set_5 (by decide) rfl ?_
  refine g_iload hC dX5_set_7 0 rfl ?_
  refine g_if_ge hC dX5_set_9 (tgt := 19) (by decide) (fun c_9 => ?_) (fun c_9 => ?_)
  · have c9 := (m_ge (nrc_le σ s_)).mp c_9
    obtain ⟨j, hj, rfl, hn0, hrw⟩ := nrc_0 c9
    have cl_j : (nI j).toNatClampNeg = j := nI_clamp (by omega)
    obtain ⟨t, ht, et⟩ := hl j hj
    refine g_iload_n hC dX5_set_19 rfl 3 rfl ?_
    refine g_iconst (v := 0) hC dX5_set_20 rfl ?_
    refine g_aload_n hC dX5_set_21 rfl 1 rfl ?_
    refine m_get (v := .ref (m0 + 4)) hC 7 (by decide) q3528 rfl dX5_set_22 ?_
    refine g_iload_n hC dX5_set_25 rfl 2 rfl ?_
    refine m_ald (v := σ.1 7 j) hC 7 j rfl (show j < 8 from by omega) (by omega) rfl dX5_set_26 ?_
    refine g_iconst (v := 1) hC dX5_set_27 rfl ?_
    refine g_isub hC dX5_set_28 ?_
    refine g_calli0 hC (g_runS hC (met_X5_within hz i_ 0 ((σ.1 7 j) - 1) ) (lw_S q3637 q3638 q89 q3639) md_X5_within dX5_set_29 rfl ⟨by omega, by omega⟩ (by omega) (by omega) rfl (Nat.le_of_ble_eq_true rfl)) (fun r_2 G_2 n_2 u_2 hp_2 hn_2 hm_2 hu_2 => ?_)
    obtain ⟨rfl, rfl, rfl, rfl⟩ := hp_2
    refine g_if_neB hC (wi i_ 0 ((σ.1 7 j) - 1)) dX5_set_32 (tgt := 42) (by decide) (fun c_32 => ?_) (fun c_32 => ?_)
    · obtain ⟨i, hi, rfl⟩ := wi_pl et (by omega) c_32
      have cl_i : (nI i).toNatClampNeg = i := nI_clamp (by omega)
      refine g_aload_n hC dX5_set_42 rfl 1 rfl ?_
      refine m_get (v := .ref (m0 + 3)) hC 6 (by decide) q3527 rfl dX5_set_43 ?_
      refine g_iload_n hC dX5_set_46 rfl 2 rfl ?_
      refine m_ald (v := σ.1 6 j) hC 6 j rfl (show j < 8 from by omega) (by omega) rfl dX5_set_47 ?_
      refine g_bipush (v := 100) hC dX5_set_48 (by decide) ?_
      refine g_isub hC dX5_set_50 ?_
      refine g_istore (L' := [(6, .int ((σ.1 6 j) - 100)), (5, .int (-(nI (nrc σ  (nI j))))), (0, .ref m0), (1, .int (nI j)), (2, .int (nI i)), (3, .long v_)]) hC dX5_set_51 (by decide) rfl ?_
      refine g_aload_n hC dX5_set_53 rfl 2 rfl ?_
      refine m_get (v := .ref (m0 + 5)) hC 8 (by decide) q3529 rfl dX5_set_54 ?_
      refine g_sipush (v := 160) hC dX5_set_57 (by decide) ?_
      refine g_iload_n hC dX5_set_60 rfl 3 rfl ?_
      refine g_imulN hC 160 j dX5_set_61 ?_
      refine g_iload_n hC dX5_set_62 rfl 4 rfl ?_
      refine g_iaddN hC (160 * j) i dX5_set_63 ?_
      refine g_iload hC dX5_set_64 0 rfl ?_
      refine g_if_ne hC dX5_set_66 (tgt := 76) (by decide) (fun c_66 => ?_) (fun c_66 => ?_)
      · refine g_iload hC dX5_set_76 0 rfl ?_
        refine g_iconst (v := 1) hC dX5_set_78 rfl ?_
        refine g_icmp_ne hC dX5_set_79 (tgt := 89) (by decide) (fun c_79 => ?_) (fun c_79 => ?_)
        · refine g_iload hC dX5_set_89 0 rfl ?_
          refine g_iconst (v := 2) hC dX5_set_91 rfl ?_
          refine g_icmp_ne hC dX5_set_92 (tgt := 101) (by decide) (fun c_92 => ?_) (fun c_92 => ?_)
          · refine g_lload_n hC dX5_set_101 rfl 5 rfl ?_
            refine m_last hC ((160 * j) + i) (by omega) hz dX5_set_102 ?_
            refine g_iconst (v := 1) hC dX5_set_103 rfl ?_
            refine g_iret hC hr rfl ⟨_, rfl, ?_⟩ (by omega) (by omega) hE dX5_set_104
            first
            | contradiction
            | (have h9 : setF σ  (nI j) (nI i) v_ = (1, (mw σ ((160 * j) + i) v_)) := (by first | rfl | (simp [setF, nvF, c_9, c9, cl_j, c_32, cl_i, c_66, c_79, c_92, nI_l0, nI_l1, nI_l2, nI_l3, nI_l4, nI_l5, nI_l6, nI_l7, nI_l8, nI_l9, nI_l10]; done) | (simp only [setF, nvF, c_9, c9, cl_j, c_32, cl_i, c_66, c_79, c_92, if_true, if_false, if_pos, if_neg]; rfl) | (unfold setF; simp [nvF, c_9, c9, cl_j, c_32, cl_i, c_66, c_79, c_92, nI_l0, nI_l1, nI_l2, nI_l3, nI_l4, nI_l5, nI_l6, nI_l7, nI_l8, nI_l9, nI_l10]; done)); exact ⟨by rw [h9], by rw [h9], rfl, rfl⟩)
          · refine g_lload_n hC dX5_set_95 rfl 5 rfl ?_
            refine g_l2i (v := v_.toInt32) hC dX5_set_96 rfl ?_
            refine g_i2l (v := v_.toInt32.toInt64) hC dX5_set_97 rfl ?_
            refine g_goto (tgt := 102) hC dX5_set_98 (by decide) ?_
            refine m_last hC ((160 * j) + i) (by omega) hz dX5_set_102 ?_
            refine g_iconst (v := 1) hC dX5_set_103 rfl ?_
            refine g_iret hC hr rfl ⟨_, rfl, ?_⟩ (by omega) (by omega) hE dX5_set_104
            first
            | contradiction
            | (have h9 : setF σ  (nI j) (nI i) v_ = (1, (mw σ ((160 * j) + i) v_.toInt32.toInt64)) := (by first | rfl | (simp [setF, nvF, c_9, c9, cl_j, c_32, cl_i, c_66, c_79, c_92, nI_l0, nI_l1, nI_l2, nI_l3, nI_l4, nI_l5, nI_l6, nI_l7, nI_l8, nI_l9, nI_l10]; done) | (simp only [setF, nvF, c_9, c9, cl_j, c_32, cl_i, c_66, c_79, c_92, if_true, if_false, if_pos, if_neg]; rfl) | (unfold setF; simp [nvF, c_9, c9, cl_j, c_32, cl_i, c_66, c_79, c_92, nI_l0, nI_l1, nI_l2, nI_l3, nI_l4, nI_l5, nI_l6, nI_l7, nI_l8, nI_l9, nI_l10]; done)); exact ⟨by rw [h9], by rw [h9], rfl, rfl⟩)
        · refine g_lload_n hC dX5_set_82 rfl 5 rfl ?_
          refine g_l2i (v := v_.toInt32) hC dX5_set_83 rfl ?_
          refine g_i2s (v := v_.toInt32.toInt16.toInt32) hC dX5_set_84 rfl ?_
          refine g_i2l (v := v_.toInt32.toInt16.toInt32.toInt64) hC dX5_set_85 rfl ?_
          refine g_goto (tgt := 102) hC dX5_set_86 (by decide) ?_
          refine m_last hC ((160 * j) + i) (by omega) hz dX5_set_102 ?_
          refine g_iconst (v := 1) hC dX5_set_103 rfl ?_
          refine g_iret hC hr rfl ⟨_, rfl, ?_⟩ (by omega) (by omega) hE dX5_set_104
          first
          | contradiction
          | (have h9 : setF σ  (nI j) (nI i) v_ = (1, (mw σ ((160 * j) + i) v_.toInt32.toInt16.toInt32.toInt64)) := (by first | rfl | (simp [setF, nvF, c_9, c9, cl_j, c_32, cl_i, c_66, c_79, nI_l0, nI_l1, nI_l2, nI_l3, nI_l4, nI_l5, nI_l6, nI_l7, nI_l8, nI_l9, nI_l10]; done) | (simp only [setF, nvF, c_9, c9, cl_j, c_32, cl_i, c_66, c_79, if_true, if_false, if_pos, if_neg]; rfl) | (unfold setF; simp [nvF, c_9, c9, cl_j, c_32, cl_i, c_66, c_79, nI_l0, nI_l1, nI_l2, nI_l3, nI_l4, nI_l5, nI_l6, nI_l7, nI_l8, nI_l9, nI_l10]; done)); exact ⟨by rw [h9], by rw [h9], rfl, rfl⟩)
      · refine g_lload_n hC dX5_set_69 rfl 5 rfl ?_
        refine g_l2i (v := v_.toInt32) hC dX5_set_70 rfl ?_
        refine g_i2b (v := v_.toInt32.toInt8.toInt32) hC dX5_set_71 rfl ?_
        refine g_i2l (v := v_.toInt32.toInt8.toInt32.toInt64) hC dX5_set_72 rfl ?_
        refine g_goto (tgt := 102) hC dX5_set_73 (by decide) ?_
        refine m_last hC ((160 * j) + i) (by omega) hz dX5_set_102 ?_
        refine g_iconst (v := 1) hC dX5_set_103 rfl ?_
        refine g_iret hC hr rfl ⟨_, rfl, ?_⟩ (by omega) (by omega) hE dX5_set_104
        first
        | contradiction
        | (have h9 : setF σ  (nI j) (nI i) v_ = (1, (mw σ ((160 * j) + i) v_.toInt32.toInt8.toInt32.toInt64)) := (by first | rfl | (simp [setF, nvF, c_9, c9, cl_j, c_32, cl_i, c_66, nI_l0, nI_l1, nI_l2, nI_l3, nI_l4, nI_l5, nI_l6, nI_l7, nI_l8, nI_l9, nI_l10]; done) | (simp only [setF, nvF, c_9, c9, cl_j, c_32, cl_i, c_66, if_true, if_false, if_pos, if_neg]; rfl) | (unfold setF; simp [nvF, c_9, c9, cl_j, c_32, cl_i, c_66, nI_l0, nI_l1, nI_l2, nI_l3, nI_l4, nI_l5, nI_l6, nI_l7, nI_l8, nI_l9, nI_l10]; done)); exact ⟨by rw [h9], by rw [h9], rfl, rfl⟩)
    · refine g_aload_n hC dX5_set_35 rfl 1 rfl ?_
      refine g_bipush (v := (-5)) hC dX5_set_36 (by decide) ?_
      refine g_calli0 hC (g_runV hC (met_X5_no hz 5 (by omega)) kc_X5 mG_o (lw_V q3640 q3642 qs37 q89 q3643) rfl md_X5_no dX5_set_38 rfl ⟨by omega, by omega⟩ (by omega) (by omega) rfl (Nat.le_of_ble_eq_true rfl)) (fun r_3 G_3 n_3 u_3 hp_3 hn_3 hm_3 hu_3 => ?_)
      obtain ⟨rfl, rfl, rfl, rfl⟩ := hp_3
      refine g_iret hC hr rfl ⟨_, rfl, ?_⟩ (by omega) (by omega) hE dX5_set_41
      first
      | contradiction
      | (have h9 : setF σ  (nI j) i_ v_ = (-(nI 5), mNo σ 5) := (by first | rfl | (simp [setF, nvF, c_9, c9, cl_j, c_32, nI_l0, nI_l1, nI_l2, nI_l3, nI_l4, nI_l5, nI_l6, nI_l7, nI_l8, nI_l9, nI_l10]; done) | (simp only [setF, nvF, c_9, c9, cl_j, c_32, if_true, if_false, if_pos, if_neg]; rfl) | (unfold setF; simp [nvF, c_9, c9, cl_j, c_32, nI_l0, nI_l1, nI_l2, nI_l3, nI_l4, nI_l5, nI_l6, nI_l7, nI_l8, nI_l9, nI_l10]; done)); exact ⟨by rw [h9], by rw [h9], rfl, rfl⟩)
  · have c9 : ¬ nrc σ s_ = 0 := fun q => c_9 ((m_ge (nrc_le σ s_)).mpr q)
    refine g_aload_n hC dX5_set_12 rfl 1 rfl ?_
    refine g_iload hC dX5_set_13 0 rfl ?_
    refine g_calli0 hC (g_runV hC (met_X5_no hz (nrc σ  s_) (by have := nrc_le σ s_; omega)) kc_X5 mG_o (lw_V q3640 q3642 qs37 q89 q3643) rfl md_X5_no dX5_set_15 rfl ⟨by omega, by omega⟩ (by omega) (by omega) rfl (Nat.le_of_ble_eq_true rfl)) (fun r_4 G_4 n_4 u_4 hp_4 hn_4 hm_4 hu_4 => ?_)
    obtain ⟨rfl, rfl, rfl, rfl⟩ := hp_4
    refine g_iret hC hr rfl ⟨_, rfl, ?_⟩ (by omega) (by omega) hE dX5_set_18
    first
    | contradiction
    | (have h9 : setF σ  s_ i_ v_ = (-(nI (nrc σ  s_)), mNo σ (nrc σ  s_)) := (by first | rfl | (simp [setF, nvF, c_9, c9, nI_l0, nI_l1, nI_l2, nI_l3, nI_l4, nI_l5, nI_l6, nI_l7, nI_l8, nI_l9, nI_l10]; done) | (simp only [setF, nvF, c_9, c9, if_true, if_false, if_pos, if_neg]; rfl) | (unfold setF; simp [nvF, c_9, c9, nI_l0, nI_l1, nI_l2, nI_l3, nI_l4, nI_l5, nI_l6, nI_l7, nI_l8, nI_l9, nI_l10]; done)); exact ⟨by rw [h9], by rw [h9], rfl, rfl⟩)
set_option maxHeartbeats 1000000 in
theorem met_X5_element {Y : YT} {l : Launch} {m0 n u : Nat} {σ : MS} {B : AH} (hz : yz Y ≤ m0) (s_ : Int32) (i_ : Int32) (hl : ∀ j, j < 8 → ∃ t, t ≤ 160 ∧ σ.1 7 j = nI t) : GM Y l yX5_element (ws_ yX5_element cX5_element 3 (some FieldType.long)) 1 22 [.ref m0, .int s_, .int i_] (mG Y m0 σ B) n u 0 0 (pL (fun r G' n' u' => elemF σ  s_ i_ = r ∧ mG Y m0 σ B = G' ∧ n = n' ∧ u = u')) noX := by
  refine GM.intro (own := RX5) rfl (by decide +kernel) (Nat.le_of_ble_eq_true rfl) ?_
  intro p e s m args below meth c R Q hC hr hnm hF hL hE
  have hE1 := hE.1
  have hE2 := hE.2.1
  show V Y p l e R s m args below meth c 3 n u (mG Y m0 σ B) n u Q 0 [(0, .ref m0), (1, .int s_), (2, .int i_)] []
  refine g_iload_n hC dX5_element_0 rfl 1 rfl ?_
  refine g_iconst (v := 0) hC dX5_element_1 rfl ?_
  refine g_bipush (v := 7) hC dX5_element_2 (by decide) ?_
  refine g_calli0 hC (g_runS hC (met_X5_within hz s_ 0 7 ) (lw_S q3637 q3638 q89 q3639) md_X5_within dX5_element_4 rfl ⟨by omega, by omega⟩ (by omega) (by omega) rfl (Nat.le_of_ble_eq_true rfl)) (fun r_1 G_1 n_1 u_1 hp_1 hn_1 hm_1 hu_1 => ?_)
  obtain ⟨rfl, rfl, rfl, rfl⟩ := hp_1
  refine g_if_eqB hC (wi s_ 0 7) dX5_element_7 (tgt := 49) (by decide) (fun c_7 => ?_) (fun c_7 => ?_)
  · refine g_lconst (v := 0) hC dX5_element_49 rfl ?_
    refine g_lret hC hr ⟨_, rfl, ?_⟩ (by omega) (by omega) hE dX5_element_50
    first
    | contradiction
    | exact ⟨by first | rfl | (simp [elemF, c_7, nI_l0, nI_l1, nI_l2, nI_l3, nI_l4, nI_l5, nI_l6, nI_l7, nI_l8, nI_l9, nI_l10]; done) | (simp only [elemF, c_7, if_true, if_false, if_pos, if_neg]; rfl) | (unfold elemF; simp [c_7, nI_l0, nI_l1, nI_l2, nI_l3, nI_l4, nI_l5, nI_l6, nI_l7, nI_l8, nI_l9, nI_l10]; done), rfl, rfl, rfl⟩
  · have c7 : wi s_ 0 (nI 7) = true := c_7
    obtain ⟨j, hj, rfl⟩ := wi_nI (by decide) c7
    have cl_j : (nI j).toNatClampNeg = j := nI_clamp (by omega)
    have hj : j < 8 := by omega
    obtain ⟨t, ht, et⟩ := hl j hj
    refine g_aload_n hC dX5_element_10 rfl 0 rfl ?_
    refine g_iload_n hC dX5_element_11 rfl 1 rfl ?_
    refine g_calli0 hC (g_runV hC (met_X5_isRow hz j (by omega)) kc_X5 mG_o (lw_V q3652 q3654 qs39 q89 q3655) rfl md_X5_isRow dX5_element_12 rfl ⟨by omega, by omega⟩ (by omega) (by omega) rfl (Nat.le_of_ble_eq_true rfl)) (fun r_2 G_2 n_2 u_2 hp_2 hn_2 hm_2 hu_2 => ?_)
    obtain ⟨rfl, rfl, rfl, rfl⟩ := hp_2
    refine g_if_eqB hC (rwF σ  j) dX5_element_15 (tgt := 49) (by decide) (fun c_15 => ?_) (fun c_15 => ?_)
    · refine g_lconst (v := 0) hC dX5_element_49 rfl ?_
      refine g_lret hC hr ⟨_, rfl, ?_⟩ (by omega) (by omega) hE dX5_element_50
      first
      | contradiction
      | exact ⟨by first | rfl | (simp [elemF, c_7, cl_j, c7, c_15, nI_l0, nI_l1, nI_l2, nI_l3, nI_l4, nI_l5, nI_l6, nI_l7, nI_l8, nI_l9, nI_l10]; done) | (simp only [elemF, c_7, cl_j, c7, c_15, if_true, if_false, if_pos, if_neg]; rfl) | (unfold elemF; simp [c_7, cl_j, c7, c_15, nI_l0, nI_l1, nI_l2, nI_l3, nI_l4, nI_l5, nI_l6, nI_l7, nI_l8, nI_l9, nI_l10]; done), rfl, rfl, rfl⟩
    · refine g_iload_n hC dX5_element_18 rfl 2 rfl ?_
      refine g_iconst (v := 0) hC dX5_element_19 rfl ?_
      refine g_aload_n hC dX5_element_20 rfl 0 rfl ?_
      refine m_get (v := .ref (m0 + 4)) hC 7 (by decide) q3528 rfl dX5_element_21 ?_
      refine g_iload_n hC dX5_element_24 rfl 1 rfl ?_
      refine m_ald (v := σ.1 7 j) hC 7 j rfl (show j < 8 from by omega) (by omega) rfl dX5_element_25 ?_
      refine g_iconst (v := 1) hC dX5_element_26 rfl ?_
      refine g_isub hC dX5_element_27 ?_
      refine g_calli0 hC (g_runS hC (met_X5_within hz i_ 0 ((σ.1 7 j) - 1) ) (lw_S q3637 q3638 q89 q3639) md_X5_within dX5_element_28 rfl ⟨by omega, by omega⟩ (by omega) (by omega) rfl (Nat.le_of_ble_eq_true rfl)) (fun r_3 G_3 n_3 u_3 hp_3 hn_3 hm_3 hu_3 => ?_)
      obtain ⟨rfl, rfl, rfl, rfl⟩ := hp_3
      refine g_if_eqB hC (wi i_ 0 ((σ.1 7 j) - 1)) dX5_element_31 (tgt := 49) (by decide) (fun c_31 => ?_) (fun c_31 => ?_)
      · refine g_lconst (v := 0) hC dX5_element_49 rfl ?_
        refine g_lret hC hr ⟨_, rfl, ?_⟩ (by omega) (by omega) hE dX5_element_50
        first
        | contradiction
        | exact ⟨by first | rfl | (simp [elemF, c_7, cl_j, c7, c_15, c_31, nI_l0, nI_l1, nI_l2, nI_l3, nI_l4, nI_l5, nI_l6, nI_l7, nI_l8, nI_l9, nI_l10]; done) | (simp only [elemF, c_7, cl_j, c7, c_15, c_31, if_true, if_false, if_pos, if_neg]; rfl) | (unfold elemF; simp [c_7, cl_j, c7, c_15, c_31, nI_l0, nI_l1, nI_l2, nI_l3, nI_l4, nI_l5, nI_l6, nI_l7, nI_l8, nI_l9, nI_l10]; done), rfl, rfl, rfl⟩
      · obtain ⟨i, hi, rfl⟩ := wi_pl et (by omega) c_31
        have cl_i : (nI i).toNatClampNeg = i := nI_clamp (by omega)
        refine g_aload_n hC dX5_element_34 rfl 0 rfl ?_
        refine m_get (v := .ref (m0 + 5)) hC 8 (by decide) q3529 rfl dX5_element_35 ?_
        refine g_sipush (v := 160) hC dX5_element_38 (by decide) ?_
        refine g_iload_n hC dX5_element_41 rfl 1 rfl ?_
        refine g_imulN hC 160 j dX5_element_42 ?_
        refine g_iload_n hC dX5_element_43 rfl 2 rfl ?_
        refine g_iaddN hC (160 * j) i dX5_element_44 ?_
        refine m_lald (v := σ.2 ((160 * j) + i)) hC ((160 * j) + i) (by omega) rfl dX5_element_45 ?_
        refine g_goto (tgt := 50) hC dX5_element_46 (by decide) ?_
        refine g_lret hC hr ⟨_, rfl, ?_⟩ (by omega) (by omega) hE dX5_element_50
        first
        | contradiction
        | exact ⟨by first | rfl | (simp [elemF, c_7, cl_j, c7, c_15, c_31, cl_i, nI_l0, nI_l1, nI_l2, nI_l3, nI_l4, nI_l5, nI_l6, nI_l7, nI_l8, nI_l9, nI_l10]; done) | (simp only [elemF, c_7, cl_j, c7, c_15, c_31, cl_i, if_true, if_false, if_pos, if_neg]; rfl) | (unfold elemF; simp [c_7, cl_j, c7, c_15, c_31, cl_i, nI_l0, nI_l1, nI_l2, nI_l3, nI_l4, nI_l5, nI_l6, nI_l7, nI_l8, nI_l9, nI_l10]; done), rfl, rfl, rfl⟩
set_option maxHeartbeats 1000000 in
theorem met_X5_show {Y : YT} {l : Launch} {m0 n u : Nat} {σ : MS} {B : AH} (hz : yz Y ≤ m0) (s_ : Int32) (x_ : Int32)  : GM Y l yX5_show (ws_ yX5_show cX5_show 3 (some FieldType.int)) 2 43 [.ref m0, .int s_, .int x_] (mG Y m0 σ B) n u 0 0 (pI (fun r G' n' u' => (showF σ  s_ x_).1 = r ∧ mG Y m0 ((showF σ  s_ x_).2) B = G' ∧ n = n' ∧ u = u')) noX := by
  refine GM.intro (own := RX5) rfl (by decide +kernel) (Nat.le_of_ble_eq_true rfl) ?_
  intro p e s m args below meth c R Q hC hr hnm hF hL hE
  have hE1 := hE.1
  have hE2 := hE.2.1
  show V Y p l e R s m args below meth c 3 n u (mG Y m0 σ B) n u Q 0 [(0, .ref m0), (1, .int s_), (2, .int x_)] []
  refine g_iload_n hC dX5_show_0 rfl 1 rfl ?_
  refine g_iconst (v := 0) hC dX5_show_1 rfl ?_
  refine g_bipush (v := 7) hC dX5_show_2 (by decide) ?_
  refine g_calli0 hC (g_runS hC (met_X5_within hz s_ 0 7 ) (lw_S q3637 q3638 q89 q3639) md_X5_within dX5_show_4 rfl ⟨by omega, by omega⟩ (by omega) (by omega) rfl (Nat.le_of_ble_eq_true rfl)) (fun r_1 G_1 n_1 u_1 hp_1 hn_1 hm_1 hu_1 => ?_)
  obtain ⟨rfl, rfl, rfl, rfl⟩ := hp_1
  refine g_if_eqB hC (wi s_ 0 7) dX5_show_7 (tgt := 23) (by decide) (fun c_7 => ?_) (fun c_7 => ?_)
  · refine g_aload_n hC dX5_show_23 rfl 0 rfl ?_
    refine g_iconst (v := (-1)) hC dX5_show_24 rfl ?_
    refine g_calli0 hC (g_runV hC (met_X5_no hz 1 (by omega)) kc_X5 mG_o (lw_V q3640 q3642 qs37 q89 q3643) rfl md_X5_no dX5_show_25 rfl ⟨by omega, by omega⟩ (by omega) (by omega) rfl (Nat.le_of_ble_eq_true rfl)) (fun r_2 G_2 n_2 u_2 hp_2 hn_2 hm_2 hu_2 => ?_)
    obtain ⟨rfl, rfl, rfl, rfl⟩ := hp_2
    refine g_iret hC hr rfl ⟨_, rfl, ?_⟩ (by omega) (by omega) hE dX5_show_28
    first
    | contradiction
    | (have h9 : showF σ  s_ x_ = (-(nI 1), mNo σ 1) := (by first | rfl | (simp [showF, c_7, nI_l0, nI_l1, nI_l2, nI_l3, nI_l4, nI_l5, nI_l6, nI_l7, nI_l8, nI_l9, nI_l10]; done) | (simp only [showF, c_7, if_true, if_false, if_pos, if_neg]; rfl) | (unfold showF; simp [c_7, nI_l0, nI_l1, nI_l2, nI_l3, nI_l4, nI_l5, nI_l6, nI_l7, nI_l8, nI_l9, nI_l10]; done)); exact ⟨by rw [h9], by rw [h9], rfl, rfl⟩)
  · have c7 : wi s_ 0 (nI 7) = true := c_7
    obtain ⟨j, hj, rfl⟩ := wi_nI (by decide) c7
    have cl_j : (nI j).toNatClampNeg = j := nI_clamp (by omega)
    have hj : j < 8 := by omega
    refine g_iload_n hC dX5_show_10 rfl 2 rfl ?_
    refine g_iconst (v := (-1)) hC dX5_show_11 rfl ?_
    refine g_icmp_eq hC dX5_show_12 (tgt := 29) (by decide) (fun c_12 => ?_) (fun c_12 => ?_)
    · refine g_aload_n hC dX5_show_29 rfl 0 rfl ?_
      refine m_get (v := .ref (m0 + 3)) hC 6 (by decide) q3527 rfl dX5_show_30 ?_
      refine g_iload_n hC dX5_show_33 rfl 1 rfl ?_
      refine g_iload_n hC dX5_show_34 rfl 2 rfl ?_
      refine m_ast hC 6 j rfl (show j < 8 from by omega) (by omega) hz dX5_show_35 ?_
      refine g_iload_n hC dX5_show_36 rfl 2 rfl ?_
      refine g_iconst (v := (-1)) hC dX5_show_37 rfl ?_
      refine g_icmp_ne hC dX5_show_38 (tgt := 45) (by decide) (fun c_38 => ?_) (fun c_38 => ?_)
      · refine g_iconst (v := 1) hC dX5_show_45 rfl ?_
        refine g_iret hC hr rfl ⟨_, rfl, ?_⟩ (by omega) (by omega) hE dX5_show_46
        first
        | contradiction
        | (have h9 : showF σ  (nI j) x_ = (1, (mu σ 6 j x_)) := (by first | rfl | (simp [showF, c_7, cl_j, c7, c_12, c_38, nI_l0, nI_l1, nI_l2, nI_l3, nI_l4, nI_l5, nI_l6, nI_l7, nI_l8, nI_l9, nI_l10]; done) | (simp only [showF, c_7, cl_j, c7, c_12, c_38, if_true, if_false, if_pos, if_neg]; rfl) | (unfold showF; simp [c_7, cl_j, c7, c_12, c_38, nI_l0, nI_l1, nI_l2, nI_l3, nI_l4, nI_l5, nI_l6, nI_l7, nI_l8, nI_l9, nI_l10]; done)); exact ⟨by rw [h9], by rw [h9], rfl, rfl⟩)
      · refine g_iconst (v := 0) hC dX5_show_41 rfl ?_
        refine g_goto (tgt := 46) hC dX5_show_42 (by decide) ?_
        refine g_iret hC hr rfl ⟨_, rfl, ?_⟩ (by omega) (by omega) hE dX5_show_46
        first
        | contradiction
        | (have h9 : showF σ  (nI j) x_ = (0, (mu σ 6 j x_)) := (by first | rfl | (simp [showF, c_7, cl_j, c7, c_12, c_38, nI_l0, nI_l1, nI_l2, nI_l3, nI_l4, nI_l5, nI_l6, nI_l7, nI_l8, nI_l9, nI_l10]; done) | (simp only [showF, c_7, cl_j, c7, c_12, c_38, if_true, if_false, if_pos, if_neg]; rfl) | (unfold showF; simp [c_7, cl_j, c7, c_12, c_38, nI_l0, nI_l1, nI_l2, nI_l3, nI_l4, nI_l5, nI_l6, nI_l7, nI_l8, nI_l9, nI_l10]; done)); exact ⟨by rw [h9], by rw [h9], rfl, rfl⟩)
    · refine g_aload_n hC dX5_show_15 rfl 0 rfl ?_
      refine g_iload_n hC dX5_show_16 rfl 2 rfl ?_
      refine g_calli0 hC (g_runV hC (met_X5_isPlug hz x_ ) kc_X5 mG_o (lw_V q3668 q3670 qs40 q89 q3671) rfl md_X5_isPlug dX5_show_17 rfl ⟨by omega, by omega⟩ (by omega) (by omega) rfl (Nat.le_of_ble_eq_true rfl)) (fun r_3 G_3 n_3 u_3 hp_3 hn_3 hm_3 hu_3 => ?_)
      obtain ⟨rfl, rfl, rfl, rfl⟩ := hp_3
      refine g_if_neB hC (wi x_ 0 (σ.1 0 0 - 1)) dX5_show_20 (tgt := 29) (by decide) (fun c_20 => ?_) (fun c_20 => ?_)
      · refine g_aload_n hC dX5_show_29 rfl 0 rfl ?_
        refine m_get (v := .ref (m0 + 3)) hC 6 (by decide) q3527 rfl dX5_show_30 ?_
        refine g_iload_n hC dX5_show_33 rfl 1 rfl ?_
        refine g_iload_n hC dX5_show_34 rfl 2 rfl ?_
        refine m_ast hC 6 j rfl (show j < 8 from by omega) (by omega) hz dX5_show_35 ?_
        refine g_iload_n hC dX5_show_36 rfl 2 rfl ?_
        refine g_iconst (v := (-1)) hC dX5_show_37 rfl ?_
        refine g_icmp_ne hC dX5_show_38 (tgt := 45) (by decide) (fun c_38 => ?_) (fun c_38 => ?_)
        · refine g_iconst (v := 1) hC dX5_show_45 rfl ?_
          refine g_iret hC hr rfl ⟨_, rfl, ?_⟩ (by omega) (by omega) hE dX5_show_46
          first
          | contradiction
          | (have h9 : showF σ  (nI j) x_ = (1, (mu σ 6 j x_)) := (by first | rfl | (simp [showF, c_7, cl_j, c7, c_12, c_20, c_38, nI_l0, nI_l1, nI_l2, nI_l3, nI_l4, nI_l5, nI_l6, nI_l7, nI_l8, nI_l9, nI_l10]; done) | (simp only [showF, c_7, cl_j, c7, c_12, c_20, c_38, if_true, if_false, if_pos, if_neg]; rfl) | (unfold showF; simp [c_7, cl_j, c7, c_12, c_20, c_38, nI_l0, nI_l1, nI_l2, nI_l3, nI_l4, nI_l5, nI_l6, nI_l7, nI_l8, nI_l9, nI_l10]; done)); exact ⟨by rw [h9], by rw [h9], rfl, rfl⟩)
        · refine g_iconst (v := 0) hC dX5_show_41 rfl ?_
          refine g_goto (tgt := 46) hC dX5_show_42 (by decide) ?_
          refine g_iret hC hr rfl ⟨_, rfl, ?_⟩ (by omega) (by omega) hE dX5_show_46
          first
          | contradiction
          | (have h9 : showF σ  (nI j) x_ = (0, (mu σ 6 j x_)) := (by first | rfl | (simp [showF, c_7, cl_j, c7, c_12, c_20, c_38, nI_l0, nI_l1, nI_l2, nI_l3, nI_l4, nI_l5, nI_l6, nI_l7, nI_l8, nI_l9, nI_l10]; done) | (simp only [showF, c_7, cl_j, c7, c_12, c_20, c_38, if_true, if_false, if_pos, if_neg]; rfl) | (unfold showF; simp [c_7, cl_j, c7, c_12, c_20, c_38, nI_l0, nI_l1, nI_l2, nI_l3, nI_l4, nI_l5, nI_l6, nI_l7, nI_l8, nI_l9, nI_l10]; done)); exact ⟨by rw [h9], by rw [h9], rfl, rfl⟩)
      · refine g_aload_n hC dX5_show_23 rfl 0 rfl ?_
        refine g_iconst (v := (-1)) hC dX5_show_24 rfl ?_
        refine g_calli0 hC (g_runV hC (met_X5_no hz 1 (by omega)) kc_X5 mG_o (lw_V q3640 q3642 qs37 q89 q3643) rfl md_X5_no dX5_show_25 rfl ⟨by omega, by omega⟩ (by omega) (by omega) rfl (Nat.le_of_ble_eq_true rfl)) (fun r_4 G_4 n_4 u_4 hp_4 hn_4 hm_4 hu_4 => ?_)
        obtain ⟨rfl, rfl, rfl, rfl⟩ := hp_4
        refine g_iret hC hr rfl ⟨_, rfl, ?_⟩ (by omega) (by omega) hE dX5_show_28
        first
        | contradiction
        | (have h9 : showF σ  (nI j) x_ = (-(nI 1), mNo σ 1) := (by first | rfl | (simp [showF, c_7, cl_j, c7, c_12, c_20, nI_l0, nI_l1, nI_l2, nI_l3, nI_l4, nI_l5, nI_l6, nI_l7, nI_l8, nI_l9, nI_l10]; done) | (simp only [showF, c_7, cl_j, c7, c_12, c_20, if_true, if_false, if_pos, if_neg]; rfl) | (unfold showF; simp [c_7, cl_j, c7, c_12, c_20, nI_l0, nI_l1, nI_l2, nI_l3, nI_l4, nI_l5, nI_l6, nI_l7, nI_l8, nI_l9, nI_l10]; done)); exact ⟨by rw [h9], by rw [h9], rfl, rfl⟩)
set_option maxHeartbeats 1000000 in
theorem met_X5_holds {Y : YT} {l : Launch} {m0 n u : Nat} {σ : MS} {B : AH} (hz : yz Y ≤ m0) (s_ : Int32)  : GM Y l yX5_holds (ws_ yX5_holds cX5_holds 2 (some FieldType.int)) 1 22 [.ref m0, .int s_] (mG Y m0 σ B) n u 0 0 (pI (fun r G' n' u' => holdsF σ  s_ = r ∧ mG Y m0 σ B = G' ∧ n = n' ∧ u = u')) noX := by
  refine GM.intro (own := RX5) rfl (by decide +kernel) (Nat.le_of_ble_eq_true rfl) ?_
  intro p e s m args below meth c R Q hC hr hnm hF hL hE
  have hE1 := hE.1
  have hE2 := hE.2.1
  show V Y p l e R s m args below meth c 2 n u (mG Y m0 σ B) n u Q 0 [(0, .ref m0), (1, .int s_)] []
  refine g_iload_n hC dX5_holds_0 rfl 1 rfl ?_
  refine g_iconst (v := 0) hC dX5_holds_1 rfl ?_
  refine g_bipush (v := 7) hC dX5_holds_2 (by decide) ?_
  refine g_calli0 hC (g_runS hC (met_X5_within hz s_ 0 7 ) (lw_S q3637 q3638 q89 q3639) md_X5_within dX5_holds_4 rfl ⟨by omega, by omega⟩ (by omega) (by omega) rfl (Nat.le_of_ble_eq_true rfl)) (fun r_1 G_1 n_1 u_1 hp_1 hn_1 hm_1 hu_1 => ?_)
  obtain ⟨rfl, rfl, rfl, rfl⟩ := hp_1
  refine g_if_eqB hC (wi s_ 0 7) dX5_holds_7 (tgt := 19) (by decide) (fun c_7 => ?_) (fun c_7 => ?_)
  · refine g_iconst (v := (-1)) hC dX5_holds_19 rfl ?_
    refine g_iret hC hr rfl ⟨_, rfl, ?_⟩ (by omega) (by omega) hE dX5_holds_20
    first
    | contradiction
    | exact ⟨by first | rfl | (simp [holdsF, c_7, nI_l0, nI_l1, nI_l2, nI_l3, nI_l4, nI_l5, nI_l6, nI_l7, nI_l8, nI_l9, nI_l10]; done) | (simp only [holdsF, c_7, if_true, if_false, if_pos, if_neg]; rfl) | (unfold holdsF; simp [c_7, nI_l0, nI_l1, nI_l2, nI_l3, nI_l4, nI_l5, nI_l6, nI_l7, nI_l8, nI_l9, nI_l10]; done), rfl, rfl, rfl⟩
  · have c7 : wi s_ 0 (nI 7) = true := c_7
    obtain ⟨j, hj, rfl⟩ := wi_nI (by decide) c7
    have cl_j : (nI j).toNatClampNeg = j := nI_clamp (by omega)
    have hj : j < 8 := by omega
    refine g_aload_n hC dX5_holds_10 rfl 0 rfl ?_
    refine m_get (v := .ref (m0 + 3)) hC 6 (by decide) q3527 rfl dX5_holds_11 ?_
    refine g_iload_n hC dX5_holds_14 rfl 1 rfl ?_
    refine m_ald (v := σ.1 6 j) hC 6 j rfl (show j < 8 from by omega) (by omega) rfl dX5_holds_15 ?_
    refine g_goto (tgt := 20) hC dX5_holds_16 (by decide) ?_
    refine g_iret hC hr rfl ⟨_, rfl, ?_⟩ (by omega) (by omega) hE dX5_holds_20
    first
    | contradiction
    | exact ⟨by first | rfl | (simp [holdsF, c_7, cl_j, c7, nI_l0, nI_l1, nI_l2, nI_l3, nI_l4, nI_l5, nI_l6, nI_l7, nI_l8, nI_l9, nI_l10]; done) | (simp only [holdsF, c_7, cl_j, c7, if_true, if_false, if_pos, if_neg]; rfl) | (unfold holdsF; simp [c_7, cl_j, c7, nI_l0, nI_l1, nI_l2, nI_l3, nI_l4, nI_l5, nI_l6, nI_l7, nI_l8, nI_l9, nI_l10]; done), rfl, rfl, rfl⟩
set_option maxHeartbeats 1000000 in
theorem met_X5_newPlug {Y : YT} {l : Launch} {m0 n u : Nat} {σ : MS} {B : AH} (hz : yz Y ≤ m0) (k_ : Int32) (r_ : Int32) (ne_ : Int32) (of_ : Int32) (fa_ : Int32) (na_ : Int32) {N : Nat} (hN : σ.1 0 0 = nI N) (hN2 : N < 12) : GM Y l yX5_newPlug (ws_ yX5_newPlug cX5_newPlug 7 (some FieldType.int)) 0 0 [.ref m0, .int k_, .int r_, .int ne_, .int of_, .int fa_, .int na_] (mG Y m0 σ B) n u 0 0 (pI (fun r G' n' u' => nI N = r ∧ mG Y m0 (npF σ N k_ r_ ne_ of_ fa_ na_) B = G' ∧ n = n' ∧ u = u')) noX := by
  refine GM.intro (own := RX5) rfl (by decide +kernel) (Nat.le_of_ble_eq_true rfl) ?_
  intro p e s m args below meth c R Q hC hr hnm hF hL hE
  have hE1 := hE.1
  have hE2 := hE.2.1
  show V Y p l e R s m args below meth c 7 n u (mG Y m0 σ B) n u Q 0 [(0, .ref m0), (1, .int k_), (2, .int r_), (3, .int ne_), (4, .int of_), (5, .int fa_), (6, .int na_)] []
  refine g_aload_n hC dX5_newPlug_0 rfl 0 rfl ?_
  refine m_get (v := .ref (m0 + 1)) hC 1 (by decide) q3522 rfl dX5_newPlug_1 ?_
  refine g_aload_n hC dX5_newPlug_4 rfl 0 rfl ?_
  refine m_get (v := .int (nI N)) hC 0 (by decide) q3521 (congrArg (fun z => some (Value.int z)) hN) dX5_newPlug_5 ?_
  refine g_iconst (v := 0) hC dX5_newPlug_8 rfl ?_
  refine m_ast hC 1 N rfl (show N < 108 from by omega) (by omega) hz dX5_newPlug_9 ?_
  refine g_aload_n hC dX5_newPlug_10 rfl 0 rfl ?_
  refine m_get (v := .ref (m0 + 1)) hC 1 (by decide) q3522 rfl dX5_newPlug_11 ?_
  refine g_bipush (v := 12) hC dX5_newPlug_14 (by decide) ?_
  refine g_aload_n hC dX5_newPlug_16 rfl 0 rfl ?_
  refine m_get (v := .int (nI N)) hC 0 (by decide) q3521 (congrArg (fun z => some (Value.int z)) ((mu_nk (by decide)).trans hN)) dX5_newPlug_17 ?_
  refine g_iaddN hC 12 N dX5_newPlug_20 ?_
  refine g_iload_n hC dX5_newPlug_21 rfl 1 rfl ?_
  refine m_ast hC 1 (12 + N) rfl (show 12 + N < 108 from by omega) (by omega) hz dX5_newPlug_22 ?_
  refine g_aload_n hC dX5_newPlug_23 rfl 0 rfl ?_
  refine m_get (v := .ref (m0 + 1)) hC 1 (by decide) q3522 rfl dX5_newPlug_24 ?_
  refine g_bipush (v := 24) hC dX5_newPlug_27 (by decide) ?_
  refine g_aload_n hC dX5_newPlug_29 rfl 0 rfl ?_
  refine m_get (v := .int (nI N)) hC 0 (by decide) q3521 (congrArg (fun z => some (Value.int z)) ((mu_nk (by decide)).trans ((mu_nk (by decide)).trans hN))) dX5_newPlug_30 ?_
  refine g_iaddN hC 24 N dX5_newPlug_33 ?_
  refine g_iload_n hC dX5_newPlug_34 rfl 2 rfl ?_
  refine m_ast hC 1 (24 + N) rfl (show 24 + N < 108 from by omega) (by omega) hz dX5_newPlug_35 ?_
  refine g_aload_n hC dX5_newPlug_36 rfl 0 rfl ?_
  refine m_get (v := .ref (m0 + 1)) hC 1 (by decide) q3522 rfl dX5_newPlug_37 ?_
  refine g_bipush (v := 36) hC dX5_newPlug_40 (by decide) ?_
  refine g_aload_n hC dX5_newPlug_42 rfl 0 rfl ?_
  refine m_get (v := .int (nI N)) hC 0 (by decide) q3521 (congrArg (fun z => some (Value.int z)) ((mu_nk (by decide)).trans ((mu_nk (by decide)).trans ((mu_nk (by decide)).trans hN)))) dX5_newPlug_43 ?_
  refine g_iaddN hC 36 N dX5_newPlug_46 ?_
  refine g_iload_n hC dX5_newPlug_47 rfl 3 rfl ?_
  refine m_ast hC 1 (36 + N) rfl (show 36 + N < 108 from by omega) (by omega) hz dX5_newPlug_48 ?_
  refine g_aload_n hC dX5_newPlug_49 rfl 0 rfl ?_
  refine m_get (v := .ref (m0 + 1)) hC 1 (by decide) q3522 rfl dX5_newPlug_50 ?_
  refine g_bipush (v := 48) hC dX5_newPlug_53 (by decide) ?_
  refine g_aload_n hC dX5_newPlug_55 rfl 0 rfl ?_
  refine m_get (v := .int (nI N)) hC 0 (by decide) q3521 (congrArg (fun z => some (Value.int z)) ((mu_nk (by decide)).trans ((mu_nk (by decide)).trans ((mu_nk (by decide)).trans ((mu_nk (by decide)).trans hN))))) dX5_newPlug_56 ?_
  refine g_iaddN hC 48 N dX5_newPlug_59 ?_
  refine g_iload hC dX5_newPlug_60 4 rfl ?_
  refine m_ast hC 1 (48 + N) rfl (show 48 + N < 108 from by omega) (by omega) hz dX5_newPlug_62 ?_
  refine g_aload_n hC dX5_newPlug_63 rfl 0 rfl ?_
  refine m_get (v := .ref (m0 + 1)) hC 1 (by decide) q3522 rfl dX5_newPlug_64 ?_
  refine g_bipush (v := 60) hC dX5_newPlug_67 (by decide) ?_
  refine g_aload_n hC dX5_newPlug_69 rfl 0 rfl ?_
  refine m_get (v := .int (nI N)) hC 0 (by decide) q3521 (congrArg (fun z => some (Value.int z)) ((mu_nk (by decide)).trans ((mu_nk (by decide)).trans ((mu_nk (by decide)).trans ((mu_nk (by decide)).trans ((mu_nk (by decide)).trans hN)))))) dX5_newPlug_70 ?_
  refine g_iaddN hC 60 N dX5_newPlug_73 ?_
  refine g_iload hC dX5_newPlug_74 5 rfl ?_
  refine m_ast hC 1 (60 + N) rfl (show 60 + N < 108 from by omega) (by omega) hz dX5_newPlug_76 ?_
  refine g_aload_n hC dX5_newPlug_77 rfl 0 rfl ?_
  refine m_get (v := .ref (m0 + 1)) hC 1 (by decide) q3522 rfl dX5_newPlug_78 ?_
  refine g_bipush (v := 72) hC dX5_newPlug_81 (by decide) ?_
  refine g_aload_n hC dX5_newPlug_83 rfl 0 rfl ?_
  refine m_get (v := .int (nI N)) hC 0 (by decide) q3521 (congrArg (fun z => some (Value.int z)) ((mu_nk (by decide)).trans ((mu_nk (by decide)).trans ((mu_nk (by decide)).trans ((mu_nk (by decide)).trans ((mu_nk (by decide)).trans ((mu_nk (by decide)).trans hN))))))) dX5_newPlug_84 ?_
  refine g_iaddN hC 72 N dX5_newPlug_87 ?_
  refine g_iload hC dX5_newPlug_88 6 rfl ?_
  refine m_ast hC 1 (72 + N) rfl (show 72 + N < 108 from by omega) (by omega) hz dX5_newPlug_90 ?_
  refine g_aload_n hC dX5_newPlug_91 rfl 0 rfl ?_
  refine m_get (v := .ref (m0 + 1)) hC 1 (by decide) q3522 rfl dX5_newPlug_92 ?_
  refine g_bipush (v := 84) hC dX5_newPlug_95 (by decide) ?_
  refine g_aload_n hC dX5_newPlug_97 rfl 0 rfl ?_
  refine m_get (v := .int (nI N)) hC 0 (by decide) q3521 (congrArg (fun z => some (Value.int z)) ((mu_nk (by decide)).trans ((mu_nk (by decide)).trans ((mu_nk (by decide)).trans ((mu_nk (by decide)).trans ((mu_nk (by decide)).trans ((mu_nk (by decide)).trans ((mu_nk (by decide)).trans hN)))))))) dX5_newPlug_98 ?_
  refine g_iaddN hC 84 N dX5_newPlug_101 ?_
  refine g_iconst (v := 0) hC dX5_newPlug_102 rfl ?_
  refine m_ast hC 1 (84 + N) rfl (show 84 + N < 108 from by omega) (by omega) hz dX5_newPlug_103 ?_
  refine g_aload_n hC dX5_newPlug_104 rfl 0 rfl ?_
  refine m_get (v := .ref (m0 + 1)) hC 1 (by decide) q3522 rfl dX5_newPlug_105 ?_
  refine g_bipush (v := 96) hC dX5_newPlug_108 (by decide) ?_
  refine g_aload_n hC dX5_newPlug_110 rfl 0 rfl ?_
  refine m_get (v := .int (nI N)) hC 0 (by decide) q3521 (congrArg (fun z => some (Value.int z)) ((mu_nk (by decide)).trans ((mu_nk (by decide)).trans ((mu_nk (by decide)).trans ((mu_nk (by decide)).trans ((mu_nk (by decide)).trans ((mu_nk (by decide)).trans ((mu_nk (by decide)).trans ((mu_nk (by decide)).trans hN))))))))) dX5_newPlug_111 ?_
  refine g_iaddN hC 96 N dX5_newPlug_114 ?_
  refine g_iconst (v := 0) hC dX5_newPlug_115 rfl ?_
  refine m_ast hC 1 (96 + N) rfl (show 96 + N < 108 from by omega) (by omega) hz dX5_newPlug_116 ?_
  refine g_aload_n hC dX5_newPlug_117 rfl 0 rfl ?_
  refine g_dup hC dX5_newPlug_118 rfl ?_
  refine m_get (v := .int (nI N)) hC 0 (by decide) q3521 (congrArg (fun z => some (Value.int z)) ((mu_nk (by decide)).trans ((mu_nk (by decide)).trans ((mu_nk (by decide)).trans ((mu_nk (by decide)).trans ((mu_nk (by decide)).trans ((mu_nk (by decide)).trans ((mu_nk (by decide)).trans ((mu_nk (by decide)).trans ((mu_nk (by decide)).trans hN)))))))))) dX5_newPlug_119 ?_
  refine g_dup_x1 hC dX5_newPlug_122 rfl rfl ?_
  refine g_iconst (v := 1) hC dX5_newPlug_123 rfl ?_
  refine g_iaddN hC N 1 dX5_newPlug_124 ?_
  refine m_put hC 0 (by decide) rfl (by decide) q3521 rfl rfl rfl hz dX5_newPlug_125 ?_
  refine g_iret hC hr rfl ⟨_, rfl, ?_⟩ (by omega) (by omega) hE dX5_newPlug_128
  exact ⟨rfl, rfl, rfl, rfl⟩
set_option maxHeartbeats 1000000 in
theorem met_X5_fault {Y : YT} {l : Launch} {m0 n u : Nat} {σ : MS} {B : AH} (hz : yz Y ≤ m0)   : GM Y l yX5_fault (ws_ yX5_fault cX5_fault 1 (some FieldType.int)) 0 0 [.ref m0] (mG Y m0 σ B) n u 0 0 (pI (fun r G' n' u' => σ.1 9 0 = r ∧ mG Y m0 σ B = G' ∧ n = n' ∧ u = u')) noX := by
  refine GM.intro (own := RX5) rfl (by decide +kernel) (Nat.le_of_ble_eq_true rfl) ?_
  intro p e s m args below meth c R Q hC hr hnm hF hL hE
  have hE1 := hE.1
  have hE2 := hE.2.1
  show V Y p l e R s m args below meth c 1 n u (mG Y m0 σ B) n u Q 0 [(0, .ref m0)] []
  refine g_aload_n hC dX5_fault_0 rfl 0 rfl ?_
  refine m_get (v := .int (σ.1 9 0)) hC 9 (by decide) q3530 rfl dX5_fault_1 ?_
  refine g_iret hC hr rfl ⟨_, rfl, ?_⟩ (by omega) (by omega) hE dX5_fault_4
  first
  | contradiction
  | exact ⟨by first | rfl | (simp [nI_l0, nI_l1, nI_l2, nI_l3, nI_l4, nI_l5, nI_l6, nI_l7, nI_l8, nI_l9, nI_l10]; done) | (simp only [if_true, if_false, if_pos, if_neg]; rfl), rfl, rfl, rfl⟩
set_option maxHeartbeats 1000000 in
theorem met_X5_given {Y : YT} {l : Launch} {m0 n u : Nat} {σ : MS} {B : AH} (hz : yz Y ≤ m0)   : GM Y l yX5_given (ws_ yX5_given cX5_given 1 (some FieldType.int)) 0 0 [.ref m0] (mG Y m0 σ B) n u 0 0 (pI (fun r G' n' u' => σ.1 32 0 = r ∧ mG Y m0 σ B = G' ∧ n = n' ∧ u = u')) noX := by
  refine GM.intro (own := RX5) rfl (by decide +kernel) (Nat.le_of_ble_eq_true rfl) ?_
  intro p e s m args below meth c R Q hC hr hnm hF hL hE
  have hE1 := hE.1
  have hE2 := hE.2.1
  show V Y p l e R s m args below meth c 1 n u (mG Y m0 σ B) n u Q 0 [(0, .ref m0)] []
  refine g_aload_n hC dX5_given_0 rfl 0 rfl ?_
  refine m_get (v := .int (σ.1 32 0)) hC 32 (by decide) q3553 rfl dX5_given_1 ?_
  refine g_iret hC hr rfl ⟨_, rfl, ?_⟩ (by omega) (by omega) hE dX5_given_4
  first
  | contradiction
  | exact ⟨by first | rfl | (simp [nI_l0, nI_l1, nI_l2, nI_l3, nI_l4, nI_l5, nI_l6, nI_l7, nI_l8, nI_l9, nI_l10]; done) | (simp only [if_true, if_false, if_pos, if_neg]; rfl), rfl, rfl, rfl⟩
set_option maxHeartbeats 1000000 in
theorem met_X5_plugOf {Y : YT} {l : Launch} {m0 n u : Nat} {σ : MS} {B : AH} (hz : yz Y ≤ m0) (x_ : Int32) (t_ : Int32) {N : Nat} (hN : σ.1 0 0 = nI N) (hN2 : N ≤ 12) : GM Y l yX5_plugOf (ws_ yX5_plugOf cX5_plugOf 3 (some FieldType.int)) 2 46 [.ref m0, .int x_, .int t_] (mG Y m0 σ B) n u 0 0 (pI (fun r G' n' u' => (plugOfF σ  x_ t_).1 = r ∧ mG Y m0 ((plugOfF σ  x_ t_).2) B = G' ∧ n = n' ∧ u = u')) noX := by
  refine GM.intro (own := RX5) rfl (by decide +kernel) (Nat.le_of_ble_eq_true rfl) ?_
  intro p e s m args below meth c R Q hC hr hnm hF hL hE
  have hE1 := hE.1
  have hE2 := hE.2.1
  show V Y p l e R s m args below meth c 3 n u (mG Y m0 σ B) n u Q 0 [(0, .ref m0), (1, .int x_), (2, .int t_)] []
  refine g_aload_n hC dX5_plugOf_0 rfl 0 rfl ?_
  refine g_iload_n hC dX5_plugOf_1 rfl 1 rfl ?_
  refine g_calli0 hC (g_runV hC (met_X5_isPlug hz x_ ) kc_X5 mG_o (lw_V q3668 q3670 qs40 q89 q3671) rfl md_X5_isPlug dX5_plugOf_2 rfl ⟨by omega, by omega⟩ (by omega) (by omega) rfl (Nat.le_of_ble_eq_true rfl)) (fun r_1 G_1 n_1 u_1 hp_1 hn_1 hm_1 hu_1 => ?_)
  obtain ⟨rfl, rfl, rfl, rfl⟩ := hp_1
  refine g_if_eqB hC (wi x_ 0 (σ.1 0 0 - 1)) dX5_plugOf_5 (tgt := 18) (by decide) (fun c_5 => ?_) (fun c_5 => ?_)
  · refine g_aload_n hC dX5_plugOf_18 rfl 0 rfl ?_
    refine g_bipush (v := (-5)) hC dX5_plugOf_19 (by decide) ?_
    refine g_calli0 hC (g_runV hC (met_X5_no hz 5 (by omega)) kc_X5 mG_o (lw_V q3640 q3642 qs37 q89 q3643) rfl md_X5_no dX5_plugOf_21 rfl ⟨by omega, by omega⟩ (by omega) (by omega) rfl (Nat.le_of_ble_eq_true rfl)) (fun r_2 G_2 n_2 u_2 hp_2 hn_2 hm_2 hu_2 => ?_)
    obtain ⟨rfl, rfl, rfl, rfl⟩ := hp_2
    refine g_iret hC hr rfl ⟨_, rfl, ?_⟩ (by omega) (by omega) hE dX5_plugOf_24
    first
    | contradiction
    | (have h9 : plugOfF σ  x_ t_ = (-(nI 5), mNo σ 5) := (by first | rfl | (simp [plugOfF, c_5, nI_l0, nI_l1, nI_l2, nI_l3, nI_l4, nI_l5, nI_l6, nI_l7, nI_l8, nI_l9, nI_l10]; done) | (simp only [plugOfF, c_5, if_true, if_false, if_pos, if_neg]; rfl) | (unfold plugOfF; simp [c_5, nI_l0, nI_l1, nI_l2, nI_l3, nI_l4, nI_l5, nI_l6, nI_l7, nI_l8, nI_l9, nI_l10]; done)); exact ⟨by rw [h9], by rw [h9], rfl, rfl⟩)
  · refine g_iload_n hC dX5_plugOf_8 rfl 2 rfl ?_
    refine g_iconst (v := 0) hC dX5_plugOf_9 rfl ?_
    refine g_bipush (v := 7) hC dX5_plugOf_10 (by decide) ?_
    refine g_calli0 hC (g_runS hC (met_X5_within hz t_ 0 7 ) (lw_S q3637 q3638 q89 q3639) md_X5_within dX5_plugOf_12 rfl ⟨by omega, by omega⟩ (by omega) (by omega) rfl (Nat.le_of_ble_eq_true rfl)) (fun r_3 G_3 n_3 u_3 hp_3 hn_3 hm_3 hu_3 => ?_)
    obtain ⟨rfl, rfl, rfl, rfl⟩ := hp_3
    refine g_if_neB hC (wi t_ 0 7) dX5_plugOf_15 (tgt := 25) (by decide) (fun c_15 => ?_) (fun c_15 => ?_)
    · obtain ⟨j, hj, rfl⟩ := wi_pl hN (by omega) c_5
      have cl_j : (nI j).toNatClampNeg = j := nI_clamp (by omega)
      have c15 : wi t_ 0 (nI 7) = true := c_15
      obtain ⟨t, ht, rfl⟩ := wi_nI (by decide) c15
      have cl_t : (nI t).toNatClampNeg = t := nI_clamp (by omega)
      
      refine g_iload_n hC dX5_plugOf_25 rfl 2 rfl ?_
      refine g_bipush (v := 6) hC dX5_plugOf_26 (by decide) ?_
      refine g_icmp_ge hC dX5_plugOf_28 (tgt := 40) (by decide) (fun c_28 => ?_) (fun c_28 => ?_)
      · refine g_iload_n hC dX5_plugOf_40 rfl 2 rfl ?_
        refine g_bipush (v := 6) hC dX5_plugOf_41 (by decide) ?_
        refine g_icmp_ne hC dX5_plugOf_43 (tgt := 54) (by decide) (fun c_43 => ?_) (fun c_43 => ?_)
        · refine g_aload_n hC dX5_plugOf_54 rfl 0 rfl ?_
          refine g_bipush (v := 6) hC dX5_plugOf_55 (by decide) ?_
          refine g_iload_n hC dX5_plugOf_57 rfl 1 rfl ?_
          refine g_calli0 hC (g_runV hC (met_X5_of hz 6 j (by omega)) kc_X5 mG_o (lw_V q3680 q3682 qs41 q89 q3683) rfl md_X5_of dX5_plugOf_58 rfl ⟨by omega, by omega⟩ (by omega) (by omega) rfl (Nat.le_of_ble_eq_true rfl)) (fun r_4 G_4 n_4 u_4 hp_4 hn_4 hm_4 hu_4 => ?_)
          obtain ⟨rfl, rfl, rfl, rfl⟩ := hp_4
          refine g_iret hC hr rfl ⟨_, rfl, ?_⟩ (by omega) (by omega) hE dX5_plugOf_61
          first
          | contradiction
          | (have h9 : plugOfF σ  (nI j) (nI t) = (tl σ  6 j, σ) := (by first | rfl | (simp [plugOfF, c_5, c_15, cl_j, cl_t, c15, c_28, c_43, nI_l0, nI_l1, nI_l2, nI_l3, nI_l4, nI_l5, nI_l6, nI_l7, nI_l8, nI_l9, nI_l10]; done) | (simp only [plugOfF, c_5, c_15, cl_j, cl_t, c15, c_28, c_43, if_true, if_false, if_pos, if_neg]; rfl) | (unfold plugOfF; simp [c_5, c_15, cl_j, cl_t, c15, c_28, c_43, nI_l0, nI_l1, nI_l2, nI_l3, nI_l4, nI_l5, nI_l6, nI_l7, nI_l8, nI_l9, nI_l10]; done)); exact ⟨by rw [h9], by rw [h9], rfl, rfl⟩)
        · refine g_aload_n hC dX5_plugOf_46 rfl 0 rfl ?_
          refine g_iload_n hC dX5_plugOf_47 rfl 1 rfl ?_
          refine g_calli0 hC (g_runV hC (met_X5_strength hz j (by omega)) kc_X5 mG_o (lw_V q3691 q3693 qs42 q89 q3694) rfl md_X5_strength dX5_plugOf_48 rfl ⟨by omega, by omega⟩ (by omega) (by omega) rfl (Nat.le_of_ble_eq_true rfl)) (fun r_5 G_5 n_5 u_5 hp_5 hn_5 hm_5 hu_5 => ?_)
          obtain ⟨rfl, rfl, rfl, rfl⟩ := hp_5
          refine g_goto (tgt := 61) hC dX5_plugOf_51 (by decide) ?_
          refine g_iret hC hr rfl ⟨_, rfl, ?_⟩ (by omega) (by omega) hE dX5_plugOf_61
          first
          | contradiction
          | (have h9 : plugOfF σ  (nI j) (nI t) = (strF σ  j, σ) := (by first | rfl | (simp [plugOfF, c_5, c_15, cl_j, cl_t, c15, c_28, c_43, nI_l0, nI_l1, nI_l2, nI_l3, nI_l4, nI_l5, nI_l6, nI_l7, nI_l8, nI_l9, nI_l10]; done) | (simp only [plugOfF, c_5, c_15, cl_j, cl_t, c15, c_28, c_43, if_true, if_false, if_pos, if_neg]; rfl) | (unfold plugOfF; simp [c_5, c_15, cl_j, cl_t, c15, c_28, c_43, nI_l0, nI_l1, nI_l2, nI_l3, nI_l4, nI_l5, nI_l6, nI_l7, nI_l8, nI_l9, nI_l10]; done)); exact ⟨by rw [h9], by rw [h9], rfl, rfl⟩)
      · refine g_aload_n hC dX5_plugOf_31 rfl 0 rfl ?_
        refine g_iload_n hC dX5_plugOf_32 rfl 2 rfl ?_
        refine g_iload_n hC dX5_plugOf_33 rfl 1 rfl ?_
        refine g_calli0 hC (g_runV hC (met_X5_of hz t j (by have := (not_congr (nI_leI (a := 6) (b := t) (by decide) (by omega))).mp c_28; omega)) kc_X5 mG_o (lw_V q3680 q3682 qs41 q89 q3683) rfl md_X5_of dX5_plugOf_34 rfl ⟨by omega, by omega⟩ (by omega) (by omega) rfl (Nat.le_of_ble_eq_true rfl)) (fun r_6 G_6 n_6 u_6 hp_6 hn_6 hm_6 hu_6 => ?_)
        obtain ⟨rfl, rfl, rfl, rfl⟩ := hp_6
        refine g_goto (tgt := 61) hC dX5_plugOf_37 (by decide) ?_
        refine g_iret hC hr rfl ⟨_, rfl, ?_⟩ (by omega) (by omega) hE dX5_plugOf_61
        first
        | contradiction
        | (have h9 : plugOfF σ  (nI j) (nI t) = (tl σ  t j, σ) := (by first | rfl | (simp [plugOfF, c_5, c_15, cl_j, cl_t, c15, c_28, nI_l0, nI_l1, nI_l2, nI_l3, nI_l4, nI_l5, nI_l6, nI_l7, nI_l8, nI_l9, nI_l10]; done) | (simp only [plugOfF, c_5, c_15, cl_j, cl_t, c15, c_28, if_true, if_false, if_pos, if_neg]; rfl) | (unfold plugOfF; simp [c_5, c_15, cl_j, cl_t, c15, c_28, nI_l0, nI_l1, nI_l2, nI_l3, nI_l4, nI_l5, nI_l6, nI_l7, nI_l8, nI_l9, nI_l10]; done)); exact ⟨by rw [h9], by rw [h9], rfl, rfl⟩)
    · refine g_aload_n hC dX5_plugOf_18 rfl 0 rfl ?_
      refine g_bipush (v := (-5)) hC dX5_plugOf_19 (by decide) ?_
      refine g_calli0 hC (g_runV hC (met_X5_no hz 5 (by omega)) kc_X5 mG_o (lw_V q3640 q3642 qs37 q89 q3643) rfl md_X5_no dX5_plugOf_21 rfl ⟨by omega, by omega⟩ (by omega) (by omega) rfl (Nat.le_of_ble_eq_true rfl)) (fun r_7 G_7 n_7 u_7 hp_7 hn_7 hm_7 hu_7 => ?_)
      obtain ⟨rfl, rfl, rfl, rfl⟩ := hp_7
      refine g_iret hC hr rfl ⟨_, rfl, ?_⟩ (by omega) (by omega) hE dX5_plugOf_24
      first
      | contradiction
      | (have h9 : plugOfF σ  x_ t_ = (-(nI 5), mNo σ 5) := (by first | rfl | (simp [plugOfF, c_5, c_15, nI_l0, nI_l1, nI_l2, nI_l3, nI_l4, nI_l5, nI_l6, nI_l7, nI_l8, nI_l9, nI_l10]; done) | (simp only [plugOfF, c_5, c_15, if_true, if_false, if_pos, if_neg]; rfl) | (unfold plugOfF; simp [c_5, c_15, nI_l0, nI_l1, nI_l2, nI_l3, nI_l4, nI_l5, nI_l6, nI_l7, nI_l8, nI_l9, nI_l10]; done)); exact ⟨by rw [h9], by rw [h9], rfl, rfl⟩)
set_option maxHeartbeats 1000000 in
theorem met_X5_age {Y : YT} {l : Launch} {m0 n u : Nat} {σ : MS} {B : AH} (hz : yz Y ≤ m0) (x_ : Int32) {N : Nat} (hN : σ.1 0 0 = nI N) (hN2 : N ≤ 12) : GM Y l yX5_age (ws_ yX5_age cX5_age 2 (some FieldType.int)) 2 43 [.ref m0, .int x_] (mG Y m0 σ B) n u 0 0 (pI (fun r G' n' u' => (ageF σ  x_).1 = r ∧ mG Y m0 ((ageF σ  x_).2) B = G' ∧ n = n' ∧ u = u')) noX := by
  refine GM.intro (own := RX5) rfl (by decide +kernel) (Nat.le_of_ble_eq_true rfl) ?_
  intro p e s m args below meth c R Q hC hr hnm hF hL hE
  have hE1 := hE.1
  have hE2 := hE.2.1
  show V Y p l e R s m args below meth c 2 n u (mG Y m0 σ B) n u Q 0 [(0, .ref m0), (1, .int x_)] []
  refine g_aload_n hC dX5_age_0 rfl 0 rfl ?_
  refine g_iload_n hC dX5_age_1 rfl 1 rfl ?_
  refine g_calli0 hC (g_runV hC (met_X5_isPlug hz x_ ) kc_X5 mG_o (lw_V q3668 q3670 qs40 q89 q3671) rfl md_X5_isPlug dX5_age_2 rfl ⟨by omega, by omega⟩ (by omega) (by omega) rfl (Nat.le_of_ble_eq_true rfl)) (fun r_1 G_1 n_1 u_1 hp_1 hn_1 hm_1 hu_1 => ?_)
  obtain ⟨rfl, rfl, rfl, rfl⟩ := hp_1
  refine g_if_neB hC (wi x_ 0 (σ.1 0 0 - 1)) dX5_age_5 (tgt := 14) (by decide) (fun c_5 => ?_) (fun c_5 => ?_)
  · obtain ⟨j, hj, rfl⟩ := wi_pl hN (by omega) c_5
    have cl_j : (nI j).toNatClampNeg = j := nI_clamp (by omega)
    refine g_aload_n hC dX5_age_14 rfl 0 rfl ?_
    refine g_iload_n hC dX5_age_15 rfl 1 rfl ?_
    refine g_calli0 hC (g_runV hC (met_X5_state hz j (by omega)) kc_X5 mG_o (lw_V q3708 q3710 qs44 q89 q3711) rfl md_X5_state dX5_age_16 rfl ⟨by omega, by omega⟩ (by omega) (by omega) rfl (Nat.le_of_ble_eq_true rfl)) (fun r_2 G_2 n_2 u_2 hp_2 hn_2 hm_2 hu_2 => ?_)
    obtain ⟨rfl, rfl, rfl, rfl⟩ := hp_2
    refine g_iconst (v := 1) hC dX5_age_19 rfl ?_
    refine g_icmp_ne hC dX5_age_20 (tgt := 33) (by decide) (fun c_20 => ?_) (fun c_20 => ?_)
    · refine g_iconst (v := (-1)) hC dX5_age_33 rfl ?_
      refine g_iret hC hr rfl ⟨_, rfl, ?_⟩ (by omega) (by omega) hE dX5_age_34
      first
      | contradiction
      | (have h9 : ageF σ  (nI j) = ((-1), σ) := (by first | rfl | (simp [ageF, c_5, cl_j, c_20, nI_l0, nI_l1, nI_l2, nI_l3, nI_l4, nI_l5, nI_l6, nI_l7, nI_l8, nI_l9, nI_l10]; done) | (simp only [ageF, c_5, cl_j, c_20, if_true, if_false, if_pos, if_neg]; rfl) | (unfold ageF; simp [c_5, cl_j, c_20, nI_l0, nI_l1, nI_l2, nI_l3, nI_l4, nI_l5, nI_l6, nI_l7, nI_l8, nI_l9, nI_l10]; done)); exact ⟨by rw [h9], by rw [h9], rfl, rfl⟩)
    · refine g_aload_n hC dX5_age_23 rfl 0 rfl ?_
      refine g_bipush (v := 7) hC dX5_age_24 (by decide) ?_
      refine g_iload_n hC dX5_age_26 rfl 1 rfl ?_
      refine g_calli0 hC (g_runV hC (met_X5_of hz 7 j (by omega)) kc_X5 mG_o (lw_V q3680 q3682 qs41 q89 q3683) rfl md_X5_of dX5_age_27 rfl ⟨by omega, by omega⟩ (by omega) (by omega) rfl (Nat.le_of_ble_eq_true rfl)) (fun r_3 G_3 n_3 u_3 hp_3 hn_3 hm_3 hu_3 => ?_)
      obtain ⟨rfl, rfl, rfl, rfl⟩ := hp_3
      refine g_goto (tgt := 34) hC dX5_age_30 (by decide) ?_
      refine g_iret hC hr rfl ⟨_, rfl, ?_⟩ (by omega) (by omega) hE dX5_age_34
      first
      | contradiction
      | (have h9 : ageF σ  (nI j) = (tl σ  7 j, σ) := (by first | rfl | (simp [ageF, c_5, cl_j, c_20, nI_l0, nI_l1, nI_l2, nI_l3, nI_l4, nI_l5, nI_l6, nI_l7, nI_l8, nI_l9, nI_l10]; done) | (simp only [ageF, c_5, cl_j, c_20, if_true, if_false, if_pos, if_neg]; rfl) | (unfold ageF; simp [c_5, cl_j, c_20, nI_l0, nI_l1, nI_l2, nI_l3, nI_l4, nI_l5, nI_l6, nI_l7, nI_l8, nI_l9, nI_l10]; done)); exact ⟨by rw [h9], by rw [h9], rfl, rfl⟩)
  · refine g_aload_n hC dX5_age_8 rfl 0 rfl ?_
    refine g_iconst (v := (-1)) hC dX5_age_9 rfl ?_
    refine g_calli0 hC (g_runV hC (met_X5_no10 hz 1 (by omega)) kc_X5 mG_o (lw_V q3756 q3758 qs52 q89 q3759) rfl md_X5_no10 dX5_age_10 rfl ⟨by omega, by omega⟩ (by omega) (by omega) rfl (Nat.le_of_ble_eq_true rfl)) (fun r_4 G_4 n_4 u_4 hp_4 hn_4 hm_4 hu_4 => ?_)
    obtain ⟨rfl, rfl, rfl, rfl⟩ := hp_4
    refine g_iret hC hr rfl ⟨_, rfl, ?_⟩ (by omega) (by omega) hE dX5_age_13
    first
    | contradiction
    | (have h9 : ageF σ  x_ = (-(nI 1) - 10, mNo σ 1) := (by first | rfl | (simp [ageF, c_5, nI_l0, nI_l1, nI_l2, nI_l3, nI_l4, nI_l5, nI_l6, nI_l7, nI_l8, nI_l9, nI_l10]; done) | (simp only [ageF, c_5, if_true, if_false, if_pos, if_neg]; rfl) | (unfold ageF; simp [c_5, nI_l0, nI_l1, nI_l2, nI_l3, nI_l4, nI_l5, nI_l6, nI_l7, nI_l8, nI_l9, nI_l10]; done)); exact ⟨by rw [h9], by rw [h9], rfl, rfl⟩)
set_option maxHeartbeats 1000000 in
theorem met_X5_tally {Y : YT} {l : Launch} {m0 n u : Nat} {σ : MS} {B : AH} (hz : yz Y ≤ m0) (x_ : Int32) {N : Nat} (hN : σ.1 0 0 = nI N) (hN2 : N ≤ 12) : GM Y l yX5_tally (ws_ yX5_tally cX5_tally 2 (some FieldType.int)) 2 43 [.ref m0, .int x_] (mG Y m0 σ B) n u 0 0 (pI (fun r G' n' u' => tallyF σ  x_ = r ∧ mG Y m0 σ B = G' ∧ n = n' ∧ u = u')) noX := by
  refine GM.intro (own := RX5) rfl (by decide +kernel) (Nat.le_of_ble_eq_true rfl) ?_
  intro p e s m args below meth c R Q hC hr hnm hF hL hE
  have hE1 := hE.1
  have hE2 := hE.2.1
  show V Y p l e R s m args below meth c 2 n u (mG Y m0 σ B) n u Q 0 [(0, .ref m0), (1, .int x_)] []
  refine g_aload_n hC dX5_tally_0 rfl 0 rfl ?_
  refine g_iload_n hC dX5_tally_1 rfl 1 rfl ?_
  refine g_calli0 hC (g_runV hC (met_X5_isPlug hz x_ ) kc_X5 mG_o (lw_V q3668 q3670 qs40 q89 q3671) rfl md_X5_isPlug dX5_tally_2 rfl ⟨by omega, by omega⟩ (by omega) (by omega) rfl (Nat.le_of_ble_eq_true rfl)) (fun r_1 G_1 n_1 u_1 hp_1 hn_1 hm_1 hu_1 => ?_)
  obtain ⟨rfl, rfl, rfl, rfl⟩ := hp_1
  refine g_if_eqB hC (wi x_ 0 (σ.1 0 0 - 1)) dX5_tally_5 (tgt := 18) (by decide) (fun c_5 => ?_) (fun c_5 => ?_)
  · refine g_iconst (v := 0) hC dX5_tally_18 rfl ?_
    refine g_iret hC hr rfl ⟨_, rfl, ?_⟩ (by omega) (by omega) hE dX5_tally_19
    first
    | contradiction
    | exact ⟨by first | rfl | (simp [tallyF, c_5, nI_l0, nI_l1, nI_l2, nI_l3, nI_l4, nI_l5, nI_l6, nI_l7, nI_l8, nI_l9, nI_l10]; done) | (simp only [tallyF, c_5, if_true, if_false, if_pos, if_neg]; rfl) | (unfold tallyF; simp [c_5, nI_l0, nI_l1, nI_l2, nI_l3, nI_l4, nI_l5, nI_l6, nI_l7, nI_l8, nI_l9, nI_l10]; done), rfl, rfl, rfl⟩
  · obtain ⟨j, hj, rfl⟩ := wi_pl hN (by omega) c_5
    have cl_j : (nI j).toNatClampNeg = j := nI_clamp (by omega)
    refine g_aload_n hC dX5_tally_8 rfl 0 rfl ?_
    refine g_bipush (v := 8) hC dX5_tally_9 (by decide) ?_
    refine g_iload_n hC dX5_tally_11 rfl 1 rfl ?_
    refine g_calli0 hC (g_runV hC (met_X5_of hz 8 j (by omega)) kc_X5 mG_o (lw_V q3680 q3682 qs41 q89 q3683) rfl md_X5_of dX5_tally_12 rfl ⟨by omega, by omega⟩ (by omega) (by omega) rfl (Nat.le_of_ble_eq_true rfl)) (fun r_2 G_2 n_2 u_2 hp_2 hn_2 hm_2 hu_2 => ?_)
    obtain ⟨rfl, rfl, rfl, rfl⟩ := hp_2
    refine g_goto (tgt := 19) hC dX5_tally_15 (by decide) ?_
    refine g_iret hC hr rfl ⟨_, rfl, ?_⟩ (by omega) (by omega) hE dX5_tally_19
    first
    | contradiction
    | exact ⟨by first | rfl | (simp [tallyF, c_5, cl_j, nI_l0, nI_l1, nI_l2, nI_l3, nI_l4, nI_l5, nI_l6, nI_l7, nI_l8, nI_l9, nI_l10]; done) | (simp only [tallyF, c_5, cl_j, if_true, if_false, if_pos, if_neg]; rfl) | (unfold tallyF; simp [c_5, cl_j, nI_l0, nI_l1, nI_l2, nI_l3, nI_l4, nI_l5, nI_l6, nI_l7, nI_l8, nI_l9, nI_l10]; done), rfl, rfl, rfl⟩
set_option maxHeartbeats 1000000 in
theorem met_X5_logs {Y : YT} {l : Launch} {m0 n u : Nat} {σ : MS} {B : AH} (hz : yz Y ≤ m0) (x_ : Int32) {g : Nat} (hg : σ.1 20 0 = nI g) (hg2 : g < 2000000000) : GM Y l yX5_logs (ws_ yX5_logs cX5_logs 2 none) 0 0 [.ref m0, .int x_] (mG Y m0 σ B) n u 0 0 (pV (fun G' n' u' => mG Y m0 (lgG σ x_) B = G' ∧ n = n' ∧ u = u')) noX := by
  refine GM.intro (own := RX5) rfl (by decide +kernel) (Nat.le_of_ble_eq_true rfl) ?_
  intro p e s m args below meth c R Q hC hr hnm hF hL hE
  have hE1 := hE.1
  have hE2 := hE.2.1
  show V Y p l e R s m args below meth c 2 n u (mG Y m0 σ B) n u Q 0 [(0, .ref m0), (1, .int x_)] []
  refine g_aload_n hC dX5_logs_0 rfl 0 rfl ?_
  refine m_get (v := .int (σ.1 19 0)) hC 19 (by decide) q3540 rfl dX5_logs_1 ?_
  refine g_if_eq hC dX5_logs_4 (tgt := 8) (by decide) (fun c_4 => ?_) (fun c_4 => ?_)
  · refine g_aload_n hC dX5_logs_8 rfl 0 rfl ?_
    refine m_get (v := .ref (m0 + 9)) hC 21 (by decide) q3542 rfl dX5_logs_9 ?_
    refine g_aload_n hC dX5_logs_12 rfl 0 rfl ?_
    refine m_get (v := .int (nI g)) hC 20 (by decide) q3541 (congrArg (fun z => some (Value.int z)) hg) dX5_logs_13 ?_
    refine g_bipush (v := 40) hC dX5_logs_16 (by decide) ?_
    refine g_iremN hC g 40 (by omega) (by omega) (by omega) dX5_logs_18 ?_
    refine g_iload_n hC dX5_logs_19 rfl 1 rfl ?_
    refine m_ast hC 21 (g % 40) rfl (show g % 40 < 40 from by omega) (by omega) hz dX5_logs_20 ?_
    refine g_aload_n hC dX5_logs_21 rfl 0 rfl ?_
    refine g_dup hC dX5_logs_22 rfl ?_
    refine m_get (v := .int (nI g)) hC 20 (by decide) q3541 (congrArg (fun z => some (Value.int z)) ((mu_nk (by decide)).trans hg)) dX5_logs_23 ?_
    refine g_iconst (v := 1) hC dX5_logs_26 rfl ?_
    refine g_iaddN hC g 1 dX5_logs_27 ?_
    refine m_put hC 20 (by decide) rfl (by decide) q3541 rfl rfl rfl hz dX5_logs_28 ?_
    refine g_vret hC hr ⟨rfl, ?_⟩ (by omega) (by omega) hE dX5_logs_31
    exact ⟨by unfold lgG; rw [hg, nI_clamp (by omega)]; simp [lgF, c_4], rfl, rfl⟩
  · refine g_vret hC hr ⟨rfl, ?_⟩ (by omega) (by omega) hE dX5_logs_7
    exact ⟨by unfold lgG; rw [hg, nI_clamp (by omega)]; simp [lgF, c_4], rfl, rfl⟩
set_option maxHeartbeats 1000000 in
theorem met_X5_fails {Y : YT} {l : Launch} {m0 n u : Nat} {σ : MS} {B : AH} (hz : yz Y ≤ m0) (p_ : Int32) (y_ : Int32) (v_ : Int32) {f : Nat} (hf : σ.1 14 0 = nI f) (hf2 : f < 12) : GM Y l yX5_fails (ws_ yX5_fails cX5_fails 4 (some FieldType.boolean)) 0 0 [.ref m0, .int p_, .int y_, .int v_] (mG Y m0 σ B) n u 0 0 (pI (fun r G' n' u' => b2i false = r ∧ mG Y m0 (flG σ p_ y_ v_) B = G' ∧ n = n' ∧ u = u')) noX := by
  refine GM.intro (own := RX5) rfl (by decide +kernel) (Nat.le_of_ble_eq_true rfl) ?_
  intro p e s m args below meth c R Q hC hr hnm hF hL hE
  have hE1 := hE.1
  have hE2 := hE.2.1
  show V Y p l e R s m args below meth c 4 n u (mG Y m0 σ B) n u Q 0 [(0, .ref m0), (1, .int p_), (2, .int y_), (3, .int v_)] []
  refine g_aload_n hC dX5_fails_0 rfl 0 rfl ?_
  refine m_get (v := .ref (m0 + 7)) hC 15 (by decide) q3536 rfl dX5_fails_1 ?_
  refine g_iconst (v := 3) hC dX5_fails_4 rfl ?_
  refine g_aload_n hC dX5_fails_5 rfl 0 rfl ?_
  refine m_get (v := .int (nI f)) hC 14 (by decide) q3535 (congrArg (fun z => some (Value.int z)) hf) dX5_fails_6 ?_
  refine g_imulN hC 3 f dX5_fails_9 ?_
  refine g_iload_n hC dX5_fails_10 rfl 1 rfl ?_
  refine m_ast hC 15 (3 * f) rfl (show 3 * f < 36 from by omega) (by omega) hz dX5_fails_11 ?_
  refine g_aload_n hC dX5_fails_12 rfl 0 rfl ?_
  refine m_get (v := .ref (m0 + 7)) hC 15 (by decide) q3536 rfl dX5_fails_13 ?_
  refine g_iconst (v := 3) hC dX5_fails_16 rfl ?_
  refine g_aload_n hC dX5_fails_17 rfl 0 rfl ?_
  refine m_get (v := .int (nI f)) hC 14 (by decide) q3535 (congrArg (fun z => some (Value.int z)) ((mu_nk (by decide)).trans hf)) dX5_fails_18 ?_
  refine g_imulN hC 3 f dX5_fails_21 ?_
  refine g_iconst (v := 1) hC dX5_fails_22 rfl ?_
  refine g_iaddN hC (3 * f) 1 dX5_fails_23 ?_
  refine g_iload_n hC dX5_fails_24 rfl 2 rfl ?_
  refine m_ast hC 15 ((3 * f) + 1) rfl (show (3 * f) + 1 < 36 from by omega) (by omega) hz dX5_fails_25 ?_
  refine g_aload_n hC dX5_fails_26 rfl 0 rfl ?_
  refine m_get (v := .ref (m0 + 7)) hC 15 (by decide) q3536 rfl dX5_fails_27 ?_
  refine g_iconst (v := 3) hC dX5_fails_30 rfl ?_
  refine g_aload_n hC dX5_fails_31 rfl 0 rfl ?_
  refine m_get (v := .int (nI f)) hC 14 (by decide) q3535 (congrArg (fun z => some (Value.int z)) ((mu_nk (by decide)).trans ((mu_nk (by decide)).trans hf))) dX5_fails_32 ?_
  refine g_imulN hC 3 f dX5_fails_35 ?_
  refine g_iconst (v := 2) hC dX5_fails_36 rfl ?_
  refine g_iaddN hC (3 * f) 2 dX5_fails_37 ?_
  refine g_iload_n hC dX5_fails_38 rfl 3 rfl ?_
  refine m_ast hC 15 ((3 * f) + 2) rfl (show (3 * f) + 2 < 36 from by omega) (by omega) hz dX5_fails_39 ?_
  refine g_aload_n hC dX5_fails_40 rfl 0 rfl ?_
  refine g_dup hC dX5_fails_41 rfl ?_
  refine m_get (v := .int (nI f)) hC 14 (by decide) q3535 (congrArg (fun z => some (Value.int z)) ((mu_nk (by decide)).trans ((mu_nk (by decide)).trans ((mu_nk (by decide)).trans hf)))) dX5_fails_42 ?_
  refine g_iconst (v := 1) hC dX5_fails_45 rfl ?_
  refine g_iaddN hC f 1 dX5_fails_46 ?_
  refine m_put hC 14 (by decide) rfl (by decide) q3535 rfl rfl rfl hz dX5_fails_47 ?_
  refine g_iconst (v := 0) hC dX5_fails_50 rfl ?_
  refine g_iret hC hr rfl ⟨_, rfl, ?_⟩ (by omega) (by omega) hE dX5_fails_51
  exact ⟨rfl, by unfold flG; rw [hf, nI_clamp (by omega)]; rfl, rfl, rfl⟩
set_option maxHeartbeats 1000000 in
theorem met_X5_cause {Y : YT} {l : Launch} {m0 n u : Nat} {σ : MS} {B : AH} (hz : yz Y ≤ m0) (i_ : Int32) (t_ : Int32) {c_ : Nat} (hc : σ.1 12 0 = nI c_) (hc2 : c_ ≤ 12) : GM Y l yX5_cause (ws_ yX5_cause cX5_cause 3 (some FieldType.int)) 1 22 [.ref m0, .int i_, .int t_] (mG Y m0 σ B) n u 0 0 (pI (fun r G' n' u' => (causeF σ c_ i_ t_).1 = r ∧ mG Y m0 ((causeF σ c_ i_ t_).2) B = G' ∧ n = n' ∧ u = u')) noX := by
  refine GM.intro (own := RX5) rfl (by decide +kernel) (Nat.le_of_ble_eq_true rfl) ?_
  intro p e s m args below meth c R Q hC hr hnm hF hL hE
  have hE1 := hE.1
  have hE2 := hE.2.1
  show V Y p l e R s m args below meth c 3 n u (mG Y m0 σ B) n u Q 0 [(0, .ref m0), (1, .int i_), (2, .int t_)] []
  refine g_iload_n hC dX5_cause_0 rfl 1 rfl ?_
  refine g_iconst (v := 0) hC dX5_cause_1 rfl ?_
  refine g_aload_n hC dX5_cause_2 rfl 0 rfl ?_
  refine m_get (v := .int (nI c_)) hC 12 (by decide) q3533 (congrArg (fun z => some (Value.int z)) hc) dX5_cause_3 ?_
  refine g_iconst (v := 1) hC dX5_cause_6 rfl ?_
  refine g_isub hC dX5_cause_7 ?_
  refine g_calli0 hC (g_runS hC (met_X5_within hz i_ 0 ((nI c_) - 1) ) (lw_S q3637 q3638 q89 q3639) md_X5_within dX5_cause_8 rfl ⟨by omega, by omega⟩ (by omega) (by omega) rfl (Nat.le_of_ble_eq_true rfl)) (fun r_1 G_1 n_1 u_1 hp_1 hn_1 hm_1 hu_1 => ?_)
  obtain ⟨rfl, rfl, rfl, rfl⟩ := hp_1
  refine g_if_eqB hC (wi i_ 0 ((nI c_) - 1)) dX5_cause_11 (tgt := 23) (by decide) (fun c_11 => ?_) (fun c_11 => ?_)
  · refine g_aload_n hC dX5_cause_23 rfl 0 rfl ?_
    refine g_bipush (v := (-5)) hC dX5_cause_24 (by decide) ?_
    refine g_calli0 hC (g_runV hC (met_X5_no hz 5 (by omega)) kc_X5 mG_o (lw_V q3640 q3642 qs37 q89 q3643) rfl md_X5_no dX5_cause_26 rfl ⟨by omega, by omega⟩ (by omega) (by omega) rfl (Nat.le_of_ble_eq_true rfl)) (fun r_2 G_2 n_2 u_2 hp_2 hn_2 hm_2 hu_2 => ?_)
    obtain ⟨rfl, rfl, rfl, rfl⟩ := hp_2
    refine g_iret hC hr rfl ⟨_, rfl, ?_⟩ (by omega) (by omega) hE dX5_cause_29
    first
    | contradiction
    | (have h9 : causeF σ c_ i_ t_ = (-(nI 5), mNo σ 5) := (by first | rfl | (simp [causeF, c_11, nI_l0, nI_l1, nI_l2, nI_l3, nI_l4, nI_l5, nI_l6, nI_l7, nI_l8, nI_l9, nI_l10]; done) | (simp only [causeF, c_11, if_true, if_false, if_pos, if_neg]; rfl) | (unfold causeF; simp [c_11, nI_l0, nI_l1, nI_l2, nI_l3, nI_l4, nI_l5, nI_l6, nI_l7, nI_l8, nI_l9, nI_l10]; done)); exact ⟨by rw [h9], by rw [h9], rfl, rfl⟩)
  · refine g_iload_n hC dX5_cause_14 rfl 2 rfl ?_
    refine g_iconst (v := 0) hC dX5_cause_15 rfl ?_
    refine g_iconst (v := 2) hC dX5_cause_16 rfl ?_
    refine g_calli0 hC (g_runS hC (met_X5_within hz t_ 0 2 ) (lw_S q3637 q3638 q89 q3639) md_X5_within dX5_cause_17 rfl ⟨by omega, by omega⟩ (by omega) (by omega) rfl (Nat.le_of_ble_eq_true rfl)) (fun r_3 G_3 n_3 u_3 hp_3 hn_3 hm_3 hu_3 => ?_)
    obtain ⟨rfl, rfl, rfl, rfl⟩ := hp_3
    refine g_if_neB hC (wi t_ 0 2) dX5_cause_20 (tgt := 30) (by decide) (fun c_20 => ?_) (fun c_20 => ?_)
    · obtain ⟨i, hi, rfl⟩ := wi_pl rfl (by omega) c_11
      have cl_i : (nI i).toNatClampNeg = i := nI_clamp (by omega)
      have c20 : wi t_ 0 (nI 2) = true := c_20
      obtain ⟨t, ht, rfl⟩ := wi_nI (by decide) c20
      have cl_t : (nI t).toNatClampNeg = t := nI_clamp (by omega)
      
      refine g_aload_n hC dX5_cause_30 rfl 0 rfl ?_
      refine m_get (v := .ref (m0 + 6)) hC 13 (by decide) q3534 rfl dX5_cause_31 ?_
      refine g_iconst (v := 3) hC dX5_cause_34 rfl ?_
      refine g_aload_n hC dX5_cause_35 rfl 0 rfl ?_
      refine m_get (v := .int (nI c_)) hC 12 (by decide) q3533 (congrArg (fun z => some (Value.int z)) hc) dX5_cause_36 ?_
      refine g_iconst (v := 1) hC dX5_cause_39 rfl ?_
      refine g_isubN hC c_ 1 (by omega) dX5_cause_40 ?_
      refine g_iload_n hC dX5_cause_41 rfl 1 rfl ?_
      refine g_isubN hC (c_ - 1) i (by omega) dX5_cause_42 ?_
      refine g_imulN hC 3 ((c_ - 1) - i) dX5_cause_43 ?_
      refine g_iload_n hC dX5_cause_44 rfl 2 rfl ?_
      refine g_iaddN hC (3 * ((c_ - 1) - i)) t dX5_cause_45 ?_
      refine m_ald (v := σ.1 13 ((3 * ((c_ - 1) - i)) + t)) hC 13 ((3 * ((c_ - 1) - i)) + t) rfl (show (3 * ((c_ - 1) - i)) + t < 36 from by omega) (by omega) rfl dX5_cause_46 ?_
      refine g_iret hC hr rfl ⟨_, rfl, ?_⟩ (by omega) (by omega) hE dX5_cause_47
      first
      | contradiction
      | (have h9 : causeF σ c_ (nI i) (nI t) = (σ.1 13 ((3 * ((c_ - 1) - i)) + t), σ) := (by first | rfl | (simp [causeF, c_11, c_20, cl_i, cl_t, c20, nI_l0, nI_l1, nI_l2, nI_l3, nI_l4, nI_l5, nI_l6, nI_l7, nI_l8, nI_l9, nI_l10]; done) | (simp only [causeF, c_11, c_20, cl_i, cl_t, c20, if_true, if_false, if_pos, if_neg]; rfl) | (unfold causeF; simp [c_11, c_20, cl_i, cl_t, c20, nI_l0, nI_l1, nI_l2, nI_l3, nI_l4, nI_l5, nI_l6, nI_l7, nI_l8, nI_l9, nI_l10]; done)); exact ⟨by rw [h9], by rw [h9], rfl, rfl⟩)
    · refine g_aload_n hC dX5_cause_23 rfl 0 rfl ?_
      refine g_bipush (v := (-5)) hC dX5_cause_24 (by decide) ?_
      refine g_calli0 hC (g_runV hC (met_X5_no hz 5 (by omega)) kc_X5 mG_o (lw_V q3640 q3642 qs37 q89 q3643) rfl md_X5_no dX5_cause_26 rfl ⟨by omega, by omega⟩ (by omega) (by omega) rfl (Nat.le_of_ble_eq_true rfl)) (fun r_4 G_4 n_4 u_4 hp_4 hn_4 hm_4 hu_4 => ?_)
      obtain ⟨rfl, rfl, rfl, rfl⟩ := hp_4
      refine g_iret hC hr rfl ⟨_, rfl, ?_⟩ (by omega) (by omega) hE dX5_cause_29
      first
      | contradiction
      | (have h9 : causeF σ c_ i_ t_ = (-(nI 5), mNo σ 5) := (by first | rfl | (simp [causeF, c_11, c_20, nI_l0, nI_l1, nI_l2, nI_l3, nI_l4, nI_l5, nI_l6, nI_l7, nI_l8, nI_l9, nI_l10]; done) | (simp only [causeF, c_11, c_20, if_true, if_false, if_pos, if_neg]; rfl) | (unfold causeF; simp [c_11, c_20, nI_l0, nI_l1, nI_l2, nI_l3, nI_l4, nI_l5, nI_l6, nI_l7, nI_l8, nI_l9, nI_l10]; done)); exact ⟨by rw [h9], by rw [h9], rfl, rfl⟩)
set_option maxHeartbeats 1000000 in
theorem met_X5_mend {Y : YT} {l : Launch} {m0 n u : Nat} {σ : MS} {B : AH} (hz : yz Y ≤ m0) (x_ : Int32) {N : Nat} (hN : σ.1 0 0 = nI N) (hN2 : N ≤ 12) : GM Y l yX5_mend (ws_ yX5_mend cX5_mend 2 (some FieldType.int)) 2 43 [.ref m0, .int x_] (mG Y m0 σ B) n u 0 0 (pI (fun r G' n' u' => (mendF σ  x_).1 = r ∧ mG Y m0 ((mendF σ  x_).2) B = G' ∧ n = n' ∧ u = u')) noX := by
  refine GM.intro (own := RX5) rfl (by decide +kernel) (Nat.le_of_ble_eq_true rfl) ?_
  intro p e s m args below meth c R Q hC hr hnm hF hL hE
  have hE1 := hE.1
  have hE2 := hE.2.1
  show V Y p l e R s m args below meth c 2 n u (mG Y m0 σ B) n u Q 0 [(0, .ref m0), (1, .int x_)] []
  refine g_aload_n hC dX5_mend_0 rfl 0 rfl ?_
  refine g_iload_n hC dX5_mend_1 rfl 1 rfl ?_
  refine g_calli0 hC (g_runV hC (met_X5_isPlug hz x_ ) kc_X5 mG_o (lw_V q3668 q3670 qs40 q89 q3671) rfl md_X5_isPlug dX5_mend_2 rfl ⟨by omega, by omega⟩ (by omega) (by omega) rfl (Nat.le_of_ble_eq_true rfl)) (fun r_1 G_1 n_1 u_1 hp_1 hn_1 hm_1 hu_1 => ?_)
  obtain ⟨rfl, rfl, rfl, rfl⟩ := hp_1
  refine g_if_neB hC (wi x_ 0 (σ.1 0 0 - 1)) dX5_mend_5 (tgt := 14) (by decide) (fun c_5 => ?_) (fun c_5 => ?_)
  · obtain ⟨j, hj, rfl⟩ := wi_pl hN (by omega) c_5
    have cl_j : (nI j).toNatClampNeg = j := nI_clamp (by omega)
    refine g_aload_n hC dX5_mend_14 rfl 0 rfl ?_
    refine g_iload_n hC dX5_mend_15 rfl 1 rfl ?_
    refine g_calli0 hC (g_runV hC (met_X5_state hz j (by omega)) kc_X5 mG_o (lw_V q3708 q3710 qs44 q89 q3711) rfl md_X5_state dX5_mend_16 rfl ⟨by omega, by omega⟩ (by omega) (by omega) rfl (Nat.le_of_ble_eq_true rfl)) (fun r_2 G_2 n_2 u_2 hp_2 hn_2 hm_2 hu_2 => ?_)
    obtain ⟨rfl, rfl, rfl, rfl⟩ := hp_2
    refine g_iconst (v := 2) hC dX5_mend_19 rfl ?_
    refine g_icmp_eq hC dX5_mend_20 (tgt := 30) (by decide) (fun c_20 => ?_) (fun c_20 => ?_)
    · refine g_aload_n hC dX5_mend_30 rfl 0 rfl ?_
      refine m_get (v := .ref (m0 + 1)) hC 1 (by decide) q3522 rfl dX5_mend_31 ?_
      refine g_iload_n hC dX5_mend_34 rfl 1 rfl ?_
      refine g_iconst (v := 0) hC dX5_mend_35 rfl ?_
      refine m_ast hC 1 j rfl (show j < 108 from by omega) (by omega) hz dX5_mend_36 ?_
      refine g_aload_n hC dX5_mend_37 rfl 0 rfl ?_
      refine g_iconst (v := 5) hC dX5_mend_38 rfl ?_
      refine g_iload_n hC dX5_mend_39 rfl 1 rfl ?_
      refine g_calli0 hC (g_runV hC (met_X5_of hz 5 j (by omega)) kc_X5 mG_o (lw_V q3680 q3682 qs41 q89 q3683) rfl md_X5_of dX5_mend_40 rfl ⟨by omega, by omega⟩ (by omega) (by omega) rfl (Nat.le_of_ble_eq_true rfl)) (fun r_3 G_3 n_3 u_3 hp_3 hn_3 hm_3 hu_3 => ?_)
      obtain ⟨rfl, rfl, rfl, rfl⟩ := hp_3
      refine g_iret hC hr rfl ⟨_, rfl, ?_⟩ (by omega) (by omega) hE dX5_mend_43
      first
      | contradiction
      | (have h9 : mendF σ  (nI j) = (tl (mu σ 1 j 0)  5 j, (mu σ 1 j 0)) := (by first | rfl | (simp [mendF, c_5, cl_j, c_20, nI_l0, nI_l1, nI_l2, nI_l3, nI_l4, nI_l5, nI_l6, nI_l7, nI_l8, nI_l9, nI_l10]; done) | (simp only [mendF, c_5, cl_j, c_20, if_true, if_false, if_pos, if_neg]; rfl) | (unfold mendF; simp [c_5, cl_j, c_20, nI_l0, nI_l1, nI_l2, nI_l3, nI_l4, nI_l5, nI_l6, nI_l7, nI_l8, nI_l9, nI_l10]; done)); exact ⟨by rw [h9], by rw [h9], rfl, rfl⟩)
    · refine g_aload_n hC dX5_mend_23 rfl 0 rfl ?_
      refine g_bipush (v := (-6)) hC dX5_mend_24 (by decide) ?_
      refine g_calli0 hC (g_runV hC (met_X5_no hz 6 (by omega)) kc_X5 mG_o (lw_V q3640 q3642 qs37 q89 q3643) rfl md_X5_no dX5_mend_26 rfl ⟨by omega, by omega⟩ (by omega) (by omega) rfl (Nat.le_of_ble_eq_true rfl)) (fun r_4 G_4 n_4 u_4 hp_4 hn_4 hm_4 hu_4 => ?_)
      obtain ⟨rfl, rfl, rfl, rfl⟩ := hp_4
      refine g_iret hC hr rfl ⟨_, rfl, ?_⟩ (by omega) (by omega) hE dX5_mend_29
      first
      | contradiction
      | (have h9 : mendF σ  (nI j) = (-(nI 6), mNo σ 6) := (by first | rfl | (simp [mendF, c_5, cl_j, c_20, nI_l0, nI_l1, nI_l2, nI_l3, nI_l4, nI_l5, nI_l6, nI_l7, nI_l8, nI_l9, nI_l10]; done) | (simp only [mendF, c_5, cl_j, c_20, if_true, if_false, if_pos, if_neg]; rfl) | (unfold mendF; simp [c_5, cl_j, c_20, nI_l0, nI_l1, nI_l2, nI_l3, nI_l4, nI_l5, nI_l6, nI_l7, nI_l8, nI_l9, nI_l10]; done)); exact ⟨by rw [h9], by rw [h9], rfl, rfl⟩)
  · refine g_aload_n hC dX5_mend_8 rfl 0 rfl ?_
    refine g_iconst (v := (-1)) hC dX5_mend_9 rfl ?_
    refine g_calli0 hC (g_runV hC (met_X5_no hz 1 (by omega)) kc_X5 mG_o (lw_V q3640 q3642 qs37 q89 q3643) rfl md_X5_no dX5_mend_10 rfl ⟨by omega, by omega⟩ (by omega) (by omega) rfl (Nat.le_of_ble_eq_true rfl)) (fun r_5 G_5 n_5 u_5 hp_5 hn_5 hm_5 hu_5 => ?_)
    obtain ⟨rfl, rfl, rfl, rfl⟩ := hp_5
    refine g_iret hC hr rfl ⟨_, rfl, ?_⟩ (by omega) (by omega) hE dX5_mend_13
    first
    | contradiction
    | (have h9 : mendF σ  x_ = (-(nI 1), mNo σ 1) := (by first | rfl | (simp [mendF, c_5, nI_l0, nI_l1, nI_l2, nI_l3, nI_l4, nI_l5, nI_l6, nI_l7, nI_l8, nI_l9, nI_l10]; done) | (simp only [mendF, c_5, if_true, if_false, if_pos, if_neg]; rfl) | (unfold mendF; simp [c_5, nI_l0, nI_l1, nI_l2, nI_l3, nI_l4, nI_l5, nI_l6, nI_l7, nI_l8, nI_l9, nI_l10]; done)); exact ⟨by rw [h9], by rw [h9], rfl, rfl⟩)
set_option maxHeartbeats 1000000 in
theorem met_X5_hk {Y : YT} {l : Launch} {m0 n u : Nat} {σ : MS} {B : AH} (hz : yz Y ≤ m0) (w_ : Nat) (h_ : Nat) (hi : 24 * w_ + h_ < 120) : GM Y l yX5_hk (ws_ yX5_hk cX5_hk 3 (some FieldType.int)) 0 0 [.ref m0, .int (nI w_), .int (nI h_)] (mG Y m0 σ B) n u 0 0 (pI (fun r G' n' u' => hkF σ  w_ h_ = r ∧ mG Y m0 σ B = G' ∧ n = n' ∧ u = u')) noX := by
  refine GM.intro (own := RX5) rfl (by decide +kernel) (Nat.le_of_ble_eq_true rfl) ?_
  intro p e s m args below meth c R Q hC hr hnm hF hL hE
  have hE1 := hE.1
  have hE2 := hE.2.1
  show V Y p l e R s m args below meth c 3 n u (mG Y m0 σ B) n u Q 0 [(0, .ref m0), (1, .int (nI w_)), (2, .int (nI h_))] []
  refine g_aload_n hC dX5_hk_0 rfl 0 rfl ?_
  refine m_get (v := .ref (m0 + 2)) hC 5 (by decide) q3526 rfl dX5_hk_1 ?_
  refine g_bipush (v := 24) hC dX5_hk_4 (by decide) ?_
  refine g_iload_n hC dX5_hk_6 rfl 1 rfl ?_
  refine g_imulN hC 24 w_ dX5_hk_7 ?_
  refine g_iload_n hC dX5_hk_8 rfl 2 rfl ?_
  refine g_iaddN hC (24 * w_) h_ dX5_hk_9 ?_
  refine m_ald (v := σ.1 5 ((24 * w_) + h_)) hC 5 ((24 * w_) + h_) rfl (show (24 * w_) + h_ < 120 from by omega) (by omega) rfl dX5_hk_10 ?_
  refine g_iret hC hr rfl ⟨_, rfl, ?_⟩ (by omega) (by omega) hE dX5_hk_11
  first
  | contradiction
  | exact ⟨by first | rfl | (simp [hkF, nI_l0, nI_l1, nI_l2, nI_l3, nI_l4, nI_l5, nI_l6, nI_l7, nI_l8, nI_l9, nI_l10]; done) | (simp only [hkF, if_true, if_false, if_pos, if_neg]; rfl) | (unfold hkF; simp [nI_l0, nI_l1, nI_l2, nI_l3, nI_l4, nI_l5, nI_l6, nI_l7, nI_l8, nI_l9, nI_l10]; done), rfl, rfl, rfl⟩
theorem wl4 : wi 4 0 4 = true := by decide
theorem wl2 : wi 2 0 4 = true := by decide
set_option maxHeartbeats 1000000 in
theorem met_X5_hookOf {Y : YT} {l : Launch} {m0 n u : Nat} {σ : MS} {B : AH} (hz : yz Y ≤ m0) (x_ : Int32) (t_ : Int32) {K : Nat} (hK : σ.1 4 0 = nI K) (hK2 : K ≤ 24) : GM Y l yX5_hookOf (ws_ yX5_hookOf cX5_hookOf 3 (some FieldType.int)) 1 22 [.ref m0, .int x_, .int t_] (mG Y m0 σ B) n u 0 0 (pI (fun r G' n' u' => (hookOfF σ  x_ t_).1 = r ∧ mG Y m0 ((hookOfF σ  x_ t_).2) B = G' ∧ n = n' ∧ u = u')) noX := by
  refine GM.intro (own := RX5) rfl (by decide +kernel) (Nat.le_of_ble_eq_true rfl) ?_
  intro p e s m args below meth c R Q hC hr hnm hF hL hE
  have hE1 := hE.1
  have hE2 := hE.2.1
  show V Y p l e R s m args below meth c 3 n u (mG Y m0 σ B) n u Q 0 [(0, .ref m0), (1, .int x_), (2, .int t_)] []
  refine g_iload_n hC dX5_hookOf_0 rfl 1 rfl ?_
  refine g_iconst (v := 0) hC dX5_hookOf_1 rfl ?_
  refine g_aload_n hC dX5_hookOf_2 rfl 0 rfl ?_
  refine m_get (v := .int (σ.1 4 0)) hC 4 (by decide) q3525 rfl dX5_hookOf_3 ?_
  refine g_iconst (v := 1) hC dX5_hookOf_6 rfl ?_
  refine g_isub hC dX5_hookOf_7 ?_
  refine g_calli0 hC (g_runS hC (met_X5_within hz x_ 0 ((σ.1 4 0) - 1) ) (lw_S q3637 q3638 q89 q3639) md_X5_within dX5_hookOf_8 rfl ⟨by omega, by omega⟩ (by omega) (by omega) rfl (Nat.le_of_ble_eq_true rfl)) (fun r_1 G_1 n_1 u_1 hp_1 hn_1 hm_1 hu_1 => ?_)
  obtain ⟨rfl, rfl, rfl, rfl⟩ := hp_1
  refine g_if_eqB hC (wi x_ 0 ((σ.1 4 0) - 1)) dX5_hookOf_11 (tgt := 23) (by decide) (fun c_11 => ?_) (fun c_11 => ?_)
  · refine g_aload_n hC dX5_hookOf_23 rfl 0 rfl ?_
    refine g_bipush (v := (-5)) hC dX5_hookOf_24 (by decide) ?_
    refine g_calli0 hC (g_runV hC (met_X5_no hz 5 (by omega)) kc_X5 mG_o (lw_V q3640 q3642 qs37 q89 q3643) rfl md_X5_no dX5_hookOf_26 rfl ⟨by omega, by omega⟩ (by omega) (by omega) rfl (Nat.le_of_ble_eq_true rfl)) (fun r_2 G_2 n_2 u_2 hp_2 hn_2 hm_2 hu_2 => ?_)
    obtain ⟨rfl, rfl, rfl, rfl⟩ := hp_2
    refine g_iret hC hr rfl ⟨_, rfl, ?_⟩ (by omega) (by omega) hE dX5_hookOf_29
    first
    | contradiction
    | (have h9 : hookOfF σ  x_ t_ = (-(nI 5), mNo σ 5) := (by first | rfl | (simp [hookOfF, wl4, wl2, c_11, nI_l0, nI_l1, nI_l2, nI_l3, nI_l4, nI_l5, nI_l6, nI_l7, nI_l8, nI_l9, nI_l10]; done) | (simp only [hookOfF, wl4, wl2, c_11, if_true, if_false, if_pos, if_neg]; rfl) | (unfold hookOfF; simp [wl4, wl2, c_11, nI_l0, nI_l1, nI_l2, nI_l3, nI_l4, nI_l5, nI_l6, nI_l7, nI_l8, nI_l9, nI_l10]; done)); exact ⟨by rw [h9], by rw [h9], rfl, rfl⟩)
  · refine g_iload_n hC dX5_hookOf_14 rfl 2 rfl ?_
    refine g_iconst (v := 0) hC dX5_hookOf_15 rfl ?_
    refine g_iconst (v := 4) hC dX5_hookOf_16 rfl ?_
    refine g_calli0 hC (g_runS hC (met_X5_within hz t_ 0 4 ) (lw_S q3637 q3638 q89 q3639) md_X5_within dX5_hookOf_17 rfl ⟨by omega, by omega⟩ (by omega) (by omega) rfl (Nat.le_of_ble_eq_true rfl)) (fun r_3 G_3 n_3 u_3 hp_3 hn_3 hm_3 hu_3 => ?_)
    obtain ⟨rfl, rfl, rfl, rfl⟩ := hp_3
    refine g_if_neB hC (wi t_ 0 4) dX5_hookOf_20 (tgt := 30) (by decide) (fun c_20 => ?_) (fun c_20 => ?_)
    · obtain ⟨j, hj, rfl⟩ := wi_pl hK (by omega) c_11
      have cl_j : (nI j).toNatClampNeg = j := nI_clamp (by omega)
      have c20 : wi t_ 0 (nI 4) = true := c_20
      obtain ⟨t, ht, rfl⟩ := wi_nI (by decide) c20
      have cl_t : (nI t).toNatClampNeg = t := nI_clamp (by omega)
      
      refine g_aload_n hC dX5_hookOf_30 rfl 0 rfl ?_
      refine g_iload_n hC dX5_hookOf_31 rfl 2 rfl ?_
      refine g_iload_n hC dX5_hookOf_32 rfl 1 rfl ?_
      refine g_calli0 hC (g_runV hC (met_X5_hk hz t j (by omega)) kc_X5 mG_o (lw_V q3890 q3892 qs71 q89 q3893) rfl md_X5_hk dX5_hookOf_33 rfl ⟨by omega, by omega⟩ (by omega) (by omega) rfl (Nat.le_of_ble_eq_true rfl)) (fun r_4 G_4 n_4 u_4 hp_4 hn_4 hm_4 hu_4 => ?_)
      obtain ⟨rfl, rfl, rfl, rfl⟩ := hp_4
      refine g_iload_n hC dX5_hookOf_36 rfl 2 rfl ?_
      refine g_iconst (v := 2) hC dX5_hookOf_37 rfl ?_
      refine g_icmp_neN hC t 2 (by omega) (by omega) dX5_hookOf_38 (tgt := 46) (by decide) (fun c_38 => ?_) (fun c_38 => ?_)
      · have d38 : ¬ nI t = 2 := fun q => c_38 ((nI_eq (b := 2) (by omega) (by decide)).mp q)
        refine g_iload_n hC dX5_hookOf_46 rfl 2 rfl ?_
        refine g_iconst (v := 4) hC dX5_hookOf_47 rfl ?_
        refine g_icmp_neN hC t 4 (by omega) (by omega) dX5_hookOf_48 (tgt := 56) (by decide) (fun c_48 => ?_) (fun c_48 => ?_)
        · have d48 : ¬ nI t = 4 := fun q => c_48 ((nI_eq (b := 4) (by omega) (by decide)).mp q)
          refine g_iconst (v := 0) hC dX5_hookOf_56 rfl ?_
          refine g_iadd hC dX5_hookOf_57 ?_
          refine g_iret hC hr rfl ⟨_, rfl, ?_⟩ (by omega) (by omega) hE dX5_hookOf_58
          first
          | contradiction
          | (have h9 : hookOfF σ  (nI j) (nI t) = ((hkF σ  t j) + 0, σ) := (by first | rfl | (simp [hookOfF, wl4, wl2, c_11, c_20, cl_j, cl_t, c20, d38, d48, nI_l0, nI_l1, nI_l2, nI_l3, nI_l4, nI_l5, nI_l6, nI_l7, nI_l8, nI_l9, nI_l10]; done) | (simp only [hookOfF, wl4, wl2, c_11, c_20, cl_j, cl_t, c20, d38, d48, if_true, if_false, if_pos, if_neg]; rfl) | (unfold hookOfF; simp [wl4, wl2, c_11, c_20, cl_j, cl_t, c20, d38, d48, nI_l0, nI_l1, nI_l2, nI_l3, nI_l4, nI_l5, nI_l6, nI_l7, nI_l8, nI_l9, nI_l10]; done)); exact ⟨by rw [h9], by rw [h9], rfl, rfl⟩)
        · subst c_48
          refine g_bipush (v := 100) hC dX5_hookOf_51 (by decide) ?_
          refine g_goto (tgt := 57) hC dX5_hookOf_53 (by decide) ?_
          refine g_iadd hC dX5_hookOf_57 ?_
          refine g_iret hC hr rfl ⟨_, rfl, ?_⟩ (by omega) (by omega) hE dX5_hookOf_58
          first
          | contradiction
          | (have h9 : hookOfF σ  (nI j) (nI 4) = ((hkF σ  4 j) + 100, σ) := (by first | rfl | (simp [hookOfF, wl4, wl2, c_11, c_20, cl_j, cl_t, c20, d38, nI_l0, nI_l1, nI_l2, nI_l3, nI_l4, nI_l5, nI_l6, nI_l7, nI_l8, nI_l9, nI_l10]; done) | (simp only [hookOfF, wl4, wl2, c_11, c_20, cl_j, cl_t, c20, d38, if_true, if_false, if_pos, if_neg]; rfl) | (unfold hookOfF; simp [wl4, wl2, c_11, c_20, cl_j, cl_t, c20, d38, nI_l0, nI_l1, nI_l2, nI_l3, nI_l4, nI_l5, nI_l6, nI_l7, nI_l8, nI_l9, nI_l10]; done)); exact ⟨by rw [h9], by rw [h9], rfl, rfl⟩)
      · subst c_38
        refine g_bipush (v := 10) hC dX5_hookOf_41 (by decide) ?_
        refine g_goto (tgt := 57) hC dX5_hookOf_43 (by decide) ?_
        refine g_iadd hC dX5_hookOf_57 ?_
        refine g_iret hC hr rfl ⟨_, rfl, ?_⟩ (by omega) (by omega) hE dX5_hookOf_58
        first
        | contradiction
        | (have h9 : hookOfF σ  (nI j) (nI 2) = ((hkF σ  2 j) + 10, σ) := (by first | rfl | (simp [hookOfF, wl4, wl2, c_11, c_20, cl_j, cl_t, c20, nI_l0, nI_l1, nI_l2, nI_l3, nI_l4, nI_l5, nI_l6, nI_l7, nI_l8, nI_l9, nI_l10]; done) | (simp only [hookOfF, wl4, wl2, c_11, c_20, cl_j, cl_t, c20, if_true, if_false, if_pos, if_neg]; rfl) | (unfold hookOfF; simp [wl4, wl2, c_11, c_20, cl_j, cl_t, c20, nI_l0, nI_l1, nI_l2, nI_l3, nI_l4, nI_l5, nI_l6, nI_l7, nI_l8, nI_l9, nI_l10]; done)); exact ⟨by rw [h9], by rw [h9], rfl, rfl⟩)
    · refine g_aload_n hC dX5_hookOf_23 rfl 0 rfl ?_
      refine g_bipush (v := (-5)) hC dX5_hookOf_24 (by decide) ?_
      refine g_calli0 hC (g_runV hC (met_X5_no hz 5 (by omega)) kc_X5 mG_o (lw_V q3640 q3642 qs37 q89 q3643) rfl md_X5_no dX5_hookOf_26 rfl ⟨by omega, by omega⟩ (by omega) (by omega) rfl (Nat.le_of_ble_eq_true rfl)) (fun r_5 G_5 n_5 u_5 hp_5 hn_5 hm_5 hu_5 => ?_)
      obtain ⟨rfl, rfl, rfl, rfl⟩ := hp_5
      refine g_iret hC hr rfl ⟨_, rfl, ?_⟩ (by omega) (by omega) hE dX5_hookOf_29
      first
      | contradiction
      | (have h9 : hookOfF σ  x_ t_ = (-(nI 5), mNo σ 5) := (by first | rfl | (simp [hookOfF, wl4, wl2, c_11, c_20, nI_l0, nI_l1, nI_l2, nI_l3, nI_l4, nI_l5, nI_l6, nI_l7, nI_l8, nI_l9, nI_l10]; done) | (simp only [hookOfF, wl4, wl2, c_11, c_20, if_true, if_false, if_pos, if_neg]; rfl) | (unfold hookOfF; simp [wl4, wl2, c_11, c_20, nI_l0, nI_l1, nI_l2, nI_l3, nI_l4, nI_l5, nI_l6, nI_l7, nI_l8, nI_l9, nI_l10]; done)); exact ⟨by rw [h9], by rw [h9], rfl, rfl⟩)
set_option maxHeartbeats 1000000 in
theorem met_X5_hook {Y : YT} {l : Launch} {m0 n u : Nat} {σ : MS} {B : AH} (hz : yz Y ≤ m0) (x_ : Int32) (pt : Int32) (pr : Int32) (f_ : Int32) (k_ : Int32) {N K : Nat} (hN : σ.1 0 0 = nI N) (hN2 : N ≤ 12) (hK : σ.1 4 0 = nI K) (hK2 : K ≤ 24) : GM Y l yX5_hook (ws_ yX5_hook cX5_hook 6 (some FieldType.int)) 2 43 [.ref m0, .int x_, .int pt, .int pr, .int f_, .int k_] (mG Y m0 σ B) n u 0 0 (pI (fun r G' n' u' => (hookF σ K x_ pt pr f_ k_).1 = r ∧ mG Y m0 ((hookF σ K x_ pt pr f_ k_).2) B = G' ∧ n = n' ∧ u = u')) noX := by
  refine GM.intro (own := RX5) rfl (by decide +kernel) (Nat.le_of_ble_eq_true rfl) ?_
  intro p e s m args below meth c R Q hC hr hnm hF hL hE
  have hE1 := hE.1
  have hE2 := hE.2.1
  show V Y p l e R s m args below meth c 6 n u (mG Y m0 σ B) n u Q 0 [(0, .ref m0), (1, .int x_), (2, .int pt), (3, .int pr), (4, .int f_), (5, .int k_)] []
  refine g_aload_n hC dX5_hook_0 rfl 0 rfl ?_
  refine g_iload_n hC dX5_hook_1 rfl 1 rfl ?_
  refine g_calli0 hC (g_runV hC (met_X5_isPlug hz x_ ) kc_X5 mG_o (lw_V q3668 q3670 qs40 q89 q3671) rfl md_X5_isPlug dX5_hook_2 rfl ⟨by omega, by omega⟩ (by omega) (by omega) rfl (Nat.le_of_ble_eq_true rfl)) (fun r_1 G_1 n_1 u_1 hp_1 hn_1 hm_1 hu_1 => ?_)
  obtain ⟨rfl, rfl, rfl, rfl⟩ := hp_1
  refine g_if_eqB hC (wi x_ 0 (σ.1 0 0 - 1)) dX5_hook_5 (tgt := 24) (by decide) (fun c_5 => ?_) (fun c_5 => ?_)
  · refine g_aload_n hC dX5_hook_24 rfl 0 rfl ?_
    refine g_iconst (v := (-1)) hC dX5_hook_25 rfl ?_
    refine g_calli0 hC (g_runV hC (met_X5_no hz 1 (by omega)) kc_X5 mG_o (lw_V q3640 q3642 qs37 q89 q3643) rfl md_X5_no dX5_hook_26 rfl ⟨by omega, by omega⟩ (by omega) (by omega) rfl (Nat.le_of_ble_eq_true rfl)) (fun r_2 G_2 n_2 u_2 hp_2 hn_2 hm_2 hu_2 => ?_)
    obtain ⟨rfl, rfl, rfl, rfl⟩ := hp_2
    refine g_iret hC hr rfl ⟨_, rfl, ?_⟩ (by omega) (by omega) hE dX5_hook_29
    first
    | contradiction
    | (have h9 : hookF σ K x_ pt pr f_ k_ = (-(nI 1), mNo σ 1) := (by first | rfl | (simp [hookF, c_5, nI_l0, nI_l1, nI_l2, nI_l3, nI_l4, nI_l5, nI_l6, nI_l7, nI_l8, nI_l9, nI_l10]; done) | (simp only [hookF, c_5, if_true, if_false, if_pos, if_neg]; rfl) | (unfold hookF; simp [c_5, nI_l0, nI_l1, nI_l2, nI_l3, nI_l4, nI_l5, nI_l6, nI_l7, nI_l8, nI_l9, nI_l10]; done)); exact ⟨by rw [h9], by rw [h9], rfl, rfl⟩)
  · obtain ⟨j, hj, rfl⟩ := wi_pl hN (by omega) c_5
    have cl_j : (nI j).toNatClampNeg = j := nI_clamp (by omega)
    refine g_aload_n hC dX5_hook_8 rfl 0 rfl ?_
    refine g_iload_n hC dX5_hook_9 rfl 1 rfl ?_
    refine g_calli0 hC (g_runV hC (met_X5_state hz j (by omega)) kc_X5 mG_o (lw_V q3708 q3710 qs44 q89 q3711) rfl md_X5_state dX5_hook_10 rfl ⟨by omega, by omega⟩ (by omega) (by omega) rfl (Nat.le_of_ble_eq_true rfl)) (fun r_3 G_3 n_3 u_3 hp_3 hn_3 hm_3 hu_3 => ?_)
    obtain ⟨rfl, rfl, rfl, rfl⟩ := hp_3
    refine g_iconst (v := 3) hC dX5_hook_13 rfl ?_
    refine g_icmp_eq hC dX5_hook_14 (tgt := 24) (by decide) (fun c_14 => ?_) (fun c_14 => ?_)
    · refine g_aload_n hC dX5_hook_24 rfl 0 rfl ?_
      refine g_iconst (v := (-1)) hC dX5_hook_25 rfl ?_
      refine g_calli0 hC (g_runV hC (met_X5_no hz 1 (by omega)) kc_X5 mG_o (lw_V q3640 q3642 qs37 q89 q3643) rfl md_X5_no dX5_hook_26 rfl ⟨by omega, by omega⟩ (by omega) (by omega) rfl (Nat.le_of_ble_eq_true rfl)) (fun r_4 G_4 n_4 u_4 hp_4 hn_4 hm_4 hu_4 => ?_)
      obtain ⟨rfl, rfl, rfl, rfl⟩ := hp_4
      refine g_iret hC hr rfl ⟨_, rfl, ?_⟩ (by omega) (by omega) hE dX5_hook_29
      first
      | contradiction
      | (have h9 : hookF σ K (nI j) pt pr f_ k_ = (-(nI 1), mNo σ 1) := (by first | rfl | (simp [hookF, c_5, cl_j, c_14, nI_l0, nI_l1, nI_l2, nI_l3, nI_l4, nI_l5, nI_l6, nI_l7, nI_l8, nI_l9, nI_l10]; done) | (simp only [hookF, c_5, cl_j, c_14, if_true, if_false, if_pos, if_neg]; rfl) | (unfold hookF; simp [c_5, cl_j, c_14, nI_l0, nI_l1, nI_l2, nI_l3, nI_l4, nI_l5, nI_l6, nI_l7, nI_l8, nI_l9, nI_l10]; done)); exact ⟨by rw [h9], by rw [h9], rfl, rfl⟩)
    · refine g_iload_n hC dX5_hook_17 rfl 2 rfl ?_
      refine g_calli0 hC (g_runS hC (met_X5_isPoint hz pt ) (lw_S q3883 q3884 q89 q3885) md_X5_isPoint dX5_hook_18 rfl ⟨by omega, by omega⟩ (by omega) (by omega) rfl (Nat.le_of_ble_eq_true rfl)) (fun r_5 G_5 n_5 u_5 hp_5 hn_5 hm_5 hu_5 => ?_)
      obtain ⟨rfl, rfl, rfl, rfl⟩ := hp_5
      refine g_if_neB hC (wi pt 0 3) dX5_hook_21 (tgt := 30) (by decide) (fun c_21 => ?_) (fun c_21 => ?_)
      · refine g_iload_n hC dX5_hook_30 rfl 3 rfl ?_
        refine g_bipush (v := (-9)) hC dX5_hook_31 (by decide) ?_
        refine g_bipush (v := 9) hC dX5_hook_33 (by decide) ?_
        refine g_calli0 hC (g_runS hC (met_X5_within hz pr (-9) 9 ) (lw_S q3637 q3638 q89 q3639) md_X5_within dX5_hook_35 rfl ⟨by omega, by omega⟩ (by omega) (by omega) rfl (Nat.le_of_ble_eq_true rfl)) (fun r_6 G_6 n_6 u_6 hp_6 hn_6 hm_6 hu_6 => ?_)
        obtain ⟨rfl, rfl, rfl, rfl⟩ := hp_6
        refine g_if_eqB hC (wi pr (-9) 9) dX5_hook_38 (tgt := 64) (by decide) (fun c_38 => ?_) (fun c_38 => ?_)
        · refine g_aload_n hC dX5_hook_64 rfl 0 rfl ?_
          refine g_bipush (v := (-6)) hC dX5_hook_65 (by decide) ?_
          refine g_calli0 hC (g_runV hC (met_X5_no hz 6 (by omega)) kc_X5 mG_o (lw_V q3640 q3642 qs37 q89 q3643) rfl md_X5_no dX5_hook_67 rfl ⟨by omega, by omega⟩ (by omega) (by omega) rfl (Nat.le_of_ble_eq_true rfl)) (fun r_7 G_7 n_7 u_7 hp_7 hn_7 hm_7 hu_7 => ?_)
          obtain ⟨rfl, rfl, rfl, rfl⟩ := hp_7
          refine g_iret hC hr rfl ⟨_, rfl, ?_⟩ (by omega) (by omega) hE dX5_hook_70
          first
          | contradiction
          | (have h9 : hookF σ K (nI j) pt pr f_ k_ = (-(nI 6), mNo σ 6) := (by first | rfl | (simp [hookF, c_5, cl_j, c_14, c_21, c_38, nI_l0, nI_l1, nI_l2, nI_l3, nI_l4, nI_l5, nI_l6, nI_l7, nI_l8, nI_l9, nI_l10]; done) | (simp only [hookF, c_5, cl_j, c_14, c_21, c_38, if_true, if_false, if_pos, if_neg]; rfl) | (unfold hookF; simp [c_5, cl_j, c_14, c_21, c_38, nI_l0, nI_l1, nI_l2, nI_l3, nI_l4, nI_l5, nI_l6, nI_l7, nI_l8, nI_l9, nI_l10]; done)); exact ⟨by rw [h9], by rw [h9], rfl, rfl⟩)
        · refine g_iload hC dX5_hook_41 4 rfl ?_
          refine g_iconst (v := 0) hC dX5_hook_43 rfl ?_
          refine g_bipush (v := 8) hC dX5_hook_44 (by decide) ?_
          refine g_calli0 hC (g_runS hC (met_X5_within hz f_ 0 8 ) (lw_S q3637 q3638 q89 q3639) md_X5_within dX5_hook_46 rfl ⟨by omega, by omega⟩ (by omega) (by omega) rfl (Nat.le_of_ble_eq_true rfl)) (fun r_8 G_8 n_8 u_8 hp_8 hn_8 hm_8 hu_8 => ?_)
          obtain ⟨rfl, rfl, rfl, rfl⟩ := hp_8
          refine g_if_eqB hC (wi f_ 0 8) dX5_hook_49 (tgt := 64) (by decide) (fun c_49 => ?_) (fun c_49 => ?_)
          · refine g_aload_n hC dX5_hook_64 rfl 0 rfl ?_
            refine g_bipush (v := (-6)) hC dX5_hook_65 (by decide) ?_
            refine g_calli0 hC (g_runV hC (met_X5_no hz 6 (by omega)) kc_X5 mG_o (lw_V q3640 q3642 qs37 q89 q3643) rfl md_X5_no dX5_hook_67 rfl ⟨by omega, by omega⟩ (by omega) (by omega) rfl (Nat.le_of_ble_eq_true rfl)) (fun r_9 G_9 n_9 u_9 hp_9 hn_9 hm_9 hu_9 => ?_)
            obtain ⟨rfl, rfl, rfl, rfl⟩ := hp_9
            refine g_iret hC hr rfl ⟨_, rfl, ?_⟩ (by omega) (by omega) hE dX5_hook_70
            first
            | contradiction
            | (have h9 : hookF σ K (nI j) pt pr f_ k_ = (-(nI 6), mNo σ 6) := (by first | rfl | (simp [hookF, c_5, cl_j, c_14, c_21, c_38, c_49, nI_l0, nI_l1, nI_l2, nI_l3, nI_l4, nI_l5, nI_l6, nI_l7, nI_l8, nI_l9, nI_l10]; done) | (simp only [hookF, c_5, cl_j, c_14, c_21, c_38, c_49, if_true, if_false, if_pos, if_neg]; rfl) | (unfold hookF; simp [c_5, cl_j, c_14, c_21, c_38, c_49, nI_l0, nI_l1, nI_l2, nI_l3, nI_l4, nI_l5, nI_l6, nI_l7, nI_l8, nI_l9, nI_l10]; done)); exact ⟨by rw [h9], by rw [h9], rfl, rfl⟩)
          · refine g_iload hC dX5_hook_52 5 rfl ?_
            refine g_bipush (v := (-99)) hC dX5_hook_54 (by decide) ?_
            refine g_bipush (v := 99) hC dX5_hook_56 (by decide) ?_
            refine g_calli0 hC (g_runS hC (met_X5_within hz k_ (-99) 99 ) (lw_S q3637 q3638 q89 q3639) md_X5_within dX5_hook_58 rfl ⟨by omega, by omega⟩ (by omega) (by omega) rfl (Nat.le_of_ble_eq_true rfl)) (fun r_10 G_10 n_10 u_10 hp_10 hn_10 hm_10 hu_10 => ?_)
            obtain ⟨rfl, rfl, rfl, rfl⟩ := hp_10
            refine g_if_neB hC (wi k_ (-99) 99) dX5_hook_61 (tgt := 71) (by decide) (fun c_61 => ?_) (fun c_61 => ?_)
            · refine g_aload_n hC dX5_hook_71 rfl 0 rfl ?_
              refine m_get (v := .int (nI K)) hC 4 (by decide) q3525 (congrArg (fun z => some (Value.int z)) hK) dX5_hook_72 ?_
              refine g_bipush (v := 24) hC dX5_hook_75 (by decide) ?_
              refine g_icmp_neN hC K 24 (by omega) (by omega) dX5_hook_77 (tgt := 87) (by decide) (fun c_77 => ?_) (fun c_77 => ?_)
              · refine g_aload_n hC dX5_hook_87 rfl 0 rfl ?_
                refine m_get (v := .ref (m0 + 2)) hC 5 (by decide) q3526 rfl dX5_hook_88 ?_
                refine g_aload_n hC dX5_hook_91 rfl 0 rfl ?_
                refine m_get (v := .int (nI K)) hC 4 (by decide) q3525 (congrArg (fun z => some (Value.int z)) hK) dX5_hook_92 ?_
                refine g_iload_n hC dX5_hook_95 rfl 1 rfl ?_
                refine m_ast hC 5 K rfl (show K < 120 from by omega) (by omega) hz dX5_hook_96 ?_
                refine g_aload_n hC dX5_hook_97 rfl 0 rfl ?_
                refine m_get (v := .ref (m0 + 2)) hC 5 (by decide) q3526 rfl dX5_hook_98 ?_
                refine g_bipush (v := 24) hC dX5_hook_101 (by decide) ?_
                refine g_aload_n hC dX5_hook_103 rfl 0 rfl ?_
                refine m_get (v := .int (nI K)) hC 4 (by decide) q3525 (congrArg (fun z => some (Value.int z)) ((mu_nk (by decide)).trans hK)) dX5_hook_104 ?_
                refine g_iaddN hC 24 K dX5_hook_107 ?_
                refine g_iload_n hC dX5_hook_108 rfl 2 rfl ?_
                refine m_ast hC 5 (24 + K) rfl (show 24 + K < 120 from by omega) (by omega) hz dX5_hook_109 ?_
                refine g_aload_n hC dX5_hook_110 rfl 0 rfl ?_
                refine m_get (v := .ref (m0 + 2)) hC 5 (by decide) q3526 rfl dX5_hook_111 ?_
                refine g_bipush (v := 48) hC dX5_hook_114 (by decide) ?_
                refine g_aload_n hC dX5_hook_116 rfl 0 rfl ?_
                refine m_get (v := .int (nI K)) hC 4 (by decide) q3525 (congrArg (fun z => some (Value.int z)) ((mu_nk (by decide)).trans ((mu_nk (by decide)).trans hK))) dX5_hook_117 ?_
                refine g_iaddN hC 48 K dX5_hook_120 ?_
                refine g_iload_n hC dX5_hook_121 rfl 3 rfl ?_
                refine m_ast hC 5 (48 + K) rfl (show 48 + K < 120 from by omega) (by omega) hz dX5_hook_122 ?_
                refine g_aload_n hC dX5_hook_123 rfl 0 rfl ?_
                refine m_get (v := .ref (m0 + 2)) hC 5 (by decide) q3526 rfl dX5_hook_124 ?_
                refine g_bipush (v := 72) hC dX5_hook_127 (by decide) ?_
                refine g_aload_n hC dX5_hook_129 rfl 0 rfl ?_
                refine m_get (v := .int (nI K)) hC 4 (by decide) q3525 (congrArg (fun z => some (Value.int z)) ((mu_nk (by decide)).trans ((mu_nk (by decide)).trans ((mu_nk (by decide)).trans hK)))) dX5_hook_130 ?_
                refine g_iaddN hC 72 K dX5_hook_133 ?_
                refine g_iload hC dX5_hook_134 4 rfl ?_
                refine m_ast hC 5 (72 + K) rfl (show 72 + K < 120 from by omega) (by omega) hz dX5_hook_136 ?_
                refine g_aload_n hC dX5_hook_137 rfl 0 rfl ?_
                refine m_get (v := .ref (m0 + 2)) hC 5 (by decide) q3526 rfl dX5_hook_138 ?_
                refine g_bipush (v := 96) hC dX5_hook_141 (by decide) ?_
                refine g_aload_n hC dX5_hook_143 rfl 0 rfl ?_
                refine m_get (v := .int (nI K)) hC 4 (by decide) q3525 (congrArg (fun z => some (Value.int z)) ((mu_nk (by decide)).trans ((mu_nk (by decide)).trans ((mu_nk (by decide)).trans ((mu_nk (by decide)).trans hK))))) dX5_hook_144 ?_
                refine g_iaddN hC 96 K dX5_hook_147 ?_
                refine g_iload hC dX5_hook_148 5 rfl ?_
                refine m_ast hC 5 (96 + K) rfl (show 96 + K < 120 from by omega) (by omega) hz dX5_hook_150 ?_
                refine g_aload_n hC dX5_hook_151 rfl 0 rfl ?_
                refine g_dup hC dX5_hook_152 rfl ?_
                refine m_get (v := .int (nI K)) hC 4 (by decide) q3525 (congrArg (fun z => some (Value.int z)) ((mu_nk (by decide)).trans ((mu_nk (by decide)).trans ((mu_nk (by decide)).trans ((mu_nk (by decide)).trans ((mu_nk (by decide)).trans hK)))))) dX5_hook_153 ?_
                refine g_dup_x1 hC dX5_hook_156 rfl rfl ?_
                refine g_iconst (v := 1) hC dX5_hook_157 rfl ?_
                refine g_iaddN hC K 1 dX5_hook_158 ?_
                refine m_put hC 4 (by decide) rfl (by decide) q3525 rfl rfl rfl hz dX5_hook_159 ?_
                refine g_iret hC hr rfl ⟨_, rfl, ?_⟩ (by omega) (by omega) hE dX5_hook_162
                first
                | contradiction
                | (have h9 : hookF σ K (nI j) pt pr f_ k_ = (nI K, (mu (mu (mu (mu (mu (mu σ 5 K (nI j)) 5 (24 + K) pt) 5 (48 + K) pr) 5 (72 + K) f_) 5 (96 + K) k_) 4 0 (nI (K + 1)))) := (by first | rfl | (simp [hookF, c_5, cl_j, c_14, c_21, c_38, c_49, c_61, c_77, nI_l0, nI_l1, nI_l2, nI_l3, nI_l4, nI_l5, nI_l6, nI_l7, nI_l8, nI_l9, nI_l10]; done) | (simp only [hookF, c_5, cl_j, c_14, c_21, c_38, c_49, c_61, c_77, if_true, if_false, if_pos, if_neg]; rfl) | (unfold hookF; simp [c_5, cl_j, c_14, c_21, c_38, c_49, c_61, c_77, nI_l0, nI_l1, nI_l2, nI_l3, nI_l4, nI_l5, nI_l6, nI_l7, nI_l8, nI_l9, nI_l10]; done)); exact ⟨by rw [h9], by rw [h9], rfl, rfl⟩)
              · refine g_aload_n hC dX5_hook_80 rfl 0 rfl ?_
                refine g_bipush (v := (-7)) hC dX5_hook_81 (by decide) ?_
                refine g_calli0 hC (g_runV hC (met_X5_no hz 7 (by omega)) kc_X5 mG_o (lw_V q3640 q3642 qs37 q89 q3643) rfl md_X5_no dX5_hook_83 rfl ⟨by omega, by omega⟩ (by omega) (by omega) rfl (Nat.le_of_ble_eq_true rfl)) (fun r_11 G_11 n_11 u_11 hp_11 hn_11 hm_11 hu_11 => ?_)
                obtain ⟨rfl, rfl, rfl, rfl⟩ := hp_11
                refine g_iret hC hr rfl ⟨_, rfl, ?_⟩ (by omega) (by omega) hE dX5_hook_86
                first
                | contradiction
                | (have h9 : hookF σ K (nI j) pt pr f_ k_ = (-(nI 7), mNo σ 7) := (by first | rfl | (simp [hookF, c_5, cl_j, c_14, c_21, c_38, c_49, c_61, c_77, nI_l0, nI_l1, nI_l2, nI_l3, nI_l4, nI_l5, nI_l6, nI_l7, nI_l8, nI_l9, nI_l10]; done) | (simp only [hookF, c_5, cl_j, c_14, c_21, c_38, c_49, c_61, c_77, if_true, if_false, if_pos, if_neg]; rfl) | (unfold hookF; simp [c_5, cl_j, c_14, c_21, c_38, c_49, c_61, c_77, nI_l0, nI_l1, nI_l2, nI_l3, nI_l4, nI_l5, nI_l6, nI_l7, nI_l8, nI_l9, nI_l10]; done)); exact ⟨by rw [h9], by rw [h9], rfl, rfl⟩)
            · refine g_aload_n hC dX5_hook_64 rfl 0 rfl ?_
              refine g_bipush (v := (-6)) hC dX5_hook_65 (by decide) ?_
              refine g_calli0 hC (g_runV hC (met_X5_no hz 6 (by omega)) kc_X5 mG_o (lw_V q3640 q3642 qs37 q89 q3643) rfl md_X5_no dX5_hook_67 rfl ⟨by omega, by omega⟩ (by omega) (by omega) rfl (Nat.le_of_ble_eq_true rfl)) (fun r_12 G_12 n_12 u_12 hp_12 hn_12 hm_12 hu_12 => ?_)
              obtain ⟨rfl, rfl, rfl, rfl⟩ := hp_12
              refine g_iret hC hr rfl ⟨_, rfl, ?_⟩ (by omega) (by omega) hE dX5_hook_70
              first
              | contradiction
              | (have h9 : hookF σ K (nI j) pt pr f_ k_ = (-(nI 6), mNo σ 6) := (by first | rfl | (simp [hookF, c_5, cl_j, c_14, c_21, c_38, c_49, c_61, nI_l0, nI_l1, nI_l2, nI_l3, nI_l4, nI_l5, nI_l6, nI_l7, nI_l8, nI_l9, nI_l10]; done) | (simp only [hookF, c_5, cl_j, c_14, c_21, c_38, c_49, c_61, if_true, if_false, if_pos, if_neg]; rfl) | (unfold hookF; simp [c_5, cl_j, c_14, c_21, c_38, c_49, c_61, nI_l0, nI_l1, nI_l2, nI_l3, nI_l4, nI_l5, nI_l6, nI_l7, nI_l8, nI_l9, nI_l10]; done)); exact ⟨by rw [h9], by rw [h9], rfl, rfl⟩)
      · refine g_aload_n hC dX5_hook_24 rfl 0 rfl ?_
        refine g_iconst (v := (-1)) hC dX5_hook_25 rfl ?_
        refine g_calli0 hC (g_runV hC (met_X5_no hz 1 (by omega)) kc_X5 mG_o (lw_V q3640 q3642 qs37 q89 q3643) rfl md_X5_no dX5_hook_26 rfl ⟨by omega, by omega⟩ (by omega) (by omega) rfl (Nat.le_of_ble_eq_true rfl)) (fun r_13 G_13 n_13 u_13 hp_13 hn_13 hm_13 hu_13 => ?_)
        obtain ⟨rfl, rfl, rfl, rfl⟩ := hp_13
        refine g_iret hC hr rfl ⟨_, rfl, ?_⟩ (by omega) (by omega) hE dX5_hook_29
        first
        | contradiction
        | (have h9 : hookF σ K (nI j) pt pr f_ k_ = (-(nI 1), mNo σ 1) := (by first | rfl | (simp [hookF, c_5, cl_j, c_14, c_21, nI_l0, nI_l1, nI_l2, nI_l3, nI_l4, nI_l5, nI_l6, nI_l7, nI_l8, nI_l9, nI_l10]; done) | (simp only [hookF, c_5, cl_j, c_14, c_21, if_true, if_false, if_pos, if_neg]; rfl) | (unfold hookF; simp [c_5, cl_j, c_14, c_21, nI_l0, nI_l1, nI_l2, nI_l3, nI_l4, nI_l5, nI_l6, nI_l7, nI_l8, nI_l9, nI_l10]; done)); exact ⟨by rw [h9], by rw [h9], rfl, rfl⟩)
set_option maxHeartbeats 1000000 in
theorem met_X5_isAhead {Y : YT} {l : Launch} {m0 n u : Nat} {σ : MS} {B : AH} (hz : yz Y ≤ m0) (g_ : Nat) (h_ : Nat) {K N : Nat} (hg : g_ < K) (hh2 : h_ < K) (hK2 : K ≤ 24) (hN2 : N ≤ 12) (hp : ∀ h, h < K → ∃ q, q < N ∧ hkF σ 0 h = nI q) : GM Y l yX5_isAhead (ws_ yX5_isAhead cX5_isAhead 3 (some FieldType.boolean)) 2 44 [.ref m0, .int (nI g_), .int (nI h_)] (mG Y m0 σ B) n u 0 0 (pI (fun r G' n' u' => b2i (aheadF σ  g_ h_) = r ∧ mG Y m0 σ B = G' ∧ n = n' ∧ u = u')) noX := by
  refine GM.intro (own := RX5) rfl (by decide +kernel) (Nat.le_of_ble_eq_true rfl) ?_
  intro p e s m args below meth c R Q hC hr hnm hF hL hE
  have hE1 := hE.1
  have hE2 := hE.2.1
  show V Y p l e R s m args below meth c 3 n u (mG Y m0 σ B) n u Q 0 [(0, .ref m0), (1, .int (nI g_)), (2, .int (nI h_))] []
  refine g_aload_n hC dX5_isAhead_0 rfl 0 rfl ?_
  refine g_iconst (v := 2) hC dX5_isAhead_1 rfl ?_
  refine g_iload_n hC dX5_isAhead_2 rfl 1 rfl ?_
  refine g_calli0 hC (g_runV hC (met_X5_hk hz 2 g_ (by omega)) kc_X5 mG_o (lw_V q3890 q3892 qs71 q89 q3893) rfl md_X5_hk dX5_isAhead_3 rfl ⟨by omega, by omega⟩ (by omega) (by omega) rfl (Nat.le_of_ble_eq_true rfl)) (fun r_1 G_1 n_1 u_1 hp_1 hn_1 hm_1 hu_1 => ?_)
  obtain ⟨rfl, rfl, rfl, rfl⟩ := hp_1
  refine g_aload_n hC dX5_isAhead_6 rfl 0 rfl ?_
  refine g_iconst (v := 2) hC dX5_isAhead_7 rfl ?_
  refine g_iload_n hC dX5_isAhead_8 rfl 2 rfl ?_
  refine g_calli0 hC (g_runV hC (met_X5_hk hz 2 h_ (by omega)) kc_X5 mG_o (lw_V q3890 q3892 qs71 q89 q3893) rfl md_X5_hk dX5_isAhead_9 rfl ⟨by omega, by omega⟩ (by omega) (by omega) rfl (Nat.le_of_ble_eq_true rfl)) (fun r_2 G_2 n_2 u_2 hp_2 hn_2 hm_2 hu_2 => ?_)
  obtain ⟨rfl, rfl, rfl, rfl⟩ := hp_2
  refine g_icmp_eq hC dX5_isAhead_12 (tgt := 36) (by decide) (fun c_12 => ?_) (fun c_12 => ?_)
  · refine g_aload_n hC dX5_isAhead_36 rfl 0 rfl ?_
    refine g_iconst (v := 0) hC dX5_isAhead_37 rfl ?_
    refine g_iload_n hC dX5_isAhead_38 rfl 1 rfl ?_
    refine g_calli0 hC (g_runV hC (met_X5_hk hz 0 g_ (by omega)) kc_X5 mG_o (lw_V q3890 q3892 qs71 q89 q3893) rfl md_X5_hk dX5_isAhead_39 rfl ⟨by omega, by omega⟩ (by omega) (by omega) rfl (Nat.le_of_ble_eq_true rfl)) (fun r_3 G_3 n_3 u_3 hp_3 hn_3 hm_3 hu_3 => ?_)
    obtain ⟨rfl, rfl, rfl, rfl⟩ := hp_3
    refine g_aload_n hC dX5_isAhead_42 rfl 0 rfl ?_
    refine g_iconst (v := 0) hC dX5_isAhead_43 rfl ?_
    refine g_iload_n hC dX5_isAhead_44 rfl 2 rfl ?_
    refine g_calli0 hC (g_runV hC (met_X5_hk hz 0 h_ (by omega)) kc_X5 mG_o (lw_V q3890 q3892 qs71 q89 q3893) rfl md_X5_hk dX5_isAhead_45 rfl ⟨by omega, by omega⟩ (by omega) (by omega) rfl (Nat.le_of_ble_eq_true rfl)) (fun r_4 G_4 n_4 u_4 hp_4 hn_4 hm_4 hu_4 => ?_)
    obtain ⟨rfl, rfl, rfl, rfl⟩ := hp_4
    refine g_icmp_eq hC dX5_isAhead_48 (tgt := 68) (by decide) (fun c_48 => ?_) (fun c_48 => ?_)
    · refine g_iload_n hC dX5_isAhead_68 rfl 1 rfl ?_
      refine g_iload_n hC dX5_isAhead_69 rfl 2 rfl ?_
      refine g_icmp_geN hC g_ h_ (by omega) (by omega) dX5_isAhead_70 (tgt := 77) (by decide) (fun c_70 => ?_) (fun c_70 => ?_)
      · refine g_iconst (v := 0) hC dX5_isAhead_77 rfl ?_
        refine g_iret hC hr rfl ⟨_, rfl, ?_⟩ (by omega) (by omega) hE dX5_isAhead_78
        exact ⟨by simp_all [aheadF, b2i, i_nlt]; try omega, rfl, rfl, rfl⟩
      · refine g_iconst (v := 1) hC dX5_isAhead_73 rfl ?_
        refine g_goto (tgt := 78) hC dX5_isAhead_74 (by decide) ?_
        refine g_iret hC hr rfl ⟨_, rfl, ?_⟩ (by omega) (by omega) hE dX5_isAhead_78
        exact ⟨by simp_all [aheadF, b2i, i_nlt]; try omega, rfl, rfl, rfl⟩
    · obtain ⟨q1, hq1, eq1⟩ := hp g_ hg
      obtain ⟨q2, hq2, eq2⟩ := hp h_ hh2
      have cl_1 : (hkF σ 0 g_).toNatClampNeg = q1 := by rw [eq1]; exact nI_clamp (by omega)
      have cl_2 : (hkF σ 0 h_).toNatClampNeg = q2 := by rw [eq2]; exact nI_clamp (by omega)
      refine g_aload_n hC dX5_isAhead_51 rfl 0 rfl ?_
      refine g_aload_n hC dX5_isAhead_52 rfl 0 rfl ?_
      refine g_iconst (v := 0) hC dX5_isAhead_53 rfl ?_
      refine g_iload_n hC dX5_isAhead_54 rfl 1 rfl ?_
      refine g_calli0 hC (g_runV hC (met_X5_hk hz 0 g_ (by omega)) kc_X5 mG_o (lw_V q3890 q3892 qs71 q89 q3893) rfl md_X5_hk dX5_isAhead_55 rfl ⟨by omega, by omega⟩ (by omega) (by omega) rfl (Nat.le_of_ble_eq_true rfl)) (fun r_5 G_5 n_5 u_5 hp_5 hn_5 hm_5 hu_5 => ?_)
      obtain ⟨rfl, rfl, rfl, rfl⟩ := hp_5
      refine g_aload_n hC dX5_isAhead_58 rfl 0 rfl ?_
      refine g_iconst (v := 0) hC dX5_isAhead_59 rfl ?_
      refine g_iload_n hC dX5_isAhead_60 rfl 2 rfl ?_
      refine g_calli0 hC (g_runV hC (met_X5_hk hz 0 h_ (by omega)) kc_X5 mG_o (lw_V q3890 q3892 qs71 q89 q3893) rfl md_X5_hk dX5_isAhead_61 rfl ⟨by omega, by omega⟩ (by omega) (by omega) rfl (Nat.le_of_ble_eq_true rfl)) (fun r_6 G_6 n_6 u_6 hp_6 hn_6 hm_6 hu_6 => ?_)
      obtain ⟨rfl, rfl, rfl, rfl⟩ := hp_6
      rw [eq1, eq2]
      refine g_calli0 hC (g_runV hC (met_X5_isOlder hz q1 q2 (by omega) (by omega)) kc_X5 mG_o (lw_V q3783 q3785 qs56 q89 q3786) rfl md_X5_isOlder dX5_isAhead_64 rfl ⟨by omega, by omega⟩ (by omega) (by omega) rfl (Nat.le_of_ble_eq_true rfl)) (fun r_7 G_7 n_7 u_7 hp_7 hn_7 hm_7 hu_7 => ?_)
      obtain ⟨rfl, rfl, rfl, rfl⟩ := hp_7
      refine g_iret hC hr (nar_b2i _) ⟨_, rfl, ?_⟩ (by omega) (by omega) hE dX5_isAhead_67
      exact ⟨by simp_all [aheadF, b2i, i_nlt]; try omega, rfl, rfl, rfl⟩
  · refine g_aload_n hC dX5_isAhead_15 rfl 0 rfl ?_
    refine g_iconst (v := 2) hC dX5_isAhead_16 rfl ?_
    refine g_iload_n hC dX5_isAhead_17 rfl 1 rfl ?_
    refine g_calli0 hC (g_runV hC (met_X5_hk hz 2 g_ (by omega)) kc_X5 mG_o (lw_V q3890 q3892 qs71 q89 q3893) rfl md_X5_hk dX5_isAhead_18 rfl ⟨by omega, by omega⟩ (by omega) (by omega) rfl (Nat.le_of_ble_eq_true rfl)) (fun r_8 G_8 n_8 u_8 hp_8 hn_8 hm_8 hu_8 => ?_)
    obtain ⟨rfl, rfl, rfl, rfl⟩ := hp_8
    refine g_aload_n hC dX5_isAhead_21 rfl 0 rfl ?_
    refine g_iconst (v := 2) hC dX5_isAhead_22 rfl ?_
    refine g_iload_n hC dX5_isAhead_23 rfl 2 rfl ?_
    refine g_calli0 hC (g_runV hC (met_X5_hk hz 2 h_ (by omega)) kc_X5 mG_o (lw_V q3890 q3892 qs71 q89 q3893) rfl md_X5_hk dX5_isAhead_24 rfl ⟨by omega, by omega⟩ (by omega) (by omega) rfl (Nat.le_of_ble_eq_true rfl)) (fun r_9 G_9 n_9 u_9 hp_9 hn_9 hm_9 hu_9 => ?_)
    obtain ⟨rfl, rfl, rfl, rfl⟩ := hp_9
    refine g_icmp_le hC dX5_isAhead_27 (tgt := 34) (by decide) (fun c_27 => ?_) (fun c_27 => ?_)
    · refine g_iconst (v := 0) hC dX5_isAhead_34 rfl ?_
      refine g_iret hC hr rfl ⟨_, rfl, ?_⟩ (by omega) (by omega) hE dX5_isAhead_35
      exact ⟨by simp_all [aheadF, b2i, i_nlt]; try omega, rfl, rfl, rfl⟩
    · refine g_iconst (v := 1) hC dX5_isAhead_30 rfl ?_
      refine g_goto (tgt := 35) hC dX5_isAhead_31 (by decide) ?_
      refine g_iret hC hr rfl ⟨_, rfl, ?_⟩ (by omega) (by omega) hE dX5_isAhead_35
      exact ⟨by simp_all [aheadF, b2i, i_nlt]; try omega, rfl, rfl, rfl⟩
set_option maxHeartbeats 1000000 in
theorem met_X5_ten {Y : YT} {l : Launch} {m0 n u : Nat} {σ : MS} {B : AH} (hz : yz Y ≤ m0) (v_ : Int32)  : GM Y l yX5_ten (ws_ yX5_ten cX5_ten 2 (some FieldType.int)) 0 0 [.int v_] (mG Y m0 σ B) n u 0 0 (pI (fun r G' n' u' => tenF v_ = r ∧ mG Y m0 σ B = G' ∧ n = n' ∧ u = u')) noX := by
  refine GM.intro (own := RX5) rfl (by decide +kernel) (Nat.le_of_ble_eq_true rfl) ?_
  intro p e s m args below meth c R Q hC hr hnm hF hL hE
  have hE1 := hE.1
  have hE2 := hE.2.1
  show V Y p l e R s m args below meth c 2 n u (mG Y m0 σ B) n u Q 0 [(0, .int v_)] []
  refine g_iload_n hC dX5_ten_0 rfl 0 rfl ?_
  refine g_bipush (v := 10) hC dX5_ten_1 (by decide) ?_
  refine g_irem hC dX5_ten_3 (by decide) ?_
  refine g_istore_n (L' := [(1, .int (v_ - v_ / 10 * 10)), (0, .int v_)]) hC dX5_ten_4 rfl (by decide) rfl ?_
  refine g_iload_n hC dX5_ten_5 rfl 0 rfl ?_
  refine g_if_ge hC dX5_ten_6 (tgt := 16) (by decide) (fun c_6 => ?_) (fun c_6 => ?_)
  · refine g_iload_n hC dX5_ten_16 rfl 0 rfl ?_
    refine g_iret hC hr rfl ⟨_, rfl, ?_⟩ (by omega) (by omega) hE dX5_ten_17
    exact ⟨by first | (simp [tenF, c_6]; done) | (simp [tenF, Int32.not_lt.mpr c_6]; done), rfl, rfl, rfl⟩
  · refine g_iload_n hC dX5_ten_9 rfl 0 rfl ?_
    refine g_bipush (v := 10) hC dX5_ten_10 (by decide) ?_
    refine g_iadd hC dX5_ten_12 ?_
    refine g_goto (tgt := 17) hC dX5_ten_13 (by decide) ?_
    refine g_iret hC hr rfl ⟨_, rfl, ?_⟩ (by omega) (by omega) hE dX5_ten_17
    exact ⟨by first | (simp [tenF, c_6]; done) | (simp [tenF, Int32.not_lt.mpr c_6]; done), rfl, rfl, rfl⟩
set_option maxHeartbeats 1000000 in
theorem met_X5_throwsOne {Y : YT} {l : Launch} {m0 n u : Nat} {σ : MS} {B : AH} (hz : yz Y ≤ m0) (x_ : Int32)  : GM Y l yX5_throwsOne (ws_ yX5_throwsOne cX5_throwsOne 2 (some FieldType.int)) 0 0 [.ref m0, .int x_] (mG Y m0 σ B) n u 0 0 (pI (fun r G' n' u' => 0 = r ∧ mG Y m0 (throwF σ x_) B = G' ∧ n = n' ∧ u = u')) noX := by
  refine GM.intro (own := RX5) rfl (by decide +kernel) (Nat.le_of_ble_eq_true rfl) ?_
  intro p e s m args below meth c R Q hC hr hnm hF hL hE
  have hE1 := hE.1
  have hE2 := hE.2.1
  show V Y p l e R s m args below meth c 2 n u (mG Y m0 σ B) n u Q 0 [(0, .ref m0), (1, .int x_)] []
  refine g_aload_n hC dX5_throwsOne_0 rfl 0 rfl ?_
  refine g_iconst (v := 1) hC dX5_throwsOne_1 rfl ?_
  refine m_put hC 25 (by decide) rfl (by decide) q3546 rfl rfl rfl hz dX5_throwsOne_2 ?_
  refine g_aload_n hC dX5_throwsOne_5 rfl 0 rfl ?_
  refine g_iload_n hC dX5_throwsOne_6 rfl 1 rfl ?_
  refine m_put hC 26 (by decide) rfl (by decide) q3547 rfl rfl rfl hz dX5_throwsOne_7 ?_
  refine g_iconst (v := 0) hC dX5_throwsOne_10 rfl ?_
  refine g_iret hC hr rfl ⟨_, rfl, ?_⟩ (by omega) (by omega) hE dX5_throwsOne_11
  exact ⟨rfl, rfl, rfl, rfl⟩
set_option maxHeartbeats 1000000 in
theorem met_X5_trace {Y : YT} {l : Launch} {m0 n u : Nat} {σ : MS} {B : AH} (hz : yz Y ≤ m0) (i_ : Int32) {r_ : Nat} (hr_ : σ.1 30 0 = nI r_) (hr2 : r_ < 2147483648) : GM Y l yX5_trace (ws_ yX5_trace cX5_trace 2 (some FieldType.int)) 1 22 [.ref m0, .int i_] (mG Y m0 σ B) n u 0 0 (pI (fun r G' n' u' => traceF σ  i_ = r ∧ mG Y m0 σ B = G' ∧ n = n' ∧ u = u')) noX := by
  refine GM.intro (own := RX5) rfl (by decide +kernel) (Nat.le_of_ble_eq_true rfl) ?_
  intro p e s m args below meth c R Q hC hr hnm hF hL hE
  have hE1 := hE.1
  have hE2 := hE.2.1
  show V Y p l e R s m args below meth c 2 n u (mG Y m0 σ B) n u Q 0 [(0, .ref m0), (1, .int i_)] []
  refine g_iload_n hC dX5_trace_0 rfl 1 rfl ?_
  refine g_iconst (v := 0) hC dX5_trace_1 rfl ?_
  refine g_bipush (v := 30) hC dX5_trace_2 (by decide) ?_
  refine g_aload_n hC dX5_trace_4 rfl 0 rfl ?_
  refine m_get (v := .int (σ.1 30 0)) hC 30 (by decide) q3551 rfl dX5_trace_5 ?_
  refine g_calli0 hC (g_runS hC (met_J2_min 30 (σ.1 30 0) ) (lw_S q3956 q870 q88 q871) md_J2_min dX5_trace_8 rfl ⟨by omega, by omega⟩ (by omega) (by omega) rfl (Nat.le_of_ble_eq_true rfl)) (fun r_1 G_1 n_1 u_1 hp_1 hn_1 hm_1 hu_1 => ?_)
  obtain ⟨rfl, rfl, rfl, rfl⟩ := hp_1
  refine g_iconst (v := 1) hC dX5_trace_11 rfl ?_
  refine g_isub hC dX5_trace_12 ?_
  refine g_calli0 hC (g_runS hC (met_X5_within hz i_ 0 ((imin 30 (σ.1 30 0)) - 1) ) (lw_S q3637 q3638 q89 q3639) md_X5_within dX5_trace_13 rfl ⟨by omega, by omega⟩ (by omega) (by omega) rfl (Nat.le_of_ble_eq_true rfl)) (fun r_2 G_2 n_2 u_2 hp_2 hn_2 hm_2 hu_2 => ?_)
  obtain ⟨rfl, rfl, rfl, rfl⟩ := hp_2
  refine g_if_eqB hC (wi i_ 0 ((imin 30 (σ.1 30 0)) - 1)) dX5_trace_16 (tgt := 28) (by decide) (fun c_16 => ?_) (fun c_16 => ?_)
  · refine g_iconst (v := (-1)) hC dX5_trace_28 rfl ?_
    refine g_iret hC hr rfl ⟨_, rfl, ?_⟩ (by omega) (by omega) hE dX5_trace_29
    first
    | contradiction
    | exact ⟨by first | rfl | (simp [traceF, c_16, nI_l0, nI_l1, nI_l2, nI_l3, nI_l4, nI_l5, nI_l6, nI_l7, nI_l8, nI_l9, nI_l10]; done) | (simp only [traceF, c_16, if_true, if_false, if_pos, if_neg]; rfl) | (unfold traceF; simp [c_16, nI_l0, nI_l1, nI_l2, nI_l3, nI_l4, nI_l5, nI_l6, nI_l7, nI_l8, nI_l9, nI_l10]; done), rfl, rfl, rfl⟩
  · have e9 : imin 30 (σ.1 30 0) = nI (min 30 r_) := by rw [hr_]; exact imin_N (a := 30) (by decide) (by omega)
    obtain ⟨i, hi, rfl⟩ := wi_pl e9 (by omega) c_16
    have cl_i : (nI i).toNatClampNeg = i := nI_clamp (by omega)
    refine g_aload_n hC dX5_trace_19 rfl 0 rfl ?_
    refine m_get (v := .ref (m0 + 14)) hC 31 (by decide) q3552 rfl dX5_trace_20 ?_
    refine g_iload_n hC dX5_trace_23 rfl 1 rfl ?_
    refine m_ald (v := σ.1 31 i) hC 31 i rfl (show i < 30 from by omega) (by omega) rfl dX5_trace_24 ?_
    refine g_goto (tgt := 29) hC dX5_trace_25 (by decide) ?_
    refine g_iret hC hr rfl ⟨_, rfl, ?_⟩ (by omega) (by omega) hE dX5_trace_29
    first
    | contradiction
    | exact ⟨by first | rfl | (simp [traceF, c_16, cl_i, nI_l0, nI_l1, nI_l2, nI_l3, nI_l4, nI_l5, nI_l6, nI_l7, nI_l8, nI_l9, nI_l10]; done) | (simp only [traceF, c_16, cl_i, if_true, if_false, if_pos, if_neg]; rfl) | (unfold traceF; simp [c_16, cl_i, nI_l0, nI_l1, nI_l2, nI_l3, nI_l4, nI_l5, nI_l6, nI_l7, nI_l8, nI_l9, nI_l10]; done), rfl, rfl, rfl⟩
set_option maxHeartbeats 1000000 in
theorem met_X5_log {Y : YT} {l : Launch} {m0 n u : Nat} {σ : MS} {B : AH} (hz : yz Y ≤ m0) (i_ : Int32) {g : Nat} (hg : σ.1 20 0 = nI g) (hg2 : g < 2000000000) : GM Y l yX5_log (ws_ yX5_log cX5_log 2 (some FieldType.int)) 1 22 [.ref m0, .int i_] (mG Y m0 σ B) n u 0 0 (pI (fun r G' n' u' => logF σ g i_ = r ∧ mG Y m0 σ B = G' ∧ n = n' ∧ u = u')) noX := by
  refine GM.intro (own := RX5) rfl (by decide +kernel) (Nat.le_of_ble_eq_true rfl) ?_
  intro p e s m args below meth c R Q hC hr hnm hF hL hE
  have hE1 := hE.1
  have hE2 := hE.2.1
  show V Y p l e R s m args below meth c 2 n u (mG Y m0 σ B) n u Q 0 [(0, .ref m0), (1, .int i_)] []
  refine g_iload_n hC dX5_log_0 rfl 1 rfl ?_
  refine g_iconst (v := 0) hC dX5_log_1 rfl ?_
  refine g_bipush (v := 40) hC dX5_log_2 (by decide) ?_
  refine g_aload_n hC dX5_log_4 rfl 0 rfl ?_
  refine m_get (v := .int (nI g)) hC 20 (by decide) q3541 (congrArg (fun z => some (Value.int z)) hg) dX5_log_5 ?_
  refine g_calli0 hC (g_runS hC (met_J2_min 40 (nI g) ) (lw_S q3956 q870 q88 q871) md_J2_min dX5_log_8 rfl ⟨by omega, by omega⟩ (by omega) (by omega) rfl (Nat.le_of_ble_eq_true rfl)) (fun r_1 G_1 n_1 u_1 hp_1 hn_1 hm_1 hu_1 => ?_)
  obtain ⟨rfl, rfl, rfl, rfl⟩ := hp_1
  refine g_iconst (v := 1) hC dX5_log_11 rfl ?_
  refine g_isub hC dX5_log_12 ?_
  refine g_calli0 hC (g_runS hC (met_X5_within hz i_ 0 ((imin 40 (nI g)) - 1) ) (lw_S q3637 q3638 q89 q3639) md_X5_within dX5_log_13 rfl ⟨by omega, by omega⟩ (by omega) (by omega) rfl (Nat.le_of_ble_eq_true rfl)) (fun r_2 G_2 n_2 u_2 hp_2 hn_2 hm_2 hu_2 => ?_)
  obtain ⟨rfl, rfl, rfl, rfl⟩ := hp_2
  refine g_if_eqB hC (wi i_ 0 ((imin 40 (nI g)) - 1)) dX5_log_16 (tgt := 49) (by decide) (fun c_16 => ?_) (fun c_16 => ?_)
  · refine g_iconst (v := (-1)) hC dX5_log_49 rfl ?_
    refine g_iret hC hr rfl ⟨_, rfl, ?_⟩ (by omega) (by omega) hE dX5_log_50
    have h9 : logF σ g i_ = (-1) := (by simp [logF, c_16]; first | done | (rw [if_neg (by omega)]; done) | (rw [if_pos (by omega)]; done))
    exact ⟨h9, rfl, rfl, rfl⟩
  · have e9 : imin 40 (nI g) = nI (min 40 g) := imin_N (a := 40) (by decide) (by omega)
    obtain ⟨i, hi, rfl⟩ := wi_pl e9 (by omega) c_16
    have cl_i : (nI i).toNatClampNeg = i := nI_clamp (by omega)
    refine g_aload_n hC dX5_log_19 rfl 0 rfl ?_
    refine m_get (v := .ref (m0 + 9)) hC 21 (by decide) q3542 rfl dX5_log_20 ?_
    refine g_aload_n hC dX5_log_23 rfl 0 rfl ?_
    refine m_get (v := .int (nI g)) hC 20 (by decide) q3541 (congrArg (fun z => some (Value.int z)) hg) dX5_log_24 ?_
    refine g_bipush (v := 40) hC dX5_log_27 (by decide) ?_
    refine g_icmp_leN hC g 40 (by omega) (by omega) dX5_log_29 (tgt := 41) (by decide) (fun c_29 => ?_) (fun c_29 => ?_)
    · refine g_iload_n hC dX5_log_41 rfl 1 rfl ?_
      refine g_bipush (v := 40) hC dX5_log_42 (by decide) ?_
      refine g_iremN hC i 40 (by omega) (by omega) (by omega) dX5_log_44 ?_
      refine m_ald (v := σ.1 21 (i % 40)) hC 21 (i % 40) rfl (show i % 40 < 40 from by omega) (by omega) rfl dX5_log_45 ?_
      refine g_goto (tgt := 50) hC dX5_log_46 (by decide) ?_
      refine g_iret hC hr rfl ⟨_, rfl, ?_⟩ (by omega) (by omega) hE dX5_log_50
      have h9 : logF σ g (nI i) = σ.1 21 (i % 40) := (by simp [logF, c_16, cl_i, c_29]; first | done | (rw [if_neg (by omega)]; done) | (rw [if_pos (by omega)]; done))
      exact ⟨h9, rfl, rfl, rfl⟩
    · refine g_aload_n hC dX5_log_32 rfl 0 rfl ?_
      refine m_get (v := .int (nI g)) hC 20 (by decide) q3541 (congrArg (fun z => some (Value.int z)) hg) dX5_log_33 ?_
      refine g_iload_n hC dX5_log_36 rfl 1 rfl ?_
      refine g_iaddN hC g i dX5_log_37 ?_
      refine g_goto (tgt := 42) hC dX5_log_38 (by decide) ?_
      refine g_bipush (v := 40) hC dX5_log_42 (by decide) ?_
      refine g_iremN hC (g + i) 40 (by omega) (by omega) (by omega) dX5_log_44 ?_
      refine m_ald (v := σ.1 21 ((g + i) % 40)) hC 21 ((g + i) % 40) rfl (show (g + i) % 40 < 40 from by omega) (by omega) rfl dX5_log_45 ?_
      refine g_goto (tgt := 50) hC dX5_log_46 (by decide) ?_
      refine g_iret hC hr rfl ⟨_, rfl, ?_⟩ (by omega) (by omega) hE dX5_log_50
      have h9 : logF σ g (nI i) = σ.1 21 ((g + i) % 40) := (by simp [logF, c_16, cl_i, c_29]; first | done | (rw [if_neg (by omega)]; done) | (rw [if_pos (by omega)]; done))
      exact ⟨h9, rfl, rfl, rfl⟩
set_option maxHeartbeats 1000000 in
theorem met_X5_draw {Y : YT} {l : Launch} {m0 n u : Nat} {σ : MS} {B : AH} (hz : yz Y ≤ m0) (b_ : Nat) (hb : 0 < b_) (hb2 : b_ < 1000) : GM Y l yX5_draw (ws_ yX5_draw cX5_draw 2 (some FieldType.int)) 0 0 [.ref m0, .int (nI b_)] (mG Y m0 σ B) n u 0 0 (pI (fun r G' n' u' => nI (dT (dsF (σ.1 3 0)) % b_) = r ∧ mG Y m0 (mu σ 3 0 (dsF (σ.1 3 0))) B = G' ∧ n = n' ∧ u = u')) noX := by
  refine GM.intro (own := RX5) rfl (by decide +kernel) (Nat.le_of_ble_eq_true rfl) ?_
  intro p e s m args below meth c R Q hC hr hnm hF hL hE
  have hE1 := hE.1
  have hE2 := hE.2.1
  show V Y p l e R s m args below meth c 2 n u (mG Y m0 σ B) n u Q 0 [(0, .ref m0), (1, .int (nI b_))] []
  refine g_aload_n hC dX5_draw_0 rfl 0 rfl ?_
  refine g_aload_n hC dX5_draw_1 rfl 0 rfl ?_
  refine m_get (v := .int (σ.1 3 0)) hC 3 (by decide) q3524 rfl dX5_draw_2 ?_
  refine g_ldcw (v := 1103515245) hC q3969 dX5_draw_5 ?_
  refine g_imul hC dX5_draw_8 ?_
  refine g_sipush (v := 12345) hC dX5_draw_9 (by decide) ?_
  refine g_iadd hC dX5_draw_12 ?_
  refine m_put hC 3 (by decide) rfl (by decide) q3524 rfl rfl rfl hz dX5_draw_13 ?_
  refine g_aload_n hC dX5_draw_16 rfl 0 rfl ?_
  refine m_get (v := .int (((σ.1 3 0) * 1103515245) + 12345)) hC 3 (by decide) q3524 (congrArg (fun z => some (Value.int z)) mu_hit) dX5_draw_17 ?_
  refine g_bipush (v := 16) hC dX5_draw_20 (by decide) ?_
  refine g_iushr (v := nI (dT (dsF (σ.1 3 0)))) hC dX5_draw_22 (ush16 _) ?_
  refine g_iload_n hC dX5_draw_23 rfl 1 rfl ?_
  have := dT_lt (dsF (σ.1 3 0))
  refine g_iremN hC (dT (dsF (σ.1 3 0))) b_ (by omega) (by omega) (by omega) dX5_draw_24 ?_
  refine g_iret hC hr rfl ⟨_, rfl, ?_⟩ (by omega) (by omega) hE dX5_draw_25
  exact ⟨rfl, rfl, rfl, rfl⟩
set_option maxHeartbeats 1000000 in
theorem met_X5_seed {Y : YT} {l : Launch} {m0 n u : Nat} {σ : MS} {B : AH} (hz : yz Y ≤ m0) (v_ : Int32)  : GM Y l yX5_seed (ws_ yX5_seed cX5_seed 3 (some FieldType.int)) 0 0 [.ref m0, .int v_] (mG Y m0 σ B) n u 0 0 (pI (fun r G' n' u' => σ.1 3 0 = r ∧ mG Y m0 (mu σ 3 0 v_) B = G' ∧ n = n' ∧ u = u')) noX := by
  refine GM.intro (own := RX5) rfl (by decide +kernel) (Nat.le_of_ble_eq_true rfl) ?_
  intro p e s m args below meth c R Q hC hr hnm hF hL hE
  have hE1 := hE.1
  have hE2 := hE.2.1
  show V Y p l e R s m args below meth c 3 n u (mG Y m0 σ B) n u Q 0 [(0, .ref m0), (1, .int v_)] []
  refine g_aload_n hC dX5_seed_0 rfl 0 rfl ?_
  refine m_get (v := .int (σ.1 3 0)) hC 3 (by decide) q3524 rfl dX5_seed_1 ?_
  refine g_istore_n (L' := [(2, .int (σ.1 3 0)), (0, .ref m0), (1, .int v_)]) hC dX5_seed_4 rfl (by decide) rfl ?_
  refine g_aload_n hC dX5_seed_5 rfl 1 rfl ?_
  refine g_iload_n hC dX5_seed_6 rfl 2 rfl ?_
  refine m_put hC 3 (by decide) rfl (by decide) q3524 rfl rfl rfl hz dX5_seed_7 ?_
  refine g_iload_n hC dX5_seed_10 rfl 0 rfl ?_
  refine g_iret hC hr rfl ⟨_, rfl, ?_⟩ (by omega) (by omega) hE dX5_seed_11
  exact ⟨rfl, rfl, rfl, rfl⟩
