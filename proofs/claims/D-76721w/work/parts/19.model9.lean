set_option maxRecDepth 100000
/-! THE MODEL, 9: start, would -/
def caS (z : MS) (i : Nat) : MS := mu z 13 i (z.1 15 i)
theorem caf_ne {z : MS} {n k i : Nat} (h : k ≠ 13) : (foldN caS z n).1 k i = z.1 k i := fold_keep (f := caS) (g := fun z : MS => z.1 k i) (fun a i => mu_nk h) _ _
def caF (z : MS) : MS := foldN caS (mu z 12 0 (z.1 14 0)) (3 * (z.1 14 0).toNatClampNeg)
def startF (σ : MS) (N : Nat) (p : Int32) : Int32 × MS :=
  if wi p 0 (σ.1 0 0 - 1) = true then (if tl σ 0 p.toNatClampNeg = 1 then (-6, mNo σ 6) else
    if (beginsF N σ p.toNatClampNeg).1 = true then ((beginsF N σ p.toNatClampNeg).2.1 17 0, (beginsF N σ p.toNatClampNeg).2) else (-6, mNo (caF (beginsF N σ p.toNatClampNeg).2) 6)) else (-1, mNo σ 1)
def thF (σ : MS) : MS := mu (keepF 36 σ) 19 0 1
def wdS (N : Nat) (σ : MS) (p : Nat) : MS := againF 36 (mu (beginsF N (thF σ) p).2 19 0 0)
def wdN (N : Nat) (σ : MS) (p : Nat) : Int32 := if (beginsF N (thF σ) p).1 = true then (wdS N σ p).1 17 0 else 0
def wouldF (σ : MS) (N : Nat) (p i : Int32) : Int32 × MS :=
  if wi p 0 (σ.1 0 0 - 1) = true then (if tl σ 0 p.toNatClampNeg = 1 then (-6 - 10, mNo σ 6) else
    (if i = -1 then wdN N σ p.toNatClampNeg else if wi i 0 (wdN N σ p.toNatClampNeg - 1) = true then (wdS N σ p.toNatClampNeg).1 18 i.toNatClampNeg else -1, wdS N σ p.toNatClampNeg)) else (-1 - 10, mNo σ 1)
theorem thF_ne {σ : MS} {k i : Nat} (h : k ≠ 36) (h2 : k ≠ 19) : (thF σ).1 k i = σ.1 k i := (mu_nk h2).trans (keep_ne h)
theorem again_ne {j k i : Nat} {σ : MS} (h0 : k ≠ 0) (h1 : k ≠ 1) (h2 : k ≠ 2) (h3 : k ≠ 3) (h4 : k ≠ 4) (h5 : k ≠ 5) : (againF j σ).1 k i = σ.1 k i := by
  unfold againF ag3
  rw [mu_nk h3, mu_nk h2, mu_nk h4, mu_nk h0]
  exact (fold_keep (f := ag2 j) (g := fun z : MS => z.1 k i) (fun a i => mu_nk h5) _ _).trans (fold_keep (f := ag1 j) (g := fun z : MS => z.1 k i) (fun a i => mu_nk h1) _ _)
set_option maxHeartbeats 1000000 in
theorem met_X5_start {Y : YT} {l : Launch} {m0 n u : Nat} {σ : MS} {B : AH} (hz : yz Y ≤ m0) (x_ : Int32) {N g : Nat} (hN : σ.1 0 0 = nI N) (hN2 : N ≤ 12) (hk : ∀ q, q < N → ∃ w, 0 < w ∧ w < 531441 ∧ tl σ 6 q = nI w) (h20 : σ.1 20 0 = nI g) (hg : g < 1900000000) : GM Y l yX5_start (ws_ yX5_start cX5_start 3 (some FieldType.int)) 74 2444 [.ref m0, .int x_] (mG Y m0 σ B) n u 0 0 (pI (fun r G' n' u' => (startF σ N x_).1 = r ∧ mG Y m0 ((startF σ N x_).2) B = G' ∧ n = n' ∧ u = u')) noX := by
  refine GM.intro (own := RX5) rfl (by decide +kernel) (Nat.le_of_ble_eq_true rfl) ?_
  intro p e s m args below meth c R Q hC hr hnm hF hL hE
  have hE1 := hE.1
  have hE2 := hE.2.1
  show V Y p l e R s m args below meth c 3 n u (mG Y m0 σ B) n u Q 0 [(0, .ref m0), (1, .int x_)] []
  refine g_aload_n hC dX5_start_0 rfl 0 rfl ?_
  refine g_iload_n hC dX5_start_1 rfl 1 rfl ?_
  refine g_calli0 hC (g_runV hC (met_X5_isPlug hz x_ ) kc_X5 mG_o (lw_V q3668 q3670 qs40 q89 q3671) rfl md_X5_isPlug dX5_start_2 rfl ⟨by omega, by omega⟩ (by omega) (by omega) rfl (Nat.le_of_ble_eq_true rfl)) (fun r_1 G_1 n_1 u_1 hp_1 hn_1 hm_1 hu_1 => ?_)
  obtain ⟨rfl, rfl, rfl, rfl⟩ := hp_1
  refine g_if_neB hC (wi x_ 0 (σ.1 0 0 - 1)) dX5_start_5 (tgt := 14) (by decide) (fun c_5 => ?_) (fun c_5 => ?_)
  · obtain ⟨j, hj, rfl⟩ := wi_pl hN (by omega) c_5
    have cl_j : (nI j).toNatClampNeg = j := nI_clamp (by omega)
    refine g_aload_n hC dX5_start_14 rfl 0 rfl ?_
    refine g_iload_n hC dX5_start_15 rfl 1 rfl ?_
    refine g_calli0 hC (g_runV hC (met_X5_state hz j (by omega)) kc_X5 mG_o (lw_V q3708 q3710 qs44 q89 q3711) rfl md_X5_state dX5_start_16 rfl ⟨by omega, by omega⟩ (by omega) (by omega) rfl (Nat.le_of_ble_eq_true rfl)) (fun r_2 G_2 n_2 u_2 hp_2 hn_2 hm_2 hu_2 => ?_)
    obtain ⟨rfl, rfl, rfl, rfl⟩ := hp_2
    refine g_iconst (v := 1) hC dX5_start_19 rfl ?_
    refine g_icmp_ne hC dX5_start_20 (tgt := 30) (by decide) (fun c_20 => ?_) (fun c_20 => ?_)
    · refine g_aload_n hC dX5_start_30 rfl 0 rfl ?_
      refine g_iload_n hC dX5_start_31 rfl 1 rfl ?_
      refine g_calli0 hC (g_runV hC (met_X5_begins hz j (hN) (hN2) (hk) (h20) (hg) (hj)) kc_X5 mG_o (lw_V q3791 q3793 qs57 q89 q3794) rfl md_X5_begins dX5_start_32 rfl ⟨by omega, by omega⟩ (by omega) (by omega) rfl (Nat.le_of_ble_eq_true rfl)) (fun r_3 G_3 n_3 u_3 hp_3 hn_3 hm_3 hu_3 => ?_)
      obtain ⟨rfl, rfl, rfl, rfl⟩ := hp_3
      refine g_if_eqB hC ((beginsF N σ j).1) dX5_start_35 (tgt := 43) (by decide) (fun c_35 => ?_) (fun c_35 => ?_)
      · obtain ⟨st, f, g9, R9, hf9, _, _⟩ := begins_ok hN hN2 hk h20 hg hj
        obtain ⟨z, ez⟩ : ∃ z, (beginsF N σ j).2 = z := ⟨_, rfl⟩
        have hz14 : z.1 14 0 = nI f := by rw [← ez]; exact R9.h14
        rw [ez]
        refine g_aload_n hC dX5_start_43 rfl 0 rfl ?_
        refine g_aload_n hC dX5_start_44 rfl 0 rfl ?_
        refine m_get (v := .int (nI f)) hC 14 (by decide) q3535 (congrArg (fun z => some (Value.int z)) hz14) dX5_start_45 ?_
        refine m_put hC 12 (by decide) rfl (by decide) q3533 rfl rfl rfl hz dX5_start_48 ?_
        refine g_iconst (v := 0) hC dX5_start_51 rfl ?_
        refine g_istore_n (L' := [(2, .int 0), (0, .ref m0), (1, .int (nI j))]) hC dX5_start_52 rfl (by decide) rfl ?_
        have hl_53 : ∀ (kf_ : Nat) (i : Nat), (i ≤ (3 * f)) → (3 * f) - i < kf_ → V Y p l e R s m args below meth c 3 n u (mG Y m0 (foldN caS (mu z 12 0 (nI f)) i) B) n u Q 53 [(2, .int (nI i)), (0, .ref m0)] [] := by
          intro kf_
          induction kf_ with
          | zero => intro i hi hk_; exact absurd hk_ (Nat.not_lt_zero _)
          | succ kf_ ih_ =>
            intro i hi hk_
            refine g_iload_n hC dX5_start_53 rfl 0 rfl ?_
            refine g_iconst (v := 3) hC dX5_start_54 rfl ?_
            refine g_aload_n hC dX5_start_55 rfl 1 rfl ?_
            refine m_get (v := .int (nI f)) hC 14 (by decide) q3535 (congrArg (fun z => some (Value.int z)) ((caf_ne (by decide)).trans ((mu_nk (by decide)).trans hz14))) dX5_start_56 ?_
            refine g_imulN hC 3 f dX5_start_59 ?_
            refine g_icmp_geN hC i (3 * f) (by omega) (by omega) dX5_start_60 (tgt := 81) (by decide) (fun c_60 => ?_) (fun c_60 => ?_)
            · have ee_ : (3 * f) = i := by omega
              subst ee_
              refine g_aload_n hC dX5_start_81 rfl 1 rfl ?_
              refine g_bipush (v := (-6)) hC dX5_start_82 (by decide) ?_
              refine g_calli0 hC (g_runV hC (met_X5_no hz 6 (by omega)) kc_X5 mG_o (lw_V q3640 q3642 qs37 q89 q3643) rfl md_X5_no dX5_start_84 rfl ⟨by omega, by omega⟩ (by omega) (by omega) rfl (Nat.le_of_ble_eq_true rfl)) (fun r_4 G_4 n_4 u_4 hp_4 hn_4 hm_4 hu_4 => ?_)
              obtain ⟨rfl, rfl, rfl, rfl⟩ := hp_4
              refine g_iret hC hr rfl ⟨_, rfl, ?_⟩ (by omega) (by omega) hE dX5_start_87
              have h9 : startF σ N (nI j) = (-6, mNo (foldN caS (mu z 12 0 (nI f)) (3 * f)) 6) := by
                have e9 : caF z = foldN caS (mu z 12 0 (nI f)) (3 * f) := by unfold caF; rw [hz14, nI_clamp (by omega)]
                rw [← e9, ← ez]; simp [startF, c_5, c_20, c_35, cl_j]
              exact ⟨by rw [h9]; rfl, by rw [h9], rfl, rfl⟩
            · refine g_aload_n hC dX5_start_63 rfl 1 rfl ?_
              refine m_get (v := .ref (m0 + 6)) hC 13 (by decide) q3534 rfl dX5_start_64 ?_
              refine g_iload_n hC dX5_start_67 rfl 0 rfl ?_
              refine g_aload_n hC dX5_start_68 rfl 1 rfl ?_
              refine m_get (v := .ref (m0 + 7)) hC 15 (by decide) q3536 rfl dX5_start_69 ?_
              refine g_iload_n hC dX5_start_72 rfl 0 rfl ?_
              refine m_ald (v := (foldN caS (mu z 12 0 (nI f)) i).1 15 i) hC 15 i rfl (show i < 36 from by omega) (by omega) rfl dX5_start_73 ?_
              refine m_ast hC 13 i rfl (show i < 36 from by omega) (by omega) hz dX5_start_74 ?_
              refine g_iincN (L' := [(2, .int (nI (i + 1))), (0, .ref m0)]) hC 1 i dX5_start_75 (k := 0) rfl (by decide) (by decide) rfl ?_
              refine g_goto (tgt := 53) hC dX5_start_78 (by decide) ?_
              have h_ := ih_ (i + 1) (by omega) (by omega)
              have e_0 : foldN caS (mu z 12 0 (nI f)) (i + 1) = (mu (foldN caS (mu z 12 0 (nI f)) i) 13 i ((foldN caS (mu z 12 0 (nI f)) i).1 15 i)) := by first | rfl | (simp [foldN, caS, c_5, cl_j, c_20, c_35, c_60]; done)
              rw [e_0] at h_
              exact h_
        refine V.sub [0, 1] rfl ?_
        exact hl_53 ((3 * f) - 0 + 1) 0 (by omega) (by omega)
      · refine g_aload_n hC dX5_start_38 rfl 0 rfl ?_
        refine m_get (v := .int (((beginsF N σ j).2).1 17 0)) hC 17 (by decide) q3538 rfl dX5_start_39 ?_
        refine g_iret hC hr rfl ⟨_, rfl, ?_⟩ (by omega) (by omega) hE dX5_start_42
        have h9 : startF σ N (nI j) = (((beginsF N σ j).2).1 17 0, (beginsF N σ j).2) := by
          first | (simp [startF, c_5, cl_j, c_20, c_35]; done) | (simp [startF, c_5, cl_j, c_20, c_35]; rfl)
        exact ⟨by rw [h9], by rw [h9], rfl, rfl⟩
    · refine g_aload_n hC dX5_start_23 rfl 0 rfl ?_
      refine g_bipush (v := (-6)) hC dX5_start_24 (by decide) ?_
      refine g_calli0 hC (g_runV hC (met_X5_no hz 6 (by omega)) kc_X5 mG_o (lw_V q3640 q3642 qs37 q89 q3643) rfl md_X5_no dX5_start_26 rfl ⟨by omega, by omega⟩ (by omega) (by omega) rfl (Nat.le_of_ble_eq_true rfl)) (fun r_5 G_5 n_5 u_5 hp_5 hn_5 hm_5 hu_5 => ?_)
      obtain ⟨rfl, rfl, rfl, rfl⟩ := hp_5
      refine g_iret hC hr rfl ⟨_, rfl, ?_⟩ (by omega) (by omega) hE dX5_start_29
      have h9 : startF σ N (nI j) = (-(nI 6), mNo σ 6) := by
        first | (simp [startF, c_5, cl_j, c_20]; done) | (simp [startF, c_5, cl_j, c_20]; rfl)
      exact ⟨by rw [h9], by rw [h9], rfl, rfl⟩
  · refine g_aload_n hC dX5_start_8 rfl 0 rfl ?_
    refine g_iconst (v := (-1)) hC dX5_start_9 rfl ?_
    refine g_calli0 hC (g_runV hC (met_X5_no hz 1 (by omega)) kc_X5 mG_o (lw_V q3640 q3642 qs37 q89 q3643) rfl md_X5_no dX5_start_10 rfl ⟨by omega, by omega⟩ (by omega) (by omega) rfl (Nat.le_of_ble_eq_true rfl)) (fun r_6 G_6 n_6 u_6 hp_6 hn_6 hm_6 hu_6 => ?_)
    obtain ⟨rfl, rfl, rfl, rfl⟩ := hp_6
    refine g_iret hC hr rfl ⟨_, rfl, ?_⟩ (by omega) (by omega) hE dX5_start_13
    have h9 : startF σ N x_ = (-(nI 1), mNo σ 1) := by
      first | (simp [startF, c_5]; done) | (simp [startF, c_5]; rfl)
    exact ⟨by rw [h9], by rw [h9], rfl, rfl⟩
set_option maxHeartbeats 1000000 in
theorem met_X5_would {Y : YT} {l : Launch} {m0 n u : Nat} {σ : MS} {B : AH} (hz : yz Y ≤ m0) (x_ : Int32) (i_ : Int32) {N g : Nat} (hN : σ.1 0 0 = nI N) (hN2 : N ≤ 12) (hk : ∀ q, q < N → ∃ w, 0 < w ∧ w < 531441 ∧ tl σ 6 q = nI w) (h20 : σ.1 20 0 = nI g) (hg : g < 1900000000) : GM Y l yX5_would (ws_ yX5_would cX5_would 5 (some FieldType.int)) 75 2451 [.ref m0, .int x_, .int i_] (mG Y m0 σ B) n u 0 0 (pI (fun r G' n' u' => (wouldF σ N x_ i_).1 = r ∧ mG Y m0 ((wouldF σ N x_ i_).2) B = G' ∧ n = n' ∧ u = u')) noX := by
  refine GM.intro (own := RX5) rfl (by decide +kernel) (Nat.le_of_ble_eq_true rfl) ?_
  intro p e s m args below meth c R Q hC hr hnm hF hL hE
  have hE1 := hE.1
  have hE2 := hE.2.1
  show V Y p l e R s m args below meth c 5 n u (mG Y m0 σ B) n u Q 0 [(0, .ref m0), (1, .int x_), (2, .int i_)] []
  refine g_aload_n hC dX5_would_0 rfl 0 rfl ?_
  refine g_iload_n hC dX5_would_1 rfl 1 rfl ?_
  refine g_calli0 hC (g_runV hC (met_X5_isPlug hz x_ ) kc_X5 mG_o (lw_V q3668 q3670 qs40 q89 q3671) rfl md_X5_isPlug dX5_would_2 rfl ⟨by omega, by omega⟩ (by omega) (by omega) rfl (Nat.le_of_ble_eq_true rfl)) (fun r_1 G_1 n_1 u_1 hp_1 hn_1 hm_1 hu_1 => ?_)
  obtain ⟨rfl, rfl, rfl, rfl⟩ := hp_1
  refine g_if_neB hC (wi x_ 0 (σ.1 0 0 - 1)) dX5_would_5 (tgt := 14) (by decide) (fun c_5 => ?_) (fun c_5 => ?_)
  · obtain ⟨j, hj, rfl⟩ := wi_pl hN (by omega) c_5
    have cl_j : (nI j).toNatClampNeg = j := nI_clamp (by omega)
    refine g_aload_n hC dX5_would_14 rfl 0 rfl ?_
    refine g_iload_n hC dX5_would_15 rfl 1 rfl ?_
    refine g_calli0 hC (g_runV hC (met_X5_state hz j (by omega)) kc_X5 mG_o (lw_V q3708 q3710 qs44 q89 q3711) rfl md_X5_state dX5_would_16 rfl ⟨by omega, by omega⟩ (by omega) (by omega) rfl (Nat.le_of_ble_eq_true rfl)) (fun r_2 G_2 n_2 u_2 hp_2 hn_2 hm_2 hu_2 => ?_)
    obtain ⟨rfl, rfl, rfl, rfl⟩ := hp_2
    refine g_iconst (v := 1) hC dX5_would_19 rfl ?_
    refine g_icmp_ne hC dX5_would_20 (tgt := 30) (by decide) (fun c_20 => ?_) (fun c_20 => ?_)
    · refine g_aload_n hC dX5_would_30 rfl 0 rfl ?_
      refine g_aload_n hC dX5_would_31 rfl 0 rfl ?_
      refine m_get (v := .ref (m0 + 17)) hC 36 (by decide) q3557 rfl dX5_would_32 ?_
      refine g_callv0 hC (g_runV hC (met_X5_keep36 hz  ) kc_X5 mG_o (lw_V q3863 q3865 qs69 q89 q3866) rfl md_X5_keep dX5_would_35 rfl ⟨by omega, by omega⟩ (by omega) (by omega) rfl (Nat.le_of_ble_eq_true rfl)) (fun G_3 n_3 u_3 hp_3 hn_3 hm_3 hu_3 => ?_)
      obtain ⟨rfl, rfl, rfl⟩ := hp_3
      refine g_aload_n hC dX5_would_38 rfl 0 rfl ?_
      refine g_iconst (v := 1) hC dX5_would_39 rfl ?_
      refine m_put hC 19 (by decide) rfl (by decide) q3540 rfl rfl rfl hz dX5_would_40 ?_
      show V Y p l e R s m args below meth c 5 n u (mG Y m0 (thF σ) B) n u Q 43 _ _
      have hk9 : ∀ q, q < N → ∃ w, 0 < w ∧ w < 531441 ∧ tl (thF σ) 6 q = nI w := fun q hq => by
        obtain ⟨w, a, b, d⟩ := hk q hq
        exact ⟨w, a, b, (thF_ne (by decide) (by decide)).trans d⟩
      refine g_aload_n hC dX5_would_43 rfl 0 rfl ?_
      refine g_iload_n hC dX5_would_44 rfl 1 rfl ?_
      refine g_calli0 hC (g_runV hC (met_X5_begins hz j (N := N) (g := g) ((thF_ne (by decide) (by decide)).trans hN) hN2 hk9 ((thF_ne (by decide) (by decide)).trans h20) hg hj) kc_X5 mG_o (lw_V q3791 q3793 qs57 q89 q3794) rfl md_X5_begins dX5_would_45 rfl ⟨by omega, by omega⟩ (by omega) (by omega) rfl (Nat.le_of_ble_eq_true rfl)) (fun r_4 G_4 n_4 u_4 hp_4 hn_4 hm_4 hu_4 => ?_)
      obtain ⟨rfl, rfl, rfl, rfl⟩ := hp_4
      refine g_istore_n (L' := [(3, .int (b2i ((beginsF N (thF σ) j).1))), (0, .ref m0), (1, .int (nI j)), (2, .int i_)]) hC dX5_would_48 rfl (by decide) rfl ?_
      refine g_aload_n hC dX5_would_49 rfl 1 rfl ?_
      refine g_iconst (v := 0) hC dX5_would_50 rfl ?_
      refine m_put hC 19 (by decide) rfl (by decide) q3540 rfl rfl rfl hz dX5_would_51 ?_
      refine g_aload_n hC dX5_would_54 rfl 1 rfl ?_
      refine g_aload_n hC dX5_would_55 rfl 1 rfl ?_
      refine m_get (v := .ref (m0 + 17)) hC 36 (by decide) q3557 rfl dX5_would_56 ?_
      refine g_callv0 hC (g_runV hC (met_X5_again36 hz  ) kc_X5 mG_o (lw_V q3867 q3869 qs70 q89 q3870) rfl md_X5_again dX5_would_59 rfl ⟨by omega, by omega⟩ (by omega) (by omega) rfl (Nat.le_of_ble_eq_true rfl)) (fun G_5 n_5 u_5 hp_5 hn_5 hm_5 hu_5 => ?_)
      obtain ⟨rfl, rfl, rfl⟩ := hp_5
      show V Y p l e R s m args below meth c 5 n u (mG Y m0 (wdS N σ j) B) n u Q 62 _ _
      obtain ⟨st, f, g9, R9, hf9, _, hst9⟩ := begins_ok ((thF_ne (by decide) (by decide)).trans hN) hN2 hk9 ((thF_ne (by decide) (by decide)).trans h20) hg hj
      obtain ⟨z, ez⟩ : ∃ z, wdS N σ j = z := ⟨_, rfl⟩
      have hz17 : z.1 17 0 = nI st := by rw [← ez]; exact (again_ne (by decide) (by decide) (by decide) (by decide) (by decide) (by decide)).trans ((mu_nk (by decide)).trans R9.h17)
      rw [ez]
      have hj_76 : ∀ (t : Nat), (wdN N σ j = nI t) → (t ≤ 12) → V Y p l e R s m args below meth c 5 n u (mG Y m0 z B) n u Q 76 [(4, .int (nI t)), (0, .ref m0), (1, .int (nI j)), (2, .int i_)] [] := by
        intro t ht ht2
        refine g_iload_n hC dX5_would_76 rfl 3 rfl ?_
        refine g_iconst (v := (-1)) hC dX5_would_77 rfl ?_
        refine g_icmp_ne hC dX5_would_78 (tgt := 86) (by decide) (fun c_78 => ?_) (fun c_78 => ?_)
        · refine g_iload_n hC dX5_would_86 rfl 3 rfl ?_
          refine g_iconst (v := 0) hC dX5_would_87 rfl ?_
          refine g_iload hC dX5_would_88 0 rfl ?_
          refine g_iconst (v := 1) hC dX5_would_90 rfl ?_
          refine g_isub hC dX5_would_91 ?_
          refine g_calli0 hC (g_runS hC (met_X5_within hz i_ 0 ((nI t) - 1) ) (lw_S q3637 q3638 q89 q3639) md_X5_within dX5_would_92 rfl ⟨by omega, by omega⟩ (by omega) (by omega) rfl (Nat.le_of_ble_eq_true rfl)) (fun r_6 G_6 n_6 u_6 hp_6 hn_6 hm_6 hu_6 => ?_)
          obtain ⟨rfl, rfl, rfl, rfl⟩ := hp_6
          refine g_if_eqB hC (wi i_ 0 ((nI t) - 1)) dX5_would_95 (tgt := 107) (by decide) (fun c_95 => ?_) (fun c_95 => ?_)
          · refine g_iconst (v := (-1)) hC dX5_would_107 rfl ?_
            refine g_iret hC hr rfl ⟨_, rfl, ?_⟩ (by omega) (by omega) hE dX5_would_108
            have h9 : wouldF σ N (nI j) i_ = ((-1), z) := by
              first | (simp [wouldF, ez, ht, c_5, cl_j, c_20, ht, ht2, c_78, c_95]; done) | (simp [wouldF, c_5, cl_j, c_20, ht, ht2, c_78, c_95]; rfl)
            exact ⟨by rw [h9], by rw [h9], rfl, rfl⟩
          · obtain ⟨i, hi, rfl⟩ := wi_pl rfl (by omega) c_95
            have cl_i : (nI i).toNatClampNeg = i := nI_clamp (by omega)
            refine g_aload_n hC dX5_would_98 rfl 1 rfl ?_
            refine m_get (v := .ref (m0 + 8)) hC 18 (by decide) q3539 rfl dX5_would_99 ?_
            refine g_iload_n hC dX5_would_102 rfl 3 rfl ?_
            refine m_ald (v := z.1 18 i) hC 18 i rfl (show i < 12 from by omega) (by omega) rfl dX5_would_103 ?_
            refine g_goto (tgt := 108) hC dX5_would_104 (by decide) ?_
            refine g_iret hC hr rfl ⟨_, rfl, ?_⟩ (by omega) (by omega) hE dX5_would_108
            have h9 : wouldF σ N (nI j) (nI i) = (z.1 18 i, z) := by
              first | (simp [wouldF, ez, ht, c_5, cl_j, c_20, ht, ht2, c_78, c_95, cl_i]; done) | (simp [wouldF, c_5, cl_j, c_20, ht, ht2, c_78, c_95, cl_i]; rfl)
            exact ⟨by rw [h9], by rw [h9], rfl, rfl⟩
        · refine g_iload hC dX5_would_81 0 rfl ?_
          refine g_goto (tgt := 108) hC dX5_would_83 (by decide) ?_
          refine g_iret hC hr rfl ⟨_, rfl, ?_⟩ (by omega) (by omega) hE dX5_would_108
          have h9 : wouldF σ N (nI j) i_ = (nI t, z) := by
            first | (simp [wouldF, ez, ht, c_5, cl_j, c_20, ht, ht2, c_78]; done) | (simp [wouldF, c_5, cl_j, c_20, ht, ht2, c_78]; rfl)
          exact ⟨by rw [h9], by rw [h9], rfl, rfl⟩
      refine g_iload_n hC dX5_would_62 rfl 0 rfl ?_
      refine g_if_eqB hC ((beginsF N (thF σ) j).1) dX5_would_63 (tgt := 73) (by decide) (fun c_63 => ?_) (fun c_63 => ?_)
      · refine g_iconst (v := 0) hC dX5_would_73 rfl ?_
        refine g_istore (L' := [(4, .int 0), (3, .int (b2i ((beginsF N (thF σ) j).1))), (0, .ref m0), (1, .int (nI j)), (2, .int i_)]) hC dX5_would_74 (by decide) rfl ?_
        refine V.sub [0, 2, 3, 4] rfl ?_
        exact hj_76 0 (by unfold wdN; rw [c_63, ez]; first | exact hz17 | rfl) (by omega)
      · refine g_aload_n hC dX5_would_66 rfl 1 rfl ?_
        refine m_get (v := .int (nI st)) hC 17 (by decide) q3538 (congrArg (fun z => some (Value.int z)) hz17) dX5_would_67 ?_
        refine g_goto (tgt := 74) hC dX5_would_70 (by decide) ?_
        refine g_istore (L' := [(4, .int (nI st)), (3, .int (b2i ((beginsF N (thF σ) j).1))), (0, .ref m0), (1, .int (nI j)), (2, .int i_)]) hC dX5_would_74 (by decide) rfl ?_
        refine V.sub [0, 2, 3, 4] rfl ?_
        exact hj_76 st (by unfold wdN; rw [c_63, ez]; first | exact hz17 | rfl) (by omega)
    · refine g_aload_n hC dX5_would_23 rfl 0 rfl ?_
      refine g_bipush (v := (-6)) hC dX5_would_24 (by decide) ?_
      refine g_calli0 hC (g_runV hC (met_X5_no10 hz 6 (by omega)) kc_X5 mG_o (lw_V q3756 q3758 qs52 q89 q3759) rfl md_X5_no10 dX5_would_26 rfl ⟨by omega, by omega⟩ (by omega) (by omega) rfl (Nat.le_of_ble_eq_true rfl)) (fun r_7 G_7 n_7 u_7 hp_7 hn_7 hm_7 hu_7 => ?_)
      obtain ⟨rfl, rfl, rfl, rfl⟩ := hp_7
      refine g_iret hC hr rfl ⟨_, rfl, ?_⟩ (by omega) (by omega) hE dX5_would_29
      have h9 : wouldF σ N (nI j) i_ = (-(nI 6) - 10, mNo σ 6) := by
        first | (simp [wouldF, c_5, cl_j, c_20]; done) | (simp [wouldF, c_5, cl_j, c_20]; rfl)
      exact ⟨by rw [h9], by rw [h9], rfl, rfl⟩
  · refine g_aload_n hC dX5_would_8 rfl 0 rfl ?_
    refine g_iconst (v := (-1)) hC dX5_would_9 rfl ?_
    refine g_calli0 hC (g_runV hC (met_X5_no10 hz 1 (by omega)) kc_X5 mG_o (lw_V q3756 q3758 qs52 q89 q3759) rfl md_X5_no10 dX5_would_10 rfl ⟨by omega, by omega⟩ (by omega) (by omega) rfl (Nat.le_of_ble_eq_true rfl)) (fun r_8 G_8 n_8 u_8 hp_8 hn_8 hm_8 hu_8 => ?_)
    obtain ⟨rfl, rfl, rfl, rfl⟩ := hp_8
    refine g_iret hC hr rfl ⟨_, rfl, ?_⟩ (by omega) (by omega) hE dX5_would_13
    have h9 : wouldF σ N x_ i_ = (-(nI 1) - 10, mNo σ 1) := by
      first | (simp [wouldF, c_5]; done) | (simp [wouldF, c_5]; rfl)
    exact ⟨by rw [h9], by rw [h9], rfl, rfl⟩
