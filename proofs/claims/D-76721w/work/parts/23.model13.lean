set_option maxRecDepth 100000
/-! THE MODEL, 13: fire and its like -/
def trS (z : MS) (i : Nat) : MS := mu z 31 i (z.1 28 i)
def tyS (z : MS) (p : Nat) : MS := mu z 1 (96 + p) (z.1 1 (96 + p) + z.1 29 p)
def fire1 (M : Nat) (z : MS) (x : Int32) : MS := mu (mu (firesF M z x).2 32 0 (firesF M z x).1) 30 0 ((firesF M z x).2.1 27 0)
def fire2 (z : MS) : MS := foldN trS z (min 30 (z.1 27 0).toNatClampNeg)
def fire3 (N : Nat) (z : MS) : MS := if z.1 25 0 = 0 then foldN tyS z N else z
def chM (K : Nat) (σ : MS) (pt : Int32) : Nat := ((chainsF K σ pt (-1)).1 23 0).toNatClampNeg
def fireS (σ : MS) (N K : Nat) (pt x : Int32) : MS := fire3 N (fire2 (fire1 (chM K σ pt) (chainsF K σ pt (-1)) x))
def fireF (σ : MS) (N K : Nat) (pt x : Int32) : Int32 × MS :=
  if wi pt 0 3 = true then ((fireS σ N K pt x).1 25 0, fireS σ N K pt x) else (-1, mNo σ 1)
theorem trf_ne {z : MS} {n k i : Nat} (h : k ≠ 31) : (foldN trS z n).1 k i = z.1 k i := fold_keep (f := trS) (g := fun z : MS => z.1 k i) (fun a i => mu_nk h) _ _
theorem tyf_ne {z : MS} {n k i : Nat} (h : k ≠ 1) : (foldN tyS z n).1 k i = z.1 k i := fold_keep (f := tyS) (g := fun z : MS => z.1 k i) (fun a i => mu_nk h) _ _
theorem fire3_ne {N : Nat} {z : MS} {k i : Nat} (h : k ≠ 1) : (fire3 N z).1 k i = z.1 k i := by unfold fire3; split; exact tyf_ne h; rfl
theorem fire3_a {N : Nat} {z : MS} (h : N = 0 ∨ z.1 25 0 = 0) : fire3 N z = foldN tyS z N := by
  unfold fire3
  rcases h with h | h
  · subst h; split <;> rfl
  · rw [if_pos h]
theorem fire3_b {N i : Nat} {z : MS} (h : i = 0 ∨ z.1 25 0 = 0) (h2 : ¬ z.1 25 0 = 0) : fire3 N z = foldN tyS z i := by
  unfold fire3
  rcases h with h | h
  · subst h; rw [if_neg h2]; rfl
  · exact absurd h h2
set_option maxHeartbeats 1000000 in
theorem met_X5_fire {Y : YT} {l : Launch} {m0 n u : Nat} {σ : MS} {B : AH} (hz : yz Y ≤ m0) (pt_ : Int32) (x_ : Int32) {N K : Nat} (hN : σ.1 0 0 = nI N) (hN2 : N ≤ 12) (hK : σ.1 4 0 = nI K) (hK2 : K ≤ 24) (hpq : ∀ h, h < K → ∃ q, q < N ∧ hkF σ 0 h = nI q) : GM Y l yX5_fire (ws_ yX5_fire cX5_fire 4 (some FieldType.int)) 100 2547 [.ref m0, .int pt_, .int x_] (mG Y m0 σ B) n u 0 0 (pI (fun r G' n' u' => (fireF σ N K pt_ x_).1 = r ∧ mG Y m0 ((fireF σ N K pt_ x_).2) B = G' ∧ n = n' ∧ u = u')) noX := by
  refine GM.intro (own := RX5) rfl (by decide +kernel) (Nat.le_of_ble_eq_true rfl) ?_
  intro p e s m args below meth c R Q hC hr hnm hF hL hE
  have hE1 := hE.1
  have hE2 := hE.2.1
  show V Y p l e R s m args below meth c 4 n u (mG Y m0 σ B) n u Q 0 [(0, .ref m0), (1, .int pt_), (2, .int x_)] []
  refine g_iload_n hC dX5_fire_0 rfl 1 rfl ?_
  refine g_calli0 hC (g_runS hC (met_X5_isPoint hz pt_ ) (lw_S q3883 q3884 q89 q3885) md_X5_isPoint dX5_fire_1 rfl ⟨by omega, by omega⟩ (by omega) (by omega) rfl (Nat.le_of_ble_eq_true rfl)) (fun r_1 G_1 n_1 u_1 hp_1 hn_1 hm_1 hu_1 => ?_)
  obtain ⟨rfl, rfl, rfl, rfl⟩ := hp_1
  refine g_if_neB hC (wi pt_ 0 3) dX5_fire_4 (tgt := 13) (by decide) (fun c_4 => ?_) (fun c_4 => ?_)
  · refine g_aload_n hC dX5_fire_13 rfl 0 rfl ?_
    refine g_iload_n hC dX5_fire_14 rfl 1 rfl ?_
    refine g_iconst (v := (-1)) hC dX5_fire_15 rfl ?_
    refine g_callv0 hC (g_runV hC (met_X5_chains hz pt_ (-1) (hN2) (hK) (hK2) (hpq)) kc_X5 mG_o (lw_V q3898 q3900 qs72 q89 q3901) rfl md_X5_chains dX5_fire_16 rfl ⟨by omega, by omega⟩ (by omega) (by omega) rfl (Nat.le_of_ble_eq_true rfl)) (fun G_2 n_2 u_2 hp_2 hn_2 hm_2 hu_2 => ?_)
    obtain ⟨rfl, rfl, rfl⟩ := hp_2
    obtain ⟨M, hM, hc⟩ := chains_ok (σ := σ) (pt := pt_) (wo := -1) hK2
    have hcm : chM K σ pt_ = M := by unfold chM; rw [hc.h23, nI_clamp (by omega)]
    obtain ⟨z, ez⟩ : ∃ z, chainsF K σ pt_ (-1) = z := ⟨_, rfl⟩
    rw [ez] at hc ⊢
    have hr9 := ch_RI hc hM hK2 hN2 hpq
    refine g_aload_n hC dX5_fire_19 rfl 0 rfl ?_
    refine g_aload_n hC dX5_fire_20 rfl 0 rfl ?_
    refine g_iload_n hC dX5_fire_21 rfl 2 rfl ?_
    refine g_calli0 hC (g_runV hC (met_X5_fires hz x_ (hr9)) kc_X5 mG_o (lw_V q3910 q3912 qs74 q89 q3913) rfl md_X5_fires dX5_fire_22 rfl ⟨by omega, by omega⟩ (by omega) (by omega) rfl (Nat.le_of_ble_eq_true rfl)) (fun r_3 G_3 n_3 u_3 hp_3 hn_3 hm_3 hu_3 => ?_)
    obtain ⟨rfl, rfl, rfl, rfl⟩ := hp_3
    refine m_put hC 32 (by decide) rfl (by decide) q3553 rfl rfl rfl hz dX5_fire_25 ?_
    obtain ⟨F, hr2, t, ht, h27⟩ := fires_ok (x := x_) hr9
    obtain ⟨v, y, ey⟩ : ∃ v y, firesF M z x_ = (v, y) := ⟨_, _, rfl⟩
    have ey1 : (firesF M z x_).1 = v := by rw [ey]
    have ey2 : (firesF M z x_).2 = y := by rw [ey]
    rw [ey2] at F h27
    rw [ey1, ey2]
    refine g_aload_n hC dX5_fire_28 rfl 0 rfl ?_
    refine g_aload_n hC dX5_fire_29 rfl 0 rfl ?_
    refine m_get (v := .int (nI t)) hC 27 (by decide) q3548 (congrArg (fun z => some (Value.int z)) ((mu_nk (by decide)).trans h27)) dX5_fire_30 ?_
    refine m_put hC 30 (by decide) rfl (by decide) q3551 rfl rfl rfl hz dX5_fire_33 ?_
    obtain ⟨z1, ez1⟩ : ∃ z1, mu (mu y 32 0 v) 30 0 (nI t) = z1 := ⟨_, rfl⟩
    rw [ez1]
    have hf1 : fire1 (chM K σ pt_) (chainsF K σ pt_ (-1)) x_ = z1 := by unfold fire1; rw [hcm, ez, ey1, ey2, h27, ez1]
    have h271 : z1.1 27 0 = nI t := by rw [← ez1]; exact (mu_nk (by decide)).trans ((mu_nk (by decide)).trans h27)
    have hN1 : z1.1 0 0 = nI N := by rw [← ez1]; exact (mu_nk (by decide)).trans ((mu_nk (by decide)).trans ((F.fr 0 0 (by decide) (by decide) (by decide) (by decide) (by decide)).trans ((hc.fr 0 0 (by decide) (by decide)).trans hN)))
    have hj_70 : ∀ (z2 : MS), (foldN trS z1 (min 30 t) = z2) → V Y p l e R s m args below meth c 4 n u (mG Y m0 z2 B) n u Q 70 [(0, .ref m0)] [] := by
      intro z2 h2
      have hf2 : fire2 (fire1 (chM K σ pt_) (chainsF K σ pt_ (-1)) x_) = z2 := by rw [hf1]; unfold fire2; rw [h271, nI_clamp (by omega)]; exact h2
      have hN2z : z2.1 0 0 = nI N := by rw [← h2]; exact (trf_ne (by decide)).trans hN1
      have hj_111 : ∀ (z3 : MS), (fire3 N z2 = z3) → V Y p l e R s m args below meth c 4 n u (mG Y m0 z3 B) n u Q 111 [(0, .ref m0)] [] := by
        intro z3 h3
        refine g_aload_n hC dX5_fire_111 rfl 0 rfl ?_
        refine m_get (v := .int (z3.1 25 0)) hC 25 (by decide) q3546 rfl dX5_fire_112 ?_
        refine g_iret hC hr rfl ⟨_, rfl, ?_⟩ (by omega) (by omega) hE dX5_fire_115
        have h9 : fireF σ N K pt_ x_ = (z3.1 25 0, z3) := by
          have e9 : fireS σ N K pt_ x_ = z3 := by unfold fireS; rw [hf2]; exact h3
          simp [fireF, c_4, e9]
        exact ⟨by rw [h9], by rw [h9], rfl, rfl⟩
      refine g_iconst (v := 0) hC dX5_fire_70 rfl ?_
      refine g_istore_n (L' := [(3, .int 0), (0, .ref m0)]) hC dX5_fire_71 rfl (by decide) rfl ?_
      have hl_72 : ∀ (kf_ : Nat) (i : Nat), (i ≤ N) → (i = 0 ∨ z2.1 25 0 = 0) → N - i < kf_ → V Y p l e R s m args below meth c 4 n u (mG Y m0 (foldN tyS z2 i) B) n u Q 72 [(3, .int (nI i)), (0, .ref m0)] [] := by
        intro kf_
        induction kf_ with
        | zero => intro i hib hor hk_; exact absurd hk_ (Nat.not_lt_zero _)
        | succ kf_ ih_b =>
          intro i hib hor hk_
          refine g_iload_n hC dX5_fire_72 rfl 0 rfl ?_
          refine g_aload_n hC dX5_fire_73 rfl 1 rfl ?_
          refine m_get (v := .int (nI N)) hC 0 (by decide) q3521 (congrArg (fun z => some (Value.int z)) ((tyf_ne (by decide)).trans hN2z)) dX5_fire_74 ?_
          refine g_icmp_geN hC i N (by omega) (by omega) dX5_fire_77 (tgt := 111) (by decide) (fun c_77 => ?_) (fun c_77 => ?_)
          · have ee_ : N = i := by omega
            subst ee_
            refine V.sub [1] rfl ?_
            exact hj_111 (foldN tyS z2 N) (fire3_a hor)
          · refine g_aload_n hC dX5_fire_80 rfl 1 rfl ?_
            refine m_get (v := .int (z2.1 25 0)) hC 25 (by decide) q3546 (congrArg (fun z => some (Value.int z)) (tyf_ne (by decide))) dX5_fire_81 ?_
            refine g_if_ne hC dX5_fire_84 (tgt := 111) (by decide) (fun c_84 => ?_) (fun c_84 => ?_)
            · refine V.sub [1] rfl ?_
              exact hj_111 (foldN tyS z2 i) (fire3_b hor c_84)
            · refine g_aload_n hC dX5_fire_87 rfl 1 rfl ?_
              refine m_get (v := .ref (m0 + 1)) hC 1 (by decide) q3522 rfl dX5_fire_88 ?_
              refine g_bipush (v := 96) hC dX5_fire_91 (by decide) ?_
              refine g_iload_n hC dX5_fire_93 rfl 0 rfl ?_
              refine g_iaddN hC 96 i dX5_fire_94 ?_
              refine g_dup2_11 hC dX5_fire_95 rfl rfl ?_
              refine m_ald (v := (foldN tyS z2 i).1 1 (96 + i)) hC 1 (96 + i) rfl (show 96 + i < 108 from by omega) (by omega) rfl dX5_fire_96 ?_
              refine g_aload_n hC dX5_fire_97 rfl 1 rfl ?_
              refine m_get (v := .ref (m0 + 13)) hC 29 (by decide) q3550 rfl dX5_fire_98 ?_
              refine g_iload_n hC dX5_fire_101 rfl 0 rfl ?_
              refine m_ald (v := (foldN tyS z2 i).1 29 i) hC 29 i rfl (show i < 12 from by omega) (by omega) rfl dX5_fire_102 ?_
              refine g_iadd hC dX5_fire_103 ?_
              refine m_ast hC 1 (96 + i) rfl (show 96 + i < 108 from by omega) (by omega) hz dX5_fire_104 ?_
              refine g_iincN (L' := [(3, .int (nI (i + 1))), (0, .ref m0)]) hC 1 i dX5_fire_105 (k := 0) rfl (by decide) (by decide) rfl ?_
              refine g_goto (tgt := 72) hC dX5_fire_108 (by decide) ?_
              have h_ := ih_b (i + 1) (by omega) (Or.inr c_84) (by omega)
              have e_0 : foldN tyS z2 (i + 1) = (mu (foldN tyS z2 i) 1 (96 + i) (((foldN tyS z2 i).1 1 (96 + i)) + ((foldN tyS z2 i).1 29 i))) := by first | rfl | (simp [foldN, tyS, c_4, h2, c_77, c_84]; done)
              rw [e_0] at h_
              exact h_
      exact hl_72 (N - 0 + 1) 0 (by omega) (Or.inl rfl) (by omega)
    refine g_iconst (v := 0) hC dX5_fire_36 rfl ?_
    refine g_istore_n (L' := [(3, .int 0), (0, .ref m0), (1, .int pt_), (2, .int x_)]) hC dX5_fire_37 rfl (by decide) rfl ?_
    have hl_38 : ∀ (kf_ : Nat) (i : Nat), (i ≤ (min 30 t)) → (min 30 t) - i < kf_ → V Y p l e R s m args below meth c 4 n u (mG Y m0 (foldN trS z1 i) B) n u Q 38 [(3, .int (nI i)), (0, .ref m0)] [] := by
      intro kf_
      induction kf_ with
      | zero => intro i hia hk_; exact absurd hk_ (Nat.not_lt_zero _)
      | succ kf_ ih_a =>
        intro i hia hk_
        refine g_iload_n hC dX5_fire_38 rfl 0 rfl ?_
        refine g_bipush (v := 30) hC dX5_fire_39 (by decide) ?_
        refine g_icmp_geN hC i 30 (by omega) (by omega) dX5_fire_41 (tgt := 70) (by decide) (fun c_41 => ?_) (fun c_41 => ?_)
        · have ee_ : (min 30 t) = i := by omega
          subst ee_
          refine V.sub [1] rfl ?_
          exact hj_70 (foldN trS z1 (min 30 t)) (rfl)
        · refine g_iload_n hC dX5_fire_44 rfl 0 rfl ?_
          refine g_aload_n hC dX5_fire_45 rfl 1 rfl ?_
          refine m_get (v := .int (nI t)) hC 27 (by decide) q3548 (congrArg (fun z => some (Value.int z)) ((trf_ne (by decide)).trans h271)) dX5_fire_46 ?_
          refine g_icmp_geN hC i t (by omega) (by omega) dX5_fire_49 (tgt := 70) (by decide) (fun c_49 => ?_) (fun c_49 => ?_)
          · have ee_ : (min 30 t) = i := by omega
            subst ee_
            refine V.sub [1] rfl ?_
            exact hj_70 (foldN trS z1 (min 30 t)) (rfl)
          · refine g_aload_n hC dX5_fire_52 rfl 1 rfl ?_
            refine m_get (v := .ref (m0 + 14)) hC 31 (by decide) q3552 rfl dX5_fire_53 ?_
            refine g_iload_n hC dX5_fire_56 rfl 0 rfl ?_
            refine g_aload_n hC dX5_fire_57 rfl 1 rfl ?_
            refine m_get (v := .ref (m0 + 12)) hC 28 (by decide) q3549 rfl dX5_fire_58 ?_
            refine g_iload_n hC dX5_fire_61 rfl 0 rfl ?_
            refine m_ald (v := (foldN trS z1 i).1 28 i) hC 28 i rfl (show i < 30 from by omega) (by omega) rfl dX5_fire_62 ?_
            refine m_ast hC 31 i rfl (show i < 30 from by omega) (by omega) hz dX5_fire_63 ?_
            refine g_iincN (L' := [(3, .int (nI (i + 1))), (0, .ref m0)]) hC 1 i dX5_fire_64 (k := 0) rfl (by decide) (by decide) rfl ?_
            refine g_goto (tgt := 38) hC dX5_fire_67 (by decide) ?_
            have h_ := ih_a (i + 1) (by omega) (by omega)
            have e_0 : foldN trS z1 (i + 1) = (mu (foldN trS z1 i) 31 i ((foldN trS z1 i).1 28 i)) := by first | rfl | (simp [foldN, trS, c_4, c_41, c_49]; done)
            rw [e_0] at h_
            exact h_
    refine V.sub [0, 1] rfl ?_
    exact hl_38 ((min 30 t) - 0 + 1) 0 (by omega) (by omega)
  · refine g_aload_n hC dX5_fire_7 rfl 0 rfl ?_
    refine g_iconst (v := (-1)) hC dX5_fire_8 rfl ?_
    refine g_calli0 hC (g_runV hC (met_X5_no hz 1 (by omega)) kc_X5 mG_o (lw_V q3640 q3642 qs37 q89 q3643) rfl md_X5_no dX5_fire_9 rfl ⟨by omega, by omega⟩ (by omega) (by omega) rfl (Nat.le_of_ble_eq_true rfl)) (fun r_4 G_4 n_4 u_4 hp_4 hn_4 hm_4 hu_4 => ?_)
    obtain ⟨rfl, rfl, rfl, rfl⟩ := hp_4
    refine g_iret hC hr rfl ⟨_, rfl, ?_⟩ (by omega) (by omega) hE dX5_fire_12
    have h9 : fireF σ N K pt_ x_ = (-1, mNo σ 1) := by simp [fireF, c_4]
    exact ⟨by rw [h9]; rfl, by rw [h9], rfl, rfl⟩

def pureF (σ : MS) (K : Nat) (pt x t : Int32) : Int64 × MS :=
  if wi pt 0 3 = true then (if wi t 0 1 = true then ((if t = 0 then ((firesF (chM K σ pt) (chainsF K σ pt (-1)) x).2.1 25 0).toInt64 else 10000000000 + (firesF (chM K σ pt) (chainsF K σ pt (-1)) x).1.toInt64), (firesF (chM K σ pt) (chainsF K σ pt (-1)) x).2) else ((-(nI 5)).toInt64, mNo σ 5)) else ((-(nI 1)).toInt64, mNo σ 1)
set_option maxHeartbeats 1000000 in
theorem met_X5_pure {Y : YT} {l : Launch} {m0 n u : Nat} {σ : MS} {B : AH} (hz : yz Y ≤ m0) (pt_ : Int32) (x_ : Int32) (t_ : Int32) {N K : Nat} (hN2 : N ≤ 12) (hK : σ.1 4 0 = nI K) (hK2 : K ≤ 24) (hpq : ∀ h, h < K → ∃ q, q < N ∧ hkF σ 0 h = nI q) : GM Y l yX5_pure (ws_ yX5_pure cX5_pure 5 (some FieldType.long)) 100 2547 [.ref m0, .int pt_, .int x_, .int t_] (mG Y m0 σ B) n u 0 0 (pL (fun r G' n' u' => (pureF σ K pt_ x_ t_).1 = r ∧ mG Y m0 ((pureF σ K pt_ x_ t_).2) B = G' ∧ n = n' ∧ u = u')) noX := by
  refine GM.intro (own := RX5) rfl (by decide +kernel) (Nat.le_of_ble_eq_true rfl) ?_
  intro p e s m args below meth c R Q hC hr hnm hF hL hE
  have hE1 := hE.1
  have hE2 := hE.2.1
  show V Y p l e R s m args below meth c 5 n u (mG Y m0 σ B) n u Q 0 [(0, .ref m0), (1, .int pt_), (2, .int x_), (3, .int t_)] []
  refine g_iload_n hC dX5_pure_0 rfl 1 rfl ?_
  refine g_calli0 hC (g_runS hC (met_X5_isPoint hz pt_ ) (lw_S q3883 q3884 q89 q3885) md_X5_isPoint dX5_pure_1 rfl ⟨by omega, by omega⟩ (by omega) (by omega) rfl (Nat.le_of_ble_eq_true rfl)) (fun r_1 G_1 n_1 u_1 hp_1 hn_1 hm_1 hu_1 => ?_)
  obtain ⟨rfl, rfl, rfl, rfl⟩ := hp_1
  refine g_if_neB hC (wi pt_ 0 3) dX5_pure_4 (tgt := 14) (by decide) (fun c_4 => ?_) (fun c_4 => ?_)
  · refine g_iload_n hC dX5_pure_14 rfl 3 rfl ?_
    refine g_iconst (v := 0) hC dX5_pure_15 rfl ?_
    refine g_iconst (v := 1) hC dX5_pure_16 rfl ?_
    refine g_calli0 hC (g_runS hC (met_X5_within hz t_ 0 1 ) (lw_S q3637 q3638 q89 q3639) md_X5_within dX5_pure_17 rfl ⟨by omega, by omega⟩ (by omega) (by omega) rfl (Nat.le_of_ble_eq_true rfl)) (fun r_2 G_2 n_2 u_2 hp_2 hn_2 hm_2 hu_2 => ?_)
    obtain ⟨rfl, rfl, rfl, rfl⟩ := hp_2
    refine g_if_neB hC (wi t_ 0 1) dX5_pure_20 (tgt := 31) (by decide) (fun c_20 => ?_) (fun c_20 => ?_)
    · refine g_aload_n hC dX5_pure_31 rfl 0 rfl ?_
      refine g_iload_n hC dX5_pure_32 rfl 1 rfl ?_
      refine g_iconst (v := (-1)) hC dX5_pure_33 rfl ?_
      refine g_callv0 hC (g_runV hC (met_X5_chains hz pt_ (-1) (hN2) (hK) (hK2) (hpq)) kc_X5 mG_o (lw_V q3898 q3900 qs72 q89 q3901) rfl md_X5_chains dX5_pure_34 rfl ⟨by omega, by omega⟩ (by omega) (by omega) rfl (Nat.le_of_ble_eq_true rfl)) (fun G_3 n_3 u_3 hp_3 hn_3 hm_3 hu_3 => ?_)
      obtain ⟨rfl, rfl, rfl⟩ := hp_3
      obtain ⟨M, hM, hc⟩ := chains_ok (σ := σ) (pt := pt_) (wo := -1) hK2
      have hcm : chM K σ pt_ = M := by unfold chM; rw [hc.h23, nI_clamp (by omega)]
      obtain ⟨z, ez⟩ : ∃ z, chainsF K σ pt_ (-1) = z := ⟨_, rfl⟩
      rw [ez] at hc ⊢
      have hr9 := ch_RI hc hM hK2 hN2 hpq
      refine g_aload_n hC dX5_pure_37 rfl 0 rfl ?_
      refine g_iload_n hC dX5_pure_38 rfl 2 rfl ?_
      refine g_calli0 hC (g_runV hC (met_X5_fires hz x_ (hr9)) kc_X5 mG_o (lw_V q3910 q3912 qs74 q89 q3913) rfl md_X5_fires dX5_pure_39 rfl ⟨by omega, by omega⟩ (by omega) (by omega) rfl (Nat.le_of_ble_eq_true rfl)) (fun r_4 G_4 n_4 u_4 hp_4 hn_4 hm_4 hu_4 => ?_)
      obtain ⟨rfl, rfl, rfl, rfl⟩ := hp_4
      refine g_istore (L' := [(4, .int ((firesF M z x_).1)), (0, .ref m0), (1, .int pt_), (2, .int x_), (3, .int t_)]) hC dX5_pure_42 (by decide) rfl ?_
      refine g_iload_n hC dX5_pure_44 rfl 4 rfl ?_
      refine g_if_ne hC dX5_pure_45 (tgt := 56) (by decide) (fun c_45 => ?_) (fun c_45 => ?_)
      · refine g_ldc2 (v := 10000000000) hC q3933 dX5_pure_56 ?_
        refine g_iload hC dX5_pure_59 0 rfl ?_
        refine g_i2l (v := ((firesF M z x_).1).toInt64) hC dX5_pure_61 rfl ?_
        refine g_ladd hC dX5_pure_62 ?_
        refine g_lret hC hr ⟨_, rfl, ?_⟩ (by omega) (by omega) hE dX5_pure_63
        have h9 : pureF σ K pt_ x_ t_ = (10000000000 + (((firesF M z x_).1).toInt64), (firesF M z x_).2) := by (have w01 : wi 0 0 1 = true := (by decide)); simp [pureF, w01, hcm, ez, c_4, c_20, c_45]
        exact ⟨by rw [h9], by rw [h9], rfl, rfl⟩
      · refine g_aload_n hC dX5_pure_48 rfl 1 rfl ?_
        refine m_get (v := .int (((firesF M z x_).2).1 25 0)) hC 25 (by decide) q3546 rfl dX5_pure_49 ?_
        refine g_i2l (v := (((firesF M z x_).2).1 25 0).toInt64) hC dX5_pure_52 rfl ?_
        refine g_goto (tgt := 63) hC dX5_pure_53 (by decide) ?_
        refine g_lret hC hr ⟨_, rfl, ?_⟩ (by omega) (by omega) hE dX5_pure_63
        have h9 : pureF σ K pt_ x_ t_ = ((((firesF M z x_).2).1 25 0).toInt64, (firesF M z x_).2) := by (have w01 : wi 0 0 1 = true := (by decide)); simp [pureF, w01, hcm, ez, c_4, c_20, c_45]
        exact ⟨by rw [h9], by rw [h9], rfl, rfl⟩
    · refine g_aload_n hC dX5_pure_23 rfl 0 rfl ?_
      refine g_bipush (v := (-5)) hC dX5_pure_24 (by decide) ?_
      refine g_calli0 hC (g_runV hC (met_X5_no hz 5 (by omega)) kc_X5 mG_o (lw_V q3640 q3642 qs37 q89 q3643) rfl md_X5_no dX5_pure_26 rfl ⟨by omega, by omega⟩ (by omega) (by omega) rfl (Nat.le_of_ble_eq_true rfl)) (fun r_5 G_5 n_5 u_5 hp_5 hn_5 hm_5 hu_5 => ?_)
      obtain ⟨rfl, rfl, rfl, rfl⟩ := hp_5
      refine g_i2l (v := (-(nI 5)).toInt64) hC dX5_pure_29 rfl ?_
      refine g_lret hC hr ⟨_, rfl, ?_⟩ (by omega) (by omega) hE dX5_pure_30
      have h9 : pureF σ K pt_ x_ t_ = ((-(nI 5)).toInt64, mNo σ 5) := by (have w01 : wi 0 0 1 = true := (by decide)); simp [pureF, w01, c_4, c_20]
      exact ⟨by rw [h9], by rw [h9], rfl, rfl⟩
  · refine g_aload_n hC dX5_pure_7 rfl 0 rfl ?_
    refine g_iconst (v := (-1)) hC dX5_pure_8 rfl ?_
    refine g_calli0 hC (g_runV hC (met_X5_no hz 1 (by omega)) kc_X5 mG_o (lw_V q3640 q3642 qs37 q89 q3643) rfl md_X5_no dX5_pure_9 rfl ⟨by omega, by omega⟩ (by omega) (by omega) rfl (Nat.le_of_ble_eq_true rfl)) (fun r_6 G_6 n_6 u_6 hp_6 hn_6 hm_6 hu_6 => ?_)
    obtain ⟨rfl, rfl, rfl, rfl⟩ := hp_6
    refine g_i2l (v := (-(nI 1)).toInt64) hC dX5_pure_12 rfl ?_
    refine g_lret hC hr ⟨_, rfl, ?_⟩ (by omega) (by omega) hE dX5_pure_13
    have h9 : pureF σ K pt_ x_ t_ = ((-(nI 1)).toInt64, mNo σ 1) := by (have w01 : wi 0 0 1 = true := (by decide)); simp [pureF, w01, c_4]
    exact ⟨by rw [h9], by rw [h9], rfl, rfl⟩
set_option maxHeartbeats 1000000 in
theorem met_X5_read_2 {Y : YT} {l : Launch} {m0 n u : Nat} {σ : MS} {B : AH} (hz : yz Y ≤ m0) (s_ : Nat) (i_ : Nat) (hi : 160 * s_ + i_ < 1280) : GM Y l yX5_read_2 (ws_ yX5_read_2 cX5_read_2 3 (some FieldType.int)) 0 0 [.ref m0, .int (nI s_), .int (nI i_)] (mG Y m0 σ B) n u 0 0 (pI (fun r G' n' u' => (σ.2 (160 * s_ + i_)).toInt32 = r ∧ mG Y m0 σ B = G' ∧ n = n' ∧ u = u')) noX := by
  refine GM.intro (own := RX5) rfl (by decide +kernel) (Nat.le_of_ble_eq_true rfl) ?_
  intro p e s m args below meth c R Q hC hr hnm hF hL hE
  have hE1 := hE.1
  have hE2 := hE.2.1
  show V Y p l e R s m args below meth c 3 n u (mG Y m0 σ B) n u Q 0 [(0, .ref m0), (1, .int (nI s_)), (2, .int (nI i_))] []
  refine g_aload_n hC dX5_read_2_0 rfl 0 rfl ?_
  refine m_get (v := .ref (m0 + 5)) hC 8 (by decide) q3529 rfl dX5_read_2_1 ?_
  refine g_sipush (v := 160) hC dX5_read_2_4 (by decide) ?_
  refine g_iload_n hC dX5_read_2_7 rfl 1 rfl ?_
  refine g_imulN hC 160 s_ dX5_read_2_8 ?_
  refine g_iload_n hC dX5_read_2_9 rfl 2 rfl ?_
  refine g_iaddN hC (160 * s_) i_ dX5_read_2_10 ?_
  refine m_lald (v := σ.2 ((160 * s_) + i_)) hC ((160 * s_) + i_) (by omega) rfl dX5_read_2_11 ?_
  refine g_l2i (v := (σ.2 ((160 * s_) + i_)).toInt32) hC dX5_read_2_12 rfl ?_
  refine g_iret hC hr rfl ⟨_, rfl, ?_⟩ (by omega) (by omega) hE dX5_read_2_13
  exact ⟨rfl, rfl, rfl, rfl⟩
