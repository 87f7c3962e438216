set_option maxRecDepth 100000
/-! THE MODEL, 14: judge, source, matter -/
def rdF (z : MS) (j i : Nat) : Int32 := (z.2 (160 * j + i)).toInt32
def jdI (M j : Nat) : Nat → Nat → MS → Int32 × MS
  | 0, _, z => (-1, z)
  | r + 1, i, z => if (firesF M z (rdF z j (2 * i))).1 = rdF z j (2 * i + 1) ∧ (firesF M z (rdF z j (2 * i))).2.1 25 0 = 0 then jdI M j r (i + 1) (firesF M z (rdF z j (2 * i))).2 else (nI i, (firesF M z (rdF z j (2 * i))).2)
def judgeF (σ : MS) (K : Nat) (s pt n : Int32) : Int32 × MS :=
  if nrc σ s = 1 ∨ wi pt 0 3 = false then (-1 - 10, mNo σ 1) else
  if ¬ nrc σ s = 0 then (-(nI (nrc σ s)) - 10, mNo σ (nrc σ s)) else
  if ¬ 0 ≤ n then (-4 - 10, mNo σ 4) else
  if ¬ lg_cmp (2 * n.toInt64) (σ.1 7 s.toNatClampNeg).toInt64 ≤ 0 then (-5 - 10, mNo σ 5) else
  jdI (chM K σ pt) s.toNatClampNeg n.toNatClampNeg 0 (chainsF K σ pt (-1))
theorem fires_2 {N K M : Nat} {z : MS} {x : Int32} (h : RI N K M (fsI z) 0) : (firesF M z x).2.2 = z.2 := (fires_ok (x := x) h).1.f2
theorem m_eq1 {k : Nat} (h : k ≤ 3) : -(nI k) = -1 ↔ k = 1 := by
  rcases (show k = 0 ∨ k = 1 ∨ k = 2 ∨ k = 3 by omega) with h | h | h | h <;> subst h <;> decide
theorem lg_le2 {a c : Nat} (ha : a < 2 ^ 31) (hc : c < 2 ^ 31) : lg_cmp (2 * (nI a).toInt64) (nI c).toInt64 ≤ 0 ↔ 2 * a ≤ c := by
  rw [show (2 : Int64) * (nI a).toInt64 = (nI a).toInt64 + (nI a).toInt64 from by rw [nI_l ha, lN_add, show (2 : Int64) = lN 2 from rfl, lN_mul]; congr 1; omega]
  rw [lg_le ha ha hc]
  omega
set_option maxHeartbeats 1000000 in
theorem met_X5_judge {Y : YT} {l : Launch} {m0 n u : Nat} {σ : MS} {B : AH} (hz : yz Y ≤ m0) (s_ : Int32) (pt_ : Int32) (n_ : Int32) {N K : Nat} (hN2 : N ≤ 12) (hK : σ.1 4 0 = nI K) (hK2 : K ≤ 24) (hpq : ∀ h, h < K → ∃ q, q < N ∧ hkF σ 0 h = nI q) (hl : ∀ j, j < 8 → ∃ t, t ≤ 160 ∧ σ.1 7 j = nI t) : GM Y l yX5_judge (ws_ yX5_judge cX5_judge 6 (some FieldType.int)) 100 2547 [.ref m0, .int s_, .int pt_, .int n_] (mG Y m0 σ B) n u 0 0 (pI (fun r G' n' u' => (judgeF σ K s_ pt_ n_).1 = r ∧ mG Y m0 ((judgeF σ K s_ pt_ n_).2) B = G' ∧ n = n' ∧ u = u')) noX := by
  refine GM.intro (own := RX5) rfl (by decide +kernel) (Nat.le_of_ble_eq_true rfl) ?_
  intro p e s m args below meth c R Q hC hr hnm hF hL hE
  have hE1 := hE.1
  have hE2 := hE.2.1
  show V Y p l e R s m args below meth c 6 n u (mG Y m0 σ B) n u Q 0 [(0, .ref m0), (1, .int s_), (2, .int pt_), (3, .int n_)] []
  refine g_aload_n hC dX5_judge_0 rfl 0 rfl ?_
  refine g_iload_n hC dX5_judge_1 rfl 1 rfl ?_
  refine g_calli0 hC (g_runV hC (met_X5_noRow hz s_ ) kc_X5 mG_o (lw_V q3648 q3650 qs38 q89 q3651) rfl md_X5_noRow dX5_judge_2 rfl ⟨by omega, by omega⟩ (by omega) (by omega) rfl (Nat.le_of_ble_eq_true rfl)) (fun r_1 G_1 n_1 u_1 hp_1 hn_1 hm_1 hu_1 => ?_)
  obtain ⟨rfl, rfl, rfl, rfl⟩ := hp_1
  refine g_istore (L' := [(4, .int (-(nI (nrc σ  s_)))), (0, .ref m0), (1, .int s_), (2, .int pt_), (3, .int n_)]) hC dX5_judge_5 (by decide) rfl ?_
  refine g_iload hC dX5_judge_7 0 rfl ?_
  refine g_iconst (v := (-1)) hC dX5_judge_9 rfl ?_
  refine g_icmp_eq hC dX5_judge_10 (tgt := 20) (by decide) (fun c_10 => ?_) (fun c_10 => ?_)
  · have c10 : nrc σ s_ = 1 := (m_eq1 (nrc_le σ s_)).mp c_10
    refine g_aload_n hC dX5_judge_20 rfl 1 rfl ?_
    refine g_iconst (v := (-1)) hC dX5_judge_21 rfl ?_
    refine g_calli0 hC (g_runV hC (met_X5_no10 hz 1 (by omega)) kc_X5 mG_o (lw_V q3756 q3758 qs52 q89 q3759) rfl md_X5_no10 dX5_judge_22 rfl ⟨by omega, by omega⟩ (by omega) (by omega) rfl (Nat.le_of_ble_eq_true rfl)) (fun r_2 G_2 n_2 u_2 hp_2 hn_2 hm_2 hu_2 => ?_)
    obtain ⟨rfl, rfl, rfl, rfl⟩ := hp_2
    refine g_iret hC hr rfl ⟨_, rfl, ?_⟩ (by omega) (by omega) hE dX5_judge_25
    have h9 : judgeF σ K s_ pt_ n_ = (-(nI 1) - 10, mNo σ 1) := by
      first | (simp [judgeF, c10]; done) | (simp [judgeF, c10]; rfl)
    exact ⟨by rw [h9], by rw [h9], rfl, rfl⟩
  · have c10 : ¬ nrc σ s_ = 1 := fun q => c_10 ((m_eq1 (nrc_le σ s_)).mpr q)
    refine g_iload_n hC dX5_judge_13 rfl 3 rfl ?_
    refine g_calli0 hC (g_runS hC (met_X5_isPoint hz pt_ ) (lw_S q3883 q3884 q89 q3885) md_X5_isPoint dX5_judge_14 rfl ⟨by omega, by omega⟩ (by omega) (by omega) rfl (Nat.le_of_ble_eq_true rfl)) (fun r_3 G_3 n_3 u_3 hp_3 hn_3 hm_3 hu_3 => ?_)
    obtain ⟨rfl, rfl, rfl, rfl⟩ := hp_3
    refine g_if_neB hC (wi pt_ 0 3) dX5_judge_17 (tgt := 26) (by decide) (fun c_17 => ?_) (fun c_17 => ?_)
    · refine g_iload hC dX5_judge_26 0 rfl ?_
      refine g_if_ge hC dX5_judge_28 (tgt := 38) (by decide) (fun c_28 => ?_) (fun c_28 => ?_)
      · have c28 := (m_ge (nrc_le σ s_)).mp c_28
        obtain ⟨j, hj, rfl, hn0, hrw⟩ := nrc_0 c28
        have cl_j : (nI j).toNatClampNeg = j := nI_clamp (by omega)
        obtain ⟨t, ht, et⟩ := hl j hj
        refine g_iload_n hC dX5_judge_38 rfl 4 rfl ?_
        refine g_if_ge hC dX5_judge_39 (tgt := 49) (by decide) (fun c_39 => ?_) (fun c_39 => ?_)
        · obtain ⟨b, hb, rfl⟩ := nI_of (Int32.not_lt.mpr c_39)
          have cl_b : (nI b).toNatClampNeg = b := nI_clamp (by omega)
          refine g_ldc2 (v := 2) hC q3947 dX5_judge_49 ?_
          refine g_iload_n hC dX5_judge_52 rfl 4 rfl ?_
          refine g_i2l (v := (nI b).toInt64) hC dX5_judge_53 rfl ?_
          refine g_lmul hC dX5_judge_54 ?_
          refine g_aload_n hC dX5_judge_55 rfl 1 rfl ?_
          refine m_get (v := .ref (m0 + 4)) hC 7 (by decide) q3528 rfl dX5_judge_56 ?_
          refine g_iload_n hC dX5_judge_59 rfl 2 rfl ?_
          refine m_ald (v := σ.1 7 j) hC 7 j rfl (show j < 8 from by omega) (by omega) rfl dX5_judge_60 ?_
          refine g_i2l (v := (σ.1 7 j).toInt64) hC dX5_judge_61 rfl ?_
          refine g_lcmp hC dX5_judge_62 ?_
          refine g_if_le hC dX5_judge_63 (tgt := 73) (by decide) (fun c_63 => ?_) (fun c_63 => ?_)
          · have hbt : 2 * b ≤ t := (lg_le2 hb (by omega)).mp (et ▸ c_63)
            refine g_aload_n hC dX5_judge_73 rfl 1 rfl ?_
            refine g_iload_n hC dX5_judge_74 rfl 3 rfl ?_
            refine g_iconst (v := (-1)) hC dX5_judge_75 rfl ?_
            refine g_callv0 hC (g_runV hC (met_X5_chains hz pt_ (-1) (hN2) (hK) (hK2) (hpq)) kc_X5 mG_o (lw_V q3898 q3900 qs72 q89 q3901) rfl md_X5_chains dX5_judge_76 rfl ⟨by omega, by omega⟩ (by omega) (by omega) rfl (Nat.le_of_ble_eq_true rfl)) (fun G_4 n_4 u_4 hp_4 hn_4 hm_4 hu_4 => ?_)
            obtain ⟨rfl, rfl, rfl⟩ := hp_4
            obtain ⟨M, hM, hc⟩ := chains_ok (σ := σ) (pt := pt_) (wo := -1) hK2
            have hcm : chM K σ pt_ = M := by unfold chM; rw [hc.h23, nI_clamp (by omega)]
            obtain ⟨z0, ez0⟩ : ∃ z, chainsF K σ pt_ (-1) = z := ⟨_, rfl⟩
            rw [ez0] at hc ⊢
            have hr9 := ch_RI hc hM hK2 hN2 hpq
            refine g_iconst (v := 0) hC dX5_judge_79 rfl ?_
            refine g_istore (L' := [(5, .int 0), (4, .int (-(nI (nrc σ  (nI j))))), (0, .ref m0), (1, .int (nI j)), (2, .int pt_), (3, .int (nI b))]) hC dX5_judge_80 (by decide) rfl ?_
            have hl_82 : ∀ (kf_ : Nat) (z : MS) (i : Nat) (k : Nat), (i + k = b) → (RI N K M (fsI z) 0) → (z.2 = z0.2) → (jdI M j k i z = jdI M j b 0 z0) → k < kf_ → V Y p l e R s m args below meth c 6 n u (mG Y m0 z B) n u Q 82 [(5, .int (nI i)), (0, .ref m0), (1, .int (nI j)), (3, .int (nI b))] [] := by
              intro kf_
              induction kf_ with
              | zero => intro z i k hik hrz hz2 hfin hk_; exact absurd hk_ (Nat.not_lt_zero _)
              | succ kf_ ih_ =>
                intro z i k hik hrz hz2 hfin hk_
                refine g_iload hC dX5_judge_82 0 rfl ?_
                refine g_iload_n hC dX5_judge_84 rfl 3 rfl ?_
                refine g_icmp_geN hC i b (by omega) (by omega) dX5_judge_85 (tgt := 131) (by decide) (fun c_85 => ?_) (fun c_85 => ?_)
                · obtain rfl : k = 0 := by omega
                  refine g_iconst (v := (-1)) hC dX5_judge_131 rfl ?_
                  refine g_iret hC hr rfl ⟨_, rfl, ?_⟩ (by omega) (by omega) hE dX5_judge_132
                  have h9 : judgeF σ K (nI j) pt_ (nI b) = ((-1), z) := by
                    have e9 : judgeF σ K (nI j) pt_ (nI b) = jdI M j b 0 z0 := by unfold judgeF; rw [if_neg (by simp [c10, c_17]), if_neg (fun q => q c28), if_neg (fun q => q c_39), cl_j, cl_b, if_neg (fun q => q c_63), hcm, ez0]
                    rw [e9, ← hfin]
                    first | rfl | (rw [jdI, if_neg (fun q => c_112 q.1)]; done) | (rw [jdI, if_neg (fun q => c_119 q.2)]; done)
                  exact ⟨by rw [h9], by rw [h9], rfl, rfl⟩
                · obtain ⟨k, rfl⟩ : ∃ d, k = d + 1 := ⟨k - 1, by omega⟩
                  refine g_aload_n hC dX5_judge_88 rfl 1 rfl ?_
                  refine g_aload_n hC dX5_judge_89 rfl 1 rfl ?_
                  refine g_iload_n hC dX5_judge_90 rfl 2 rfl ?_
                  refine g_iconst (v := 2) hC dX5_judge_91 rfl ?_
                  refine g_iload hC dX5_judge_92 0 rfl ?_
                  refine g_imulN hC 2 i dX5_judge_94 ?_
                  refine g_calli0 hC (g_runV hC (met_X5_read_2 hz j (2 * i) (by omega)) kc_X5 mG_o (lw_V q3948 q3950 qs77 q89 q3951) rfl md_X5_read_2 dX5_judge_95 rfl ⟨by omega, by omega⟩ (by omega) (by omega) rfl (Nat.le_of_ble_eq_true rfl)) (fun r_5 G_5 n_5 u_5 hp_5 hn_5 hm_5 hu_5 => ?_)
                  obtain ⟨rfl, rfl, rfl, rfl⟩ := hp_5
                  show V Y p l e R s m args below meth c 6 n u (mG Y m0 z B) n u Q 98 _ (.int (rdF z j (2 * i)) :: _)
                  refine g_calli0 hC (g_runV hC (met_X5_fires hz (rdF z j (2 * i)) (hrz)) kc_X5 mG_o (lw_V q3910 q3912 qs74 q89 q3913) rfl md_X5_fires dX5_judge_98 rfl ⟨by omega, by omega⟩ (by omega) (by omega) rfl (Nat.le_of_ble_eq_true rfl)) (fun r_6 G_6 n_6 u_6 hp_6 hn_6 hm_6 hu_6 => ?_)
                  obtain ⟨rfl, rfl, rfl, rfl⟩ := hp_6
                  obtain ⟨F, hr2, tt, htt, h27⟩ := fires_ok (x := rdF z j (2 * i)) hrz
                  refine g_aload_n hC dX5_judge_101 rfl 1 rfl ?_
                  refine g_iload_n hC dX5_judge_102 rfl 2 rfl ?_
                  refine g_iconst (v := 2) hC dX5_judge_103 rfl ?_
                  refine g_iload hC dX5_judge_104 0 rfl ?_
                  refine g_imulN hC 2 i dX5_judge_106 ?_
                  refine g_iconst (v := 1) hC dX5_judge_107 rfl ?_
                  refine g_iaddN hC (2 * i) 1 dX5_judge_108 ?_
                  refine g_calli0 hC (g_runV hC (met_X5_read_2 hz j ((2 * i) + 1) (by omega)) kc_X5 mG_o (lw_V q3948 q3950 qs77 q89 q3951) rfl md_X5_read_2 dX5_judge_109 rfl ⟨by omega, by omega⟩ (by omega) (by omega) rfl (Nat.le_of_ble_eq_true rfl)) (fun r_7 G_7 n_7 u_7 hp_7 hn_7 hm_7 hu_7 => ?_)
                  obtain ⟨rfl, rfl, rfl, rfl⟩ := hp_7
                  rw [show ((firesF M z (rdF z j (2 * i))).2.2 (160 * j + (2 * i + 1))).toInt32 = rdF z j (2 * i + 1) from congrFun F.f2 _ ▸ rfl]
                  refine g_icmp_ne hC dX5_judge_112 (tgt := 122) (by decide) (fun c_112 => ?_) (fun c_112 => ?_)
                  · refine g_iload hC dX5_judge_122 0 rfl ?_
                    refine g_iret hC hr rfl ⟨_, rfl, ?_⟩ (by omega) (by omega) hE dX5_judge_124
                    have h9 : judgeF σ K (nI j) pt_ (nI b) = (nI i, (firesF M z (rdF z j (2 * i))).2) := by
                      have e9 : judgeF σ K (nI j) pt_ (nI b) = jdI M j b 0 z0 := by unfold judgeF; rw [if_neg (by simp [c10, c_17]), if_neg (fun q => q c28), if_neg (fun q => q c_39), cl_j, cl_b, if_neg (fun q => q c_63), hcm, ez0]
                      rw [e9, ← hfin]
                      first | rfl | (rw [jdI, if_neg (fun q => c_112 q.1)]; done) | (rw [jdI, if_neg (fun q => c_119 q.2)]; done)
                    exact ⟨by rw [h9], by rw [h9], rfl, rfl⟩
                  · refine g_aload_n hC dX5_judge_115 rfl 1 rfl ?_
                    refine m_get (v := .int (((firesF M z (rdF z j (2 * i))).2).1 25 0)) hC 25 (by decide) q3546 rfl dX5_judge_116 ?_
                    refine g_if_eq hC dX5_judge_119 (tgt := 125) (by decide) (fun c_119 => ?_) (fun c_119 => ?_)
                    · refine g_iincN (L' := [(5, .int (nI (i + 1))), (0, .ref m0), (1, .int (nI j)), (3, .int (nI b))]) hC 1 i dX5_judge_125 (k := 0) rfl (by decide) (by decide) rfl ?_
                      refine g_goto (tgt := 82) hC dX5_judge_128 (by decide) ?_
                      exact ih_ ((firesF M z (rdF z j (2 * i))).2) (i + 1) k (by omega) (hr2) (F.f2.trans hz2) (by rw [← hfin, jdI, if_pos ⟨c_112, c_119⟩]) (by omega)
                    · refine g_iload hC dX5_judge_122 0 rfl ?_
                      refine g_iret hC hr rfl ⟨_, rfl, ?_⟩ (by omega) (by omega) hE dX5_judge_124
                      have h9 : judgeF σ K (nI j) pt_ (nI b) = (nI i, (firesF M z (rdF z j (2 * i))).2) := by
                        have e9 : judgeF σ K (nI j) pt_ (nI b) = jdI M j b 0 z0 := by unfold judgeF; rw [if_neg (by simp [c10, c_17]), if_neg (fun q => q c28), if_neg (fun q => q c_39), cl_j, cl_b, if_neg (fun q => q c_63), hcm, ez0]
                        rw [e9, ← hfin]
                        first | rfl | (rw [jdI, if_neg (fun q => c_112 q.1)]; done) | (rw [jdI, if_neg (fun q => c_119 q.2)]; done)
                      exact ⟨by rw [h9], by rw [h9], rfl, rfl⟩
            refine V.sub [0, 2, 3, 5] rfl ?_
            exact hl_82 (b + 1) z0 0 b (by omega) (hr9) (rfl) (rfl) (by omega)
          · refine g_aload_n hC dX5_judge_66 rfl 1 rfl ?_
            refine g_bipush (v := (-5)) hC dX5_judge_67 (by decide) ?_
            refine g_calli0 hC (g_runV hC (met_X5_no10 hz 5 (by omega)) kc_X5 mG_o (lw_V q3756 q3758 qs52 q89 q3759) rfl md_X5_no10 dX5_judge_69 rfl ⟨by omega, by omega⟩ (by omega) (by omega) rfl (Nat.le_of_ble_eq_true rfl)) (fun r_8 G_8 n_8 u_8 hp_8 hn_8 hm_8 hu_8 => ?_)
            obtain ⟨rfl, rfl, rfl, rfl⟩ := hp_8
            refine g_iret hC hr rfl ⟨_, rfl, ?_⟩ (by omega) (by omega) hE dX5_judge_72
            have h9 : judgeF σ K (nI j) pt_ (nI b) = (-(nI 5) - 10, mNo σ 5) := by
              first | (simp [judgeF, c10, c_17, c28, cl_j, c_39, cl_b, c_63]; done) | (simp [judgeF, c10, c_17, c28, cl_j, c_39, cl_b, c_63]; rfl)
            exact ⟨by rw [h9], by rw [h9], rfl, rfl⟩
        · refine g_aload_n hC dX5_judge_42 rfl 1 rfl ?_
          refine g_bipush (v := (-4)) hC dX5_judge_43 (by decide) ?_
          refine g_calli0 hC (g_runV hC (met_X5_no10 hz 4 (by omega)) kc_X5 mG_o (lw_V q3756 q3758 qs52 q89 q3759) rfl md_X5_no10 dX5_judge_45 rfl ⟨by omega, by omega⟩ (by omega) (by omega) rfl (Nat.le_of_ble_eq_true rfl)) (fun r_9 G_9 n_9 u_9 hp_9 hn_9 hm_9 hu_9 => ?_)
          obtain ⟨rfl, rfl, rfl, rfl⟩ := hp_9
          refine g_iret hC hr rfl ⟨_, rfl, ?_⟩ (by omega) (by omega) hE dX5_judge_48
          have h9 : judgeF σ K (nI j) pt_ n_ = (-(nI 4) - 10, mNo σ 4) := by
            first | (simp [judgeF, c10, c_17, c28, cl_j, c_39]; done) | (simp [judgeF, c10, c_17, c28, cl_j, c_39]; rfl)
          exact ⟨by rw [h9], by rw [h9], rfl, rfl⟩
      · have c28 : ¬ nrc σ s_ = 0 := fun q => c_28 ((m_ge (nrc_le σ s_)).mpr q)
        refine g_aload_n hC dX5_judge_31 rfl 1 rfl ?_
        refine g_iload hC dX5_judge_32 0 rfl ?_
        refine g_calli0 hC (g_runV hC (met_X5_no10 hz (nrc σ  s_) (by have := nrc_le σ s_; omega)) kc_X5 mG_o (lw_V q3756 q3758 qs52 q89 q3759) rfl md_X5_no10 dX5_judge_34 rfl ⟨by omega, by omega⟩ (by omega) (by omega) rfl (Nat.le_of_ble_eq_true rfl)) (fun r_10 G_10 n_10 u_10 hp_10 hn_10 hm_10 hu_10 => ?_)
        obtain ⟨rfl, rfl, rfl, rfl⟩ := hp_10
        refine g_iret hC hr rfl ⟨_, rfl, ?_⟩ (by omega) (by omega) hE dX5_judge_37
        have h9 : judgeF σ K s_ pt_ n_ = (-(nI (nrc σ  s_)) - 10, mNo σ (nrc σ  s_)) := by
          first | (simp [judgeF, c10, c_17, c28]; done) | (simp [judgeF, c10, c_17, c28]; rfl)
        exact ⟨by rw [h9], by rw [h9], rfl, rfl⟩
    · refine g_aload_n hC dX5_judge_20 rfl 1 rfl ?_
      refine g_iconst (v := (-1)) hC dX5_judge_21 rfl ?_
      refine g_calli0 hC (g_runV hC (met_X5_no10 hz 1 (by omega)) kc_X5 mG_o (lw_V q3756 q3758 qs52 q89 q3759) rfl md_X5_no10 dX5_judge_22 rfl ⟨by omega, by omega⟩ (by omega) (by omega) rfl (Nat.le_of_ble_eq_true rfl)) (fun r_11 G_11 n_11 u_11 hp_11 hn_11 hm_11 hu_11 => ?_)
      obtain ⟨rfl, rfl, rfl, rfl⟩ := hp_11
      refine g_iret hC hr rfl ⟨_, rfl, ?_⟩ (by omega) (by omega) hE dX5_judge_25
      have h9 : judgeF σ K s_ pt_ n_ = (-(nI 1) - 10, mNo σ 1) := by
        first | (simp [judgeF, c10, c_17]; done) | (simp [judgeF, c10, c_17]; rfl)
      exact ⟨by rw [h9], by rw [h9], rfl, rfl⟩
theorem lgc_gt {x y : Int64} : 0 < lg_cmp x y ↔ y.toInt < x.toInt := by
  unfold lg_cmp
  by_cases h : y < x
  · rw [if_pos h]; exact ⟨fun _ => Int64.lt_iff_toInt_lt.mp h, fun _ => by decide⟩
  · rw [if_neg h]
    refine ⟨fun q => ?_, fun q => absurd (Int64.lt_iff_toInt_lt.mpr q) h⟩
    split at q <;> exact absurd q (by decide)
theorem lgc_lt {x y : Int64} : lg_cmp x y < 0 ↔ x.toInt < y.toInt := by
  unfold lg_cmp
  by_cases h : y < x
  · rw [if_pos h]
    have := Int64.lt_iff_toInt_lt.mp h
    exact ⟨fun q => absurd q (by decide), fun q => by omega⟩
  · rw [if_neg h]
    have h1 : ¬ y.toInt < x.toInt := fun q => h (Int64.lt_iff_toInt_lt.mpr q)
    by_cases e : x = y
    · rw [if_pos e, e]; exact ⟨fun q => absurd q (by decide), fun q => by omega⟩
    · rw [if_neg e]
      have h2 : x.toInt ≠ y.toInt := fun q => e (Int64.toInt_inj.mp q)
      exact ⟨fun _ => by omega, fun _ => by decide⟩
theorem i_l (x : Int32) : x.toInt64.toInt = x.toInt := Int32.toInt_toInt64 x
theorem i_lo (x : Int32) : -2147483648 ≤ x.toInt := by have := Int32.le_toInt x; omega
theorem i_hi (x : Int32) : x.toInt < 2147483648 := by have := Int32.toInt_lt x; omega
theorem l_sub {x y : Int64} (h1 : -9223372036854775808 ≤ x.toInt - y.toInt) (h2 : x.toInt - y.toInt < 9223372036854775808) : (x - y).toInt = x.toInt - y.toInt := by
  rw [Int64.toInt_sub, Int.bmod_eq_of_le (by omega) (by omega)]
theorem l_add1 {x : Int64} (h2 : x.toInt < 9223372036854775807) : (x + 1).toInt = x.toInt + 1 := by
  have := Int64.le_toInt x
  rw [Int64.toInt_add, show (1 : Int64).toInt = 1 from rfl, Int.bmod_eq_of_le (by omega) (by omega)]
def srI (M : Nat) (y : Int32) : Nat → Int64 → MS → Int64 × MS
  | 0, _, z => (0, z)
  | r + 1, x, z => if (firesF M z x.toInt32).1 = y ∧ (firesF M z x.toInt32).2.1 25 0 = 0 then (10000000000 + x, (firesF M z x.toInt32).2) else srI M y r (x + 1) (firesF M z x.toInt32).2
def srcF (σ : MS) (K : Nat) (pt y a b : Int32) : Int64 × MS :=
  if wi pt 0 3 = true then (if ¬ b < a ∧ lg_cmp (b.toInt64 - a.toInt64) 200 < 0 then srI (chM K σ pt) y (b.toInt + 1 - a.toInt).toNat a.toInt64 (chainsF K σ pt (-1)) else ((-(nI 6)).toInt64, mNo σ 6)) else ((-(nI 1)).toInt64, mNo σ 1)
set_option maxHeartbeats 1000000 in
theorem met_X5_source {Y : YT} {l : Launch} {m0 n u : Nat} {σ : MS} {B : AH} (hz : yz Y ≤ m0) (pt_ : Int32) (y_ : Int32) (a_ : Int32) (b_ : Int32) {N K : Nat} (hN2 : N ≤ 12) (hK : σ.1 4 0 = nI K) (hK2 : K ≤ 24) (hpq : ∀ h, h < K → ∃ q, q < N ∧ hkF σ 0 h = nI q) : GM Y l yX5_source (ws_ yX5_source cX5_source 7 (some FieldType.long)) 100 2547 [.ref m0, .int pt_, .int y_, .int a_, .int b_] (mG Y m0 σ B) n u 0 0 (pL (fun r G' n' u' => (srcF σ K pt_ y_ a_ b_).1 = r ∧ mG Y m0 ((srcF σ K pt_ y_ a_ b_).2) B = G' ∧ n = n' ∧ u = u')) noX := by
  refine GM.intro (own := RX5) rfl (by decide +kernel) (Nat.le_of_ble_eq_true rfl) ?_
  intro p e s m args below meth c R Q hC hr hnm hF hL hE
  have hE1 := hE.1
  have hE2 := hE.2.1
  show V Y p l e R s m args below meth c 7 n u (mG Y m0 σ B) n u Q 0 [(0, .ref m0), (1, .int pt_), (2, .int y_), (3, .int a_), (4, .int b_)] []
  refine g_iload_n hC dX5_source_0 rfl 1 rfl ?_
  refine g_calli0 hC (g_runS hC (met_X5_isPoint hz pt_ ) (lw_S q3883 q3884 q89 q3885) md_X5_isPoint dX5_source_1 rfl ⟨by omega, by omega⟩ (by omega) (by omega) rfl (Nat.le_of_ble_eq_true rfl)) (fun r_1 G_1 n_1 u_1 hp_1 hn_1 hm_1 hu_1 => ?_)
  obtain ⟨rfl, rfl, rfl, rfl⟩ := hp_1
  refine g_if_neB hC (wi pt_ 0 3) dX5_source_4 (tgt := 14) (by decide) (fun c_4 => ?_) (fun c_4 => ?_)
  · refine g_iload_n hC dX5_source_14 rfl 3 rfl ?_
    refine g_iload hC dX5_source_15 4 rfl ?_
    refine g_icmp_gt hC dX5_source_17 (tgt := 33) (by decide) (fun c_17 => ?_) (fun c_17 => ?_)
    · refine g_aload_n hC dX5_source_33 rfl 0 rfl ?_
      refine g_bipush (v := (-6)) hC dX5_source_34 (by decide) ?_
      refine g_calli0 hC (g_runV hC (met_X5_no hz 6 (by omega)) kc_X5 mG_o (lw_V q3640 q3642 qs37 q89 q3643) rfl md_X5_no dX5_source_36 rfl ⟨by omega, by omega⟩ (by omega) (by omega) rfl (Nat.le_of_ble_eq_true rfl)) (fun r_2 G_2 n_2 u_2 hp_2 hn_2 hm_2 hu_2 => ?_)
      obtain ⟨rfl, rfl, rfl, rfl⟩ := hp_2
      refine g_i2l (v := (-(nI 6)).toInt64) hC dX5_source_39 rfl ?_
      refine g_lret hC hr ⟨_, rfl, ?_⟩ (by omega) (by omega) hE dX5_source_40
      have h9 : srcF σ K pt_ y_ a_ b_ = ((-(nI 6)).toInt64, mNo σ 6) := by
        simp [srcF, c_4, c_17]
      exact ⟨by rw [h9], by rw [h9], rfl, rfl⟩
    · refine g_iload hC dX5_source_20 4 rfl ?_
      refine g_i2l (v := b_.toInt64) hC dX5_source_22 rfl ?_
      refine g_iload_n hC dX5_source_23 rfl 3 rfl ?_
      refine g_i2l (v := a_.toInt64) hC dX5_source_24 rfl ?_
      refine g_lsub hC dX5_source_25 ?_
      refine g_ldc2 (v := 200) hC q3942 dX5_source_26 ?_
      refine g_lcmp hC dX5_source_29 ?_
      refine g_if_lt hC dX5_source_30 (tgt := 41) (by decide) (fun c_30 => ?_) (fun c_30 => ?_)
      · refine g_aload_n hC dX5_source_41 rfl 0 rfl ?_
        refine g_iload_n hC dX5_source_42 rfl 1 rfl ?_
        refine g_iconst (v := (-1)) hC dX5_source_43 rfl ?_
        refine g_callv0 hC (g_runV hC (met_X5_chains hz pt_ (-1) (hN2) (hK) (hK2) (hpq)) kc_X5 mG_o (lw_V q3898 q3900 qs72 q89 q3901) rfl md_X5_chains dX5_source_44 rfl ⟨by omega, by omega⟩ (by omega) (by omega) rfl (Nat.le_of_ble_eq_true rfl)) (fun G_3 n_3 u_3 hp_3 hn_3 hm_3 hu_3 => ?_)
        obtain ⟨rfl, rfl, rfl⟩ := hp_3
        obtain ⟨M, hM, hc⟩ := chains_ok (σ := σ) (pt := pt_) (wo := -1) hK2
        have hcm : chM K σ pt_ = M := by unfold chM; rw [hc.h23, nI_clamp (by omega)]
        obtain ⟨z0, ez0⟩ : ∃ z, chainsF K σ pt_ (-1) = z := ⟨_, rfl⟩
        rw [ez0] at hc ⊢
        have hr9 := ch_RI hc hM hK2 hN2 hpq
        have hal := i_lo a_
        have hbh := i_hi b_
        obtain ⟨d, hd⟩ : ∃ d, (b_.toInt + 1 - a_.toInt).toNat = d := ⟨_, rfl⟩
        have hab : a_.toInt ≤ b_.toInt := Int.not_lt.mp (fun q => c_17 (Int32.lt_iff_toInt_lt.mpr q))
        have hd : (d : Int) = b_.toInt + 1 - a_.toInt := by omega
        refine g_iload_n hC dX5_source_47 rfl 3 rfl ?_
        refine g_i2l (v := a_.toInt64) hC dX5_source_48 rfl ?_
        refine g_lstore (L' := [(5, .long a_.toInt64), (0, .ref m0), (1, .int pt_), (2, .int y_), (3, .int a_), (4, .int b_)]) hC dX5_source_49 (by decide) rfl ?_
        have hl_51 : ∀ (kf_ : Nat) (z : MS) (x : Int64) (k : Nat), (x.toInt + k = b_.toInt + 1) → (a_.toInt ≤ x.toInt) → (RI N K M (fsI z) 0) → (srI M y_ k x z = srI M y_ d a_.toInt64 z0) → k < kf_ → V Y p l e R s m args below meth c 7 n u (mG Y m0 z B) n u Q 51 [(5, .long x), (0, .ref m0), (2, .int y_), (4, .int b_)] [] := by
          intro kf_
          induction kf_ with
          | zero => intro z x k hx hxa hrz hfin hk_; exact absurd hk_ (Nat.not_lt_zero _)
          | succ kf_ ih_ =>
            intro z x k hx hxa hrz hfin hk_
            refine g_lload hC dX5_source_51 0 rfl ?_
            refine g_iload hC dX5_source_53 3 rfl ?_
            refine g_i2l (v := b_.toInt64) hC dX5_source_55 rfl ?_
            refine g_lcmp hC dX5_source_56 ?_
            refine g_if_gt hC dX5_source_57 (tgt := 94) (by decide) (fun c_57 => ?_) (fun c_57 => ?_)
            · have h57 := lgc_gt.mp c_57
              rw [i_l] at h57
              obtain rfl : k = 0 := by omega
              refine g_lconst (v := 0) hC dX5_source_94 rfl ?_
              refine g_lret hC hr ⟨_, rfl, ?_⟩ (by omega) (by omega) hE dX5_source_95
              have h9 : srcF σ K pt_ y_ a_ b_ = (0, z) := by
                rw [show srcF σ K pt_ y_ a_ b_ = srI M y_ d a_.toInt64 z0 from by unfold srcF; rw [if_pos c_4, if_pos ⟨c_17, c_30⟩, hcm, ez0, show (b_.toInt + 1 - a_.toInt).toNat = d by omega], ← hfin]
                rfl
              exact ⟨by rw [h9], by rw [h9], rfl, rfl⟩
            · have h57 : ¬ b_.toInt < x.toInt := fun q => c_57 (lgc_gt.mpr (by rw [i_l]; exact q))
              obtain ⟨k, rfl⟩ : ∃ d, k = d + 1 := ⟨k - 1, by omega⟩
              obtain ⟨F, hr2, tt, htt, h27⟩ := fires_ok (x := x.toInt32) hrz
              refine g_aload_n hC dX5_source_60 rfl 1 rfl ?_
              refine g_lload hC dX5_source_61 0 rfl ?_
              refine g_l2i (v := x.toInt32) hC dX5_source_63 rfl ?_
              refine g_calli0 hC (g_runV hC (met_X5_fires hz x.toInt32 (hrz)) kc_X5 mG_o (lw_V q3910 q3912 qs74 q89 q3913) rfl md_X5_fires dX5_source_64 rfl ⟨by omega, by omega⟩ (by omega) (by omega) rfl (Nat.le_of_ble_eq_true rfl)) (fun r_4 G_4 n_4 u_4 hp_4 hn_4 hm_4 hu_4 => ?_)
              obtain ⟨rfl, rfl, rfl, rfl⟩ := hp_4
              refine g_iload_n hC dX5_source_67 rfl 2 rfl ?_
              refine g_icmp_ne hC dX5_source_68 (tgt := 85) (by decide) (fun c_68 => ?_) (fun c_68 => ?_)
              · refine g_lload hC dX5_source_85 0 rfl ?_
                refine g_lconst (v := 1) hC dX5_source_87 rfl ?_
                refine g_ladd hC dX5_source_88 ?_
                refine g_lstore (L' := [(5, .long (x + 1)), (0, .ref m0), (2, .int y_), (4, .int b_)]) hC dX5_source_89 (by decide) rfl ?_
                refine g_goto (tgt := 51) hC dX5_source_91 (by decide) ?_
                exact ih_ ((firesF M z x.toInt32).2) (x + 1) k (by rw [l_add1 (by omega)]; omega) (by rw [l_add1 (by omega)]; omega) (hr2) (by rw [← hfin, srI, if_neg (fun q => c_68 q.1)]) (by omega)
              · refine g_aload_n hC dX5_source_71 rfl 1 rfl ?_
                refine m_get (v := .int (((firesF M z x.toInt32).2).1 25 0)) hC 25 (by decide) q3546 rfl dX5_source_72 ?_
                refine g_if_ne hC dX5_source_75 (tgt := 85) (by decide) (fun c_75 => ?_) (fun c_75 => ?_)
                · refine g_lload hC dX5_source_85 0 rfl ?_
                  refine g_lconst (v := 1) hC dX5_source_87 rfl ?_
                  refine g_ladd hC dX5_source_88 ?_
                  refine g_lstore (L' := [(5, .long (x + 1)), (0, .ref m0), (2, .int y_), (4, .int b_)]) hC dX5_source_89 (by decide) rfl ?_
                  refine g_goto (tgt := 51) hC dX5_source_91 (by decide) ?_
                  exact ih_ ((firesF M z x.toInt32).2) (x + 1) k (by rw [l_add1 (by omega)]; omega) (by rw [l_add1 (by omega)]; omega) (hr2) (by rw [← hfin, srI, if_neg (fun q => c_75 q.2)]) (by omega)
                · refine g_ldc2 (v := 10000000000) hC q3933 dX5_source_78 ?_
                  refine g_lload hC dX5_source_81 0 rfl ?_
                  refine g_ladd hC dX5_source_83 ?_
                  refine g_lret hC hr ⟨_, rfl, ?_⟩ (by omega) (by omega) hE dX5_source_84
                  have h9 : srcF σ K pt_ y_ a_ b_ = (10000000000 + x, (firesF M z x.toInt32).2) := by
                    rw [show srcF σ K pt_ y_ a_ b_ = srI M y_ d a_.toInt64 z0 from by unfold srcF; rw [if_pos c_4, if_pos ⟨c_17, c_30⟩, hcm, ez0, show (b_.toInt + 1 - a_.toInt).toNat = d by omega], ← hfin]
                    rw [srI, if_pos ⟨c_68, c_75⟩]
                  exact ⟨by rw [h9], by rw [h9], rfl, rfl⟩
        refine V.sub [0, 1, 3, 5] rfl ?_
        exact hl_51 (d + 1) z0 a_.toInt64 d (by rw [i_l, hd]; omega) (by rw [i_l]; exact Int.le_refl _) (hr9) (rfl) (by omega)
      · refine g_aload_n hC dX5_source_33 rfl 0 rfl ?_
        refine g_bipush (v := (-6)) hC dX5_source_34 (by decide) ?_
        refine g_calli0 hC (g_runV hC (met_X5_no hz 6 (by omega)) kc_X5 mG_o (lw_V q3640 q3642 qs37 q89 q3643) rfl md_X5_no dX5_source_36 rfl ⟨by omega, by omega⟩ (by omega) (by omega) rfl (Nat.le_of_ble_eq_true rfl)) (fun r_5 G_5 n_5 u_5 hp_5 hn_5 hm_5 hu_5 => ?_)
        obtain ⟨rfl, rfl, rfl, rfl⟩ := hp_5
        refine g_i2l (v := (-(nI 6)).toInt64) hC dX5_source_39 rfl ?_
        refine g_lret hC hr ⟨_, rfl, ?_⟩ (by omega) (by omega) hE dX5_source_40
        have h9 : srcF σ K pt_ y_ a_ b_ = ((-(nI 6)).toInt64, mNo σ 6) := by
          simp [srcF, c_4, c_17, c_30]
        exact ⟨by rw [h9], by rw [h9], rfl, rfl⟩
  · refine g_aload_n hC dX5_source_7 rfl 0 rfl ?_
    refine g_iconst (v := (-1)) hC dX5_source_8 rfl ?_
    refine g_calli0 hC (g_runV hC (met_X5_no hz 1 (by omega)) kc_X5 mG_o (lw_V q3640 q3642 qs37 q89 q3643) rfl md_X5_no dX5_source_9 rfl ⟨by omega, by omega⟩ (by omega) (by omega) rfl (Nat.le_of_ble_eq_true rfl)) (fun r_6 G_6 n_6 u_6 hp_6 hn_6 hm_6 hu_6 => ?_)
    obtain ⟨rfl, rfl, rfl, rfl⟩ := hp_6
    refine g_i2l (v := (-(nI 1)).toInt64) hC dX5_source_12 rfl ?_
    refine g_lret hC hr ⟨_, rfl, ?_⟩ (by omega) (by omega) hE dX5_source_13
    have h9 : srcF σ K pt_ y_ a_ b_ = ((-(nI 1)).toInt64, mNo σ 1) := by
      simp [srcF, c_4]
    exact ⟨by rw [h9], by rw [h9], rfl, rfl⟩
