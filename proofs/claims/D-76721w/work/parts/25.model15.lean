set_option maxRecDepth 100000
/-! THE MODEL, 15: matter, days, status -/
def chW (K : Nat) (z : MS) (pt wo : Int32) : Nat := ((chainsF K z pt wo).1 23 0).toNatClampNeg
def mtB (z : MS) (b : Int32) (i : Nat) : Int32 := b ||| (1 <<< (z.1 24 i &&& 31))
def mtS (K : Nat) (pt x v how ib : Int32) (a : Int32 × MS) (h : Nat) : Int32 × MS :=
  if (ib >>> (nI h &&& 31)) &&& 1 = 0 then a else
  if (firesF (chW K a.2 pt (nI h)) (chainsF K a.2 pt (nI h)) x).1 = v ∧ (firesF (chW K a.2 pt (nI h)) (chainsF K a.2 pt (nI h)) x).2.1 25 0 = how then (a.1, (firesF (chW K a.2 pt (nI h)) (chainsF K a.2 pt (nI h)) x).2)
  else (a.1 ||| (1 <<< (nI h &&& 31)), (firesF (chW K a.2 pt (nI h)) (chainsF K a.2 pt (nI h)) x).2)
def mtG (K : Nat) (z : MS) (M : Nat) (pt x : Int32) : Int32 × MS :=
  foldN (mtS K pt x (firesF M z x).1 ((firesF M z x).2.1 25 0) (foldN (mtB z) 0 M)) (0, (firesF M z x).2) K
def matF (σ : MS) (K : Nat) (pt x : Int32) : Int32 × MS :=
  if wi pt 0 3 = true then mtG K (chainsF K σ pt (-1)) (chM K σ pt) pt x else (-1, mNo σ 1)
abbrev MF (σ z : MS) : Prop :=
  (∀ k i, k ≠ 23 → k ≠ 24 → k ≠ 25 → k ≠ 26 → k ≠ 27 → k ≠ 28 → k ≠ 29 → z.1 k i = σ.1 k i) ∧
  (z.2 = σ.2)
theorem MF.fr {σ z : MS} (h : MF σ z) : ∀ k i, k ≠ 23 → k ≠ 24 → k ≠ 25 → k ≠ 26 → k ≠ 27 → k ≠ 28 → k ≠ 29 → z.1 k i = σ.1 k i := h.1
theorem MF.f2 {σ z : MS} (h : MF σ z) : z.2 = σ.2 := h.2
theorem MF.go {K M : Nat} {σ z y v : MS} (h : MF σ z) (c : CH K z y M) (F : RF y v) : MF σ v :=
  ⟨fun k i h1 h2 h3 h4 h5 h6 h7 => (F.fr k i h3 h4 h5 h6 h7).trans ((c.fr k i h1 h2).trans (h.fr k i h1 h2 h3 h4 h5 h6 h7)), F.f2.trans (c.f2.trans h.f2)⟩
set_option maxHeartbeats 4000000 in
theorem met_X5_matter {Y : YT} {l : Launch} {m0 n u : Nat} {σ : MS} {B : AH} (hz : yz Y ≤ m0) (pt_ : Int32) (x_ : Int32) {N K : Nat} (hN2 : N ≤ 12) (hK : σ.1 4 0 = nI K) (hK2 : K ≤ 24) (hpq : ∀ h, h < K → ∃ q, q < N ∧ hkF σ 0 h = nI q) : GM Y l yX5_matter (ws_ yX5_matter cX5_matter 8 (some FieldType.int)) 100 2547 [.ref m0, .int pt_, .int x_] (mG Y m0 σ B) n u 0 0 (pI (fun r G' n' u' => (matF σ K pt_ x_).1 = r ∧ mG Y m0 ((matF σ K pt_ x_).2) B = G' ∧ n = n' ∧ u = u')) noX := by
  refine GM.intro (own := RX5) rfl (by decide +kernel) (Nat.le_of_ble_eq_true rfl) ?_
  intro p e s m args below meth c R Q hC hr hnm hF hL hE
  have hE1 := hE.1
  have hE2 := hE.2.1
  show V Y p l e R s m args below meth c 8 n u (mG Y m0 σ B) n u Q 0 [(0, .ref m0), (1, .int pt_), (2, .int x_)] []
  refine g_iload_n hC dX5_matter_0 rfl 1 rfl ?_
  refine g_calli0 hC (g_runS hC (met_X5_isPoint hz pt_ ) (lw_S q3883 q3884 q89 q3885) md_X5_isPoint dX5_matter_1 rfl ⟨by omega, by omega⟩ (by omega) (by omega) rfl (Nat.le_of_ble_eq_true rfl)) (fun r_1 G_1 n_1 u_1 hp_1 hn_1 hm_1 hu_1 => ?_)
  obtain ⟨rfl, rfl, rfl, rfl⟩ := hp_1
  refine g_if_neB hC (wi pt_ 0 3) dX5_matter_4 (tgt := 13) (by decide) (fun c_4 => ?_) (fun c_4 => ?_)
  · refine g_aload_n hC dX5_matter_13 rfl 0 rfl ?_
    refine g_iload_n hC dX5_matter_14 rfl 1 rfl ?_
    refine g_iconst (v := (-1)) hC dX5_matter_15 rfl ?_
    refine g_callv0 hC (g_runV hC (met_X5_chains hz pt_ (-1) (hN2) (hK) (hK2) (hpq)) kc_X5 mG_o (lw_V q3898 q3900 qs72 q89 q3901) rfl md_X5_chains dX5_matter_16 rfl ⟨by omega, by omega⟩ (by omega) (by omega) rfl (Nat.le_of_ble_eq_true rfl)) (fun G_2 n_2 u_2 hp_2 hn_2 hm_2 hu_2 => ?_)
    obtain ⟨rfl, rfl, rfl⟩ := hp_2
    obtain ⟨M, hM, hc⟩ := chains_ok (σ := σ) (pt := pt_) (wo := -1) hK2
    have hcm : chM K σ pt_ = M := by unfold chM; rw [hc.h23, nI_clamp (by omega)]
    obtain ⟨z0, ez0⟩ : ∃ z, chainsF K σ pt_ (-1) = z := ⟨_, rfl⟩
    rw [ez0] at hc ⊢
    have hr9 := ch_RI hc hM hK2 hN2 hpq
    refine g_iconst (v := 0) hC dX5_matter_19 rfl ?_
    refine g_istore_n (L' := [(3, .int 0), (0, .ref m0), (1, .int pt_), (2, .int x_)]) hC dX5_matter_20 rfl (by decide) rfl ?_
    refine g_iconst (v := 0) hC dX5_matter_21 rfl ?_
    refine g_istore (L' := [(4, .int 0), (3, .int 0), (0, .ref m0), (1, .int pt_), (2, .int x_)]) hC dX5_matter_22 (by decide) rfl ?_
    have hl_24 : ∀ (kf_ : Nat) (i : Nat), (i ≤ M) → M - i < kf_ → V Y p l e R s m args below meth c 8 n u (mG Y m0 z0 B) n u Q 24 [(4, .int (nI i)), (3, .int (foldN (mtB z0) 0 i)), (0, .ref m0), (1, .int pt_), (2, .int x_)] [] := by
      intro kf_
      induction kf_ with
      | zero => intro i hia hk_; exact absurd hk_ (Nat.not_lt_zero _)
      | succ kf_ ih_a =>
        intro i hia hk_
        refine g_iload hC dX5_matter_24 0 rfl ?_
        refine g_aload_n hC dX5_matter_26 rfl 2 rfl ?_
        refine m_get (v := .int (nI M)) hC 23 (by decide) q3544 (congrArg (fun z => some (Value.int z)) hc.h23) dX5_matter_27 ?_
        refine g_icmp_geN hC i M (by omega) (by omega) dX5_matter_30 (tgt := 51) (by decide) (fun c_30 => ?_) (fun c_30 => ?_)
        · have ee_ : M = i := by omega
          subst ee_
          generalize hib : foldN (mtB z0) 0 M = ib
          refine g_aload_n hC dX5_matter_51 rfl 2 rfl ?_
          refine g_iload_n hC dX5_matter_52 rfl 4 rfl ?_
          refine g_calli0 hC (g_runV hC (met_X5_fires hz x_ (hr9)) kc_X5 mG_o (lw_V q3910 q3912 qs74 q89 q3913) rfl md_X5_fires dX5_matter_53 rfl ⟨by omega, by omega⟩ (by omega) (by omega) rfl (Nat.le_of_ble_eq_true rfl)) (fun r_3 G_3 n_3 u_3 hp_3 hn_3 hm_3 hu_3 => ?_)
          obtain ⟨rfl, rfl, rfl, rfl⟩ := hp_3
          obtain ⟨F, hr2, tt, htt, h27⟩ := fires_ok (x := x_) hr9
          obtain ⟨v, y1, ey⟩ : ∃ v y, firesF M z0 x_ = (v, y) := ⟨_, _, rfl⟩
          have ey1 : (firesF M z0 x_).1 = v := by rw [ey]
          have ey2 : (firesF M z0 x_).2 = y1 := by rw [ey]
          rw [ey2] at F
          rw [ey1, ey2]
          have hmf1 : MF σ y1 := MF.go ⟨fun _ _ _ _ _ _ _ _ _ => rfl, rfl⟩ hc F
          refine g_istore (L' := [(4, .int v), (3, .int ib), (0, .ref m0), (1, .int pt_), (2, .int x_)]) hC dX5_matter_56 (by decide) rfl ?_
          refine g_aload_n hC dX5_matter_58 rfl 2 rfl ?_
          refine m_get (v := .int (y1.1 25 0)) hC 25 (by decide) q3546 rfl dX5_matter_59 ?_
          generalize hhow : y1.1 25 0 = how
          refine g_istore (L' := [(5, .int how), (4, .int v), (3, .int ib), (0, .ref m0), (1, .int pt_), (2, .int x_)]) hC dX5_matter_62 (by decide) rfl ?_
          refine g_iconst (v := 0) hC dX5_matter_64 rfl ?_
          refine g_istore (L' := [(6, .int 0), (5, .int how), (4, .int v), (3, .int ib), (0, .ref m0), (1, .int pt_), (2, .int x_)]) hC dX5_matter_65 (by decide) rfl ?_
          refine g_iconst (v := 0) hC dX5_matter_67 rfl ?_
          refine g_istore (L' := [(7, .int 0), (6, .int 0), (5, .int how), (4, .int v), (3, .int ib), (0, .ref m0), (1, .int pt_), (2, .int x_)]) hC dX5_matter_68 (by decide) rfl ?_
          have hl_70 : ∀ (kf_ : Nat) (h0 : Nat) (b : Int32) (z : MS), (h0 ≤ K) → (MF σ z) → (foldN (mtS K pt_ x_ v how ib) (0, y1) h0 = (b, z)) → K - h0 < kf_ → V Y p l e R s m args below meth c 8 n u (mG Y m0 z B) n u Q 70 [(7, .int (nI h0)), (0, .ref m0), (1, .int pt_), (2, .int x_), (3, .int ib), (4, .int v), (5, .int how), (6, .int b)] [] := by
            intro kf_
            induction kf_ with
            | zero => intro h0 b z hh0 hmf hfin hk_; exact absurd hk_ (Nat.not_lt_zero _)
            | succ kf_ ih_b =>
              intro h0 b z hh0 hmf hfin hk_
              refine g_iload hC dX5_matter_70 0 rfl ?_
              refine g_aload_n hC dX5_matter_72 rfl 1 rfl ?_
              refine m_get (v := .int (nI K)) hC 4 (by decide) q3525 (congrArg (fun z => some (Value.int z)) ((hmf.fr _ _ (by decide) (by decide) (by decide) (by decide) (by decide) (by decide) (by decide)).trans hK)) dX5_matter_73 ?_
              refine g_icmp_geN hC h0 K (by omega) (by omega) dX5_matter_76 (tgt := 132) (by decide) (fun c_76 => ?_) (fun c_76 => ?_)
              · have ee_ : K = h0 := by omega
                subst ee_
                refine g_iload hC dX5_matter_132 7 rfl ?_
                refine g_iret hC hr rfl ⟨_, rfl, ?_⟩ (by omega) (by omega) hE dX5_matter_134
                have h9 : matF σ K pt_ x_ = (b, z) := by
                  unfold matF mtG; rw [if_pos c_4, hcm, ez0, ey1, ey2, hib, hhow]; exact hfin
                exact ⟨by rw [h9], by rw [h9], rfl, rfl⟩
              · refine g_iload_n hC dX5_matter_79 rfl 4 rfl ?_
                refine g_iload hC dX5_matter_80 0 rfl ?_
                refine g_ishr hC dX5_matter_82 ?_
                refine g_iconst (v := 1) hC dX5_matter_83 rfl ?_
                refine g_iand hC dX5_matter_84 ?_
                refine g_if_ne hC dX5_matter_85 (tgt := 91) (by decide) (fun c_85 => ?_) (fun c_85 => ?_)
                · have hpz : ∀ h, h < K → ∃ q, q < N ∧ hkF z 0 h = nI q := fun h hh => by
                    obtain ⟨q, h1, h2⟩ := hpq h hh
                    exact ⟨q, h1, (hmf.fr _ _ (by decide) (by decide) (by decide) (by decide) (by decide) (by decide) (by decide)).trans h2⟩
                  refine g_aload_n hC dX5_matter_91 rfl 1 rfl ?_
                  refine g_iload_n hC dX5_matter_92 rfl 2 rfl ?_
                  refine g_iload hC dX5_matter_93 0 rfl ?_
                  refine g_callv0 hC (g_runV hC (met_X5_chains hz pt_ (nI h0) (hN2) ((hmf.fr _ _ (by decide) (by decide) (by decide) (by decide) (by decide) (by decide) (by decide)).trans hK) (hK2) (hpz)) kc_X5 mG_o (lw_V q3898 q3900 qs72 q89 q3901) rfl md_X5_chains dX5_matter_95 rfl ⟨by omega, by omega⟩ (by omega) (by omega) rfl (Nat.le_of_ble_eq_true rfl)) (fun G_4 n_4 u_4 hp_4 hn_4 hm_4 hu_4 => ?_)
                  obtain ⟨rfl, rfl, rfl⟩ := hp_4
                  obtain ⟨M2, hM2, hc2⟩ := chains_ok (σ := z) (pt := pt_) (wo := nI h0) hK2
                  have hcw : chW K z pt_ (nI h0) = M2 := by unfold chW; rw [hc2.h23, nI_clamp (by omega)]
                  obtain ⟨w, ew⟩ : ∃ w, chainsF K z pt_ (nI h0) = w := ⟨_, rfl⟩
                  rw [ew] at hc2 ⊢
                  have hr8 := ch_RI hc2 hM2 hK2 hN2 hpz
                  obtain ⟨F2, hr3, t3, ht3, h37⟩ := fires_ok (x := x_) hr8
                  refine g_aload_n hC dX5_matter_98 rfl 1 rfl ?_
                  refine g_iload_n hC dX5_matter_99 rfl 3 rfl ?_
                  refine g_calli0 hC (g_runV hC (met_X5_fires hz x_ (hr8)) kc_X5 mG_o (lw_V q3910 q3912 qs74 q89 q3913) rfl md_X5_fires dX5_matter_100 rfl ⟨by omega, by omega⟩ (by omega) (by omega) rfl (Nat.le_of_ble_eq_true rfl)) (fun r_5 G_5 n_5 u_5 hp_5 hn_5 hm_5 hu_5 => ?_)
                  obtain ⟨rfl, rfl, rfl, rfl⟩ := hp_5
                  refine g_iload hC dX5_matter_103 5 rfl ?_
                  refine g_icmp_ne hC dX5_matter_105 (tgt := 117) (by decide) (fun c_105 => ?_) (fun c_105 => ?_)
                  · refine g_iload hC dX5_matter_117 7 rfl ?_
                    refine g_iconst (v := 1) hC dX5_matter_119 rfl ?_
                    refine g_iload hC dX5_matter_120 0 rfl ?_
                    refine g_ishl hC dX5_matter_122 ?_
                    refine g_ior hC dX5_matter_123 ?_
                    refine g_istore (L' := [(6, .int (b ||| (1 <<< ((nI h0) &&& 31)))), (7, .int (nI h0)), (0, .ref m0), (1, .int pt_), (2, .int x_), (3, .int ib), (4, .int v), (5, .int how)]) hC dX5_matter_124 (by decide) rfl ?_
                    refine g_iincN (L' := [(7, .int (nI (h0 + 1))), (6, .int (b ||| (1 <<< ((nI h0) &&& 31)))), (0, .ref m0), (1, .int pt_), (2, .int x_), (3, .int ib), (4, .int v), (5, .int how)]) hC 1 h0 dX5_matter_126 (k := 1) rfl (by decide) (by decide) rfl ?_
                    refine g_goto (tgt := 70) hC dX5_matter_129 (by decide) ?_
                    refine V.sub [0, 2, 3, 4, 5, 6, 7, 1] rfl ?_
                    exact ih_b (h0 + 1) (b ||| (1 <<< ((nI h0) &&& 31))) ((firesF M2 w x_).2) (by omega) (hmf.go hc2 F2) (by show mtS K pt_ x_ v how ib (foldN (mtS K pt_ x_ v how ib) (0, y1) h0) h0 = _; rw [hfin]; unfold mtS; rw [if_neg c_85, hcw, ew]; exact if_neg (fun q => c_105 q.1)) (by omega)
                  · refine g_aload_n hC dX5_matter_108 rfl 1 rfl ?_
                    refine m_get (v := .int (((firesF M2 w x_).2).1 25 0)) hC 25 (by decide) q3546 rfl dX5_matter_109 ?_
                    refine g_iload hC dX5_matter_112 6 rfl ?_
                    refine g_icmp_eq hC dX5_matter_114 (tgt := 126) (by decide) (fun c_114 => ?_) (fun c_114 => ?_)
                    · refine g_iincN (L' := [(7, .int (nI (h0 + 1))), (0, .ref m0), (1, .int pt_), (2, .int x_), (3, .int ib), (4, .int v), (5, .int how), (6, .int b)]) hC 1 h0 dX5_matter_126 (k := 0) rfl (by decide) (by decide) rfl ?_
                      refine g_goto (tgt := 70) hC dX5_matter_129 (by decide) ?_
                      exact ih_b (h0 + 1) b ((firesF M2 w x_).2) (by omega) (hmf.go hc2 F2) (by show mtS K pt_ x_ v how ib (foldN (mtS K pt_ x_ v how ib) (0, y1) h0) h0 = _; rw [hfin]; unfold mtS; rw [if_neg c_85, hcw, ew]; exact if_pos ⟨c_105, c_114⟩) (by omega)
                    · refine g_iload hC dX5_matter_117 7 rfl ?_
                      refine g_iconst (v := 1) hC dX5_matter_119 rfl ?_
                      refine g_iload hC dX5_matter_120 0 rfl ?_
                      refine g_ishl hC dX5_matter_122 ?_
                      refine g_ior hC dX5_matter_123 ?_
                      refine g_istore (L' := [(6, .int (b ||| (1 <<< ((nI h0) &&& 31)))), (7, .int (nI h0)), (0, .ref m0), (1, .int pt_), (2, .int x_), (3, .int ib), (4, .int v), (5, .int how)]) hC dX5_matter_124 (by decide) rfl ?_
                      refine g_iincN (L' := [(7, .int (nI (h0 + 1))), (6, .int (b ||| (1 <<< ((nI h0) &&& 31)))), (0, .ref m0), (1, .int pt_), (2, .int x_), (3, .int ib), (4, .int v), (5, .int how)]) hC 1 h0 dX5_matter_126 (k := 1) rfl (by decide) (by decide) rfl ?_
                      refine g_goto (tgt := 70) hC dX5_matter_129 (by decide) ?_
                      refine V.sub [0, 2, 3, 4, 5, 6, 7, 1] rfl ?_
                      exact ih_b (h0 + 1) (b ||| (1 <<< ((nI h0) &&& 31))) ((firesF M2 w x_).2) (by omega) (hmf.go hc2 F2) (by show mtS K pt_ x_ v how ib (foldN (mtS K pt_ x_ v how ib) (0, y1) h0) h0 = _; rw [hfin]; unfold mtS; rw [if_neg c_85, hcw, ew]; exact if_neg (fun q => c_114 q.2)) (by omega)
                · refine g_goto (tgt := 126) hC dX5_matter_88 (by decide) ?_
                  refine g_iincN (L' := [(7, .int (nI (h0 + 1))), (0, .ref m0), (1, .int pt_), (2, .int x_), (3, .int ib), (4, .int v), (5, .int how), (6, .int b)]) hC 1 h0 dX5_matter_126 (k := 0) rfl (by decide) (by decide) rfl ?_
                  refine g_goto (tgt := 70) hC dX5_matter_129 (by decide) ?_
                  exact ih_b (h0 + 1) b z (by omega) (hmf) (by show mtS K pt_ x_ v how ib (foldN (mtS K pt_ x_ v how ib) (0, y1) h0) h0 = _; rw [hfin]; unfold mtS; rw [if_pos c_85]) (by omega)
          refine V.sub [0, 5, 6, 7, 4, 3, 2, 1] rfl ?_
          exact hl_70 (K + 1) 0 0 y1 (by omega) (hmf1) (rfl) (by omega)
        · refine g_iload_n hC dX5_matter_33 rfl 1 rfl ?_
          refine g_iconst (v := 1) hC dX5_matter_34 rfl ?_
          refine g_aload_n hC dX5_matter_35 rfl 2 rfl ?_
          refine m_get (v := .ref (m0 + 11)) hC 24 (by decide) q3545 rfl dX5_matter_36 ?_
          refine g_iload hC dX5_matter_39 0 rfl ?_
          refine m_ald (v := z0.1 24 i) hC 24 i rfl (show i < 24 from by omega) (by omega) rfl dX5_matter_41 ?_
          refine g_ishl hC dX5_matter_42 ?_
          refine g_ior hC dX5_matter_43 ?_
          refine g_istore_n (L' := [(3, .int ((foldN (mtB z0) 0 i) ||| (1 <<< ((z0.1 24 i) &&& 31)))), (4, .int (nI i)), (0, .ref m0), (1, .int pt_), (2, .int x_)]) hC dX5_matter_44 rfl (by decide) rfl ?_
          refine g_iincN (L' := [(4, .int (nI (i + 1))), (3, .int ((foldN (mtB z0) 0 i) ||| (1 <<< ((z0.1 24 i) &&& 31)))), (0, .ref m0), (1, .int pt_), (2, .int x_)]) hC 1 i dX5_matter_45 (k := 1) rfl (by decide) (by decide) rfl ?_
          refine g_goto (tgt := 24) hC dX5_matter_48 (by decide) ?_
          have h_ := ih_a (i + 1) (by omega) (by omega)
          have e_0 : foldN (mtB z0) 0 (i + 1) = (foldN (mtB z0) 0 i) ||| (1 <<< ((z0.1 24 i) &&& 31)) := by first | rfl | (simp [foldN, mtB, c_4, c_30]; done)
          rw [e_0] at h_
          exact h_
    exact hl_24 (M - 0 + 1) 0 (by omega) (by omega)
  · refine g_aload_n hC dX5_matter_7 rfl 0 rfl ?_
    refine g_iconst (v := (-1)) hC dX5_matter_8 rfl ?_
    refine g_calli0 hC (g_runV hC (met_X5_no hz 1 (by omega)) kc_X5 mG_o (lw_V q3640 q3642 qs37 q89 q3643) rfl md_X5_no dX5_matter_9 rfl ⟨by omega, by omega⟩ (by omega) (by omega) rfl (Nat.le_of_ble_eq_true rfl)) (fun r_6 G_6 n_6 u_6 hp_6 hn_6 hm_6 hu_6 => ?_)
    obtain ⟨rfl, rfl, rfl, rfl⟩ := hp_6
    refine g_iret hC hr rfl ⟨_, rfl, ?_⟩ (by omega) (by omega) hE dX5_matter_12
    have h9 : matF σ K pt_ x_ = (-1, mNo σ 1) := by simp [matF, c_4]
    exact ⟨by rw [h9]; rfl, by rw [h9], rfl, rfl⟩
theorem wi_rg {x : Int32} {a b : Nat} (ha : a < 2 ^ 31) (hb : b < 2 ^ 31) (h : wi x (nI a) (nI b) = true) : ∃ j : Nat, a ≤ j ∧ j ≤ b ∧ x = nI j := by
  obtain ⟨h1, h2⟩ := wi_t.mp h
  obtain ⟨j, h3, rfl⟩ := wi_nI hb (wi_t.mpr ⟨Int32.le_trans (nI_pos' ha) h1, h2⟩)
  exact ⟨j, (nI_leI ha (by omega)).mp h1, h3, rfl⟩
theorem stI_2 {N : Nat} : ∀ (f : Nat) (z : MS) (c : Nat), (stI N f z c).2.2 = z.2 := by
  intro f
  induction f with
  | zero => intro z c; rfl
  | succ f ih =>
    intro z c
    unfold stI
    split
    · rfl
    · exact (ih _ _).trans lgG_2
def dyD (z : MS) : MS := mu (mu z 3 0 (dsF (z.1 3 0))) 3 0 (dsF ((mu z 3 0 (dsF (z.1 3 0))).1 3 0))
def dyA (N : Nat) (z : MS) (p d : Nat) : MS := if d = 0 ∧ ¬ tl z 0 p = 1 then (beginsF N z p).2 else z
def dyB (N : Nat) (z : MS) (p d : Nat) : MS := if d = 1 ∧ tl z 0 p = 1 then (stopsF N z p).2 else z
def dyC (z : MS) (p d : Nat) : MS := if d = 2 ∧ tl z 0 p = 2 then mu z 1 p 0 else z
def dyP (N : Nat) (z : MS) : Nat := dT (dsF (z.1 3 0)) % N
def dyK (z : MS) : Nat := dT (dsF ((mu z 3 0 (dsF (z.1 3 0))).1 3 0)) % 3
def dyS (N : Nat) (z : MS) (_ : Nat) : MS := dyC (dyB N (dyA N (dyD z) (dyP N z) (dyK z)) (dyP N z) (dyK z)) (dyP N z) (dyK z)
def daysF (σ : MS) (N : Nat) (n : Int32) : Int32 × MS :=
  if N = 0 then (-5, mNo σ 5) else if wi n 1 40 = true then (nI (cntF (foldN (dyS N) σ n.toNatClampNeg) 1 N), foldN (dyS N) σ n.toNatClampNeg) else (-6, mNo σ 6)
abbrev DI (N g : Nat) (σ z : MS) : Prop :=
  (∀ k i, k ≠ 1 → k ≠ 2 → k ≠ 3 → k ≠ 14 → k ≠ 15 → k ≠ 16 → k ≠ 17 → k ≠ 18 → k ≠ 20 → k ≠ 21 → k ≠ 22 → z.1 k i = σ.1 k i) ∧
  (z.2 = σ.2) ∧
  (∀ w q, w ≠ 0 → w ≠ 5 → w ≠ 7 → q < 12 → tl z w q = tl σ w q) ∧
  (∃ g', z.1 20 0 = nI g' ∧ g' ≤ g)
theorem DI.fr {N g : Nat} {σ z : MS} (h : DI N g σ z) : ∀ k i, k ≠ 1 → k ≠ 2 → k ≠ 3 → k ≠ 14 → k ≠ 15 → k ≠ 16 → k ≠ 17 → k ≠ 18 → k ≠ 20 → k ≠ 21 → k ≠ 22 → z.1 k i = σ.1 k i := h.1
theorem DI.f2 {N g : Nat} {σ z : MS} (h : DI N g σ z) : z.2 = σ.2 := h.2.1
theorem DI.tw {N g : Nat} {σ z : MS} (h : DI N g σ z) : ∀ w q, w ≠ 0 → w ≠ 5 → w ≠ 7 → q < 12 → tl z w q = tl σ w q := h.2.2.1
theorem DI.hg {N g : Nat} {σ z : MS} (h : DI N g σ z) : ∃ g', z.1 20 0 = nI g' ∧ g' ≤ g := h.2.2.2
theorem DI.D {N g : Nat} {σ z : MS} (h : DI N g σ z) : DI N g σ (dyD z) :=
  ⟨fun k i h1 h2 h3 h4 h5 h6 h7 h8 h9 h10 h11 => (mu_nk h3).trans ((mu_nk h3).trans (h.fr k i h1 h2 h3 h4 h5 h6 h7 h8 h9 h10 h11)), h.f2, fun w q h1 h2 h3 h4 => ((mu_nk (by decide)).trans (mu_nk (by decide))).trans (h.tw w q h1 h2 h3 h4), by
    obtain ⟨g', h1, h2⟩ := h.hg
    exact ⟨g', ((mu_nk (by decide)).trans (mu_nk (by decide))).trans h1, h2⟩⟩
theorem DI.C {N g p d : Nat} {σ z : MS} (h : DI N g σ z) (hp : p < 12) : DI N g σ (dyC z p d) := by
  unfold dyC
  split
  · refine ⟨fun k i h1 h2 h3 h4 h5 h6 h7 h8 h9 h10 h11 => (mu_nk h1).trans (h.fr k i h1 h2 h3 h4 h5 h6 h7 h8 h9 h10 h11), h.f2, fun w q h1 h2 h3 h4 => (tl_mu (by omega)).trans (h.tw w q h1 h2 h3 h4), ?_⟩
    obtain ⟨g', h1, h2⟩ := h.hg
    exact ⟨g', (mu_nk (by decide)).trans h1, h2⟩
  · exact h
theorem DI.nm {N g : Nat} {σ z : MS} (h : DI N g σ z) (hN2 : N ≤ 12) (hk : ∀ q, q < N → ∃ w, 0 < w ∧ w < 531441 ∧ tl σ 6 q = nI w) : ∀ q, q < N → ∃ w, 0 < w ∧ w < 531441 ∧ tl z 6 q = nI w := fun q hq => by
  obtain ⟨w, a, b, e⟩ := hk q hq
  exact ⟨w, a, b, (h.tw 6 q (by decide) (by decide) (by decide) (by omega)).trans e⟩
theorem DI.N0 {N g : Nat} {σ z : MS} (h : DI N g σ z) (hN : σ.1 0 0 = nI N) : z.1 0 0 = nI N := (h.fr 0 0 (by decide) (by decide) (by decide) (by decide) (by decide) (by decide) (by decide) (by decide) (by decide) (by decide) (by decide)).trans hN
theorem DI.A {N g p d : Nat} {σ z : MS} (h : DI N g σ z) (hN : σ.1 0 0 = nI N) (hN2 : N ≤ 12) (hk : ∀ q, q < N → ∃ w, 0 < w ∧ w < 531441 ∧ tl σ 6 q = nI w) (hg : g < 1900000000) (hp : p < N) : DI N (g + 25) σ (dyA N z p d) := by
  obtain ⟨g', h1, h2⟩ := h.hg
  unfold dyA
  split
  · obtain ⟨st, f, g9, R, hf9, hg9, _⟩ := begins_ok (h.N0 hN) hN2 (h.nm hN2 hk) h1 (by omega) hp
    refine ⟨fun k i h1 h2 h3 h4 h5 h6 h7 h8 h9 h10 h11 => (R.fr k i h1 h2 h4 h5 h7 h8 h9 h10).trans ((bg0_ne h6 h7 h4).trans (h.fr k i h1 h2 h3 h4 h5 h6 h7 h8 h9 h10 h11)), R.f2.trans h.f2, fun w q h1 h2 h3 h4 => (R.tw w q h1 h2 h3 h4).trans ((bg0_ne (by decide) (by decide) (by decide)).trans (h.tw w q h1 h2 h3 h4)), g9, R.h20, by omega⟩
  · exact ⟨h.fr, h.f2, h.tw, g', h1, by omega⟩
theorem DI.B {N g p d : Nat} {σ z : MS} (h : DI N g σ z) (hN2 : N ≤ 12) (hg : g < 1900000000) : DI N (g + 13) σ (dyB N z p d) := by
  obtain ⟨g', h1, h2⟩ := h.hg
  unfold dyB
  split
  · obtain ⟨g9, h8, h9, h10⟩ := stops_log (N := N) (p := p) h1 (by omega)
    refine ⟨fun k i h1 h2 h3 h4 h5 h6 h7 h8 h9 h10 h11 => (stops_ne h11 h1 h9 h10).trans (h.fr k i h1 h2 h3 h4 h5 h6 h7 h8 h9 h10 h11), (stI_2 _ _ _).trans (waves_2.trans h.f2), fun w q h1 h2 h3 h4 => (stops_tw hN2 (by omega)).trans (h.tw w q h1 h2 h3 h4), g9, h8, by omega⟩
  · exact ⟨h.fr, h.f2, h.tw, g', h1, by omega⟩
theorem tab_out_0_9 {x : Int32} (h0 : ¬ x = 0) (h1 : ¬ x = 1) (h2 : ¬ x = 2) (h3 : ¬ x = 3) (h4 : ¬ x = 4) (h5 : ¬ x = 5) (h6 : ¬ x = 6) (h7 : ¬ x = 7) (h8 : ¬ x = 8) (h9 : ¬ x = 9) : x.toInt < 0 ∨ 9 < x.toInt := by
  refine Classical.not_not.mp (fun q => ?_)
  have hx : ∀ k : Int32, ¬ x = k → x.toInt ≠ k.toInt := fun k hk e => hk (Int32.toInt_inj.mp e)
  have a0 := hx 0 h0; have a1 := hx 1 h1; have a2 := hx 2 h2; have a3 := hx 3 h3; have a4 := hx 4 h4
  have a5 := hx 5 h5; have a6 := hx 6 h6; have a7 := hx 7 h7; have a8 := hx 8 h8; have a9 := hx 9 h9
  rw [show (0 : Int32).toInt = 0 from rfl] at a0
  rw [show (1 : Int32).toInt = 1 from rfl] at a1
  rw [show (2 : Int32).toInt = 2 from rfl] at a2
  rw [show (3 : Int32).toInt = 3 from rfl] at a3
  rw [show (4 : Int32).toInt = 4 from rfl] at a4
  rw [show (5 : Int32).toInt = 5 from rfl] at a5
  rw [show (6 : Int32).toInt = 6 from rfl] at a6
  rw [show (7 : Int32).toInt = 7 from rfl] at a7
  rw [show (8 : Int32).toInt = 8 from rfl] at a8
  rw [show (9 : Int32).toInt = 9 from rfl] at a9
  omega
def statusF (σ : MS) (N : Nat) (x : Int32) : Int32 :=
  if wi x 11 17 = true then σ.1 33 (x.toNatClampNeg - 10) else if x = 0 then σ.1 0 0 else if x = 1 then nI (cntF σ 1 N) else if x = 2 then nI (cntF σ 2 N) else if x = 3 then nI (cntF σ 3 N) else if x = 4 then σ.1 4 0 else if x = 5 then σ.1 2 0 else if x = 6 then σ.1 3 0 else if x = 7 then σ.1 12 0 else if x = 8 then σ.1 30 0 else if x = 9 then σ.1 20 0 else -1
set_option maxHeartbeats 1000000 in
theorem met_X5_status {Y : YT} {l : Launch} {m0 n u : Nat} {σ : MS} {B : AH} (hz : yz Y ≤ m0) (x_ : Int32) {N : Nat} (hN : σ.1 0 0 = nI N) (hN2 : N ≤ 12) : GM Y l yX5_status (ws_ yX5_status cX5_status 2 (some FieldType.int)) 2 44 [.ref m0, .int x_] (mG Y m0 σ B) n u 0 0 (pI (fun r G' n' u' => statusF σ N x_ = r ∧ mG Y m0 σ B = G' ∧ n = n' ∧ u = u')) noX := by
  refine GM.intro (own := RX5) rfl (by decide +kernel) (Nat.le_of_ble_eq_true rfl) ?_
  intro p e s m args below meth c R Q hC hr hnm hF hL hE
  have hE1 := hE.1
  have hE2 := hE.2.1
  show V Y p l e R s m args below meth c 2 n u (mG Y m0 σ B) n u Q 0 [(0, .ref m0), (1, .int x_)] []
  refine g_iload_n hC dX5_status_0 rfl 1 rfl ?_
  refine g_bipush (v := 11) hC dX5_status_1 (by decide) ?_
  refine g_bipush (v := 17) hC dX5_status_3 (by decide) ?_
  refine g_calli0 hC (g_runS hC (met_X5_within hz x_ 11 17 ) (lw_S q3637 q3638 q89 q3639) md_X5_within dX5_status_5 rfl ⟨by omega, by omega⟩ (by omega) (by omega) rfl (Nat.le_of_ble_eq_true rfl)) (fun r_1 G_1 n_1 u_1 hp_1 hn_1 hm_1 hu_1 => ?_)
  obtain ⟨rfl, rfl, rfl, rfl⟩ := hp_1
  refine g_if_eqB hC (wi x_ 11 17) dX5_status_8 (tgt := 21) (by decide) (fun c_8 => ?_) (fun c_8 => ?_)
  · refine g_iload_n hC dX5_status_21 rfl 1 rfl ?_
    by_cases s_22_0 : x_ = 0
    · refine g_tableIn (tgt := 76) hC dX5_status_22 (by rw [s_22_0]; decide) (by rw [s_22_0]; decide) (by rw [s_22_0]; rfl) (by decide) ?_
      refine g_aload_n hC dX5_status_76 rfl 0 rfl ?_
      refine m_get (v := .int (σ.1 0 0)) hC 0 (by decide) q3521 rfl dX5_status_77 ?_
      refine g_iret hC hr rfl ⟨_, rfl, ?_⟩ (by omega) (by omega) hE dX5_status_80
      exact ⟨by unfold statusF; rw [if_neg (by rw [c_8]; decide), if_pos s_22_0], rfl, rfl, rfl⟩
    by_cases s_22_1 : x_ = 1
    · refine g_tableIn (tgt := 81) hC dX5_status_22 (by rw [s_22_1]; decide) (by rw [s_22_1]; decide) (by rw [s_22_1]; rfl) (by decide) ?_
      refine g_aload_n hC dX5_status_81 rfl 0 rfl ?_
      refine g_iconst (v := 1) hC dX5_status_82 rfl ?_
      refine g_calli0 hC (g_runV hC (met_X5_inState hz 1 (hN) (hN2)) kc_X5 mG_o (lw_V q3970 q3972 qs79 q89 q3973) rfl md_X5_inState dX5_status_83 rfl ⟨by omega, by omega⟩ (by omega) (by omega) rfl (Nat.le_of_ble_eq_true rfl)) (fun r_2 G_2 n_2 u_2 hp_2 hn_2 hm_2 hu_2 => ?_)
      obtain ⟨rfl, rfl, rfl, rfl⟩ := hp_2
      refine g_iret hC hr rfl ⟨_, rfl, ?_⟩ (by omega) (by omega) hE dX5_status_86
      exact ⟨by unfold statusF; rw [if_neg (by rw [c_8]; decide), if_neg s_22_0, if_pos s_22_1], rfl, rfl, rfl⟩
    by_cases s_22_2 : x_ = 2
    · refine g_tableIn (tgt := 87) hC dX5_status_22 (by rw [s_22_2]; decide) (by rw [s_22_2]; decide) (by rw [s_22_2]; rfl) (by decide) ?_
      refine g_aload_n hC dX5_status_87 rfl 0 rfl ?_
      refine g_iconst (v := 2) hC dX5_status_88 rfl ?_
      refine g_calli0 hC (g_runV hC (met_X5_inState hz 2 (hN) (hN2)) kc_X5 mG_o (lw_V q3970 q3972 qs79 q89 q3973) rfl md_X5_inState dX5_status_89 rfl ⟨by omega, by omega⟩ (by omega) (by omega) rfl (Nat.le_of_ble_eq_true rfl)) (fun r_3 G_3 n_3 u_3 hp_3 hn_3 hm_3 hu_3 => ?_)
      obtain ⟨rfl, rfl, rfl, rfl⟩ := hp_3
      refine g_iret hC hr rfl ⟨_, rfl, ?_⟩ (by omega) (by omega) hE dX5_status_92
      exact ⟨by unfold statusF; rw [if_neg (by rw [c_8]; decide), if_neg s_22_0, if_neg s_22_1, if_pos s_22_2], rfl, rfl, rfl⟩
    by_cases s_22_3 : x_ = 3
    · refine g_tableIn (tgt := 93) hC dX5_status_22 (by rw [s_22_3]; decide) (by rw [s_22_3]; decide) (by rw [s_22_3]; rfl) (by decide) ?_
      refine g_aload_n hC dX5_status_93 rfl 0 rfl ?_
      refine g_iconst (v := 3) hC dX5_status_94 rfl ?_
      refine g_calli0 hC (g_runV hC (met_X5_inState hz 3 (hN) (hN2)) kc_X5 mG_o (lw_V q3970 q3972 qs79 q89 q3973) rfl md_X5_inState dX5_status_95 rfl ⟨by omega, by omega⟩ (by omega) (by omega) rfl (Nat.le_of_ble_eq_true rfl)) (fun r_4 G_4 n_4 u_4 hp_4 hn_4 hm_4 hu_4 => ?_)
      obtain ⟨rfl, rfl, rfl, rfl⟩ := hp_4
      refine g_iret hC hr rfl ⟨_, rfl, ?_⟩ (by omega) (by omega) hE dX5_status_98
      exact ⟨by unfold statusF; rw [if_neg (by rw [c_8]; decide), if_neg s_22_0, if_neg s_22_1, if_neg s_22_2, if_pos s_22_3], rfl, rfl, rfl⟩
    by_cases s_22_4 : x_ = 4
    · refine g_tableIn (tgt := 99) hC dX5_status_22 (by rw [s_22_4]; decide) (by rw [s_22_4]; decide) (by rw [s_22_4]; rfl) (by decide) ?_
      refine g_aload_n hC dX5_status_99 rfl 0 rfl ?_
      refine m_get (v := .int (σ.1 4 0)) hC 4 (by decide) q3525 rfl dX5_status_100 ?_
      refine g_iret hC hr rfl ⟨_, rfl, ?_⟩ (by omega) (by omega) hE dX5_status_103
      exact ⟨by unfold statusF; rw [if_neg (by rw [c_8]; decide), if_neg s_22_0, if_neg s_22_1, if_neg s_22_2, if_neg s_22_3, if_pos s_22_4], rfl, rfl, rfl⟩
    by_cases s_22_5 : x_ = 5
    · refine g_tableIn (tgt := 104) hC dX5_status_22 (by rw [s_22_5]; decide) (by rw [s_22_5]; decide) (by rw [s_22_5]; rfl) (by decide) ?_
      refine g_aload_n hC dX5_status_104 rfl 0 rfl ?_
      refine m_get (v := .int (σ.1 2 0)) hC 2 (by decide) q3523 rfl dX5_status_105 ?_
      refine g_iret hC hr rfl ⟨_, rfl, ?_⟩ (by omega) (by omega) hE dX5_status_108
      exact ⟨by unfold statusF; rw [if_neg (by rw [c_8]; decide), if_neg s_22_0, if_neg s_22_1, if_neg s_22_2, if_neg s_22_3, if_neg s_22_4, if_pos s_22_5], rfl, rfl, rfl⟩
    by_cases s_22_6 : x_ = 6
    · refine g_tableIn (tgt := 109) hC dX5_status_22 (by rw [s_22_6]; decide) (by rw [s_22_6]; decide) (by rw [s_22_6]; rfl) (by decide) ?_
      refine g_aload_n hC dX5_status_109 rfl 0 rfl ?_
      refine m_get (v := .int (σ.1 3 0)) hC 3 (by decide) q3524 rfl dX5_status_110 ?_
      refine g_iret hC hr rfl ⟨_, rfl, ?_⟩ (by omega) (by omega) hE dX5_status_113
      exact ⟨by unfold statusF; rw [if_neg (by rw [c_8]; decide), if_neg s_22_0, if_neg s_22_1, if_neg s_22_2, if_neg s_22_3, if_neg s_22_4, if_neg s_22_5, if_pos s_22_6], rfl, rfl, rfl⟩
    by_cases s_22_7 : x_ = 7
    · refine g_tableIn (tgt := 114) hC dX5_status_22 (by rw [s_22_7]; decide) (by rw [s_22_7]; decide) (by rw [s_22_7]; rfl) (by decide) ?_
      refine g_aload_n hC dX5_status_114 rfl 0 rfl ?_
      refine m_get (v := .int (σ.1 12 0)) hC 12 (by decide) q3533 rfl dX5_status_115 ?_
      refine g_iret hC hr rfl ⟨_, rfl, ?_⟩ (by omega) (by omega) hE dX5_status_118
      exact ⟨by unfold statusF; rw [if_neg (by rw [c_8]; decide), if_neg s_22_0, if_neg s_22_1, if_neg s_22_2, if_neg s_22_3, if_neg s_22_4, if_neg s_22_5, if_neg s_22_6, if_pos s_22_7], rfl, rfl, rfl⟩
    by_cases s_22_8 : x_ = 8
    · refine g_tableIn (tgt := 119) hC dX5_status_22 (by rw [s_22_8]; decide) (by rw [s_22_8]; decide) (by rw [s_22_8]; rfl) (by decide) ?_
      refine g_aload_n hC dX5_status_119 rfl 0 rfl ?_
      refine m_get (v := .int (σ.1 30 0)) hC 30 (by decide) q3551 rfl dX5_status_120 ?_
      refine g_iret hC hr rfl ⟨_, rfl, ?_⟩ (by omega) (by omega) hE dX5_status_123
      exact ⟨by unfold statusF; rw [if_neg (by rw [c_8]; decide), if_neg s_22_0, if_neg s_22_1, if_neg s_22_2, if_neg s_22_3, if_neg s_22_4, if_neg s_22_5, if_neg s_22_6, if_neg s_22_7, if_pos s_22_8], rfl, rfl, rfl⟩
    by_cases s_22_9 : x_ = 9
    · refine g_tableIn (tgt := 124) hC dX5_status_22 (by rw [s_22_9]; decide) (by rw [s_22_9]; decide) (by rw [s_22_9]; rfl) (by decide) ?_
      refine g_aload_n hC dX5_status_124 rfl 0 rfl ?_
      refine m_get (v := .int (σ.1 20 0)) hC 20 (by decide) q3541 rfl dX5_status_125 ?_
      refine g_iret hC hr rfl ⟨_, rfl, ?_⟩ (by omega) (by omega) hE dX5_status_128
      exact ⟨by unfold statusF; rw [if_neg (by rw [c_8]; decide), if_neg s_22_0, if_neg s_22_1, if_neg s_22_2, if_neg s_22_3, if_neg s_22_4, if_neg s_22_5, if_neg s_22_6, if_neg s_22_7, if_neg s_22_8, if_pos s_22_9], rfl, rfl, rfl⟩
    refine g_tableOut (tgt := 129) hC dX5_status_22 (tab_out_0_9 s_22_0 s_22_1 s_22_2 s_22_3 s_22_4 s_22_5 s_22_6 s_22_7 s_22_8 s_22_9) (by decide) ?_
    refine g_iconst (v := (-1)) hC dX5_status_129 rfl ?_
    refine g_iret hC hr rfl ⟨_, rfl, ?_⟩ (by omega) (by omega) hE dX5_status_130
    exact ⟨by unfold statusF; rw [if_neg (by rw [c_8]; decide), if_neg s_22_0, if_neg s_22_1, if_neg s_22_2, if_neg s_22_3, if_neg s_22_4, if_neg s_22_5, if_neg s_22_6, if_neg s_22_7, if_neg s_22_8, if_neg s_22_9], rfl, rfl, rfl⟩
  · have c8 : wi x_ (nI 11) (nI 17) = true := c_8
    obtain ⟨j, hj1, hj2, rfl⟩ := wi_rg (by decide) (by decide) c8
    have cl_j : (nI j).toNatClampNeg = j := nI_clamp (by omega)
    refine g_aload_n hC dX5_status_11 rfl 0 rfl ?_
    refine m_get (v := .ref (m0 + 15)) hC 33 (by decide) q3554 rfl dX5_status_12 ?_
    refine g_iload_n hC dX5_status_15 rfl 1 rfl ?_
    refine g_bipush (v := 10) hC dX5_status_16 (by decide) ?_
    refine g_isubN hC j 10 (by omega) dX5_status_18 ?_
    refine m_ald (v := σ.1 33 (j - 10)) hC 33 (j - 10) rfl (show j - 10 < 8 from by omega) (by omega) rfl dX5_status_19 ?_
    refine g_iret hC hr rfl ⟨_, rfl, ?_⟩ (by omega) (by omega) hE dX5_status_20
    exact ⟨by unfold statusF; rw [if_pos c_8, cl_j], rfl, rfl, rfl⟩
