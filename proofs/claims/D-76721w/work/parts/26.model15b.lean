set_option maxRecDepth 100000
/-! THE MODEL, 15b: days -/
theorem foldN_sc {α : Type} {f : α → Nat → α} {a : α} {n : Nat} : foldN f a (n + 1) = f (foldN f a n) n := rfl
theorem DI.up {N g g2 : Nat} {σ z : MS} (h : DI N g σ z) (hg : g ≤ g2) : DI N g2 σ z :=
  ⟨h.fr, h.f2, h.tw, by obtain ⟨a, h1, h2⟩ := h.hg; exact ⟨a, h1, Nat.le_trans h2 hg⟩⟩
set_option maxHeartbeats 4000000 in
theorem met_X5_days {Y : YT} {l : Launch} {m0 n u : Nat} {σ : MS} {B : AH} (hz : yz Y ≤ m0) (n_ : Int32) {N g : Nat} (hN : σ.1 0 0 = nI N) (hN2 : N ≤ 12) (hk : ∀ q, q < N → ∃ w, 0 < w ∧ w < 531441 ∧ tl σ 6 q = nI w) (h20 : σ.1 20 0 = nI g) (hg : g < 1000000000) : GM Y l yX5_days (ws_ yX5_days cX5_days 5 (some FieldType.int)) 74 2444 [.ref m0, .int n_] (mG Y m0 σ B) n u 0 0 (pI (fun r G' n' u' => (daysF σ N n_).1 = r ∧ mG Y m0 ((daysF σ N n_).2) B = G' ∧ n = n' ∧ u = u')) noX := by
  refine GM.intro (own := RX5) rfl (by decide +kernel) (Nat.le_of_ble_eq_true rfl) ?_
  intro p e s m args below meth c R Q hC hr hnm hF hL hE
  have hE1 := hE.1
  have hE2 := hE.2.1
  show V Y p l e R s m args below meth c 5 n u (mG Y m0 σ B) n u Q 0 [(0, .ref m0), (1, .int n_)] []
  refine g_aload_n hC dX5_days_0 rfl 0 rfl ?_
  refine m_get (v := .int (nI N)) hC 0 (by decide) q3521 (congrArg (fun z => some (Value.int z)) hN) dX5_days_1 ?_
  refine g_if_neN hC N (by omega) dX5_days_4 (tgt := 14) (by decide) (fun c_4 => ?_) (fun c_4 => ?_)
  · refine g_iload_n hC dX5_days_14 rfl 1 rfl ?_
    refine g_iconst (v := 1) hC dX5_days_15 rfl ?_
    refine g_bipush (v := 40) hC dX5_days_16 (by decide) ?_
    refine g_calli0 hC (g_runS hC (met_X5_within hz n_ 1 40 ) (lw_S q3637 q3638 q89 q3639) md_X5_within dX5_days_18 rfl ⟨by omega, by omega⟩ (by omega) (by omega) rfl (Nat.le_of_ble_eq_true rfl)) (fun r_1 G_1 n_1 u_1 hp_1 hn_1 hm_1 hu_1 => ?_)
    obtain ⟨rfl, rfl, rfl, rfl⟩ := hp_1
    refine g_if_neB hC (wi n_ 1 40) dX5_days_21 (tgt := 31) (by decide) (fun c_21 => ?_) (fun c_21 => ?_)
    · have c21 : wi n_ (nI 1) (nI 40) = true := c_21
      obtain ⟨b, hb1, hb2, rfl⟩ := wi_rg (by decide) (by decide) c21
      have cl_b : (nI b).toNatClampNeg = b := nI_clamp (by omega)
      refine g_iconst (v := 0) hC dX5_days_31 rfl ?_
      refine g_istore_n (L' := [(2, .int 0), (0, .ref m0), (1, .int (nI b))]) hC dX5_days_32 rfl (by decide) rfl ?_
      have hl_33 : ∀ (kf_ : Nat) (i : Nat) (z : MS), (i ≤ b) → (DI N (g + 38 * i) σ z) → (foldN (dyS N) σ i = z) → b - i < kf_ → V Y p l e R s m args below meth c 5 n u (mG Y m0 z B) n u Q 33 [(2, .int (nI i)), (0, .ref m0), (1, .int (nI b))] [] := by
        intro kf_
        induction kf_ with
        | zero => intro i z hi hd hfin hk_; exact absurd hk_ (Nat.not_lt_zero _)
        | succ kf_ ih_ =>
          intro i z hi hd hfin hk_
          refine g_iload_n hC dX5_days_33 rfl 0 rfl ?_
          refine g_iload_n hC dX5_days_34 rfl 2 rfl ?_
          refine g_icmp_geN hC i b (by omega) (by omega) dX5_days_35 (tgt := 123) (by decide) (fun c_35 => ?_) (fun c_35 => ?_)
          · have ee_ : b = i := by omega
            subst ee_
            refine g_aload_n hC dX5_days_123 rfl 1 rfl ?_
            refine g_iconst (v := 1) hC dX5_days_124 rfl ?_
            refine g_calli0 hC (g_runV hC (met_X5_inState hz 1 (hd.N0 hN) (hN2)) kc_X5 mG_o (lw_V q3970 q3972 qs79 q89 q3973) rfl md_X5_inState dX5_days_125 rfl ⟨by omega, by omega⟩ (by omega) (by omega) rfl (Nat.le_of_ble_eq_true rfl)) (fun r_2 G_2 n_2 u_2 hp_2 hn_2 hm_2 hu_2 => ?_)
            obtain ⟨rfl, rfl, rfl, rfl⟩ := hp_2
            refine g_iret hC hr rfl ⟨_, rfl, ?_⟩ (by omega) (by omega) hE dX5_days_128
            have h9 : daysF σ N (nI b) = (nI (cntF z 1 N), z) := by unfold daysF; rw [if_neg c_4, if_pos c_21, cl_b, hfin]
            exact ⟨by rw [h9], by rw [h9], rfl, rfl⟩
          · refine g_aload_n hC dX5_days_38 rfl 1 rfl ?_
            refine g_aload_n hC dX5_days_39 rfl 1 rfl ?_
            refine m_get (v := .int (nI N)) hC 0 (by decide) q3521 (congrArg (fun z => some (Value.int z)) (hd.N0 hN)) dX5_days_40 ?_
            refine g_calli0 hC (g_runV hC (met_X5_draw hz N (by omega) (by omega)) kc_X5 mG_o (lw_V q3965 q3967 qs78 q89 q3968) rfl md_X5_draw dX5_days_43 rfl ⟨by omega, by omega⟩ (by omega) (by omega) rfl (Nat.le_of_ble_eq_true rfl)) (fun r_3 G_3 n_3 u_3 hp_3 hn_3 hm_3 hu_3 => ?_)
            obtain ⟨rfl, rfl, rfl, rfl⟩ := hp_3
            refine g_istore_n (L' := [(3, .int (nI (dT (dsF (z.1 3 0)) % N))), (2, .int (nI i)), (0, .ref m0), (1, .int (nI b))]) hC dX5_days_46 rfl (by decide) rfl ?_
            refine g_aload_n hC dX5_days_47 rfl 2 rfl ?_
            refine g_iconst (v := 3) hC dX5_days_48 rfl ?_
            refine g_calli0 hC (g_runV hC (met_X5_draw hz 3 (by omega) (by omega)) kc_X5 mG_o (lw_V q3965 q3967 qs78 q89 q3968) rfl md_X5_draw dX5_days_49 rfl ⟨by omega, by omega⟩ (by omega) (by omega) rfl (Nat.le_of_ble_eq_true rfl)) (fun r_4 G_4 n_4 u_4 hp_4 hn_4 hm_4 hu_4 => ?_)
            obtain ⟨rfl, rfl, rfl, rfl⟩ := hp_4
            obtain ⟨q, hq⟩ : ∃ q, dyP N z = q := ⟨_, rfl⟩
            obtain ⟨d, hdd⟩ : ∃ d, dyK z = d := ⟨_, rfl⟩
            obtain ⟨z2, hz2⟩ : ∃ y, dyD z = y := ⟨_, rfl⟩
            have hd2 := hd.D
            rw [hz2] at hd2
            have hqN : q < N := by rw [← hq]; exact Nat.mod_lt _ (by omega)
            have hd3 : d < 3 := by rw [← hdd]; exact Nat.mod_lt _ (by decide)
            have hA := hd2.A (d := d) hN hN2 hk (by omega) hqN
            obtain ⟨g2, hg2, hg2b⟩ := hd2.hg
            have hS : dyS N z i = dyC (dyB N (dyA N z2 q d) q d) q d := by unfold dyS; rw [hz2, hq, hdd]
            show V Y p l e R s m args below meth c 5 n u (mG Y m0 (dyD z) B) n u Q 52 ((3, .int (nI (dyP N z))) :: _) (.int (nI (dyK z)) :: _)
            rw [hz2, hq, hdd]
            refine g_istore (L' := [(4, .int (nI d)), (3, .int (nI q)), (2, .int (nI i)), (0, .ref m0), (1, .int (nI b))]) hC dX5_days_52 (by decide) rfl ?_
            have hj_117 : ∀ (z5 : MS), (dyS N z i = z5) → (DI N (g + 38 * i + 25 + 13) σ z5) → V Y p l e R s m args below meth c 5 n u (mG Y m0 z5 B) n u Q 117 [(4, .int (nI d)), (3, .int (nI q)), (2, .int (nI i)), (0, .ref m0), (1, .int (nI b))] [] := by
              intro z5 h5 hd5
              refine g_iincN (L' := [(2, .int (nI (i + 1))), (4, .int (nI d)), (3, .int (nI q)), (0, .ref m0), (1, .int (nI b))]) hC 1 i dX5_days_117 (k := 2) rfl (by decide) (by decide) rfl ?_
              refine g_goto (tgt := 33) hC dX5_days_120 (by decide) ?_
              refine V.sub [0, 3, 4] rfl ?_
              exact ih_ (i + 1) z5 (by omega) (hd5.up (by omega)) (by rw [foldN_sc, hfin]; exact h5) (by omega)
            have hj_95 : ∀ (z4 : MS), (dyC z4 q d = dyS N z i) → (DI N (g + 38 * i + 25 + 13) σ z4) → V Y p l e R s m args below meth c 5 n u (mG Y m0 z4 B) n u Q 95 [(4, .int (nI d)), (3, .int (nI q)), (2, .int (nI i)), (0, .ref m0), (1, .int (nI b))] [] := by
              intro z4 h4 hd4
              have hC4 := hd4.C (p := q) (d := d) (by omega)
              refine g_iload hC dX5_days_95 0 rfl ?_
              refine g_iconst (v := 2) hC dX5_days_97 rfl ?_
              refine g_icmp_neN hC d 2 (by omega) (by omega) dX5_days_98 (tgt := 117) (by decide) (fun c_98 => ?_) (fun c_98 => ?_)
              · exact hj_117 z4 (by rw [← h4, show dyC z4 q d = z4 from if_neg (fun y => c_98 y.1)]) (Eq.mp (congrArg (fun y => DI N (g + 38 * i + 25 + 13) σ y) (show dyC z4 q d = z4 from if_neg (fun y => c_98 y.1))) hC4)
              · refine g_aload_n hC dX5_days_101 rfl 3 rfl ?_
                refine g_iload_n hC dX5_days_102 rfl 1 rfl ?_
                refine g_calli0 hC (g_runV hC (met_X5_state hz q (by omega)) kc_X5 mG_o (lw_V q3708 q3710 qs44 q89 q3711) rfl md_X5_state dX5_days_103 rfl ⟨by omega, by omega⟩ (by omega) (by omega) rfl (Nat.le_of_ble_eq_true rfl)) (fun r_5 G_5 n_5 u_5 hp_5 hn_5 hm_5 hu_5 => ?_)
                obtain ⟨rfl, rfl, rfl, rfl⟩ := hp_5
                refine g_iconst (v := 2) hC dX5_days_106 rfl ?_
                refine g_icmp_ne hC dX5_days_107 (tgt := 117) (by decide) (fun c_107 => ?_) (fun c_107 => ?_)
                · exact hj_117 z4 (by rw [← h4, show dyC z4 q d = z4 from if_neg (fun y => c_107 y.2)]) (Eq.mp (congrArg (fun y => DI N (g + 38 * i + 25 + 13) σ y) (show dyC z4 q d = z4 from if_neg (fun y => c_107 y.2))) hC4)
                · refine g_aload_n hC dX5_days_110 rfl 3 rfl ?_
                  refine m_get (v := .ref (m0 + 1)) hC 1 (by decide) q3522 rfl dX5_days_111 ?_
                  refine g_iload_n hC dX5_days_114 rfl 1 rfl ?_
                  refine g_iconst (v := 0) hC dX5_days_115 rfl ?_
                  refine m_ast hC 1 q rfl (show q < 108 from by omega) (by omega) hz dX5_days_116 ?_
                  exact hj_117 (mu z4 1 q 0) (by rw [← h4, show dyC z4 q d = (mu z4 1 q 0) from if_pos ⟨c_98, c_107⟩]) (Eq.mp (congrArg (fun y => DI N (g + 38 * i + 25 + 13) σ y) (show dyC z4 q d = (mu z4 1 q 0) from if_pos ⟨c_98, c_107⟩)) hC4)
            have hj_74 : ∀ (z3 : MS), (dyC (dyB N z3 q d) q d = dyS N z i) → (DI N (g + 38 * i + 25) σ z3) → V Y p l e R s m args below meth c 5 n u (mG Y m0 z3 B) n u Q 74 [(4, .int (nI d)), (3, .int (nI q)), (2, .int (nI i)), (0, .ref m0), (1, .int (nI b))] [] := by
              intro z3 h3 hd3b
              have hB := hd3b.B (p := q) (d := d) hN2 (by omega)
              obtain ⟨g3, hg3, hg3b⟩ := hd3b.hg
              refine g_iload hC dX5_days_74 0 rfl ?_
              refine g_iconst (v := 1) hC dX5_days_76 rfl ?_
              refine g_icmp_neN hC d 1 (by omega) (by omega) dX5_days_77 (tgt := 95) (by decide) (fun c_77 => ?_) (fun c_77 => ?_)
              · exact hj_95 z3 (by rw [← h3, show dyB N z3 q d = z3 from if_neg (fun y => c_77 y.1)]) (Eq.mp (congrArg (fun y => DI N (g + 38 * i + 25 + 13) σ y) (show dyB N z3 q d = z3 from if_neg (fun y => c_77 y.1))) hB)
              · refine g_aload_n hC dX5_days_80 rfl 3 rfl ?_
                refine g_iload_n hC dX5_days_81 rfl 1 rfl ?_
                refine g_calli0 hC (g_runV hC (met_X5_state hz q (by omega)) kc_X5 mG_o (lw_V q3708 q3710 qs44 q89 q3711) rfl md_X5_state dX5_days_82 rfl ⟨by omega, by omega⟩ (by omega) (by omega) rfl (Nat.le_of_ble_eq_true rfl)) (fun r_6 G_6 n_6 u_6 hp_6 hn_6 hm_6 hu_6 => ?_)
                obtain ⟨rfl, rfl, rfl, rfl⟩ := hp_6
                refine g_iconst (v := 1) hC dX5_days_85 rfl ?_
                refine g_icmp_ne hC dX5_days_86 (tgt := 95) (by decide) (fun c_86 => ?_) (fun c_86 => ?_)
                · exact hj_95 z3 (by rw [← h3, show dyB N z3 q d = z3 from if_neg (fun y => c_86 y.2)]) (Eq.mp (congrArg (fun y => DI N (g + 38 * i + 25 + 13) σ y) (show dyB N z3 q d = z3 from if_neg (fun y => c_86 y.2))) hB)
                · refine g_aload_n hC dX5_days_89 rfl 3 rfl ?_
                  refine g_iload_n hC dX5_days_90 rfl 1 rfl ?_
                  refine g_calli0 hC (g_runV hC (met_X5_stops hz q (hd3b.N0 hN) (hN2) (hqN) (hg3) (by omega)) kc_X5 mG_o (lw_V q3835 q3837 qs66 q89 q3838) rfl md_X5_stops dX5_days_91 rfl ⟨by omega, by omega⟩ (by omega) (by omega) rfl (Nat.le_of_ble_eq_true rfl)) (fun r_7 G_7 n_7 u_7 hp_7 hn_7 hm_7 hu_7 => ?_)
                  obtain ⟨rfl, rfl, rfl, rfl⟩ := hp_7
                  refine g_pop hC dX5_days_94 rfl ?_
                  exact hj_95 ((stopsF N z3 q).2) (by rw [← h3, show dyB N z3 q d = (stopsF N z3 q).2 from if_pos ⟨c_77, c_86⟩]) (Eq.mp (congrArg (fun y => DI N (g + 38 * i + 25 + 13) σ y) (show dyB N z3 q d = (stopsF N z3 q).2 from if_pos ⟨c_77, c_86⟩)) hB)
            refine g_iload hC dX5_days_54 0 rfl ?_
            refine g_if_neN hC d (by omega) dX5_days_56 (tgt := 74) (by decide) (fun c_56 => ?_) (fun c_56 => ?_)
            · exact hj_74 z2 (by rw [hS, show dyA N z2 q d = z2 from if_neg (fun y => c_56 y.1)]) (Eq.mp (congrArg (fun y => DI N (g + 38 * i + 25) σ y) (show dyA N z2 q d = z2 from if_neg (fun y => c_56 y.1))) hA)
            · refine g_aload_n hC dX5_days_59 rfl 3 rfl ?_
              refine g_iload_n hC dX5_days_60 rfl 1 rfl ?_
              refine g_calli0 hC (g_runV hC (met_X5_state hz q (by omega)) kc_X5 mG_o (lw_V q3708 q3710 qs44 q89 q3711) rfl md_X5_state dX5_days_61 rfl ⟨by omega, by omega⟩ (by omega) (by omega) rfl (Nat.le_of_ble_eq_true rfl)) (fun r_8 G_8 n_8 u_8 hp_8 hn_8 hm_8 hu_8 => ?_)
              obtain ⟨rfl, rfl, rfl, rfl⟩ := hp_8
              refine g_iconst (v := 1) hC dX5_days_64 rfl ?_
              refine g_icmp_eq hC dX5_days_65 (tgt := 74) (by decide) (fun c_65 => ?_) (fun c_65 => ?_)
              · exact hj_74 z2 (by rw [hS, show dyA N z2 q d = z2 from if_neg (fun y => y.2 c_65)]) (Eq.mp (congrArg (fun y => DI N (g + 38 * i + 25) σ y) (show dyA N z2 q d = z2 from if_neg (fun y => y.2 c_65))) hA)
              · refine g_aload_n hC dX5_days_68 rfl 3 rfl ?_
                refine g_iload_n hC dX5_days_69 rfl 1 rfl ?_
                refine g_calli0 hC (g_runV hC (met_X5_begins hz q (hd2.N0 hN) (hN2) (hd2.nm hN2 hk) (hg2) (by omega) (hqN)) kc_X5 mG_o (lw_V q3791 q3793 qs57 q89 q3794) rfl md_X5_begins dX5_days_70 rfl ⟨by omega, by omega⟩ (by omega) (by omega) rfl (Nat.le_of_ble_eq_true rfl)) (fun r_9 G_9 n_9 u_9 hp_9 hn_9 hm_9 hu_9 => ?_)
                obtain ⟨rfl, rfl, rfl, rfl⟩ := hp_9
                refine g_pop hC dX5_days_73 rfl ?_
                exact hj_74 ((beginsF N z2 q).2) (by rw [hS, show dyA N z2 q d = (beginsF N z2 q).2 from if_pos ⟨c_56, c_65⟩]) (Eq.mp (congrArg (fun y => DI N (g + 38 * i + 25) σ y) (show dyA N z2 q d = (beginsF N z2 q).2 from if_pos ⟨c_56, c_65⟩)) hA)
      exact hl_33 (b + 1) 0 σ (by omega) (⟨fun _ _ _ _ _ _ _ _ _ _ _ _ _ => rfl, rfl, fun _ _ _ _ _ _ => rfl, g, h20, by omega⟩) (rfl) (by omega)
    · refine g_aload_n hC dX5_days_24 rfl 0 rfl ?_
      refine g_bipush (v := (-6)) hC dX5_days_25 (by decide) ?_
      refine g_calli0 hC (g_runV hC (met_X5_no hz 6 (by omega)) kc_X5 mG_o (lw_V q3640 q3642 qs37 q89 q3643) rfl md_X5_no dX5_days_27 rfl ⟨by omega, by omega⟩ (by omega) (by omega) rfl (Nat.le_of_ble_eq_true rfl)) (fun r_10 G_10 n_10 u_10 hp_10 hn_10 hm_10 hu_10 => ?_)
      obtain ⟨rfl, rfl, rfl, rfl⟩ := hp_10
      refine g_iret hC hr rfl ⟨_, rfl, ?_⟩ (by omega) (by omega) hE dX5_days_30
      have h9 : daysF σ N n_ = (-(nI 6), mNo σ 6) := by unfold daysF; rw [if_neg c_4, if_neg (by rw [c_21]; decide)]; rfl
      exact ⟨by rw [h9], by rw [h9], rfl, rfl⟩
  · refine g_aload_n hC dX5_days_7 rfl 0 rfl ?_
    refine g_bipush (v := (-5)) hC dX5_days_8 (by decide) ?_
    refine g_calli0 hC (g_runV hC (met_X5_no hz 5 (by omega)) kc_X5 mG_o (lw_V q3640 q3642 qs37 q89 q3643) rfl md_X5_no dX5_days_10 rfl ⟨by omega, by omega⟩ (by omega) (by omega) rfl (Nat.le_of_ble_eq_true rfl)) (fun r_11 G_11 n_11 u_11 hp_11 hn_11 hm_11 hu_11 => ?_)
    obtain ⟨rfl, rfl, rfl, rfl⟩ := hp_11
    refine g_iret hC hr rfl ⟨_, rfl, ?_⟩ (by omega) (by omega) hE dX5_days_13
    have h9 : daysF σ N n_ = (-(nI 5), mNo σ 5) := by unfold daysF; rw [if_pos c_4]; rfl
    exact ⟨by rw [h9], by rw [h9], rfl, rfl⟩
