set_option maxRecDepth 100000
/-! JDK 8: priority queues: sifting -/
set_option maxHeartbeats 1000000 in
theorem met_J26_siftUpUsingComparatorS {Y : YT} {l : Launch} {n u : Nat} {G : AH} (k_ : Nat) (x_ : Nat) (es : Nat) (cm : Nat) {I : AH} {cap : Nat} {f : Nat → Option Nat} {S : Nat → Prop} {rk : Nat → Int} (hI : sub I G) (hIe : I es = none) (hz : yz Y ≤ es) (hcm : G cm = some (.inr (22, []))) (ha : G es = some (.inl (yA Y 11, cap, .inr (.inr (.inr (.inr f)))))) (hk : k_ < cap) (hcap : cap < 1000) (hPE : PE S f k_) (hPH : PH rk f k_) (hx : ¬ S x_) (hK_ : ∀ a, S a → KPs Y I a (rk a)) (hKx : KPs Y I x_ (rk x_)) : GM Y l yJ26_siftUpUsingComparator (ws_ yJ26_siftUpUsingComparator cJ26_siftUpUsingComparator 6 none) 7 160 [.int (nI k_), .ref x_, .ref es, .ref cm] G n u 0 0 (pV (fun G' n' u' => ∃ f', G' es = some (.inl (yA Y 11, cap, .inr (.inr (.inr (.inr f'))))) ∧ PE (fun a => S a ∨ a = x_) f' (k_ + 1) ∧ PH rk f' (k_ + 1) ∧ (∀ i, k_ < i → f' i = f i) ∧ FR (fun q_ => q_ = es) n G G' ∧ n = n' ∧ u = u')) noX := by
  refine GM.intro (own := RJ26) rfl (by decide +kernel) (Nat.le_of_ble_eq_true rfl) ?_
  intro p e s m args below meth c R Q hC hr hnm hF hL hE
  have hE1 := hE.1
  have hE2 := hE.2.1
  have hnz : yz Y ≤ n := by have := hC.z; have := hC.n; omega
  show V Y p l e R s m args below meth c 6 n u G n u Q 0 [(0, .int (nI k_)), (1, .ref x_), (2, .ref es), (3, .ref cm)] []
  refine V.lts (fun hlt => ?_)
  have hl_cm : cm < n := hlt _ _ hcm
  have hl_es : es < n := hlt _ _ ha
  have hIn := sub_none hI hlt
  have hl_0 : ∀ (kf_ : Nat) (Gq : AH) (fq : Nat → Option Nat) (kq : Nat), (Gq es = some (.inl (yA Y 11, cap, .inr (.inr (.inr (.inr fq)))))) → (FR (fun q_ => q_ = es) n G Gq) → (sub I Gq) → (Gq cm = some (.inr (22, []))) → (kq ≤ k_) → (PE (fun a => S a ∨ a = x_) (va_up fq kq (some x_)) (k_ + 1)) → (UP rk (va_up fq kq (some x_)) (k_ + 1) kq) → (∀ i, k_ < i → fq i = f i) → kq < kf_ → V Y p l e R s m args below meth c 6 n u Gq n u Q 0 [(0, .int (nI kq)), (1, .ref x_), (2, .ref es), (3, .ref cm)] [] := by
    intro kf_
    induction kf_ with
    | zero => intro Gq fq kq jb jf jI jc jk jE jU jx hk_; exact absurd hk_ (Nat.not_lt_zero _)
    | succ kf_ ih_ =>
      intro Gq fq kq jb jf jI jc jk jE jU jx hk_
      refine g_iload_n hC dJ26_siftUpUsingComparator_0 rfl 0 rfl ?_
      refine g_if_leN hC kq (by omega) dJ26_siftUpUsingComparator_1 (tgt := 43) (by decide) (fun c_1 => ?_) (fun c_1 => ?_)
      · refine g_aload_n hC dJ26_siftUpUsingComparator_43 rfl 2 rfl ?_
        refine g_iload_n hC dJ26_siftUpUsingComparator_44 rfl 0 rfl ?_
        refine g_aload_n hC dJ26_siftUpUsingComparator_45 rfl 1 rfl ?_
        obtain ⟨G_1, eG_1⟩ : ∃ G_, gU Gq es (.inl (yA Y 11, cap, .inr (.inr (.inr (.inr (va_up fq kq (some x_))))))) = G_ := ⟨_, rfl⟩
        have o_2 : G_1 cm = some (.inr (22, [])) := by rw [← eG_1]; exact (gU_n _ (gne_oa jc jb)).trans jc
        have hi_3 : sub I G_1 := by rw [← eG_1]; exact sub_away jI hIe
        have hf_4 : FR (fun q_ => q_ = es) n G G_1 := by rw [← eG_1]; exact FR.put jf (.inl rfl)
        refine g_aastKs hC jI hKx jb (vin (by omega) (by omega)) (by omega) (f' := (va_up fq kq (some x_))) (by rw [nI_clamp (by omega)]) (G' := G_1) eG_1 dJ26_siftUpUsingComparator_46 ?_
        have a_5 : G_1 es = some (.inl (yA Y 11, cap, .inr (.inr (.inr (.inr (va_up fq kq (some x_))))))) := by rw [← eG_1]; exact gU_s _ _ _
        refine g_vret hC hr ⟨rfl, ?_⟩ (by omega) (by omega) hE dJ26_siftUpUsingComparator_47
        have hP_ := UP_e jU (fun p hp => by omega)
        exact ⟨_, a_5, jE, hP_, fun i hi => (va_up_ne _ _ (by omega)).trans (jx i hi), hf_4, rfl, rfl⟩
      · refine g_iload_n hC dJ26_siftUpUsingComparator_4 rfl 0 rfl ?_
        refine g_iconst (v := 1) hC dJ26_siftUpUsingComparator_5 rfl ?_
        refine g_isubN hC kq 1 (by omega) dJ26_siftUpUsingComparator_6 ?_
        refine g_iconst (v := 1) hC dJ26_siftUpUsingComparator_7 rfl ?_
        refine g_iushr (v := nI ((kq - 1) / 2)) hC dJ26_siftUpUsingComparator_8 (shr1 (by omega)) ?_
        refine g_istore (L' := [(4, .int (nI ((kq - 1) / 2))), (0, .int (nI kq)), (1, .ref x_), (2, .ref es), (3, .ref cm)]) hC dJ26_siftUpUsingComparator_9 (by decide) rfl ?_
        refine g_aload_n hC dJ26_siftUpUsingComparator_11 rfl 3 rfl ?_
        refine g_iload hC dJ26_siftUpUsingComparator_12 0 rfl ?_
        obtain ⟨e_, he_, hSe_⟩ := jE.1 ((kq - 1) / 2) (by omega)
        rw [va_up_ne _ _ (by omega)] at he_
        have kp_e : KPs Y I e_ (rk e_) := by rcases hSe_ with q | q; exact hK_ _ q; rw [q]; exact hKx
        refine g_aald (t0 := 11) hC jb rfl (vin (by omega) (by omega)) (r := some e_) (by rw [nI_clamp (by omega)]; exact he_) dJ26_siftUpUsingComparator_14 ?_
        refine g_astore (L' := [(5, .ref e_), (4, .int (nI ((kq - 1) / 2))), (0, .int (nI kq)), (1, .ref x_), (2, .ref es), (3, .ref cm)]) hC dJ26_siftUpUsingComparator_15 (by decide) rfl ?_
        refine g_aload_n hC dJ26_siftUpUsingComparator_17 rfl 5 rfl ?_
        refine g_aload_n hC dJ26_siftUpUsingComparator_18 rfl 3 rfl ?_
        refine g_aload hC dJ26_siftUpUsingComparator_19 0 rfl ?_
        refine V.lts (fun lc_6 => ?_)
        refine g_calli0 hC (g_runF (n := 2) hC (met_X23_compare (G := Gq) cm x_ e_ jc jI hKx kp_e) kc_X23 jc (lw_F q2004 q1014 q1016 q134 q1018) q1001 q1000 q1017 q1015 q1013 (x := ⟨"java/util/Comparator", "compare", "(Ljava/lang/Object;Ljava/lang/Object;)I"⟩) ⟨by decide, by decide, by decide +kernel⟩ dJ26_siftUpUsingComparator_21 rfl ⟨by omega, by omega⟩ (by omega) (by omega) rfl (Nat.le_of_ble_eq_true rfl)) (fun r_7 G_7 n_7 u_7 hp_7 hn_7 hm_7 hu_7 => ?_)
        obtain ⟨hr1_7, hr2_7, rfl, rfl, rfl⟩ := hp_7
        refine g_if_lt hC dJ26_siftUpUsingComparator_26 (tgt := 32) (by decide) (fun c_26 => ?_) (fun c_26 => ?_)
        · refine g_aload_n hC dJ26_siftUpUsingComparator_32 rfl 4 rfl ?_
          refine g_iload_n hC dJ26_siftUpUsingComparator_33 rfl 2 rfl ?_
          refine g_aload hC dJ26_siftUpUsingComparator_34 0 rfl ?_
          obtain ⟨G_8, eG_8⟩ : ∃ G_, gU Gq es (.inl (yA Y 11, cap, .inr (.inr (.inr (.inr (va_up fq kq (some e_))))))) = G_ := ⟨_, rfl⟩
          have o_9 : G_8 cm = some (.inr (22, [])) := by rw [← eG_8]; exact (gU_n _ (gne_oa jc jb)).trans jc
          have hi_10 : sub I G_8 := by rw [← eG_8]; exact sub_away jI hIe
          have hf_11 : FR (fun q_ => q_ = es) n G G_8 := by rw [← eG_8]; exact FR.put jf (.inl rfl)
          refine g_aastKs hC jI kp_e jb (vin (by omega) (by omega)) (by omega) (f' := (va_up fq kq (some e_))) (by rw [nI_clamp (by omega)]) (G' := G_8) eG_8 dJ26_siftUpUsingComparator_36 ?_
          have a_12 : G_8 es = some (.inl (yA Y 11, cap, .inr (.inr (.inr (.inr (va_up fq kq (some e_))))))) := by rw [← eG_8]; exact gU_s _ _ _
          refine g_iload hC dJ26_siftUpUsingComparator_37 1 rfl ?_
          refine g_istore_n (L' := [(0, .int (nI ((kq - 1) / 2))), (5, .ref e_), (4, .int (nI ((kq - 1) / 2))), (1, .ref x_), (2, .ref es), (3, .ref cm)]) hC dJ26_siftUpUsingComparator_39 rfl (by decide) rfl ?_
          refine g_goto (tgt := 0) hC dJ26_siftUpUsingComparator_40 (by decide) ?_
          refine V.sub [0, 3, 4, 5] rfl ?_
          exact ih_ G_8 (va_up fq kq (some e_)) ((kq - 1) / 2) (a_12) (hf_11) (hi_10) (o_9) (by omega) (PE_sw jE (by omega) (by omega) (sw_e he_ (by omega))) (UP_s jU (by omega) (by omega) he_ (hr1_7.mp c_26)) (fun i hi => (va_up_ne _ _ (by omega)).trans (jx i hi)) (by omega)
        · refine g_goto (tgt := 43) hC dJ26_siftUpUsingComparator_29 (by decide) ?_
          refine g_aload_n hC dJ26_siftUpUsingComparator_43 rfl 4 rfl ?_
          refine g_iload_n hC dJ26_siftUpUsingComparator_44 rfl 2 rfl ?_
          refine g_aload_n hC dJ26_siftUpUsingComparator_45 rfl 3 rfl ?_
          obtain ⟨G_13, eG_13⟩ : ∃ G_, gU Gq es (.inl (yA Y 11, cap, .inr (.inr (.inr (.inr (va_up fq kq (some x_))))))) = G_ := ⟨_, rfl⟩
          have o_14 : G_13 cm = some (.inr (22, [])) := by rw [← eG_13]; exact (gU_n _ (gne_oa jc jb)).trans jc
          have hi_15 : sub I G_13 := by rw [← eG_13]; exact sub_away jI hIe
          have hf_16 : FR (fun q_ => q_ = es) n G G_13 := by rw [← eG_13]; exact FR.put jf (.inl rfl)
          refine g_aastKs hC jI hKx jb (vin (by omega) (by omega)) (by omega) (f' := (va_up fq kq (some x_))) (by rw [nI_clamp (by omega)]) (G' := G_13) eG_13 dJ26_siftUpUsingComparator_46 ?_
          have a_17 : G_13 es = some (.inl (yA Y 11, cap, .inr (.inr (.inr (.inr (va_up fq kq (some x_))))))) := by rw [← eG_13]; exact gU_s _ _ _
          refine g_vret hC hr ⟨rfl, ?_⟩ (by omega) (by omega) hE dJ26_siftUpUsingComparator_47
          have hP_ := UP_e jU (fun p hp => by
            obtain rfl : p = (kq - 1) / 2 := by omega
            rw [va_up_self, va_up_ne _ _ (by omega), he_]
            exact Int.not_lt.mp (fun q => c_26 (hr1_7.mpr q)))
          exact ⟨_, a_17, jE, hP_, fun i hi => (va_up_ne _ _ (by omega)).trans (jx i hi), hf_16, rfl, rfl⟩
  exact hl_0 (k_ + 1) G f k_ (ha) (FR.refl) (hI) (hcm) (by omega) (PE_0 hPE hx) (UP_0 hPH) (fun i _ => rfl) (by omega)
set_option maxHeartbeats 1000000 in
theorem met_J26_siftDownUsingComparatorS {Y : YT} {l : Launch} {n u : Nat} {G : AH} (x_ : Nat) (es : Nat) (n_ : Nat) (cm : Nat) {I : AH} {cap : Nat} {f : Nat → Option Nat} {S : Nat → Prop} {rk : Nat → Int} (hI : sub I G) (hIe : I es = none) (hz : yz Y ≤ es) (hcm : G cm = some (.inr (22, []))) (ha : G es = some (.inl (yA Y 11, cap, .inr (.inr (.inr (.inr f)))))) (hn0 : 0 < n_) (hk : n_ ≤ cap) (hcap : cap < 1000) (hPE : PE S (va_up f 0 (some x_)) n_) (hPH : DN rk (va_up f 0 (some x_)) n_ 0) (hK_ : ∀ a, S a → KPs Y I a (rk a)) (hKx : KPs Y I x_ (rk x_)) : GM Y l yJ26_siftDownUsingComparator (ws_ yJ26_siftDownUsingComparator cJ26_siftDownUsingComparator 9 none) 7 160 [.int 0, .ref x_, .ref es, .int (nI n_), .ref cm] G n u 0 0 (pV (fun G' n' u' => ∃ f', G' es = some (.inl (yA Y 11, cap, .inr (.inr (.inr (.inr f'))))) ∧ PE S f' n_ ∧ PH rk f' n_ ∧ FR (fun q_ => q_ = es) n G G' ∧ n = n' ∧ u = u')) noX := by
  refine GM.intro (own := RJ26) rfl (by decide +kernel) (Nat.le_of_ble_eq_true rfl) ?_
  intro p e s m args below meth c R Q hC hr hnm hF hL hE
  have hE1 := hE.1
  have hE2 := hE.2.1
  have hnz : yz Y ≤ n := by have := hC.z; have := hC.n; omega
  show V Y p l e R s m args below meth c 9 n u G n u Q 0 [(0, .int 0), (1, .ref x_), (2, .ref es), (3, .int (nI n_)), (4, .ref cm)] []
  refine V.lts (fun hlt => ?_)
  have hl_cm : cm < n := hlt _ _ hcm
  have hl_es : es < n := hlt _ _ ha
  have hIn := sub_none hI hlt
  refine g_iload_n hC dJ26_siftDownUsingComparator_0 rfl 3 rfl ?_
  refine g_iconst (v := 1) hC dJ26_siftDownUsingComparator_1 rfl ?_
  refine g_iushr (v := nI (n_ / 2)) hC dJ26_siftDownUsingComparator_2 (shr1 (by omega)) ?_
  refine g_istore (L' := [(5, .int (nI (n_ / 2))), (0, .int 0), (1, .ref x_), (2, .ref es), (3, .int (nI n_)), (4, .ref cm)]) hC dJ26_siftDownUsingComparator_3 (by decide) rfl ?_
  have hl_5 : ∀ (kf_ : Nat) (Gq : AH) (fq : Nat → Option Nat) (kq : Nat), (Gq es = some (.inl (yA Y 11, cap, .inr (.inr (.inr (.inr fq)))))) → (FR (fun q_ => q_ = es) n G Gq) → (sub I Gq) → (Gq cm = some (.inr (22, []))) → (kq < n_) → (PE S (va_up fq kq (some x_)) n_) → (DN rk (va_up fq kq (some x_)) n_ kq) → (∀ i, n_ ≤ i → fq i = f i) → n_ - kq < kf_ → V Y p l e R s m args below meth c 9 n u Gq n u Q 5 [(0, .int (nI kq)), (1, .ref x_), (2, .ref es), (3, .int (nI n_)), (4, .ref cm), (5, .int (nI (n_ / 2)))] [] := by
    intro kf_
    induction kf_ with
    | zero => intro Gq fq kq jb jf jI jc jk jE jU jx hk_; exact absurd hk_ (Nat.not_lt_zero _)
    | succ kf_ ih_ =>
      intro Gq fq kq jb jf jI jc jk jE jU jx hk_
      refine g_iload_n hC dJ26_siftDownUsingComparator_5 rfl 0 rfl ?_
      refine g_iload hC dJ26_siftDownUsingComparator_6 5 rfl ?_
      refine g_icmp_geN hC kq (n_ / 2) (by omega) (by omega) dJ26_siftDownUsingComparator_8 (tgt := 88) (by decide) (fun c_8 => ?_) (fun c_8 => ?_)
      · refine g_aload_n hC dJ26_siftDownUsingComparator_88 rfl 2 rfl ?_
        refine g_iload_n hC dJ26_siftDownUsingComparator_89 rfl 0 rfl ?_
        refine g_aload_n hC dJ26_siftDownUsingComparator_90 rfl 1 rfl ?_
        obtain ⟨G_1, eG_1⟩ : ∃ G_, gU Gq es (.inl (yA Y 11, cap, .inr (.inr (.inr (.inr (va_up fq kq (some x_))))))) = G_ := ⟨_, rfl⟩
        have o_2 : G_1 cm = some (.inr (22, [])) := by rw [← eG_1]; exact (gU_n _ (gne_oa jc jb)).trans jc
        have hi_3 : sub I G_1 := by rw [← eG_1]; exact sub_away jI hIe
        have hf_4 : FR (fun q_ => q_ = es) n G G_1 := by rw [← eG_1]; exact FR.put jf (.inl rfl)
        refine g_aastKs hC jI hKx jb (vin (by omega) (by omega)) (by omega) (f' := (va_up fq kq (some x_))) (by rw [nI_clamp (by omega)]) (G' := G_1) eG_1 dJ26_siftDownUsingComparator_91 ?_
        have a_5 : G_1 es = some (.inl (yA Y 11, cap, .inr (.inr (.inr (.inr (va_up fq kq (some x_))))))) := by rw [← eG_1]; exact gU_s _ _ _
        refine g_vret hC hr ⟨rfl, ?_⟩ (by omega) (by omega) hE dJ26_siftDownUsingComparator_92
        have hP_ := DN_e jU (fun j hj hn => by omega)
        exact ⟨_, a_5, jE, hP_, hf_4, rfl, rfl⟩
      · have hj_61 : ∀ (ch : Nat) (cv : Nat) (rt : Nat), (ch = 2 * kq + 1 ∨ ch = 2 * kq + 2) → (ch < n_) → (fq ch = some cv) → (KPs Y I cv (rk cv)) → (∀ j, (j = 2 * kq + 1 ∨ j = 2 * kq + 2) → j < n_ → rk cv ≤ rkO rk (fq j)) → V Y p l e R s m args below meth c 9 n u Gq n u Q 61 [(0, .int (nI kq)), (1, .ref x_), (2, .ref es), (3, .int (nI n_)), (4, .ref cm), (5, .int (nI (n_ / 2))), (6, .int (nI ch)), (7, .ref cv), (8, .int (nI rt))] [] := by
          intro ch cv rt hch hcn hcv hKc hmn
          refine g_aload hC dJ26_siftDownUsingComparator_61 4 rfl ?_
          refine g_aload_n hC dJ26_siftDownUsingComparator_63 rfl 1 rfl ?_
          refine g_aload hC dJ26_siftDownUsingComparator_64 7 rfl ?_
          refine V.lts (fun lc_6 => ?_)
          refine g_calli0 hC (g_runF (n := 2) hC (met_X23_compare (G := Gq) cm x_ cv jc jI hKx hKc) kc_X23 jc (lw_F q2004 q1014 q1016 q134 q1018) q1001 q1000 q1017 q1015 q1013 (x := ⟨"java/util/Comparator", "compare", "(Ljava/lang/Object;Ljava/lang/Object;)I"⟩) ⟨by decide, by decide, by decide +kernel⟩ dJ26_siftDownUsingComparator_66 rfl ⟨by omega, by omega⟩ (by omega) (by omega) rfl (Nat.le_of_ble_eq_true rfl)) (fun r_7 G_7 n_7 u_7 hp_7 hn_7 hm_7 hu_7 => ?_)
          obtain ⟨hr1_7, hr2_7, rfl, rfl, rfl⟩ := hp_7
          refine g_if_gt hC dJ26_siftDownUsingComparator_71 (tgt := 77) (by decide) (fun c_71 => ?_) (fun c_71 => ?_)
          · refine g_aload_n hC dJ26_siftDownUsingComparator_77 rfl 2 rfl ?_
            refine g_iload_n hC dJ26_siftDownUsingComparator_78 rfl 0 rfl ?_
            refine g_aload hC dJ26_siftDownUsingComparator_79 7 rfl ?_
            obtain ⟨G_8, eG_8⟩ : ∃ G_, gU Gq es (.inl (yA Y 11, cap, .inr (.inr (.inr (.inr (va_up fq kq (some cv))))))) = G_ := ⟨_, rfl⟩
            have o_9 : G_8 cm = some (.inr (22, [])) := by rw [← eG_8]; exact (gU_n _ (gne_oa jc jb)).trans jc
            have hi_10 : sub I G_8 := by rw [← eG_8]; exact sub_away jI hIe
            have hf_11 : FR (fun q_ => q_ = es) n G G_8 := by rw [← eG_8]; exact FR.put jf (.inl rfl)
            refine g_aastKs hC jI hKc jb (vin (by omega) (by omega)) (by omega) (f' := (va_up fq kq (some cv))) (by rw [nI_clamp (by omega)]) (G' := G_8) eG_8 dJ26_siftDownUsingComparator_81 ?_
            have a_12 : G_8 es = some (.inl (yA Y 11, cap, .inr (.inr (.inr (.inr (va_up fq kq (some cv))))))) := by rw [← eG_8]; exact gU_s _ _ _
            refine g_iload hC dJ26_siftDownUsingComparator_82 6 rfl ?_
            refine g_istore_n (L' := [(0, .int (nI ch)), (1, .ref x_), (2, .ref es), (3, .int (nI n_)), (4, .ref cm), (5, .int (nI (n_ / 2))), (6, .int (nI ch)), (7, .ref cv), (8, .int (nI rt))]) hC dJ26_siftDownUsingComparator_84 rfl (by decide) rfl ?_
            refine g_goto (tgt := 5) hC dJ26_siftDownUsingComparator_85 (by decide) ?_
            refine V.sub [0, 1, 2, 3, 4, 5] rfl ?_
            exact ih_ G_8 (va_up fq kq (some cv)) ch (a_12) (hf_11) (hi_10) (o_9) (by omega) (PE_sw jE (by omega) (by omega) (sw_e hcv (by omega))) (DN_s jU hch hcn hcv (hr2_7.mp c_71) hmn) (fun i hi => (va_up_ne _ _ (by omega)).trans (jx i hi)) (by omega)
          · refine g_goto (tgt := 88) hC dJ26_siftDownUsingComparator_74 (by decide) ?_
            refine g_aload_n hC dJ26_siftDownUsingComparator_88 rfl 2 rfl ?_
            refine g_iload_n hC dJ26_siftDownUsingComparator_89 rfl 0 rfl ?_
            refine g_aload_n hC dJ26_siftDownUsingComparator_90 rfl 1 rfl ?_
            obtain ⟨G_13, eG_13⟩ : ∃ G_, gU Gq es (.inl (yA Y 11, cap, .inr (.inr (.inr (.inr (va_up fq kq (some x_))))))) = G_ := ⟨_, rfl⟩
            have o_14 : G_13 cm = some (.inr (22, [])) := by rw [← eG_13]; exact (gU_n _ (gne_oa jc jb)).trans jc
            have hi_15 : sub I G_13 := by rw [← eG_13]; exact sub_away jI hIe
            have hf_16 : FR (fun q_ => q_ = es) n G G_13 := by rw [← eG_13]; exact FR.put jf (.inl rfl)
            refine g_aastKs hC jI hKx jb (vin (by omega) (by omega)) (by omega) (f' := (va_up fq kq (some x_))) (by rw [nI_clamp (by omega)]) (G' := G_13) eG_13 dJ26_siftDownUsingComparator_91 ?_
            have a_17 : G_13 es = some (.inl (yA Y 11, cap, .inr (.inr (.inr (.inr (va_up fq kq (some x_))))))) := by rw [← eG_13]; exact gU_s _ _ _
            refine g_vret hC hr ⟨rfl, ?_⟩ (by omega) (by omega) hE dJ26_siftDownUsingComparator_92
            have hP_ := DN_e jU (fun j hj hn => by
              rw [va_up_self, va_up_ne _ _ (by omega)]
              exact Int.le_trans (Int.not_lt.mp (fun q => c_71 (hr2_7.mpr q))) (hmn j hj hn))
            exact ⟨_, a_17, jE, hP_, hf_16, rfl, rfl⟩
        refine g_iload_n hC dJ26_siftDownUsingComparator_11 rfl 0 rfl ?_
        refine g_iconst (v := 1) hC dJ26_siftDownUsingComparator_12 rfl ?_
        refine g_ishl hC dJ26_siftDownUsingComparator_13 ?_
        rw [shl1 (by omega)]
        refine g_iconst (v := 1) hC dJ26_siftDownUsingComparator_14 rfl ?_
        refine g_iaddN hC (2 * kq) 1 dJ26_siftDownUsingComparator_15 ?_
        refine g_istore (L' := [(6, .int (nI ((2 * kq) + 1))), (0, .int (nI kq)), (1, .ref x_), (2, .ref es), (3, .int (nI n_)), (4, .ref cm), (5, .int (nI (n_ / 2)))]) hC dJ26_siftDownUsingComparator_16 (by decide) rfl ?_
        refine g_aload_n hC dJ26_siftDownUsingComparator_18 rfl 3 rfl ?_
        refine g_iload hC dJ26_siftDownUsingComparator_19 0 rfl ?_
        obtain ⟨c_, hc_, hSc_⟩ := jE.1 (2 * kq + 1) (by omega)
        rw [va_up_ne _ _ (by omega)] at hc_
        have kp_c : KPs Y I c_ (rk c_) := hK_ _ hSc_
        refine g_aald (t0 := 11) hC jb rfl (vin (by omega) (by omega)) (r := some c_) (by rw [nI_clamp (by omega)]; exact hc_) dJ26_siftDownUsingComparator_21 ?_
        refine g_astore (L' := [(7, .ref c_), (6, .int (nI ((2 * kq) + 1))), (0, .int (nI kq)), (1, .ref x_), (2, .ref es), (3, .int (nI n_)), (4, .ref cm), (5, .int (nI (n_ / 2)))]) hC dJ26_siftDownUsingComparator_22 (by decide) rfl ?_
        refine g_iload hC dJ26_siftDownUsingComparator_24 1 rfl ?_
        refine g_iconst (v := 1) hC dJ26_siftDownUsingComparator_26 rfl ?_
        refine g_iaddN hC ((2 * kq) + 1) 1 dJ26_siftDownUsingComparator_27 ?_
        refine g_istore (L' := [(8, .int (nI (((2 * kq) + 1) + 1))), (7, .ref c_), (6, .int (nI ((2 * kq) + 1))), (0, .int (nI kq)), (1, .ref x_), (2, .ref es), (3, .int (nI n_)), (4, .ref cm), (5, .int (nI (n_ / 2)))]) hC dJ26_siftDownUsingComparator_28 (by decide) rfl ?_
        refine g_iload hC dJ26_siftDownUsingComparator_30 0 rfl ?_
        refine g_iload_n hC dJ26_siftDownUsingComparator_32 rfl 6 rfl ?_
        refine g_icmp_geN hC (((2 * kq) + 1) + 1) n_ (by omega) (by omega) dJ26_siftDownUsingComparator_33 (tgt := 61) (by decide) (fun c_33 => ?_) (fun c_33 => ?_)
        · refine V.sub [3, 4, 5, 6, 7, 8, 2, 1, 0] rfl ?_
          exact hj_61 ((2 * kq) + 1) c_ (((2 * kq) + 1) + 1) (by omega) (by omega) (hc_) (kp_c) (fun j hj hn => by obtain rfl : j = 2 * kq + 1 := (by omega); rw [hc_]; exact Int.le_refl _)
        · refine g_aload hC dJ26_siftDownUsingComparator_36 7 rfl ?_
          refine g_aload hC dJ26_siftDownUsingComparator_38 1 rfl ?_
          refine g_aload_n hC dJ26_siftDownUsingComparator_40 rfl 5 rfl ?_
          refine g_iload hC dJ26_siftDownUsingComparator_41 0 rfl ?_
          obtain ⟨d_, hd_, hSd_⟩ := jE.1 (2 * kq + 1 + 1) (by omega)
          rw [va_up_ne _ _ (by omega)] at hd_
          have kp_d : KPs Y I d_ (rk d_) := hK_ _ hSd_
          refine g_aald (t0 := 11) hC jb rfl (vin (by omega) (by omega)) (r := some d_) (by rw [nI_clamp (by omega)]; exact hd_) dJ26_siftDownUsingComparator_43 ?_
          refine V.lts (fun lc_18 => ?_)
          refine g_calli0 hC (g_runF (n := 2) hC (met_X23_compare (G := Gq) cm c_ d_ jc jI kp_c kp_d) kc_X23 jc (lw_F q2004 q1014 q1016 q134 q1018) q1001 q1000 q1017 q1015 q1013 (x := ⟨"java/util/Comparator", "compare", "(Ljava/lang/Object;Ljava/lang/Object;)I"⟩) ⟨by decide, by decide, by decide +kernel⟩ dJ26_siftDownUsingComparator_44 rfl ⟨by omega, by omega⟩ (by omega) (by omega) rfl (Nat.le_of_ble_eq_true rfl)) (fun r_19 G_19 n_19 u_19 hp_19 hn_19 hm_19 hu_19 => ?_)
          obtain ⟨hr1_19, hr2_19, rfl, rfl, rfl⟩ := hp_19
          refine g_if_le hC dJ26_siftDownUsingComparator_49 (tgt := 61) (by decide) (fun c_49 => ?_) (fun c_49 => ?_)
          · refine V.sub [3, 4, 5, 6, 7, 8, 2, 1, 0] rfl ?_
            exact hj_61 ((2 * kq) + 1) c_ (((2 * kq) + 1) + 1) (by omega) (by omega) (hc_) (kp_c) (fun j hj hn => by
              rcases hj with rfl | rfl
              · rw [hc_]; exact Int.le_refl _
              · rw [hd_]; exact Int.not_lt.mp (fun q => Int32.not_lt.mpr c_49 (hr2_19.mpr q)))
          · refine g_aload_n hC dJ26_siftDownUsingComparator_52 rfl 5 rfl ?_
            refine g_iload hC dJ26_siftDownUsingComparator_53 0 rfl ?_
            refine g_dup hC dJ26_siftDownUsingComparator_55 rfl ?_
            refine g_istore (L' := [(6, .int (nI (((2 * kq) + 1) + 1))), (8, .int (nI (((2 * kq) + 1) + 1))), (7, .ref c_), (0, .int (nI kq)), (1, .ref x_), (2, .ref es), (3, .int (nI n_)), (4, .ref cm), (5, .int (nI (n_ / 2)))]) hC dJ26_siftDownUsingComparator_56 (by decide) rfl ?_
            refine g_aald (t0 := 11) hC jb rfl (vin (by omega) (by omega)) (r := some d_) (by rw [nI_clamp (by omega)]; exact hd_) dJ26_siftDownUsingComparator_58 ?_
            refine g_astore (L' := [(7, .ref d_), (6, .int (nI (((2 * kq) + 1) + 1))), (8, .int (nI (((2 * kq) + 1) + 1))), (0, .int (nI kq)), (1, .ref x_), (2, .ref es), (3, .int (nI n_)), (4, .ref cm), (5, .int (nI (n_ / 2)))]) hC dJ26_siftDownUsingComparator_59 (by decide) rfl ?_
            refine V.sub [3, 4, 5, 6, 7, 8, 1, 0, 2] rfl ?_
            exact hj_61 (((2 * kq) + 1) + 1) d_ (((2 * kq) + 1) + 1) (by omega) (by omega) (hd_) (kp_d) (fun j hj hn => by
              rcases hj with rfl | rfl
              · rw [hc_]; exact Int.le_of_lt (hr2_19.mp (Int32.not_le.mp c_49))
              · rw [hd_]; exact Int.le_refl _)
  refine V.sub [1, 2, 3, 4, 5, 0] rfl ?_
  exact hl_5 (n_ - 0 + 1) G f 0 (ha) (FR.refl) (hI) (hcm) (by omega) (hPE) (hPH) (fun i _ => rfl) (by omega)
set_option maxHeartbeats 1000000 in
theorem met_J26_siftUpUsingComparatorY {Y : YT} {l : Launch} {n u : Nat} {G : AH} (k_ : Nat) (x_ : Nat) (es : Nat) (cm : Nat) {h N K : Nat} {σ : MS} {η : HV} {I : AH} {cap : Nat} {f : Nat → Option Nat} {S : Nat → Prop} {rk : Nat → Int} (hh : sub (hM Y h N σ η) G) (hN : σ.1 0 0 = nI N) (hK : σ.1 4 0 = nI K) (hN2 : N ≤ 12) (hI : sub I G) (hIe : I es = none) (hne : ¬ hD h es) (hz : yz Y ≤ es) (hcm : G cm = some (.inr (23, [.ref h]))) (ha : G es = some (.inl (yA Y 11, cap, .inr (.inr (.inr (.inr f)))))) (hk : k_ < cap) (hcap : cap < 1000) (hPE : PE S f k_) (hPH : PH rk f k_) (hx : ¬ S x_) (hK_ : ∀ a, S a → KPy N σ I a (rk a)) (hKx : KPy N σ I x_ (rk x_)) : GM Y l yJ26_siftUpUsingComparator (ws_ yJ26_siftUpUsingComparator cJ26_siftUpUsingComparator 6 none) 3 64 [.int (nI k_), .ref x_, .ref es, .ref cm] G n u 0 0 (pV (fun G' n' u' => ∃ f', G' es = some (.inl (yA Y 11, cap, .inr (.inr (.inr (.inr f'))))) ∧ PE (fun a => S a ∨ a = x_) f' (k_ + 1) ∧ PH rk f' (k_ + 1) ∧ (∀ i, k_ < i → f' i = f i) ∧ FR (fun q_ => q_ = es) n G G' ∧ n = n' ∧ u = u')) noX := by
  refine GM.intro (own := RJ26) rfl (by decide +kernel) (Nat.le_of_ble_eq_true rfl) ?_
  intro p e s m args below meth c R Q hC hr hnm hF hL hE
  have hE1 := hE.1
  have hE2 := hE.2.1
  have hnz : yz Y ≤ n := by have := hC.z; have := hC.n; omega
  show V Y p l e R s m args below meth c 6 n u G n u Q 0 [(0, .int (nI k_)), (1, .ref x_), (2, .ref es), (3, .ref cm)] []
  refine V.lts (fun hlt => ?_)
  have hl_cm : cm < n := hlt _ _ hcm
  have hl_es : es < n := hlt _ _ ha
  have hl_h : h + 6 < n := hlt _ _ (hh _ _ (hM_j 6))
  have hIn := sub_none hI hlt
  have hl_0 : ∀ (kf_ : Nat) (Gq : AH) (fq : Nat → Option Nat) (kq : Nat), (Gq es = some (.inl (yA Y 11, cap, .inr (.inr (.inr (.inr fq)))))) → (FR (fun q_ => q_ = es) n G Gq) → (sub (hM Y h N σ η) Gq) → (sub I Gq) → (Gq cm = some (.inr (23, [.ref h]))) → (kq ≤ k_) → (PE (fun a => S a ∨ a = x_) (va_up fq kq (some x_)) (k_ + 1)) → (UP rk (va_up fq kq (some x_)) (k_ + 1) kq) → (∀ i, k_ < i → fq i = f i) → kq < kf_ → V Y p l e R s m args below meth c 6 n u Gq n u Q 0 [(0, .int (nI kq)), (1, .ref x_), (2, .ref es), (3, .ref cm)] [] := by
    intro kf_
    induction kf_ with
    | zero => intro Gq fq kq jb jf jh jI jc jk jE jU jx hk_; exact absurd hk_ (Nat.not_lt_zero _)
    | succ kf_ ih_ =>
      intro Gq fq kq jb jf jh jI jc jk jE jU jx hk_
      refine g_iload_n hC dJ26_siftUpUsingComparator_0 rfl 0 rfl ?_
      refine g_if_leN hC kq (by omega) dJ26_siftUpUsingComparator_1 (tgt := 43) (by decide) (fun c_1 => ?_) (fun c_1 => ?_)
      · refine g_aload_n hC dJ26_siftUpUsingComparator_43 rfl 2 rfl ?_
        refine g_iload_n hC dJ26_siftUpUsingComparator_44 rfl 0 rfl ?_
        refine g_aload_n hC dJ26_siftUpUsingComparator_45 rfl 1 rfl ?_
        obtain ⟨G_1, eG_1⟩ : ∃ G_, gU Gq es (.inl (yA Y 11, cap, .inr (.inr (.inr (.inr (va_up fq kq (some x_))))))) = G_ := ⟨_, rfl⟩
        have o_2 : G_1 cm = some (.inr (23, [.ref h])) := by rw [← eG_1]; exact (gU_n _ (gne_oa jc jb)).trans jc
        have hs_3 : sub (hM Y h N σ η) G_1 := by rw [← eG_1]; exact sub_away jh (hM_none hne)
        have hi_4 : sub I G_1 := by rw [← eG_1]; exact sub_away jI hIe
        have hf_5 : FR (fun q_ => q_ = es) n G G_1 := by rw [← eG_1]; exact FR.put jf (.inl rfl)
        refine g_aastKy hC jI hKx jb (vin (by omega) (by omega)) (by omega) (f' := (va_up fq kq (some x_))) (by rw [nI_clamp (by omega)]) (G' := G_1) eG_1 dJ26_siftUpUsingComparator_46 ?_
        have a_6 : G_1 es = some (.inl (yA Y 11, cap, .inr (.inr (.inr (.inr (va_up fq kq (some x_))))))) := by rw [← eG_1]; exact gU_s _ _ _
        refine g_vret hC hr ⟨rfl, ?_⟩ (by omega) (by omega) hE dJ26_siftUpUsingComparator_47
        have hP_ := UP_e jU (fun p hp => by omega)
        exact ⟨_, a_6, jE, hP_, fun i hi => (va_up_ne _ _ (by omega)).trans (jx i hi), hf_5, rfl, rfl⟩
      · refine g_iload_n hC dJ26_siftUpUsingComparator_4 rfl 0 rfl ?_
        refine g_iconst (v := 1) hC dJ26_siftUpUsingComparator_5 rfl ?_
        refine g_isubN hC kq 1 (by omega) dJ26_siftUpUsingComparator_6 ?_
        refine g_iconst (v := 1) hC dJ26_siftUpUsingComparator_7 rfl ?_
        refine g_iushr (v := nI ((kq - 1) / 2)) hC dJ26_siftUpUsingComparator_8 (shr1 (by omega)) ?_
        refine g_istore (L' := [(4, .int (nI ((kq - 1) / 2))), (0, .int (nI kq)), (1, .ref x_), (2, .ref es), (3, .ref cm)]) hC dJ26_siftUpUsingComparator_9 (by decide) rfl ?_
        refine g_aload_n hC dJ26_siftUpUsingComparator_11 rfl 3 rfl ?_
        refine g_iload hC dJ26_siftUpUsingComparator_12 0 rfl ?_
        obtain ⟨e_, he_, hSe_⟩ := jE.1 ((kq - 1) / 2) (by omega)
        rw [va_up_ne _ _ (by omega)] at he_
        have kp_e : KPy N σ I e_ (rk e_) := by rcases hSe_ with q | q; exact hK_ _ q; rw [q]; exact hKx
        refine g_aald (t0 := 11) hC jb rfl (vin (by omega) (by omega)) (r := some e_) (by rw [nI_clamp (by omega)]; exact he_) dJ26_siftUpUsingComparator_14 ?_
        refine g_astore (L' := [(5, .ref e_), (4, .int (nI ((kq - 1) / 2))), (0, .int (nI kq)), (1, .ref x_), (2, .ref es), (3, .ref cm)]) hC dJ26_siftUpUsingComparator_15 (by decide) rfl ?_
        refine g_aload_n hC dJ26_siftUpUsingComparator_17 rfl 5 rfl ?_
        refine g_aload_n hC dJ26_siftUpUsingComparator_18 rfl 3 rfl ?_
        refine g_aload hC dJ26_siftUpUsingComparator_19 0 rfl ?_
        refine V.lts (fun lc_7 => ?_)
        refine g_calli0 hC (g_runF (n := 2) hC (met_X24_compare (G := Gq) cm x_ e_ jc jh hN hK hN2 jI hKx kp_e) kc_X24 jc (lw_F q2004 q1184 q1186 q153 q1188) q1001 q1000 q1187 q1185 q1183 (x := ⟨"java/util/Comparator", "compare", "(Ljava/lang/Object;Ljava/lang/Object;)I"⟩) ⟨by decide, by decide, by decide +kernel⟩ dJ26_siftUpUsingComparator_21 rfl ⟨by omega, by omega⟩ (by omega) (by omega) rfl (Nat.le_of_ble_eq_true rfl)) (fun r_8 G_8 n_8 u_8 hp_8 hn_8 hm_8 hu_8 => ?_)
        obtain ⟨hr1_8, hr2_8, rfl, rfl, rfl⟩ := hp_8
        refine g_if_lt hC dJ26_siftUpUsingComparator_26 (tgt := 32) (by decide) (fun c_26 => ?_) (fun c_26 => ?_)
        · refine g_aload_n hC dJ26_siftUpUsingComparator_32 rfl 4 rfl ?_
          refine g_iload_n hC dJ26_siftUpUsingComparator_33 rfl 2 rfl ?_
          refine g_aload hC dJ26_siftUpUsingComparator_34 0 rfl ?_
          obtain ⟨G_9, eG_9⟩ : ∃ G_, gU Gq es (.inl (yA Y 11, cap, .inr (.inr (.inr (.inr (va_up fq kq (some e_))))))) = G_ := ⟨_, rfl⟩
          have o_10 : G_9 cm = some (.inr (23, [.ref h])) := by rw [← eG_9]; exact (gU_n _ (gne_oa jc jb)).trans jc
          have hs_11 : sub (hM Y h N σ η) G_9 := by rw [← eG_9]; exact sub_away jh (hM_none hne)
          have hi_12 : sub I G_9 := by rw [← eG_9]; exact sub_away jI hIe
          have hf_13 : FR (fun q_ => q_ = es) n G G_9 := by rw [← eG_9]; exact FR.put jf (.inl rfl)
          refine g_aastKy hC jI kp_e jb (vin (by omega) (by omega)) (by omega) (f' := (va_up fq kq (some e_))) (by rw [nI_clamp (by omega)]) (G' := G_9) eG_9 dJ26_siftUpUsingComparator_36 ?_
          have a_14 : G_9 es = some (.inl (yA Y 11, cap, .inr (.inr (.inr (.inr (va_up fq kq (some e_))))))) := by rw [← eG_9]; exact gU_s _ _ _
          refine g_iload hC dJ26_siftUpUsingComparator_37 1 rfl ?_
          refine g_istore_n (L' := [(0, .int (nI ((kq - 1) / 2))), (5, .ref e_), (4, .int (nI ((kq - 1) / 2))), (1, .ref x_), (2, .ref es), (3, .ref cm)]) hC dJ26_siftUpUsingComparator_39 rfl (by decide) rfl ?_
          refine g_goto (tgt := 0) hC dJ26_siftUpUsingComparator_40 (by decide) ?_
          refine V.sub [0, 3, 4, 5] rfl ?_
          exact ih_ G_9 (va_up fq kq (some e_)) ((kq - 1) / 2) (a_14) (hf_13) (hs_11) (hi_12) (o_10) (by omega) (PE_sw jE (by omega) (by omega) (sw_e he_ (by omega))) (UP_s jU (by omega) (by omega) he_ (hr1_8.mp c_26)) (fun i hi => (va_up_ne _ _ (by omega)).trans (jx i hi)) (by omega)
        · refine g_goto (tgt := 43) hC dJ26_siftUpUsingComparator_29 (by decide) ?_
          refine g_aload_n hC dJ26_siftUpUsingComparator_43 rfl 4 rfl ?_
          refine g_iload_n hC dJ26_siftUpUsingComparator_44 rfl 2 rfl ?_
          refine g_aload_n hC dJ26_siftUpUsingComparator_45 rfl 3 rfl ?_
          obtain ⟨G_15, eG_15⟩ : ∃ G_, gU Gq es (.inl (yA Y 11, cap, .inr (.inr (.inr (.inr (va_up fq kq (some x_))))))) = G_ := ⟨_, rfl⟩
          have o_16 : G_15 cm = some (.inr (23, [.ref h])) := by rw [← eG_15]; exact (gU_n _ (gne_oa jc jb)).trans jc
          have hs_17 : sub (hM Y h N σ η) G_15 := by rw [← eG_15]; exact sub_away jh (hM_none hne)
          have hi_18 : sub I G_15 := by rw [← eG_15]; exact sub_away jI hIe
          have hf_19 : FR (fun q_ => q_ = es) n G G_15 := by rw [← eG_15]; exact FR.put jf (.inl rfl)
          refine g_aastKy hC jI hKx jb (vin (by omega) (by omega)) (by omega) (f' := (va_up fq kq (some x_))) (by rw [nI_clamp (by omega)]) (G' := G_15) eG_15 dJ26_siftUpUsingComparator_46 ?_
          have a_20 : G_15 es = some (.inl (yA Y 11, cap, .inr (.inr (.inr (.inr (va_up fq kq (some x_))))))) := by rw [← eG_15]; exact gU_s _ _ _
          refine g_vret hC hr ⟨rfl, ?_⟩ (by omega) (by omega) hE dJ26_siftUpUsingComparator_47
          have hP_ := UP_e jU (fun p hp => by
            obtain rfl : p = (kq - 1) / 2 := by omega
            rw [va_up_self, va_up_ne _ _ (by omega), he_]
            exact Int.not_lt.mp (fun q => c_26 (hr1_8.mpr q)))
          exact ⟨_, a_20, jE, hP_, fun i hi => (va_up_ne _ _ (by omega)).trans (jx i hi), hf_19, rfl, rfl⟩
  exact hl_0 (k_ + 1) G f k_ (ha) (FR.refl) (hh) (hI) (hcm) (by omega) (PE_0 hPE hx) (UP_0 hPH) (fun i _ => rfl) (by omega)
set_option maxHeartbeats 1000000 in
theorem met_J26_siftDownUsingComparatorY {Y : YT} {l : Launch} {n u : Nat} {G : AH} (x_ : Nat) (es : Nat) (n_ : Nat) (cm : Nat) {h N K : Nat} {σ : MS} {η : HV} {I : AH} {cap : Nat} {f : Nat → Option Nat} {S : Nat → Prop} {rk : Nat → Int} (hh : sub (hM Y h N σ η) G) (hN : σ.1 0 0 = nI N) (hK : σ.1 4 0 = nI K) (hN2 : N ≤ 12) (hI : sub I G) (hIe : I es = none) (hne : ¬ hD h es) (hz : yz Y ≤ es) (hcm : G cm = some (.inr (23, [.ref h]))) (ha : G es = some (.inl (yA Y 11, cap, .inr (.inr (.inr (.inr f)))))) (hn0 : 0 < n_) (hk : n_ ≤ cap) (hcap : cap < 1000) (hPE : PE S (va_up f 0 (some x_)) n_) (hPH : DN rk (va_up f 0 (some x_)) n_ 0) (hK_ : ∀ a, S a → KPy N σ I a (rk a)) (hKx : KPy N σ I x_ (rk x_)) : GM Y l yJ26_siftDownUsingComparator (ws_ yJ26_siftDownUsingComparator cJ26_siftDownUsingComparator 9 none) 3 64 [.int 0, .ref x_, .ref es, .int (nI n_), .ref cm] G n u 0 0 (pV (fun G' n' u' => ∃ f', G' es = some (.inl (yA Y 11, cap, .inr (.inr (.inr (.inr f'))))) ∧ PE S f' n_ ∧ PH rk f' n_ ∧ FR (fun q_ => q_ = es) n G G' ∧ n = n' ∧ u = u')) noX := by
  refine GM.intro (own := RJ26) rfl (by decide +kernel) (Nat.le_of_ble_eq_true rfl) ?_
  intro p e s m args below meth c R Q hC hr hnm hF hL hE
  have hE1 := hE.1
  have hE2 := hE.2.1
  have hnz : yz Y ≤ n := by have := hC.z; have := hC.n; omega
  show V Y p l e R s m args below meth c 9 n u G n u Q 0 [(0, .int 0), (1, .ref x_), (2, .ref es), (3, .int (nI n_)), (4, .ref cm)] []
  refine V.lts (fun hlt => ?_)
  have hl_cm : cm < n := hlt _ _ hcm
  have hl_es : es < n := hlt _ _ ha
  have hl_h : h + 6 < n := hlt _ _ (hh _ _ (hM_j 6))
  have hIn := sub_none hI hlt
  refine g_iload_n hC dJ26_siftDownUsingComparator_0 rfl 3 rfl ?_
  refine g_iconst (v := 1) hC dJ26_siftDownUsingComparator_1 rfl ?_
  refine g_iushr (v := nI (n_ / 2)) hC dJ26_siftDownUsingComparator_2 (shr1 (by omega)) ?_
  refine g_istore (L' := [(5, .int (nI (n_ / 2))), (0, .int 0), (1, .ref x_), (2, .ref es), (3, .int (nI n_)), (4, .ref cm)]) hC dJ26_siftDownUsingComparator_3 (by decide) rfl ?_
  have hl_5 : ∀ (kf_ : Nat) (Gq : AH) (fq : Nat → Option Nat) (kq : Nat), (Gq es = some (.inl (yA Y 11, cap, .inr (.inr (.inr (.inr fq)))))) → (FR (fun q_ => q_ = es) n G Gq) → (sub (hM Y h N σ η) Gq) → (sub I Gq) → (Gq cm = some (.inr (23, [.ref h]))) → (kq < n_) → (PE S (va_up fq kq (some x_)) n_) → (DN rk (va_up fq kq (some x_)) n_ kq) → (∀ i, n_ ≤ i → fq i = f i) → n_ - kq < kf_ → V Y p l e R s m args below meth c 9 n u Gq n u Q 5 [(0, .int (nI kq)), (1, .ref x_), (2, .ref es), (3, .int (nI n_)), (4, .ref cm), (5, .int (nI (n_ / 2)))] [] := by
    intro kf_
    induction kf_ with
    | zero => intro Gq fq kq jb jf jh jI jc jk jE jU jx hk_; exact absurd hk_ (Nat.not_lt_zero _)
    | succ kf_ ih_ =>
      intro Gq fq kq jb jf jh jI jc jk jE jU jx hk_
      refine g_iload_n hC dJ26_siftDownUsingComparator_5 rfl 0 rfl ?_
      refine g_iload hC dJ26_siftDownUsingComparator_6 5 rfl ?_
      refine g_icmp_geN hC kq (n_ / 2) (by omega) (by omega) dJ26_siftDownUsingComparator_8 (tgt := 88) (by decide) (fun c_8 => ?_) (fun c_8 => ?_)
      · refine g_aload_n hC dJ26_siftDownUsingComparator_88 rfl 2 rfl ?_
        refine g_iload_n hC dJ26_siftDownUsingComparator_89 rfl 0 rfl ?_
        refine g_aload_n hC dJ26_siftDownUsingComparator_90 rfl 1 rfl ?_
        obtain ⟨G_1, eG_1⟩ : ∃ G_, gU Gq es (.inl (yA Y 11, cap, .inr (.inr (.inr (.inr (va_up fq kq (some x_))))))) = G_ := ⟨_, rfl⟩
        have o_2 : G_1 cm = some (.inr (23, [.ref h])) := by rw [← eG_1]; exact (gU_n _ (gne_oa jc jb)).trans jc
        have hs_3 : sub (hM Y h N σ η) G_1 := by rw [← eG_1]; exact sub_away jh (hM_none hne)
        have hi_4 : sub I G_1 := by rw [← eG_1]; exact sub_away jI hIe
        have hf_5 : FR (fun q_ => q_ = es) n G G_1 := by rw [← eG_1]; exact FR.put jf (.inl rfl)
        refine g_aastKy hC jI hKx jb (vin (by omega) (by omega)) (by omega) (f' := (va_up fq kq (some x_))) (by rw [nI_clamp (by omega)]) (G' := G_1) eG_1 dJ26_siftDownUsingComparator_91 ?_
        have a_6 : G_1 es = some (.inl (yA Y 11, cap, .inr (.inr (.inr (.inr (va_up fq kq (some x_))))))) := by rw [← eG_1]; exact gU_s _ _ _
        refine g_vret hC hr ⟨rfl, ?_⟩ (by omega) (by omega) hE dJ26_siftDownUsingComparator_92
        have hP_ := DN_e jU (fun j hj hn => by omega)
        exact ⟨_, a_6, jE, hP_, hf_5, rfl, rfl⟩
      · have hj_61 : ∀ (ch : Nat) (cv : Nat) (rt : Nat), (ch = 2 * kq + 1 ∨ ch = 2 * kq + 2) → (ch < n_) → (fq ch = some cv) → (KPy N σ I cv (rk cv)) → (∀ j, (j = 2 * kq + 1 ∨ j = 2 * kq + 2) → j < n_ → rk cv ≤ rkO rk (fq j)) → V Y p l e R s m args below meth c 9 n u Gq n u Q 61 [(0, .int (nI kq)), (1, .ref x_), (2, .ref es), (3, .int (nI n_)), (4, .ref cm), (5, .int (nI (n_ / 2))), (6, .int (nI ch)), (7, .ref cv), (8, .int (nI rt))] [] := by
          intro ch cv rt hch hcn hcv hKc hmn
          refine g_aload hC dJ26_siftDownUsingComparator_61 4 rfl ?_
          refine g_aload_n hC dJ26_siftDownUsingComparator_63 rfl 1 rfl ?_
          refine g_aload hC dJ26_siftDownUsingComparator_64 7 rfl ?_
          refine V.lts (fun lc_7 => ?_)
          refine g_calli0 hC (g_runF (n := 2) hC (met_X24_compare (G := Gq) cm x_ cv jc jh hN hK hN2 jI hKx hKc) kc_X24 jc (lw_F q2004 q1184 q1186 q153 q1188) q1001 q1000 q1187 q1185 q1183 (x := ⟨"java/util/Comparator", "compare", "(Ljava/lang/Object;Ljava/lang/Object;)I"⟩) ⟨by decide, by decide, by decide +kernel⟩ dJ26_siftDownUsingComparator_66 rfl ⟨by omega, by omega⟩ (by omega) (by omega) rfl (Nat.le_of_ble_eq_true rfl)) (fun r_8 G_8 n_8 u_8 hp_8 hn_8 hm_8 hu_8 => ?_)
          obtain ⟨hr1_8, hr2_8, rfl, rfl, rfl⟩ := hp_8
          refine g_if_gt hC dJ26_siftDownUsingComparator_71 (tgt := 77) (by decide) (fun c_71 => ?_) (fun c_71 => ?_)
          · refine g_aload_n hC dJ26_siftDownUsingComparator_77 rfl 2 rfl ?_
            refine g_iload_n hC dJ26_siftDownUsingComparator_78 rfl 0 rfl ?_
            refine g_aload hC dJ26_siftDownUsingComparator_79 7 rfl ?_
            obtain ⟨G_9, eG_9⟩ : ∃ G_, gU Gq es (.inl (yA Y 11, cap, .inr (.inr (.inr (.inr (va_up fq kq (some cv))))))) = G_ := ⟨_, rfl⟩
            have o_10 : G_9 cm = some (.inr (23, [.ref h])) := by rw [← eG_9]; exact (gU_n _ (gne_oa jc jb)).trans jc
            have hs_11 : sub (hM Y h N σ η) G_9 := by rw [← eG_9]; exact sub_away jh (hM_none hne)
            have hi_12 : sub I G_9 := by rw [← eG_9]; exact sub_away jI hIe
            have hf_13 : FR (fun q_ => q_ = es) n G G_9 := by rw [← eG_9]; exact FR.put jf (.inl rfl)
            refine g_aastKy hC jI hKc jb (vin (by omega) (by omega)) (by omega) (f' := (va_up fq kq (some cv))) (by rw [nI_clamp (by omega)]) (G' := G_9) eG_9 dJ26_siftDownUsingComparator_81 ?_
            have a_14 : G_9 es = some (.inl (yA Y 11, cap, .inr (.inr (.inr (.inr (va_up fq kq (some cv))))))) := by rw [← eG_9]; exact gU_s _ _ _
            refine g_iload hC dJ26_siftDownUsingComparator_82 6 rfl ?_
            refine g_istore_n (L' := [(0, .int (nI ch)), (1, .ref x_), (2, .ref es), (3, .int (nI n_)), (4, .ref cm), (5, .int (nI (n_ / 2))), (6, .int (nI ch)), (7, .ref cv), (8, .int (nI rt))]) hC dJ26_siftDownUsingComparator_84 rfl (by decide) rfl ?_
            refine g_goto (tgt := 5) hC dJ26_siftDownUsingComparator_85 (by decide) ?_
            refine V.sub [0, 1, 2, 3, 4, 5] rfl ?_
            exact ih_ G_9 (va_up fq kq (some cv)) ch (a_14) (hf_13) (hs_11) (hi_12) (o_10) (by omega) (PE_sw jE (by omega) (by omega) (sw_e hcv (by omega))) (DN_s jU hch hcn hcv (hr2_8.mp c_71) hmn) (fun i hi => (va_up_ne _ _ (by omega)).trans (jx i hi)) (by omega)
          · refine g_goto (tgt := 88) hC dJ26_siftDownUsingComparator_74 (by decide) ?_
            refine g_aload_n hC dJ26_siftDownUsingComparator_88 rfl 2 rfl ?_
            refine g_iload_n hC dJ26_siftDownUsingComparator_89 rfl 0 rfl ?_
            refine g_aload_n hC dJ26_siftDownUsingComparator_90 rfl 1 rfl ?_
            obtain ⟨G_15, eG_15⟩ : ∃ G_, gU Gq es (.inl (yA Y 11, cap, .inr (.inr (.inr (.inr (va_up fq kq (some x_))))))) = G_ := ⟨_, rfl⟩
            have o_16 : G_15 cm = some (.inr (23, [.ref h])) := by rw [← eG_15]; exact (gU_n _ (gne_oa jc jb)).trans jc
            have hs_17 : sub (hM Y h N σ η) G_15 := by rw [← eG_15]; exact sub_away jh (hM_none hne)
            have hi_18 : sub I G_15 := by rw [← eG_15]; exact sub_away jI hIe
            have hf_19 : FR (fun q_ => q_ = es) n G G_15 := by rw [← eG_15]; exact FR.put jf (.inl rfl)
            refine g_aastKy hC jI hKx jb (vin (by omega) (by omega)) (by omega) (f' := (va_up fq kq (some x_))) (by rw [nI_clamp (by omega)]) (G' := G_15) eG_15 dJ26_siftDownUsingComparator_91 ?_
            have a_20 : G_15 es = some (.inl (yA Y 11, cap, .inr (.inr (.inr (.inr (va_up fq kq (some x_))))))) := by rw [← eG_15]; exact gU_s _ _ _
            refine g_vret hC hr ⟨rfl, ?_⟩ (by omega) (by omega) hE dJ26_siftDownUsingComparator_92
            have hP_ := DN_e jU (fun j hj hn => by
              rw [va_up_self, va_up_ne _ _ (by omega)]
              exact Int.le_trans (Int.not_lt.mp (fun q => c_71 (hr2_8.mpr q))) (hmn j hj hn))
            exact ⟨_, a_20, jE, hP_, hf_19, rfl, rfl⟩
        refine g_iload_n hC dJ26_siftDownUsingComparator_11 rfl 0 rfl ?_
        refine g_iconst (v := 1) hC dJ26_siftDownUsingComparator_12 rfl ?_
        refine g_ishl hC dJ26_siftDownUsingComparator_13 ?_
        rw [shl1 (by omega)]
        refine g_iconst (v := 1) hC dJ26_siftDownUsingComparator_14 rfl ?_
        refine g_iaddN hC (2 * kq) 1 dJ26_siftDownUsingComparator_15 ?_
        refine g_istore (L' := [(6, .int (nI ((2 * kq) + 1))), (0, .int (nI kq)), (1, .ref x_), (2, .ref es), (3, .int (nI n_)), (4, .ref cm), (5, .int (nI (n_ / 2)))]) hC dJ26_siftDownUsingComparator_16 (by decide) rfl ?_
        refine g_aload_n hC dJ26_siftDownUsingComparator_18 rfl 3 rfl ?_
        refine g_iload hC dJ26_siftDownUsingComparator_19 0 rfl ?_
        obtain ⟨c_, hc_, hSc_⟩ := jE.1 (2 * kq + 1) (by omega)
        rw [va_up_ne _ _ (by omega)] at hc_
        have kp_c : KPy N σ I c_ (rk c_) := hK_ _ hSc_
        refine g_aald (t0 := 11) hC jb rfl (vin (by omega) (by omega)) (r := some c_) (by rw [nI_clamp (by omega)]; exact hc_) dJ26_siftDownUsingComparator_21 ?_
        refine g_astore (L' := [(7, .ref c_), (6, .int (nI ((2 * kq) + 1))), (0, .int (nI kq)), (1, .ref x_), (2, .ref es), (3, .int (nI n_)), (4, .ref cm), (5, .int (nI (n_ / 2)))]) hC dJ26_siftDownUsingComparator_22 (by decide) rfl ?_
        refine g_iload hC dJ26_siftDownUsingComparator_24 1 rfl ?_
        refine g_iconst (v := 1) hC dJ26_siftDownUsingComparator_26 rfl ?_
        refine g_iaddN hC ((2 * kq) + 1) 1 dJ26_siftDownUsingComparator_27 ?_
        refine g_istore (L' := [(8, .int (nI (((2 * kq) + 1) + 1))), (7, .ref c_), (6, .int (nI ((2 * kq) + 1))), (0, .int (nI kq)), (1, .ref x_), (2, .ref es), (3, .int (nI n_)), (4, .ref cm), (5, .int (nI (n_ / 2)))]) hC dJ26_siftDownUsingComparator_28 (by decide) rfl ?_
        refine g_iload hC dJ26_siftDownUsingComparator_30 0 rfl ?_
        refine g_iload_n hC dJ26_siftDownUsingComparator_32 rfl 6 rfl ?_
        refine g_icmp_geN hC (((2 * kq) + 1) + 1) n_ (by omega) (by omega) dJ26_siftDownUsingComparator_33 (tgt := 61) (by decide) (fun c_33 => ?_) (fun c_33 => ?_)
        · refine V.sub [3, 4, 5, 6, 7, 8, 2, 1, 0] rfl ?_
          exact hj_61 ((2 * kq) + 1) c_ (((2 * kq) + 1) + 1) (by omega) (by omega) (hc_) (kp_c) (fun j hj hn => by obtain rfl : j = 2 * kq + 1 := (by omega); rw [hc_]; exact Int.le_refl _)
        · refine g_aload hC dJ26_siftDownUsingComparator_36 7 rfl ?_
          refine g_aload hC dJ26_siftDownUsingComparator_38 1 rfl ?_
          refine g_aload_n hC dJ26_siftDownUsingComparator_40 rfl 5 rfl ?_
          refine g_iload hC dJ26_siftDownUsingComparator_41 0 rfl ?_
          obtain ⟨d_, hd_, hSd_⟩ := jE.1 (2 * kq + 1 + 1) (by omega)
          rw [va_up_ne _ _ (by omega)] at hd_
          have kp_d : KPy N σ I d_ (rk d_) := hK_ _ hSd_
          refine g_aald (t0 := 11) hC jb rfl (vin (by omega) (by omega)) (r := some d_) (by rw [nI_clamp (by omega)]; exact hd_) dJ26_siftDownUsingComparator_43 ?_
          refine V.lts (fun lc_21 => ?_)
          refine g_calli0 hC (g_runF (n := 2) hC (met_X24_compare (G := Gq) cm c_ d_ jc jh hN hK hN2 jI kp_c kp_d) kc_X24 jc (lw_F q2004 q1184 q1186 q153 q1188) q1001 q1000 q1187 q1185 q1183 (x := ⟨"java/util/Comparator", "compare", "(Ljava/lang/Object;Ljava/lang/Object;)I"⟩) ⟨by decide, by decide, by decide +kernel⟩ dJ26_siftDownUsingComparator_44 rfl ⟨by omega, by omega⟩ (by omega) (by omega) rfl (Nat.le_of_ble_eq_true rfl)) (fun r_22 G_22 n_22 u_22 hp_22 hn_22 hm_22 hu_22 => ?_)
          obtain ⟨hr1_22, hr2_22, rfl, rfl, rfl⟩ := hp_22
          refine g_if_le hC dJ26_siftDownUsingComparator_49 (tgt := 61) (by decide) (fun c_49 => ?_) (fun c_49 => ?_)
          · refine V.sub [3, 4, 5, 6, 7, 8, 2, 1, 0] rfl ?_
            exact hj_61 ((2 * kq) + 1) c_ (((2 * kq) + 1) + 1) (by omega) (by omega) (hc_) (kp_c) (fun j hj hn => by
              rcases hj with rfl | rfl
              · rw [hc_]; exact Int.le_refl _
              · rw [hd_]; exact Int.not_lt.mp (fun q => Int32.not_lt.mpr c_49 (hr2_22.mpr q)))
          · refine g_aload_n hC dJ26_siftDownUsingComparator_52 rfl 5 rfl ?_
            refine g_iload hC dJ26_siftDownUsingComparator_53 0 rfl ?_
            refine g_dup hC dJ26_siftDownUsingComparator_55 rfl ?_
            refine g_istore (L' := [(6, .int (nI (((2 * kq) + 1) + 1))), (8, .int (nI (((2 * kq) + 1) + 1))), (7, .ref c_), (0, .int (nI kq)), (1, .ref x_), (2, .ref es), (3, .int (nI n_)), (4, .ref cm), (5, .int (nI (n_ / 2)))]) hC dJ26_siftDownUsingComparator_56 (by decide) rfl ?_
            refine g_aald (t0 := 11) hC jb rfl (vin (by omega) (by omega)) (r := some d_) (by rw [nI_clamp (by omega)]; exact hd_) dJ26_siftDownUsingComparator_58 ?_
            refine g_astore (L' := [(7, .ref d_), (6, .int (nI (((2 * kq) + 1) + 1))), (8, .int (nI (((2 * kq) + 1) + 1))), (0, .int (nI kq)), (1, .ref x_), (2, .ref es), (3, .int (nI n_)), (4, .ref cm), (5, .int (nI (n_ / 2)))]) hC dJ26_siftDownUsingComparator_59 (by decide) rfl ?_
            refine V.sub [3, 4, 5, 6, 7, 8, 1, 0, 2] rfl ?_
            exact hj_61 (((2 * kq) + 1) + 1) d_ (((2 * kq) + 1) + 1) (by omega) (by omega) (hd_) (kp_d) (fun j hj hn => by
              rcases hj with rfl | rfl
              · rw [hc_]; exact Int.le_of_lt (hr2_22.mp (Int32.not_le.mp c_49))
              · rw [hd_]; exact Int.le_refl _)
  refine V.sub [1, 2, 3, 4, 5, 0] rfl ?_
  exact hl_5 (n_ - 0 + 1) G f 0 (ha) (FR.refl) (hh) (hI) (hcm) (by omega) (hPE) (hPH) (fun i _ => rfl) (by omega)
