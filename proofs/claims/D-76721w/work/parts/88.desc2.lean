set_option maxRecDepth 100000
/-! COMPONENT, 21: the descending map and its keys -/
theorem TM.h6 {τ τ' : TS} {q : TQ} {LO HI : Int} {M : MP} (h : TM τ q LO HI M) (h2 : τ'.2 = τ.2) (e : ∀ k a, k < 6 → τ'.1 k a = τ.1 k a) : TM τ' q LO HI M := by
  obtain ⟨a1, a2, a3, a4, a5, a6⟩ := h
  refine ⟨a1.cong (fun k a _ hk => e k a hk) (by rw [h2]), fun r hr => by rw [h2]; exact a2 r ((e 5 0 (by decide)).symm.trans hr), a3, fun x k v => ?_, fun a ha => ?_, by rw [h2]; exact a6⟩
  · rw [a4]; simp only [h2, e 0 _ (by decide), e 1 _ (by decide)]
  · rw [h2] at ha; rw [e 0 a (by decide)]; exact a5 a ha
theorem TMI.h8 {K : AH → Nat → Int → Prop} {Y : YT} {t d : Nat} {c : Option Nat} {J : AH} {τ : TS} {q : TQ} {M : MP} (h : TMI K Y t c J τ q M) : TMI K Y t c J (tr τ 8 0 (some d)) q M :=
  ⟨h.1, h.2.1.h6 rfl (fun k a hk => tr_nk (by omega)), (tr_nk (by decide)).trans h.2.2.1, fun a ha => h.2.2.2.1 a ((tr_nk (by decide)).symm.trans ha), fun a k ha hk => h.2.2.2.2.1 a k ha ((tr_nk (by decide)).symm.trans hk), h.2.2.2.2.2⟩
theorem TZ_h8 {t d : Nat} {τ : TS} {G : AH} (hs : sub (TZ t τ) G) (hk : ∀ a, τ.1 7 0 = some a → a ≠ t ∧ τ.2.2.2 a = false) : sub (TZ t (tr τ 8 0 (some d))) (gU G t (.inr (34, tHl (tr τ 8 0 (some d))))) := by
  intro a e h
  by_cases c : a = t
  · subst c
    rw [TZ_h (τ := tr τ 8 0 (some d)) (fun b hb => hk b ((tr_nk (by decide)).symm.trans hb))] at h
    rw [gU_s]; exact h
  · rw [gU_n _ c]
    refine hs a e ?_
    unfold TZ tG at h ⊢
    rw [tr_nk (by decide)] at h
    split at h
    · next q => rw [if_pos q]; exact h
    · next q =>
      rw [if_neg q]
      first | rw [if_neg c] | skip
      first | rw [if_neg c] at h | skip
      split at h
      · next r =>
        rw [if_pos (show τ.2.2.2 a = true from r)]
        rw [tNl_h (by decide)] at h; exact h
      · next r => cases h
theorem TZ_ne {K : AH → Nat → Int → Prop} {Y : YT} {t a : Nat} {c : Option Nat} {J : AH} {τ : TS} {q : TQ} {M : MP} {G : AH} {fs : List Value} (h : TMI K Y t c J τ q M) (hs : sub (TZ t τ) G) (h1 : G a = some (.inr (27, fs))) : a ≠ t := (h.ho hs h1 (by decide) (by decide)).1
theorem tHl_8 {τ : TS} {d : Nat} : (tHl τ).set 8 (.ref d) = tHl (tr τ 8 0 (some d)) := by
  unfold tHl
  simp [tr, va_rf]
set_option maxHeartbeats 1000000 in
theorem met_J44_init_d {Y : YT} {l : Launch} {n u : Nat} {G : AH} (i_ : Nat) (m_ : Nat)  (h1 : G i_ = some (.inr (54, [.null]))) (hz : yz Y ≤ i_) : GM Y l yJ44_init (ws_ yJ44_init cJ44_init 2 none) 3 64 [.ref i_, .ref m_] G n u 0 0 (pV (fun G' n' u' => G' i_ = some (.inr (54, [.ref m_])) ∧ FR (fun q_ => q_ = i_) n G G' ∧ n = n' ∧ u = u')) noX := by
  refine GM.intro (own := RJ44) rfl (by decide +kernel) (Nat.le_of_ble_eq_true rfl) ?_
  intro p e s m args below meth c R Q hC hr hnm hF hL hE
  have hE1 := hE.1
  have hE2 := hE.2.1
  have hnz : yz Y ≤ n := by have := hC.z; have := hC.n; omega
  show V Y p l e R s m args below meth c 2 n u G n u Q 0 [(0, .ref i_), (1, .ref m_)] []
  refine V.lts (fun hlt => ?_)
  have hl_i_ : i_ < n := hlt _ _ h1
  refine g_aload_n hC dJ44_init_0 rfl 0 rfl ?_
  refine V.lts (fun lc_1 => ?_)
  refine g_callv0 hC (g_runI (ret := none) hC (met_J31_init (G := G) i_) (lw_meth q2365) q139 q2761 q2364 rfl md_J31_init dJ44_init_1 rfl ⟨by omega, by omega⟩ (by omega) (by omega) rfl (Nat.le_of_ble_eq_true rfl)) (fun G_2 n_2 u_2 hp_2 hn_2 hm_2 hu_2 => ?_)
  obtain ⟨rfl, rfl, rfl⟩ := hp_2
  refine g_aload_n hC dJ44_init_4 rfl 0 rfl ?_
  refine g_aload_n hC dJ44_init_5 rfl 1 rfl ?_
  obtain ⟨G_3, eG_3⟩ : ∃ G_, gU G i_ (.inr (54, [.ref m_])) = G_ := ⟨_, rfl⟩
  have hf_4 : FR (fun q_ => q_ = i_) n G G_3 := by rw [← eG_3]; exact FR.put FR.refl (.inl rfl)
  refine g_putF hC hnm kc_J44 h1 0 (by decide) q2762 rfl rfl rfl rfl (by show 0 < 1; decide) rfl (by omega) (G' := G_3) eG_3 dJ44_init_6 ?_
  have o_5 : G_3 i_ = some (.inr (54, [.ref m_])) := by rw [← eG_3]; exact gU_s _ _ _
  refine g_vret hC hr ⟨rfl, ?_⟩ (by omega) (by omega) hE dJ44_init_9
  exact ⟨o_5, hf_4, rfl, rfl⟩
set_option maxHeartbeats 1000000 in
theorem met_J45_init {Y : YT} {l : Launch} {n u : Nat} {G : AH} (i_ : Nat) (t : Nat)  (h1 : G i_ = some (.inr (55, [.null, .null, .null, .null, .null, .int 0, .int 0, .int 0, .int 0, .null, .null, .null, .null]))) (hz : yz Y ≤ i_) : GM Y l yJ45_init (ws_ yJ45_init cJ45_init 8 none) 2 44 [.ref i_, .ref t, .int 1, .null, .int 1, .int 1, .null, .int 1] G n u 0 0 (pV (fun G' n' u' => G' i_ = some (.inr (55, [.null, .null, .ref t, .null, .null, .int 1, .int 1, .int 1, .int 1, .null, .null, .null, .null])) ∧ FR (fun q_ => q_ = i_) n G G' ∧ n = n' ∧ u = u')) noX := by
  refine GM.intro (own := RJ45) rfl (by decide +kernel) (Nat.le_of_ble_eq_true rfl) ?_
  intro p e s m args below meth c R Q hC hr hnm hF hL hE
  have hE1 := hE.1
  have hE2 := hE.2.1
  have hnz : yz Y ≤ n := by have := hC.z; have := hC.n; omega
  show V Y p l e R s m args below meth c 8 n u G n u Q 0 [(0, .ref i_), (1, .ref t), (2, .int 1), (3, .null), (4, .int 1), (5, .int 1), (6, .null), (7, .int 1)] []
  refine V.lts (fun hlt => ?_)
  have hl_i_ : i_ < n := hlt _ _ h1
  refine g_aload_n hC dJ45_init_0 rfl 0 rfl ?_
  refine V.lts (fun lc_1 => ?_)
  refine g_callv0 hC (g_runI (ret := none) hC (met_J0_init (G := G) i_) (lw_meth q218) q84 q3222 q217 rfl md_J0_init dJ45_init_1 rfl ⟨by omega, by omega⟩ (by omega) (by omega) rfl (Nat.le_of_ble_eq_true rfl)) (fun G_2 n_2 u_2 hp_2 hn_2 hm_2 hu_2 => ?_)
  obtain ⟨rfl, rfl, rfl⟩ := hp_2
  refine g_iload_n hC dJ45_init_4 rfl 2 rfl ?_
  refine g_if_neN hC 1 (by omega) dJ45_init_5 (tgt := 33) (by decide) (fun c_5 => ?_) (fun c_5 => ?_)
  · refine g_iload_n hC dJ45_init_33 rfl 2 rfl ?_
    refine g_if_neN hC 1 (by omega) dJ45_init_34 (tgt := 44) (by decide) (fun c_34 => ?_) (fun c_34 => ?_)
    · refine g_iload hC dJ45_init_44 5 rfl ?_
      refine g_if_neN hC 1 (by omega) dJ45_init_46 (tgt := 58) (by decide) (fun c_46 => ?_) (fun c_46 => ?_)
      · refine g_aload_n hC dJ45_init_58 rfl 0 rfl ?_
        refine g_aload_n hC dJ45_init_59 rfl 1 rfl ?_
        obtain ⟨G_3, eG_3⟩ : ∃ G_, gU G i_ (.inr (55, [.null, .null, .ref t, .null, .null, .int 0, .int 0, .int 0, .int 0, .null, .null, .null, .null])) = G_ := ⟨_, rfl⟩
        have hf_4 : FR (fun q_ => q_ = i_) n G G_3 := by rw [← eG_3]; exact FR.put FR.refl (.inl rfl)
        refine g_putF hC hnm kc_J46 h1 2 (by decide) q3247 rfl rfl rfl rfl (by show 2 < 13; decide) rfl (by omega) (G' := G_3) eG_3 dJ45_init_60 ?_
        have o_5 : G_3 i_ = some (.inr (55, [.null, .null, .ref t, .null, .null, .int 0, .int 0, .int 0, .int 0, .null, .null, .null, .null])) := by rw [← eG_3]; exact gU_s _ _ _
        refine g_aload_n hC dJ45_init_63 rfl 0 rfl ?_
        refine g_iload_n hC dJ45_init_64 rfl 2 rfl ?_
        obtain ⟨G_6, eG_6⟩ : ∃ G_, gU G_3 i_ (.inr (55, [.null, .null, .ref t, .null, .null, .int 1, .int 0, .int 0, .int 0, .null, .null, .null, .null])) = G_ := ⟨_, rfl⟩
        have hf_7 : FR (fun q_ => q_ = i_) n G G_6 := by rw [← eG_6]; exact FR.put hf_4 (.inl rfl)
        refine g_putF hC hnm kc_J46 o_5 5 (by decide) q3261 rfl rfl rfl rfl (by show 5 < 13; decide) rfl (by omega) (G' := G_6) eG_6 dJ45_init_65 ?_
        have o_8 : G_6 i_ = some (.inr (55, [.null, .null, .ref t, .null, .null, .int 1, .int 0, .int 0, .int 0, .null, .null, .null, .null])) := by rw [← eG_6]; exact gU_s _ _ _
        refine g_aload_n hC dJ45_init_68 rfl 0 rfl ?_
        refine g_aload_nN hC dJ45_init_69 rfl 3 rfl ?_
        obtain ⟨G_9, eG_9⟩ : ∃ G_, gU G_6 i_ (.inr (55, [.null, .null, .ref t, .null, .null, .int 1, .int 0, .int 0, .int 0, .null, .null, .null, .null])) = G_ := ⟨_, rfl⟩
        have hf_10 : FR (fun q_ => q_ = i_) n G G_9 := by rw [← eG_9]; exact FR.put hf_7 (.inl rfl)
        refine g_putF hC hnm kc_J46 o_8 3 (by decide) q3251 rfl rfl rfl rfl (by show 3 < 13; decide) rfl (by omega) (G' := G_9) eG_9 dJ45_init_70 ?_
        have o_11 : G_9 i_ = some (.inr (55, [.null, .null, .ref t, .null, .null, .int 1, .int 0, .int 0, .int 0, .null, .null, .null, .null])) := by rw [← eG_9]; exact gU_s _ _ _
        refine g_aload_n hC dJ45_init_73 rfl 0 rfl ?_
        refine g_iload hC dJ45_init_74 4 rfl ?_
        obtain ⟨G_12, eG_12⟩ : ∃ G_, gU G_9 i_ (.inr (55, [.null, .null, .ref t, .null, .null, .int 1, .int 0, .int 1, .int 0, .null, .null, .null, .null])) = G_ := ⟨_, rfl⟩
        have hf_13 : FR (fun q_ => q_ = i_) n G G_12 := by rw [← eG_12]; exact FR.put hf_10 (.inl rfl)
        refine g_putF hC hnm kc_J46 o_11 7 (by decide) q3273 rfl rfl rfl rfl (by show 7 < 13; decide) rfl (by omega) (G' := G_12) eG_12 dJ45_init_76 ?_
        have o_14 : G_12 i_ = some (.inr (55, [.null, .null, .ref t, .null, .null, .int 1, .int 0, .int 1, .int 0, .null, .null, .null, .null])) := by rw [← eG_12]; exact gU_s _ _ _
        refine g_aload_n hC dJ45_init_79 rfl 0 rfl ?_
        refine g_iload hC dJ45_init_80 5 rfl ?_
        obtain ⟨G_15, eG_15⟩ : ∃ G_, gU G_12 i_ (.inr (55, [.null, .null, .ref t, .null, .null, .int 1, .int 1, .int 1, .int 0, .null, .null, .null, .null])) = G_ := ⟨_, rfl⟩
        have hf_16 : FR (fun q_ => q_ = i_) n G G_15 := by rw [← eG_15]; exact FR.put hf_13 (.inl rfl)
        refine g_putF hC hnm kc_J46 o_14 6 (by decide) q3267 rfl rfl rfl rfl (by show 6 < 13; decide) rfl (by omega) (G' := G_15) eG_15 dJ45_init_82 ?_
        have o_17 : G_15 i_ = some (.inr (55, [.null, .null, .ref t, .null, .null, .int 1, .int 1, .int 1, .int 0, .null, .null, .null, .null])) := by rw [← eG_15]; exact gU_s _ _ _
        refine g_aload_n hC dJ45_init_85 rfl 0 rfl ?_
        refine g_aloadN hC dJ45_init_86 6 rfl ?_
        obtain ⟨G_18, eG_18⟩ : ∃ G_, gU G_15 i_ (.inr (55, [.null, .null, .ref t, .null, .null, .int 1, .int 1, .int 1, .int 0, .null, .null, .null, .null])) = G_ := ⟨_, rfl⟩
        have hf_19 : FR (fun q_ => q_ = i_) n G G_18 := by rw [← eG_18]; exact FR.put hf_16 (.inl rfl)
        refine g_putF hC hnm kc_J46 o_17 4 (by decide) q3256 rfl rfl rfl rfl (by show 4 < 13; decide) rfl (by omega) (G' := G_18) eG_18 dJ45_init_88 ?_
        have o_20 : G_18 i_ = some (.inr (55, [.null, .null, .ref t, .null, .null, .int 1, .int 1, .int 1, .int 0, .null, .null, .null, .null])) := by rw [← eG_18]; exact gU_s _ _ _
        refine g_aload_n hC dJ45_init_91 rfl 0 rfl ?_
        refine g_iload hC dJ45_init_92 7 rfl ?_
        obtain ⟨G_21, eG_21⟩ : ∃ G_, gU G_18 i_ (.inr (55, [.null, .null, .ref t, .null, .null, .int 1, .int 1, .int 1, .int 1, .null, .null, .null, .null])) = G_ := ⟨_, rfl⟩
        have hf_22 : FR (fun q_ => q_ = i_) n G G_21 := by rw [← eG_21]; exact FR.put hf_19 (.inl rfl)
        refine g_putF hC hnm kc_J46 o_20 8 (by decide) q3278 rfl rfl rfl rfl (by show 8 < 13; decide) rfl (by omega) (G' := G_21) eG_21 dJ45_init_94 ?_
        have o_23 : G_21 i_ = some (.inr (55, [.null, .null, .ref t, .null, .null, .int 1, .int 1, .int 1, .int 1, .null, .null, .null, .null])) := by rw [← eG_21]; exact gU_s _ _ _
        refine g_vret hC hr ⟨rfl, ?_⟩ (by omega) (by omega) hE dJ45_init_97
        exact ⟨o_23, hf_22, rfl, rfl⟩
      · first | exact absurd c_46 (by decide) | exact absurd c_46 (by omega)
    · first | exact absurd c_34 (by decide) | exact absurd c_34 (by omega)
  · first | exact absurd c_5 (by decide) | exact absurd c_5 (by omega)
set_option maxHeartbeats 1000000 in
theorem met_J46_init {Y : YT} {l : Launch} {n u : Nat} {G : AH} (i_ : Nat) (t : Nat) {τ : TS} {q : TQ} {M : MP} {K : AH → Nat → Int → Prop} {J : AH} {cm h : Nat} (hT : TMI K Y t (some cm) J τ q M) (hps : sub (TZ t τ) G) (hcm : G cm = some (.inr (27, [.ref h]))) (hzc : yz Y ≤ cm) (h1 : G i_ = some (.inr (55, [.null, .null, .null, .null, .null, .int 0, .int 0, .int 0, .int 0, .null, .null, .null, .null]))) (hz : yz Y ≤ i_) : GM Y l yJ46_init (ws_ yJ46_init cJ46_init 8 none) 3 71 [.ref i_, .ref t, .int 1, .null, .int 1, .int 1, .null, .int 1] G n u 1 1 (pV (fun G' n' u' => G' i_ = some (.inr (55, [.null, .null, .ref t, .null, .null, .int 1, .int 1, .int 1, .int 1, .null, .null, .null, .ref n])) ∧ G' n = some (.inr (56, [.ref cm])) ∧ FR (fun q_ => q_ = i_) n G G' ∧ n + 1 = n' ∧ u + 1 = u')) noX := by
  refine GM.intro (own := RJ46) rfl (by decide +kernel) (Nat.le_of_ble_eq_true rfl) ?_
  intro p e s m args below meth c R Q hC hr hnm hF hL hE
  have hE1 := hE.1
  have hE2 := hE.2.1
  have hnz : yz Y ≤ n := by have := hC.z; have := hC.n; omega
  show V Y p l e R s m args below meth c 8 n u G n u Q 0 [(0, .ref i_), (1, .ref t), (2, .int 1), (3, .null), (4, .int 1), (5, .int 1), (6, .null), (7, .int 1)] []
  refine V.lts (fun hlt => ?_)
  have hl_i_ : i_ < n := hlt _ _ h1
  have hl_cm : cm < n := hlt _ _ hcm
  refine g_aload_n hC dJ46_init_0 rfl 0 rfl ?_
  refine g_aload_n hC dJ46_init_1 rfl 1 rfl ?_
  refine g_iload_n hC dJ46_init_2 rfl 2 rfl ?_
  refine g_aload_nN hC dJ46_init_3 rfl 3 rfl ?_
  refine g_iload hC dJ46_init_4 4 rfl ?_
  refine g_iload hC dJ46_init_6 5 rfl ?_
  refine g_aloadN hC dJ46_init_8 6 rfl ?_
  refine g_iload hC dJ46_init_10 7 rfl ?_
  refine V.lts (fun lc_1 => ?_)
  refine g_callv0 hC (g_runI (ret := none) hC (met_J45_init (G := G) i_ t h1 (by omega)) (lw_meth q3221) q161 q3219 q3220 rfl md_J45_init dJ46_init_12 rfl ⟨by omega, by omega⟩ (by omega) (by omega) rfl (Nat.le_of_ble_eq_true rfl)) (fun G_2 n_2 u_2 hp_2 hn_2 hm_2 hu_2 => ?_)
  obtain ⟨ho_2, hf_2, rfl, rfl⟩ := hp_2
  have o_3 : G_2 cm = some (.inr (27, [.ref h])) := (hf_2 _ (lc_1 _ _ hcm) (fun q => (gne_c hcm h1 (by decide)) q)).trans hcm
  have hx_4 : sub (TZ t τ) G_2 := hf_2.subs hps lc_1 (fun a q => by subst q; exact (TZ_none hT.2.2.2.1 hT.1.1 hps h1 (by decide) (by decide) (by decide)))
  have hf_5 : FR (fun q_ => q_ = i_) n G G_2 := FR.refl.trans hf_2 (by omega) (fun a_ q_ => by first | exact .inl q_ | exact .inl (.inl q_) | exact .inl (.inr q_) | (subst q_; first | exact .inr (by omega) | exact .inl rfl))
  refine g_aload_n hC dJ46_init_15 rfl 0 rfl ?_
  refine g_aload_n hC dJ46_init_16 rfl 0 rfl ?_
  refine g_getS (v := .ref t) hC kc_J46 ho_2 2 (by decide) q3245 q3246 rfl dJ46_init_17 ?_
  refine g_getN (v := .ref cm) hC kc_J1 (hx_4 _ _ (TZ_h hT.2.2.2.1)) 2 (by decide) q221 (fun _ h => h) (congrArg (fun z => some (va_rf z)) hT.2.2.1) dJ46_init_20 ?_
  refine V.lts (fun lc_6 => ?_)
  refine g_callq0 hC (g_runS hC (met_J47_reverseOrder (G := G_2) cm o_3 (by omega)) (lw_S q3223 q3224 q163 q3225) md_J47_reverseOrder dJ46_init_23 rfl ⟨by omega, by omega⟩ (by omega) (by omega) rfl (Nat.le_of_ble_eq_true rfl)) (fun r_7 G_7 n_7 u_7 hp_7 hn_7 hm_7 hu_7 => ?_)
  obtain ⟨rfl, ho_7, hf_7, rfl, rfl⟩ := hp_7
  have o_8 : G_7 cm = some (.inr (27, [.ref h])) := (hf_7 _ (lc_6 _ _ o_3) (fun q => q)).trans o_3
  have o_9 : G_7 i_ = some (.inr (55, [.null, .null, .ref t, .null, .null, .int 1, .int 1, .int 1, .int 1, .null, .null, .null, .null])) := (hf_7 _ (lc_6 _ _ ho_2) (fun q => q)).trans ho_2
  have hx_10 : sub (TZ t τ) G_7 := hf_7.subs hx_4 lc_6 (fun a q => False.elim q)
  have hf_11 : FR (fun q_ => q_ = i_) n G G_7 := hf_5.trans hf_7 (by omega) (fun a_ q_ => by first | exact .inl q_ | exact False.elim q_ | exact .inl (.inl q_) | exact .inl (.inr q_) | (subst q_; first | exact .inr (by omega) | exact .inl rfl))
  obtain ⟨G_12, eG_12⟩ : ∃ G_, gU G_7 i_ (.inr (55, [.null, .null, .ref t, .null, .null, .int 1, .int 1, .int 1, .int 1, .null, .null, .null, .ref n])) = G_ := ⟨_, rfl⟩
  have o_13 : G_12 cm = some (.inr (27, [.ref h])) := by rw [← eG_12]; exact (gU_n _ (gne_c o_8 o_9 (by decide))).trans o_8
  have o_14 : G_12 n = some (.inr (56, [.ref cm])) := by rw [← eG_12]; exact (gU_n _ (gne_c ho_7 o_9 (by decide))).trans ho_7
  have hx_15 : sub (TZ t τ) G_12 := by rw [← eG_12]; exact sub_away hx_10 (TZ_none hT.2.2.2.1 hT.1.1 hx_10 o_9 (by decide) (by decide) (by decide))
  have hf_16 : FR (fun q_ => q_ = i_) n G G_12 := by rw [← eG_12]; exact FR.put hf_11 (.inl rfl)
  refine g_putF hC hnm kc_J46 o_9 12 (by decide) q3243 rfl rfl rfl rfl (by show 12 < 13; decide) rfl (by omega) (G' := G_12) eG_12 dJ46_init_26 ?_
  have o_17 : G_12 i_ = some (.inr (55, [.null, .null, .ref t, .null, .null, .int 1, .int 1, .int 1, .int 1, .null, .null, .null, .ref n])) := by rw [← eG_12]; exact gU_s _ _ _
  refine g_vret hC hr ⟨rfl, ?_⟩ (by omega) (by omega) hE dJ46_init_29
  exact ⟨o_17, o_14, hf_16, rfl, rfl⟩
set_option maxHeartbeats 1000000 in
theorem met_J1_descendingMap_a {Y : YT} {l : Launch} {n u : Nat} {G : AH} (t : Nat) {τ : TS} {q : TQ} {M : MP} {K : AH → Nat → Int → Prop} {J : AH} {cm h : Nat} (hT : TMI K Y t (some cm) J τ q M) (hps : sub (TZ t τ) G) (hcm : G cm = some (.inr (27, [.ref h]))) (hzc : yz Y ≤ cm) (h8 : τ.1 8 0 = none) : GM Y l yJ1_descendingMap (ws_ yJ1_descendingMap cJ1_descendingMap 2 (some (FieldType.object "java/util/NavigableMap"))) 4 98 [.ref t] G n u 2 14 (pQ (fun r G' n' u' => some n = r ∧ TMI K Y t (some cm) J (tr τ 8 0 (some n)) q M ∧ sub (TZ t (tr τ 8 0 (some n))) G' ∧ G' n = some (.inr (55, [.null, .null, .ref t, .null, .null, .int 1, .int 1, .int 1, .int 1, .null, .null, .null, .ref (n + 1)])) ∧ FR (fun q_ => q_ = t) n G G' ∧ n + 2 = n' ∧ u + 14 = u')) noX := by
  refine GM.intro (own := RJ1) rfl (by decide +kernel) (Nat.le_of_ble_eq_true rfl) ?_
  intro p e s m args below meth c R Q hC hr hnm hF hL hE
  have hE1 := hE.1
  have hE2 := hE.2.1
  have hnz : yz Y ≤ n := by have := hC.z; have := hC.n; omega
  show V Y p l e R s m args below meth c 2 n u G n u Q 0 [(0, .ref t)] []
  refine V.lts (fun hlt => ?_)
  have hl_cm : cm < n := hlt _ _ hcm
  have hzt : yz Y ≤ t := hT.1.2.1
  refine g_aload_n hC dJ1_descendingMap_0 rfl 0 rfl ?_
  refine g_get (v := .null) hC kc_J1 (hps _ _ (TZ_h hT.2.2.2.1)) 8 (by decide) q230 (congrArg (fun z => some (va_rf z)) h8) dJ1_descendingMap_1 ?_
  refine g_astore_nN (L' := [(1, .null), (0, .ref t)]) hC dJ1_descendingMap_4 rfl (by decide) rfl ?_
  refine g_aload_nN hC dJ1_descendingMap_5 rfl 0 rfl ?_
  refine g_ifnullN (tgt := 13) hC dJ1_descendingMap_6 (by decide) ?_
  refine g_aload_n hC dJ1_descendingMap_13 rfl 1 rfl ?_
  obtain ⟨G_1, eG_1⟩ : ∃ G_, gU G n (.inr (55, [.null, .null, .null, .null, .null, .int 0, .int 0, .int 0, .int 0, .null, .null, .null, .null])) = G_ := ⟨_, rfl⟩
  refine V.lts (fun ltG_1 => ?_)
  have o_2 : G_1 cm = some (.inr (27, [.ref h])) := by rw [← eG_1]; exact (gU_n _ (Nat.ne_of_lt (ltG_1 _ _ hcm))).trans hcm
  have hx_3 : sub (TZ t τ) G_1 := by rw [← eG_1]; exact sub_new hps ltG_1
  have hf_4 : FR (fun q_ => q_ = t) n G G_1 := by rw [← eG_1]; exact FR.put FR.refl (.inr (by omega))
  refine g_new hC kc_J46 q3214 q3215 q162 (fs := [.null, .null, .null, .null, .null, .int 0, .int 0, .int 0, .int 0, .null, .null, .null, .null]) rfl (G' := G_1) eG_1 (by omega) (by omega) dJ1_descendingMap_14 ?_
  have o_5 : G_1 n = some (.inr (55, [.null, .null, .null, .null, .null, .int 0, .int 0, .int 0, .int 0, .null, .null, .null, .null])) := by rw [← eG_1]; exact gU_s _ _ _
  refine g_dup hC dJ1_descendingMap_17 rfl ?_
  refine g_aload_n hC dJ1_descendingMap_18 rfl 1 rfl ?_
  refine g_iconst (v := 1) hC dJ1_descendingMap_19 rfl ?_
  refine g_null hC dJ1_descendingMap_20 ?_
  refine g_iconst (v := 1) hC dJ1_descendingMap_21 rfl ?_
  refine g_iconst (v := 1) hC dJ1_descendingMap_22 rfl ?_
  refine g_null hC dJ1_descendingMap_23 ?_
  refine g_iconst (v := 1) hC dJ1_descendingMap_24 rfl ?_
  refine V.lts (fun lc_6 => ?_)
  refine g_callv0 hC (g_runI (ret := none) hC (met_J46_init (G := G_1) n t hT hx_3 o_2 (by omega) o_5 (by omega)) (lw_meth q3218) q162 q3216 q3217 rfl md_J46_init dJ1_descendingMap_25 rfl ⟨by omega, by omega⟩ (by omega) (by omega) rfl (Nat.le_of_ble_eq_true rfl)) (fun G_7 n_7 u_7 hp_7 hn_7 hm_7 hu_7 => ?_)
  obtain ⟨ho_7, hor_7, hf_7, rfl, rfl⟩ := hp_7
  have o_8 : G_7 cm = some (.inr (27, [.ref h])) := (hf_7 _ (lc_6 _ _ o_2) (fun q => (gne_c o_2 o_5 (by decide)) q)).trans o_2
  have hx_9 : sub (TZ t τ) G_7 := hf_7.subs hx_3 lc_6 (fun a q => by subst q; exact (TZ_none hT.2.2.2.1 hT.1.1 hx_3 o_5 (by decide) (by decide) (by decide)))
  have hf_10 : FR (fun q_ => q_ = t) n G G_7 := hf_4.trans hf_7 (by omega) (fun a_ q_ => by first | exact .inl q_ | exact .inl (.inl q_) | exact .inl (.inr q_) | (subst q_; first | exact .inr (by omega) | exact .inl rfl))
  refine g_dup_x1 hC dJ1_descendingMap_28 rfl rfl ?_
  obtain ⟨G_11, eG_11⟩ : ∃ G_, gU G_7 t (.inr (34, tHl (tr τ 8 0 (some n)))) = G_ := ⟨_, rfl⟩
  have o_12 : G_11 cm = some (.inr (27, [.ref h])) := by rw [← eG_11]; exact (gU_n _ (TZ_ne hT hps hcm)).trans o_8
  have o_13 : G_11 n = some (.inr (55, [.null, .null, .ref t, .null, .null, .int 1, .int 1, .int 1, .int 1, .null, .null, .null, .ref (n + 1)])) := by rw [← eG_11]; exact (gU_n _ (gne_c ho_7 (hx_9 _ _ (TZ_h hT.2.2.2.1)) (by decide))).trans ho_7
  have o_14 : G_11 (n + 1) = some (.inr (56, [.ref cm])) := by rw [← eG_11]; exact (gU_n _ (gne_c hor_7 (hx_9 _ _ (TZ_h hT.2.2.2.1)) (by decide))).trans hor_7
  have hf_15 : FR (fun q_ => q_ = t) n G G_11 := by rw [← eG_11]; exact FR.put hf_10 (.inl rfl)
  have h8G_11 : sub (TZ t (tr τ 8 0 (some n))) G_11 := by rw [← eG_11]; exact TZ_h8 hx_9 hT.2.2.2.1
  refine g_put hC kc_J1 (hx_9 _ _ (TZ_h hT.2.2.2.1)) 8 (by decide) q230 rfl rfl rfl (by show 8 < 9; decide) tHl_8 hzt (G' := G_11) eG_11 dJ1_descendingMap_29 ?_
  refine g_aret (v := some n) hC hr (by first | exact Or.inl ⟨_, rfl⟩ | exact Or.inr ⟨_, rfl⟩) ⟨_, rfl, ?_⟩ (by omega) (by omega) hE dJ1_descendingMap_32
  exact ⟨rfl, (hT.h8 (d := n)), h8G_11, o_13, hf_15, rfl, rfl⟩
set_option maxHeartbeats 1000000 in
theorem met_J1_descendingMap_b {Y : YT} {l : Launch} {n u : Nat} {G : AH} (t : Nat) {τ : TS} {q : TQ} {M : MP} {K : AH → Nat → Int → Prop} {J : AH} {cm h : Nat} {d : Nat} (hT : TMI K Y t (some cm) J τ q M) (hps : sub (TZ t τ) G) (h8 : τ.1 8 0 = some d) : GM Y l yJ1_descendingMap (ws_ yJ1_descendingMap cJ1_descendingMap 2 (some (FieldType.object "java/util/NavigableMap"))) 0 0 [.ref t] G n u 0 0 (pQ (fun r G' n' u' => some d = r ∧ G = G' ∧ n = n' ∧ u = u')) noX := by
  refine GM.intro (own := RJ1) rfl (by decide +kernel) (Nat.le_of_ble_eq_true rfl) ?_
  intro p e s m args below meth c R Q hC hr hnm hF hL hE
  have hE1 := hE.1
  have hE2 := hE.2.1
  have hnz : yz Y ≤ n := by have := hC.z; have := hC.n; omega
  show V Y p l e R s m args below meth c 2 n u G n u Q 0 [(0, .ref t)] []
  refine V.lts (fun hlt => ?_)
  have hzt : yz Y ≤ t := hT.1.2.1
  refine g_aload_n hC dJ1_descendingMap_0 rfl 0 rfl ?_
  refine g_get (v := .ref d) hC kc_J1 (hps _ _ (TZ_h hT.2.2.2.1)) 8 (by decide) q230 (congrArg (fun z => some (va_rf z)) h8) dJ1_descendingMap_1 ?_
  refine g_astore_n (L' := [(1, .ref d), (0, .ref t)]) hC dJ1_descendingMap_4 rfl (by decide) rfl ?_
  refine g_aload_n hC dJ1_descendingMap_5 rfl 0 rfl ?_
  refine g_ifnull hC dJ1_descendingMap_6 ?_
  refine g_aload_n hC dJ1_descendingMap_9 rfl 0 rfl ?_
  refine g_goto (tgt := 32) hC dJ1_descendingMap_10 (by decide) ?_
  refine g_aret (v := some d) hC hr (by first | exact Or.inl ⟨_, rfl⟩ | exact Or.inr ⟨_, rfl⟩) ⟨_, rfl, ?_⟩ (by omega) (by omega) hE dJ1_descendingMap_32
  exact ⟨rfl, rfl, rfl, rfl⟩
