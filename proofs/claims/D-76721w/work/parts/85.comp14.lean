set_option maxRecDepth 100000
/-! COMPONENT, 19: ages -/
theorem J40_0 : J40 (fun _ => none) := fun _ _ h => nomatch h
theorem sub_0 {G : AH} : sub (fun _ => none) G := fun _ _ h => nomatch h
theorem AGZ {N q : Nat} {σ : MS} (hA : AGd N σ) (h : q < N) : ZL < (tl σ 7 q).toInt ∧ (tl σ 7 q).toInt < ZH := by
  have := hA.1 q h; unfold ZL ZH; omega
set_option maxHeartbeats 1000000 in
theorem met_X25_init {Y : YT} {l : Launch} {n u : Nat} {G : AH} (a_ : Nat) (h : Nat) {N K : Nat} {σ : MS} {η : HV} {I : AH} (hh : sub (hM Y h N σ η) G) (hN : σ.1 0 0 = nI N) (hK : σ.1 4 0 = nI K) (hN2 : N ≤ 12) (hI : sub I G) (hIh_h : ∀ a, hD h a → I a = none) (hIo : sub (oM Y) I) (hAg : AGd N σ) (h1 : G a_ = some (.inr (24, [.null]))) (hz : yz Y ≤ a_) (hIa : I a_ = none) (hha : ¬ hD h a_) : GM Y l yX25_init (ws_ yX25_init cX25_init 3 none) 7 158 [.ref a_, .ref h] G n u 25 93 (pV (fun G' n' u' => ∃ τ q M J, TMI KI Y n none J τ q M ∧ sub (TZ n τ) G' ∧ sub J G' ∧ J40 J ∧ AGM σ I N M ∧ G' a_ = some (.inr (24, [.ref n])) ∧ (∀ a, TD n τ a → a = a_ ∨ n ≤ a) ∧ FR (fun q_ => q_ = a_) n G G' ∧ n + 1 ≤ n')) noX := by
  refine GM.intro (own := RX25) rfl (by decide +kernel) (Nat.le_of_ble_eq_true rfl) ?_
  intro p e s m args below meth c R Q hC hr hnm hF hL hE
  have hE1 := hE.1
  have hE2 := hE.2.1
  have hnz : yz Y ≤ n := by have := hC.z; have := hC.n; omega
  show V Y p l e R s m args below meth c 3 n u G n u Q 0 [(0, .ref a_), (1, .ref h)] []
  refine V.lts (fun hlt => ?_)
  have hl_a_ : a_ < n := hlt _ _ h1
  have hl_h : h + 6 < n := hlt _ _ (hh _ _ (hM_j 6))
  have hIn := sub_none hI hlt
  refine g_aload_n hC dX25_init_0 rfl 0 rfl ?_
  refine V.lts (fun lc_1 => ?_)
  refine g_objInit hC q3008 q178 q179 dX25_init_1 (by omega) (by first | (simp; omega) | (simp [Value.category]; omega)) ?_
  refine g_aload_n hC dX25_init_4 rfl 0 rfl ?_
  obtain ⟨G_2, eG_2⟩ : ∃ G_, gU G n (.inr (34, [.null, .null, .null, .null, .int 0, .int 0, .null, .null, .null])) = G_ := ⟨_, rfl⟩
  refine V.lts (fun ltG_2 => ?_)
  have o_3 : G_2 a_ = some (.inr (24, [.null])) := by rw [← eG_2]; exact (gU_n _ (Nat.ne_of_lt (ltG_2 _ _ h1))).trans h1
  have hs_4 : sub (hM Y h N σ η) G_2 := by rw [← eG_2]; exact sub_new hh ltG_2
  have hi_5 : sub I G_2 := by rw [← eG_2]; exact sub_new hI ltG_2
  have hf_6 : FR (fun q_ => q_ = a_) n G G_2 := by rw [← eG_2]; exact FR.put FR.refl (.inr (by omega))
  refine g_new hC kc_J1 q3009 q212 q85 (fs := [.null, .null, .null, .null, .int 0, .int 0, .null, .null, .null]) rfl (G' := G_2) eG_2 (by omega) (by omega) dX25_init_5 ?_
  have o_7 : G_2 n = some (.inr (34, [.null, .null, .null, .null, .int 0, .int 0, .null, .null, .null])) := by rw [← eG_2]; exact gU_s _ _ _
  refine g_dup hC dX25_init_8 rfl ?_
  refine V.lts (fun lc_8 => ?_)
  refine g_callv0 hC (g_runI (ret := none) hC (mp_new (G := G_2) (t := n) (J := (fun _ => none)) KI o_7 (by omega) rfl) (lw_meth q215) q85 q3010 q214 rfl md_J1_init dX25_init_9 rfl ⟨by omega, by omega⟩ (by omega) (by omega) rfl (Nat.le_of_ble_eq_true rfl)) (fun G_9 n_9 u_9 hp_9 hn_9 hm_9 hu_9 => ?_)
  obtain ⟨τ_9, q_9, hT_9, hps_9, hf_9, hD_9, h8_9, rfl, rfl⟩ := hp_9
  have o_10 : G_9 a_ = some (.inr (24, [.null])) := (hf_9 _ (lc_8 _ _ o_3) (fun q => (gne_c o_3 o_7 (by decide)) q)).trans o_3
  have hs_11 : sub (hM Y h N σ η) G_9 := hf_9.subs hs_4 lc_8 (fun a q => by subst q; exact hM_none (by unfold hD; omega))
  have hi_12 : sub I G_9 := hf_9.subs hi_5 lc_8 (fun a q => by subst q; exact hIn _ (by omega))
  have hf_13 : FR (fun q_ => q_ = a_) n G G_9 := hf_6.trans hf_9 (by omega) (fun a_ q_ => by first | exact .inl q_ | exact .inl (.inl q_) | exact .inl (.inr q_) | (subst q_; first | exact .inr (by omega) | exact .inl rfl))
  have hTn_14 : ∀ a, TD n τ_9 a → (fun q_ => q_ = a_) a ∨ n ≤ a := fun a q => .inr (by have := hD_9 a q; omega)
  obtain ⟨G_15, eG_15⟩ : ∃ G_, gU G_9 a_ (.inr (24, [.ref n])) = G_ := ⟨_, rfl⟩
  have hs_16 : sub (hM Y h N σ η) G_15 := by rw [← eG_15]; exact sub_away hs_11 (hM_none hha)
  have hi_17 : sub I G_15 := by rw [← eG_15]; exact sub_away hi_12 hIa
  have hx_18 : sub (TZ n τ_9) G_15 := by rw [← eG_15]; exact sub_away hps_9 (TZ_none hT_9.2.2.2.1 hT_9.1.1 hps_9 o_10 (by decide) (by decide) (by decide))
  have hx_19 : sub (fun _ => none) G_15 := by rw [← eG_15]; exact sub_away sub_0 (J40_0.no sub_0 o_10 (by decide))
  have hf_20 : FR (fun q_ => q_ = a_) n G G_15 := by rw [← eG_15]; exact FR.put hf_13 (.inl rfl)
  refine g_putF hC hnm kc_X25 o_10 0 (by decide) q3014 rfl rfl rfl rfl (by show 0 < 1; decide) rfl (by omega) (G' := G_15) eG_15 dX25_init_12 ?_
  have o_21 : G_15 a_ = some (.inr (24, [.ref n])) := by rw [← eG_15]; exact gU_s _ _ _
  refine g_iconst (v := 0) hC dX25_init_15 rfl ?_
  refine g_istore_n (L' := [(2, .int 0), (0, .ref a_), (1, .ref h)]) hC dX25_init_16 rfl (by decide) rfl ?_
  have hl_17 : ∀ (kf_ : Nat) (Gq : AH) (nq : Nat) (uq : Nat) (i : Nat) (J : AH) (τq : TS) (qq : TQ) (Mq : MP), (sub (hM Y h N σ η) Gq) → (sub I Gq) → (Gq a_ = some (.inr (24, [.ref n]))) → (TMI KI Y n none J τq qq Mq) → (sub (TZ n τq) Gq) → (sub J Gq) → (J40 J) → (∀ a, TD n τq a → a = a_ ∨ n ≤ a) → (AGM σ I i Mq) → (FR (fun q_ => q_ = a_) n G Gq) → (i ≤ N) → (n + 1 ≤ nq ∧ nq ≤ n + 1 + 2 * i) → (uq ≤ u + 9 + 7 * i) → N - i < kf_ → V Y p l e R s m args below meth c 3 n u Gq nq uq Q 17 [(0, .ref a_), (1, .ref h), (2, .int (nI i))] [] := by
    intro kf_
    induction kf_ with
    | zero => intro Gq nq uq i J τq qq Mq jh jI ja jT jp jJ j4 jt jM jf ji jn ju hk_; exact absurd hk_ (Nat.not_lt_zero _)
    | succ kf_ ih_ =>
      intro Gq nq uq i J τq qq Mq jh jI ja jT jp jJ j4 jt jM jf ji jn ju hk_
      refine V.lts (fun ltq => ?_)
      obtain ⟨jn1, jn2⟩ := jn
      refine g_iload_n hC dX25_init_17 rfl 2 rfl ?_
      refine g_aload_n hC dX25_init_18 rfl 1 rfl ?_
      refine g_get (v := .int (nI N)) hC kc_X2 (jh _ _ (hM_0 hN hK)) 0 (by decide) q250 rfl dX25_init_19 ?_
      refine g_icmp_geN hC i N (by omega) (by omega) dX25_init_22 (tgt := 60) (by decide) (fun c_22 => ?_) (fun c_22 => ?_)
      · refine g_vret hC hr ⟨rfl, ?_⟩ (by omega) (by omega) hE dX25_init_60
        obtain rfl : N = i := by omega
        exact ⟨_, _, _, _, jT, jp, jJ, j4, jM, ja, jt, jf, by omega⟩
      · refine g_aload_n hC dX25_init_25 rfl 1 rfl ?_
        refine g_iload_n hC dX25_init_26 rfl 2 rfl ?_
        refine V.lts (fun lc_22 => ?_)
        refine g_calli0 hC (g_runV hC (met_X2_runs (G := Gq) h i (jh) (hN) (hK) (hN2) (by omega)) kc_X2 (jh _ _ (hM_0 hN hK)) (lw_V q3011 q1765 q1766 q83 q1767) rfl md_X2_runs dX25_init_27 rfl ⟨by omega, by omega⟩ (by omega) (by omega) rfl (Nat.le_of_ble_eq_true rfl)) (fun r_23 G_23 n_23 u_23 hp_23 hn_23 hm_23 hu_23 => ?_)
        obtain ⟨rfl, rfl, rfl, rfl⟩ := hp_23
        refine g_if_eqB hC (decide (tl σ 0 i = 1)) dX25_init_30 (tgt := 54) (by decide) (fun c_30 => ?_) (fun c_30 => ?_)
        · have hnr : ¬ tl σ 0 i = 1 := of_decide_eq_false c_30
          refine g_iincN (L' := [(2, .int (nI (i + 1))), (0, .ref a_), (1, .ref h)]) hC 1 i dX25_init_54 (k := 2) rfl (by decide) (by decide) rfl ?_
          refine g_goto (tgt := 17) hC dX25_init_57 (by decide) ?_
          refine V.sub [1, 2, 0] rfl ?_
          exact ih_ Gq nq uq (i + 1) J τq qq Mq (jh) (jI) (ja) (jT) (jp) (jJ) (j4) (jt) (jM.no hnr) (jf) (by omega) (⟨by omega, by omega⟩) (by omega) (by omega)
        · have hrn : tl σ 0 i = 1 := of_decide_eq_true c_30
          refine g_aload_n hC dX25_init_33 rfl 0 rfl ?_
          refine g_get (v := .ref n) hC kc_X25 ja 0 (by decide) q3014 rfl dX25_init_34 ?_
          refine g_aload_n hC dX25_init_37 rfl 1 rfl ?_
          refine g_get (v := .ref (h + 5)) hC kc_X2 (jh _ _ (hM_0 hN hK)) 8 (by decide) q274 rfl dX25_init_38 ?_
          refine g_iload_n hC dX25_init_41 rfl 2 rfl ?_
          refine g_iald hC (jh _ _ (hM_j 5)) (vin (by omega) (by omega)) dX25_init_42 ?_
          rw [show (nI i).toNatClampNeg = i from nI_clamp (by omega)]
          rw [hA_in (by omega)]
          refine V.lts (fun lc_24 => ?_)
          refine g_callq0 hC (g_runS hC (met_J12_valueOf (G := Gq) (tl σ 7 i) ((hIo).trans jI)) (lw_S q3012 q1487 q106 q1488) md_J12_valueOf dX25_init_43 rfl ⟨by omega, by omega⟩ (by omega) (by omega) rfl (Nat.le_of_ble_eq_true rfl)) (fun r_25 G_25 n_25 u_25 hp_25 hn_25 hm_25 hu_25 => ?_)
          obtain ⟨bx_25, rfl, ho_25, hf_25, hq_25, hv_25, hsm_25⟩ := hp_25
          have o_26 : G_25 a_ = some (.inr (24, [.ref n])) := (hf_25 _ (lc_24 _ _ ja) (fun q => q)).trans ja
          have hs_27 : sub (hM Y h N σ η) G_25 := hf_25.subs jh lc_24 (fun a q => False.elim q)
          have hi_28 : sub I G_25 := hf_25.subs jI lc_24 (fun a q => False.elim q)
          have hx_29 : sub (TZ n τq) G_25 := hf_25.subs jp lc_24 (fun a q => False.elim q)
          have hx_30 : sub J G_25 := hf_25.subs jJ lc_24 (fun a q => False.elim q)
          have hf_31 : FR (fun q_ => q_ = a_) n G G_25 := jf.trans hf_25 (by omega) (fun a_ q_ => by first | exact .inl q_ | exact False.elim q_ | exact .inl (.inl q_) | exact .inl (.inr q_) | (subst q_; first | exact .inr (by omega) | exact .inl rfl))
          refine g_iload_n hC dX25_init_46 rfl 2 rfl ?_
          refine V.lts (fun lc_32 => ?_)
          refine g_callq0 hC (g_runS hC (met_J12_valueOf (G := G_25) (nI i) ((hIo).trans hi_28)) (lw_S q3012 q1487 q106 q1488) md_J12_valueOf dX25_init_47 rfl ⟨by omega, by omega⟩ (by omega) (by omega) rfl (Nat.le_of_ble_eq_true rfl)) (fun r_33 G_33 n_33 u_33 hp_33 hn_33 hm_33 hu_33 => ?_)
          obtain ⟨bx_33, rfl, ho_33, hf_33, hq_33, hv_33, hsm_33⟩ := hp_33
          obtain ⟨rfl, rfl, rfl, hob_33'⟩ := hsm_33 i (by omega) rfl
          have hob_33 := ((hIo).trans hi_28) _ _ hob_33'
          obtain ⟨j4J_34, jJJ_34, jSJ_34⟩ := j4.add hx_30 ho_25
          have hTJ_34 := jT.box hx_29 jSJ_34 ho_25
          have hnw := jM.new hAg (by omega) hrn
          have hbI : I bx_33 = some (.inr (40, [.int (nI i)])) := hIo _ _ hob_33'
          have hZZ := AGZ hAg (q := i) (by omega)
          refine V.lts (fun lc_35 => ?_)
          refine g_callq0 hC (g_runV hC (mp_putI (G := G_25) hTJ_34 hx_29 jJJ_34 (by omega) lc_35 bx_25 bx_33 (tl σ 7 i).toInt ⟨tl σ 7 i, gU_s _ _ _, rfl⟩ hnw hZZ.1 hZZ.2) kc_J1 (hx_29 _ _ (TZ_h hTJ_34.2.2.2.1)) (lw_V q3013 q1506 q1507 q85 q1508) rfl md_J1_put dX25_init_50 rfl ⟨by omega, by omega⟩ (by omega) (by omega) rfl (Nat.le_of_ble_eq_true rfl)) (fun r_36 G_36 n_36 u_36 hp_36 hn_36 hm_36 hu_36 => ?_)
          obtain ⟨rfl, τ_36, q_36, hT_36, hps_36, hf_36, hD_36, rfl, rfl⟩ := hp_36
          have o_37 : G_36 a_ = some (.inr (24, [.ref n])) := (hf_36 _ (lc_35 _ _ o_26) (TZ_out hTJ_34.2.2.2.1 hTJ_34.1.1 hx_29 o_26 (by decide) (by decide))).trans o_26
          have o_38 : G_36 bx_25 = some (.inr (40, [.int (tl σ 7 i)])) := (hf_36 _ (lc_35 _ _ ho_25) (TZ_out hTJ_34.2.2.2.1 hTJ_34.1.1 hx_29 ho_25 (by decide) (by decide))).trans ho_25
          have o_39 : G_36 bx_33 = some (.inr (40, [.int (nI i)])) := (hf_36 _ (lc_35 _ _ hob_33) (TZ_out hTJ_34.2.2.2.1 hTJ_34.1.1 hx_29 hob_33 (by decide) (by decide))).trans hob_33
          have hs_40 : sub (hM Y h N σ η) G_36 := hf_36.subs hs_27 lc_35 (TZ_hM hTJ_34.2.2.2.1 hTJ_34.1.1 hx_29 hs_27)
          have hi_41 : sub I G_36 := hf_36.subs hi_28 lc_35 (fun a q => ((jt a q).elim (fun e => by subst e; exact hIa) (fun e => hIn a e)))
          have hx_42 : sub (gU J bx_25 (.inr (40, [.int (tl σ 7 i)]))) G_36 := hf_36.subs jJJ_34 lc_35 hTJ_34.2.2.2.2.2
          have hf_43 : FR (fun q_ => q_ = a_) n G G_36 := hf_31.trans hf_36 (by omega) (fun a_ q_ => jt a_ q_)
          have hTn_44 : ∀ a, TD n τ_36 a → (fun q_ => q_ = a_) a ∨ n ≤ a := fun a q => (hD_36 a q).elim (jt a) (fun e => .inr (by omega))
          refine g_pop hC dX25_init_53 rfl ?_
          refine g_iincN (L' := [(2, .int (nI (i + 1))), (0, .ref a_), (1, .ref h)]) hC 1 i dX25_init_54 (k := 2) rfl (by decide) (by decide) rfl ?_
          refine g_goto (tgt := 17) hC dX25_init_57 (by decide) ?_
          refine V.sub [1, 2, 0] rfl ?_
          exact ih_ G_36 (n_25 + 1) (u_25 + 6) (i + 1) (gU J bx_25 (.inr (40, [.int (tl σ 7 i)]))) τ_36 q_36 (mput (tl σ 7 i).toInt bx_25 (some bx_33) Mq) (hs_40) (hi_41) (o_37) (hT_36) (hps_36) (hx_42) (j4J_34) (hTn_44) (jM.put hrn hnw hbI) (hf_43) (by omega) (⟨by omega, by omega⟩) (by omega) (by omega)
  refine V.sub [1, 2, 0] rfl ?_
  exact hl_17 (N - 0 + 1) G_15 (n + 1) (u + 9) 0 (fun _ => none) τ_9 q_9 ([]) (hs_16) (hi_17) (o_21) (hT_9) (hx_18) (hx_19) (J40_0) (hTn_14) (AGM_0) (hf_20) (by omega) (⟨by omega, by omega⟩) (by omega) (by omega)
set_option maxHeartbeats 1000000 in
theorem met_X25_many {Y : YT} {l : Launch} {n u : Nat} {G : AH} (a_ : Nat) {t : Nat} {τ : TS} {q : TQ} {M : MP} {J : AH} (hT : TMI KI Y t none J τ q M) (hps : sub (TZ t τ) G) (ha : G a_ = some (.inr (24, [.ref t]))) : GM Y l yX25_many (ws_ yX25_many cX25_many 1 (some FieldType.int)) 1 20 [.ref a_] G n u 0 0 (pI (fun r G' n' u' => nI M.length = r ∧ G = G' ∧ n = n' ∧ u = u')) noX := by
  refine GM.intro (own := RX25) rfl (by decide +kernel) (Nat.le_of_ble_eq_true rfl) ?_
  intro p e s m args below meth c R Q hC hr hnm hF hL hE
  have hE1 := hE.1
  have hE2 := hE.2.1
  have hnz : yz Y ≤ n := by have := hC.z; have := hC.n; omega
  show V Y p l e R s m args below meth c 1 n u G n u Q 0 [(0, .ref a_)] []
  refine V.lts (fun hlt => ?_)
  have hl_a_ : a_ < n := hlt _ _ ha
  refine g_aload_n hC dX25_many_0 rfl 0 rfl ?_
  refine g_get (v := .ref t) hC kc_X25 ha 0 (by decide) q3014 rfl dX25_many_1 ?_
  refine V.lts (fun lc_1 => ?_)
  refine g_calli0 hC (g_runV hC (mp_size (G := G) hT hps) kc_J1 (hps _ _ (TZ_h hT.2.2.2.1)) (lw_V q3488 q2033 q2034 q85 q2035) rfl md_J1_size dX25_many_4 rfl ⟨by omega, by omega⟩ (by omega) (by omega) rfl (Nat.le_of_ble_eq_true rfl)) (fun r_2 G_2 n_2 u_2 hp_2 hn_2 hm_2 hu_2 => ?_)
  obtain ⟨rfl, rfl, rfl, rfl⟩ := hp_2
  refine g_iret hC hr rfl ⟨_, rfl, ?_⟩ (by omega) (by omega) hE dX25_many_7
  exact ⟨rfl, rfl, rfl, rfl⟩
set_option maxHeartbeats 1000000 in
theorem met_X26_init {Y : YT} {l : Launch} {n u : Nat} {G : AH} (w_ : Nat) (a_ : Nat) {t : Nat} {τ : TS} {q : TQ} {M : MP} {J : AH} (hT : TMI KI Y t none J τ q M) (hps : sub (TZ t τ) G) (ha : G a_ = some (.inr (24, [.ref t]))) (h1 : G w_ = some (.inr (25, [.int 0, .int 0, .null]))) (hz : yz Y ≤ w_) : GM Y l yX26_init (ws_ yX26_init cX26_init 2 none) 1 24 [.ref w_, .ref a_] G n u 0 0 (pV (fun G' n' u' => G' w_ = some (.inr (25, [.int (nI M.length), .int (-1), .ref a_])) ∧ FR (fun q_ => q_ = w_) n G G' ∧ n = n' ∧ u = u')) noX := by
  refine GM.intro (own := RX26) rfl (by decide +kernel) (Nat.le_of_ble_eq_true rfl) ?_
  intro p e s m args below meth c R Q hC hr hnm hF hL hE
  have hE1 := hE.1
  have hE2 := hE.2.1
  have hnz : yz Y ≤ n := by have := hC.z; have := hC.n; omega
  show V Y p l e R s m args below meth c 2 n u G n u Q 0 [(0, .ref w_), (1, .ref a_)] []
  refine V.lts (fun hlt => ?_)
  have hl_a_ : a_ < n := hlt _ _ ha
  have hl_w_ : w_ < n := hlt _ _ h1
  refine g_aload_n hC dX26_init_0 rfl 0 rfl ?_
  refine g_aload_n hC dX26_init_1 rfl 1 rfl ?_
  obtain ⟨G_1, eG_1⟩ : ∃ G_, gU G w_ (.inr (25, [.int 0, .int 0, .ref a_])) = G_ := ⟨_, rfl⟩
  have o_2 : G_1 a_ = some (.inr (24, [.ref t])) := by rw [← eG_1]; exact (gU_n _ (gne_c ha h1 (by decide))).trans ha
  have hx_3 : sub (TZ t τ) G_1 := by rw [← eG_1]; exact sub_away hps (TZ_none hT.2.2.2.1 hT.1.1 hps h1 (by decide) (by decide) (by decide))
  have hf_4 : FR (fun q_ => q_ = w_) n G G_1 := by rw [← eG_1]; exact FR.put FR.refl (.inl rfl)
  refine g_putF hC hnm kc_X26 h1 2 (by decide) q3032 rfl rfl rfl rfl (by show 2 < 3; decide) rfl (by omega) (G' := G_1) eG_1 dX26_init_2 ?_
  have o_5 : G_1 w_ = some (.inr (25, [.int 0, .int 0, .ref a_])) := by rw [← eG_1]; exact gU_s _ _ _
  refine g_aload_n hC dX26_init_5 rfl 0 rfl ?_
  refine V.lts (fun lc_6 => ?_)
  refine g_objInit hC q3028 q178 q179 dX26_init_6 (by omega) (by first | (simp; omega) | (simp [Value.category]; omega)) ?_
  refine g_aload_n hC dX26_init_9 rfl 0 rfl ?_
  refine g_aload_n hC dX26_init_10 rfl 0 rfl ?_
  refine g_get (v := .ref a_) hC kc_X26 o_5 2 (by decide) q3032 rfl dX26_init_11 ?_
  refine g_getN (v := .ref t) hC kc_X25 o_2 0 (by decide) q3015 (fun _ h => h) rfl dX26_init_14 ?_
  refine V.lts (fun lc_7 => ?_)
  refine g_calli0 hC (g_runV hC (mp_size (G := G_1) hT hx_3) kc_J1 (hx_3 _ _ (TZ_h hT.2.2.2.1)) (lw_V q3029 q2033 q2034 q85 q2035) rfl md_J1_size dX26_init_17 rfl ⟨by omega, by omega⟩ (by omega) (by omega) rfl (Nat.le_of_ble_eq_true rfl)) (fun r_8 G_8 n_8 u_8 hp_8 hn_8 hm_8 hu_8 => ?_)
  obtain ⟨rfl, rfl, rfl, rfl⟩ := hp_8
  obtain ⟨G_9, eG_9⟩ : ∃ G_, gU G_1 w_ (.inr (25, [.int (nI (List.length M)), .int 0, .ref a_])) = G_ := ⟨_, rfl⟩
  have o_10 : G_9 a_ = some (.inr (24, [.ref t])) := by rw [← eG_9]; exact (gU_n _ (gne_c o_2 o_5 (by decide))).trans o_2
  have hx_11 : sub (TZ t τ) G_9 := by rw [← eG_9]; exact sub_away hx_3 (TZ_none hT.2.2.2.1 hT.1.1 hx_3 o_5 (by decide) (by decide) (by decide))
  have hf_12 : FR (fun q_ => q_ = w_) n G G_9 := by rw [← eG_9]; exact FR.put hf_4 (.inl rfl)
  refine g_put hC kc_X26 o_5 0 (by decide) q3030 rfl rfl rfl (by show 0 < 3; decide) rfl (by omega) (G' := G_9) eG_9 dX26_init_20 ?_
  have o_13 : G_9 w_ = some (.inr (25, [.int (nI (List.length M)), .int 0, .ref a_])) := by rw [← eG_9]; exact gU_s _ _ _
  refine g_aload_n hC dX26_init_23 rfl 0 rfl ?_
  refine g_iconst (v := (-1)) hC dX26_init_24 rfl ?_
  obtain ⟨G_14, eG_14⟩ : ∃ G_, gU G_9 w_ (.inr (25, [.int (nI (List.length M)), .int (-1), .ref a_])) = G_ := ⟨_, rfl⟩
  have o_15 : G_14 a_ = some (.inr (24, [.ref t])) := by rw [← eG_14]; exact (gU_n _ (gne_c o_10 o_13 (by decide))).trans o_10
  have hx_16 : sub (TZ t τ) G_14 := by rw [← eG_14]; exact sub_away hx_11 (TZ_none hT.2.2.2.1 hT.1.1 hx_11 o_13 (by decide) (by decide) (by decide))
  have hf_17 : FR (fun q_ => q_ = w_) n G G_14 := by rw [← eG_14]; exact FR.put hf_12 (.inl rfl)
  refine g_put hC kc_X26 o_13 1 (by decide) q3031 rfl rfl rfl (by show 1 < 3; decide) rfl (by omega) (G' := G_14) eG_14 dX26_init_25 ?_
  have o_18 : G_14 w_ = some (.inr (25, [.int (nI (List.length M)), .int (-1), .ref a_])) := by rw [← eG_14]; exact gU_s _ _ _
  refine g_vret hC hr ⟨rfl, ?_⟩ (by omega) (by omega) hE dX26_init_28
  exact ⟨o_18, hf_17, rfl, rfl⟩
set_option maxHeartbeats 1000000 in
theorem met_X25_iterator {Y : YT} {l : Launch} {n u : Nat} {G : AH} (a_ : Nat) {t : Nat} {τ : TS} {q : TQ} {M : MP} {J : AH} (hT : TMI KI Y t none J τ q M) (hps : sub (TZ t τ) G) (ha : G a_ = some (.inr (24, [.ref t]))) : GM Y l yX25_iterator (ws_ yX25_iterator cX25_iterator 1 (some (FieldType.object "java/util/Iterator"))) 2 45 [.ref a_] G n u 1 3 (pQ (fun r G' n' u' => some n = r ∧ G' n = some (.inr (25, [.int (nI M.length), .int (-1), .ref a_])) ∧ FR noD n G G' ∧ n + 1 = n' ∧ u + 3 = u')) noX := by
  refine GM.intro (own := RX25) rfl (by decide +kernel) (Nat.le_of_ble_eq_true rfl) ?_
  intro p e s m args below meth c R Q hC hr hnm hF hL hE
  have hE1 := hE.1
  have hE2 := hE.2.1
  have hnz : yz Y ≤ n := by have := hC.z; have := hC.n; omega
  show V Y p l e R s m args below meth c 1 n u G n u Q 0 [(0, .ref a_)] []
  refine V.lts (fun hlt => ?_)
  have hl_a_ : a_ < n := hlt _ _ ha
  obtain ⟨G_1, eG_1⟩ : ∃ G_, gU G n (.inr (25, [.int 0, .int 0, .null])) = G_ := ⟨_, rfl⟩
  refine V.lts (fun ltG_1 => ?_)
  have o_2 : G_1 a_ = some (.inr (24, [.ref t])) := by rw [← eG_1]; exact (gU_n _ (Nat.ne_of_lt (ltG_1 _ _ ha))).trans ha
  have hx_3 : sub (TZ t τ) G_1 := by rw [← eG_1]; exact sub_new hps ltG_1
  have hf_4 : FR noD n G G_1 := by rw [← eG_1]; exact FR.put FR.refl (.inr (by omega))
  refine g_new hC kc_X26 q3023 q3024 q155 (fs := [.int 0, .int 0, .null]) rfl (G' := G_1) eG_1 (by omega) (by omega) dX25_iterator_0 ?_
  have o_5 : G_1 n = some (.inr (25, [.int 0, .int 0, .null])) := by rw [← eG_1]; exact gU_s _ _ _
  refine g_dup hC dX25_iterator_3 rfl ?_
  refine g_aload_n hC dX25_iterator_4 rfl 0 rfl ?_
  refine V.lts (fun lc_6 => ?_)
  refine g_callv0 hC (g_runI (ret := none) hC (met_X26_init (G := G_1) n a_ hT hx_3 o_2 o_5 (by omega)) (lw_meth q3027) q155 q3025 q3026 rfl md_X26_init dX25_iterator_5 rfl ⟨by omega, by omega⟩ (by omega) (by omega) rfl (Nat.le_of_ble_eq_true rfl)) (fun G_7 n_7 u_7 hp_7 hn_7 hm_7 hu_7 => ?_)
  obtain ⟨ho_7, hf_7, rfl, rfl⟩ := hp_7
  have o_8 : G_7 a_ = some (.inr (24, [.ref t])) := (hf_7 _ (lc_6 _ _ o_2) (fun q => (gne_c o_2 o_5 (by decide)) q)).trans o_2
  have hx_9 : sub (TZ t τ) G_7 := hf_7.subs hx_3 lc_6 (fun a q => by subst q; exact (TZ_none hT.2.2.2.1 hT.1.1 hx_3 o_5 (by decide) (by decide) (by decide)))
  have hf_10 : FR noD n G G_7 := hf_4.trans hf_7 (by omega) (fun a_ q_ => by first | exact .inl q_ | exact .inl (.inl q_) | exact .inl (.inr q_) | (subst q_; first | exact .inr (by omega) | exact .inl rfl))
  refine g_aret (v := some n) hC hr (by first | exact Or.inl ⟨_, rfl⟩ | exact Or.inr ⟨_, rfl⟩) ⟨_, rfl, ?_⟩ (by omega) (by omega) hE dX25_iterator_8
  exact ⟨rfl, ho_7, hf_10, rfl, rfl⟩
set_option maxHeartbeats 1000000 in
theorem met_X26_hasNext {Y : YT} {l : Launch} {n u : Nat} {G : AH} (w_ : Nat) {k_ : Nat} {at_ : Int32} {a_ : Nat} (h1 : G w_ = some (.inr (25, [.int (nI k_), .int at_, .ref a_]))) (hk : k_ < 1000) : GM Y l yX26_hasNext (ws_ yX26_hasNext cX26_hasNext 1 (some FieldType.boolean)) 0 0 [.ref w_] G n u 0 0 (pI (fun r G' n' u' => b2i (decide (0 < k_)) = r ∧ G = G' ∧ n = n' ∧ u = u')) noX := by
  refine GM.intro (own := RX26) rfl (by decide +kernel) (Nat.le_of_ble_eq_true rfl) ?_
  intro p e s m args below meth c R Q hC hr hnm hF hL hE
  have hE1 := hE.1
  have hE2 := hE.2.1
  have hnz : yz Y ≤ n := by have := hC.z; have := hC.n; omega
  show V Y p l e R s m args below meth c 1 n u G n u Q 0 [(0, .ref w_)] []
  refine V.lts (fun hlt => ?_)
  have hl_w_ : w_ < n := hlt _ _ h1
  refine g_aload_n hC dX26_hasNext_0 rfl 0 rfl ?_
  refine g_get (v := .int (nI k_)) hC kc_X26 h1 0 (by decide) q3030 rfl dX26_hasNext_1 ?_
  refine g_if_leN hC k_ (by omega) dX26_hasNext_4 (tgt := 11) (by decide) (fun c_4 => ?_) (fun c_4 => ?_)
  · refine g_iconst (v := 0) hC dX26_hasNext_11 rfl ?_
    refine g_iret hC hr rfl ⟨_, rfl, ?_⟩ (by omega) (by omega) hE dX26_hasNext_12
    exact ⟨by first | (rw [decide_eq_true (by omega)]; rfl) | (rw [decide_eq_false (by omega)]; rfl), rfl, rfl, rfl⟩
  · refine g_iconst (v := 1) hC dX26_hasNext_7 rfl ?_
    refine g_goto (tgt := 12) hC dX26_hasNext_8 (by decide) ?_
    refine g_iret hC hr rfl ⟨_, rfl, ?_⟩ (by omega) (by omega) hE dX26_hasNext_12
    exact ⟨by first | (rw [decide_eq_true (by omega)]; rfl) | (rw [decide_eq_false (by omega)]; rfl), rfl, rfl, rfl⟩
set_option maxHeartbeats 1000000 in
theorem met_X26_next_2 {Y : YT} {l : Launch} {n u : Nat} {G : AH} (w_ : Nat) {t : Nat} {τ : TS} {q : TQ} {M P R9 : MP} {J I : AH} {a_ k b : Nat} {at_ vb : Int32} {X : Int} (hT : TMI KI Y t none J τ q M) (hps : sub (TZ t τ) G) (hJ : sub J G) (h4 : J40 J) (hI : sub I G) (hIo : sub (oM Y) I) (ha : G a_ = some (.inr (24, [.ref t]))) (h1 : G w_ = some (.inr (25, [.int (nI (R9.length + 1)), .int at_, .ref a_]))) (hz : yz Y ≤ w_) (hIw : I w_ = none) (hMe : M = P ++ (X, k, some b) :: R9) (h1P : ∀ e, e ∈ P → e.1 ≤ at_.toInt) (h2P : at_.toInt < X) (hZa : ZL < at_.toInt ∧ at_.toInt < ZH) (hZx : ZL < X ∧ X < ZH) (hbI : I b = some (.inr (40, [.int vb]))) (hRl : R9.length < 1000) : GM Y l yX26_next_2 (ws_ yX26_next_2 cX26_next_2 1 (some (FieldType.object "java/lang/Integer"))) 6 131 [.ref w_] G n u 2 2 (pQ (fun r G' n' u' => some b = r ∧ (∃ xv : Int32, xv.toInt = X ∧ G' w_ = some (.inr (25, [.int (nI R9.length), .int xv, .ref a_]))) ∧ FR (fun q_ => q_ = w_) n G G' ∧ n ≤ n')) noX := by
  refine GM.intro (own := RX26) rfl (by decide +kernel) (Nat.le_of_ble_eq_true rfl) ?_
  intro p e s m args below meth c R Q hC hr hnm hF hL hE
  have hE1 := hE.1
  have hE2 := hE.2.1
  have hnz : yz Y ≤ n := by have := hC.z; have := hC.n; omega
  show V Y p l e R s m args below meth c 1 n u G n u Q 0 [(0, .ref w_)] []
  refine V.lts (fun hlt => ?_)
  have hl_a_ : a_ < n := hlt _ _ ha
  have hl_w_ : w_ < n := hlt _ _ h1
  have hIn := sub_none hI hlt
  have hmem : (X, k, some b) ∈ M := by rw [hMe]; simp
  refine g_aload_n hC dX26_next_2_0 rfl 0 rfl ?_
  refine g_aload_n hC dX26_next_2_1 rfl 0 rfl ?_
  refine g_get (v := .ref a_) hC kc_X26 h1 2 (by decide) q3032 rfl dX26_next_2_2 ?_
  refine g_getN (v := .ref t) hC kc_X25 ha 0 (by decide) q3015 (fun _ h => h) rfl dX26_next_2_5 ?_
  refine g_aload_n hC dX26_next_2_8 rfl 0 rfl ?_
  refine g_get (v := .int at_) hC kc_X26 h1 1 (by decide) q3031 rfl dX26_next_2_9 ?_
  refine V.lts (fun lc_1 => ?_)
  refine g_callq0 hC (g_runS hC (met_J12_valueOf (G := G) at_ ((hIo).trans hI)) (lw_S q2208 q1487 q106 q1488) md_J12_valueOf dX26_next_2_12 rfl ⟨by omega, by omega⟩ (by omega) (by omega) rfl (Nat.le_of_ble_eq_true rfl)) (fun r_2 G_2 n_2 u_2 hp_2 hn_2 hm_2 hu_2 => ?_)
  obtain ⟨bx_2, rfl, ho_2, hf_2, hq_2, hv_2, hsm_2⟩ := hp_2
  have o_3 : G_2 a_ = some (.inr (24, [.ref t])) := (hf_2 _ (lc_1 _ _ ha) (fun q => q)).trans ha
  have o_4 : G_2 w_ = some (.inr (25, [.int (nI (R9.length + 1)), .int at_, .ref a_])) := (hf_2 _ (lc_1 _ _ h1) (fun q => q)).trans h1
  have hi_5 : sub I G_2 := hf_2.subs hI lc_1 (fun a q => False.elim q)
  have hx_6 : sub (TZ t τ) G_2 := hf_2.subs hps lc_1 (fun a q => False.elim q)
  have hx_7 : sub J G_2 := hf_2.subs hJ lc_1 (fun a q => False.elim q)
  have hf_8 : FR (fun q_ => q_ = w_) n G G_2 := FR.refl.trans hf_2 (by omega) (fun a_ q_ => by first | exact .inl q_ | exact False.elim q_ | exact .inl (.inl q_) | exact .inl (.inr q_) | (subst q_; first | exact .inr (by omega) | exact .inl rfl))
  obtain ⟨j4J_9, jJJ_9, jSJ_9⟩ := h4.add hx_7 ho_2
  have hTJ_9 := hT.box hx_6 jSJ_9 ho_2
  refine V.lts (fun lc_10 => ?_)
  refine g_callq0 hC (g_runV hC (met_J1_higherKey (G := G_2) t bx_2 at_.toInt hTJ_9 hx_6 jJJ_9 ⟨at_, gU_s _ _ _, rfl⟩ hZa.1 hZa.2 hMe h1P h2P) kc_J1 (hx_6 _ _ (TZ_h hTJ_9.2.2.2.1)) (lw_V q2209 q2210 q2211 q85 q2212) rfl md_J1_higherKey dX26_next_2_15 rfl ⟨by omega, by omega⟩ (by omega) (by omega) rfl (Nat.le_of_ble_eq_true rfl)) (fun r_11 G_11 n_11 u_11 hp_11 hn_11 hm_11 hu_11 => ?_)
  obtain ⟨rfl, rfl, rfl, rfl⟩ := hp_11
  obtain ⟨xv, hx1, hx2⟩ := hTJ_9.key hmem
  have hxo : G_2 k = some (.inr (40, [.int xv])) := jJJ_9 _ _ hx1
  refine g_castS hC kc_J12 hxo q2217 dX26_next_2_18 ?_
  refine V.lts (fun lc_12 => ?_)
  refine g_calli0 hC (g_runV hC (met_J12_intValue (G := G_2) k hxo) kc_J12 hxo (lw_V q2218 q1195 q1196 q106 q1197) rfl md_J12_intValue dX26_next_2_21 rfl ⟨by omega, by omega⟩ (by omega) (by omega) rfl (Nat.le_of_ble_eq_true rfl)) (fun r_13 G_13 n_13 u_13 hp_13 hn_13 hm_13 hu_13 => ?_)
  obtain ⟨rfl, rfl, rfl, rfl⟩ := hp_13
  obtain ⟨G_14, eG_14⟩ : ∃ G_, gU G_2 w_ (.inr (25, [.int (nI (R9.length + 1)), .int xv, .ref a_])) = G_ := ⟨_, rfl⟩
  have o_15 : G_14 a_ = some (.inr (24, [.ref t])) := by rw [← eG_14]; exact (gU_n _ (gne_c o_3 o_4 (by decide))).trans o_3
  have o_16 : G_14 bx_2 = some (.inr (40, [.int at_])) := by rw [← eG_14]; exact (gU_n _ (gne_c ho_2 o_4 (by decide))).trans ho_2
  have o_17 : G_14 k = some (.inr (40, [.int xv])) := by rw [← eG_14]; exact (gU_n _ (gne_c hxo o_4 (by decide))).trans hxo
  have hi_18 : sub I G_14 := by rw [← eG_14]; exact sub_away hi_5 hIw
  have hx_19 : sub (TZ t τ) G_14 := by rw [← eG_14]; exact sub_away hx_6 (TZ_none hTJ_9.2.2.2.1 hTJ_9.1.1 hx_6 o_4 (by decide) (by decide) (by decide))
  have hx_20 : sub (gU J bx_2 (.inr (40, [.int at_]))) G_14 := by rw [← eG_14]; exact sub_away jJJ_9 (j4J_9.no jJJ_9 o_4 (by decide))
  have hf_21 : FR (fun q_ => q_ = w_) n G G_14 := by rw [← eG_14]; exact FR.put hf_8 (.inl rfl)
  refine g_put hC kc_X26 o_4 1 (by decide) q3031 rfl rfl rfl (by show 1 < 3; decide) rfl (by omega) (G' := G_14) eG_14 dX26_next_2_24 ?_
  have o_22 : G_14 w_ = some (.inr (25, [.int (nI (R9.length + 1)), .int xv, .ref a_])) := by rw [← eG_14]; exact gU_s _ _ _
  refine g_aload_n hC dX26_next_2_27 rfl 0 rfl ?_
  refine g_dup hC dX26_next_2_28 rfl ?_
  refine g_get (v := .int (nI (R9.length + 1))) hC kc_X26 o_22 0 (by decide) q3030 rfl dX26_next_2_29 ?_
  refine g_iconst (v := 1) hC dX26_next_2_32 rfl ?_
  refine g_isub1N hC R9.length dX26_next_2_33 ?_
  obtain ⟨G_23, eG_23⟩ : ∃ G_, gU G_14 w_ (.inr (25, [.int (nI R9.length), .int xv, .ref a_])) = G_ := ⟨_, rfl⟩
  have o_24 : G_23 a_ = some (.inr (24, [.ref t])) := by rw [← eG_23]; exact (gU_n _ (gne_c o_15 o_22 (by decide))).trans o_15
  have o_25 : G_23 bx_2 = some (.inr (40, [.int at_])) := by rw [← eG_23]; exact (gU_n _ (gne_c o_16 o_22 (by decide))).trans o_16
  have o_26 : G_23 k = some (.inr (40, [.int xv])) := by rw [← eG_23]; exact (gU_n _ (gne_c o_17 o_22 (by decide))).trans o_17
  have hi_27 : sub I G_23 := by rw [← eG_23]; exact sub_away hi_18 hIw
  have hx_28 : sub (TZ t τ) G_23 := by rw [← eG_23]; exact sub_away hx_19 (TZ_none hTJ_9.2.2.2.1 hTJ_9.1.1 hx_19 o_22 (by decide) (by decide) (by decide))
  have hx_29 : sub (gU J bx_2 (.inr (40, [.int at_]))) G_23 := by rw [← eG_23]; exact sub_away hx_20 (j4J_9.no hx_20 o_22 (by decide))
  have hf_30 : FR (fun q_ => q_ = w_) n G G_23 := by rw [← eG_23]; exact FR.put hf_21 (.inl rfl)
  refine g_put hC kc_X26 o_22 0 (by decide) q3030 rfl rfl rfl (by show 0 < 3; decide) rfl (by omega) (G' := G_23) eG_23 dX26_next_2_34 ?_
  have o_31 : G_23 w_ = some (.inr (25, [.int (nI R9.length), .int xv, .ref a_])) := by rw [← eG_23]; exact gU_s _ _ _
  refine g_aload_n hC dX26_next_2_37 rfl 0 rfl ?_
  refine g_get (v := .ref a_) hC kc_X26 o_31 2 (by decide) q3032 rfl dX26_next_2_38 ?_
  refine g_getN (v := .ref t) hC kc_X25 o_24 0 (by decide) q3015 (fun _ h => h) rfl dX26_next_2_41 ?_
  refine g_aload_n hC dX26_next_2_44 rfl 0 rfl ?_
  refine g_get (v := .int xv) hC kc_X26 o_31 1 (by decide) q3031 rfl dX26_next_2_45 ?_
  refine V.lts (fun lc_32 => ?_)
  refine g_callq0 hC (g_runS hC (met_J12_valueOf (G := G_23) xv ((hIo).trans hi_27)) (lw_S q2208 q1487 q106 q1488) md_J12_valueOf dX26_next_2_48 rfl ⟨by omega, by omega⟩ (by omega) (by omega) rfl (Nat.le_of_ble_eq_true rfl)) (fun r_33 G_33 n_33 u_33 hp_33 hn_33 hm_33 hu_33 => ?_)
  obtain ⟨bx_33, rfl, ho_33, hf_33, hq_33, hv_33, hsm_33⟩ := hp_33
  have o_34 : G_33 a_ = some (.inr (24, [.ref t])) := (hf_33 _ (lc_32 _ _ o_24) (fun q => q)).trans o_24
  have o_35 : G_33 w_ = some (.inr (25, [.int (nI R9.length), .int xv, .ref a_])) := (hf_33 _ (lc_32 _ _ o_31) (fun q => q)).trans o_31
  have o_36 : G_33 bx_2 = some (.inr (40, [.int at_])) := (hf_33 _ (lc_32 _ _ o_25) (fun q => q)).trans o_25
  have o_37 : G_33 k = some (.inr (40, [.int xv])) := (hf_33 _ (lc_32 _ _ o_26) (fun q => q)).trans o_26
  have hi_38 : sub I G_33 := hf_33.subs hi_27 lc_32 (fun a q => False.elim q)
  have hx_39 : sub (TZ t τ) G_33 := hf_33.subs hx_28 lc_32 (fun a q => False.elim q)
  have hx_40 : sub (gU J bx_2 (.inr (40, [.int at_]))) G_33 := hf_33.subs hx_29 lc_32 (fun a q => False.elim q)
  have hf_41 : FR (fun q_ => q_ = w_) n G G_33 := hf_30.trans hf_33 (by omega) (fun a_ q_ => by first | exact .inl q_ | exact False.elim q_ | exact .inl (.inl q_) | exact .inl (.inr q_) | (subst q_; first | exact .inr (by omega) | exact .inl rfl))
  obtain ⟨j4J_42, jJJ_42, jSJ_42⟩ := j4J_9.add hx_40 ho_33
  have hTJ_42 := hTJ_9.box hx_39 jSJ_42 ho_33
  refine V.lts (fun lc_43 => ?_)
  refine g_callq0 hC (g_runV hC (mp_getI (G := G_33) hTJ_42 hx_39 jJJ_42 bx_33 X ⟨xv, gU_s _ _ _, hx2⟩ hZx.1 hZx.2 hmem) kc_J1 (hx_39 _ _ (TZ_h hTJ_42.2.2.2.1)) (lw_V q2219 q2220 q2221 q85 q2222) rfl md_J1_get dX26_next_2_51 rfl ⟨by omega, by omega⟩ (by omega) (by omega) rfl (Nat.le_of_ble_eq_true rfl)) (fun r_44 G_44 n_44 u_44 hp_44 hn_44 hm_44 hu_44 => ?_)
  obtain ⟨rfl, rfl, rfl, rfl⟩ := hp_44
  refine g_castS hC kc_J12 (hi_38 _ _ hbI) q2217 dX26_next_2_54 ?_
  refine g_aret (v := some b) hC hr (by first | exact Or.inl ⟨_, rfl⟩ | exact Or.inr ⟨_, rfl⟩) ⟨_, rfl, ?_⟩ (by omega) (by omega) hE dX26_next_2_57
  exact ⟨rfl, ⟨xv, hx2, o_35⟩, hf_41, by omega⟩
set_option maxHeartbeats 1000000 in
theorem met_X26_next {Y : YT} {l : Launch} {n u : Nat} {G : AH} (w_ : Nat) {t : Nat} {τ : TS} {q : TQ} {M P R9 : MP} {J I : AH} {a_ k b : Nat} {at_ vb : Int32} {X : Int} (hT : TMI KI Y t none J τ q M) (hps : sub (TZ t τ) G) (hJ : sub J G) (h4 : J40 J) (hI : sub I G) (hIo : sub (oM Y) I) (ha : G a_ = some (.inr (24, [.ref t]))) (h1 : G w_ = some (.inr (25, [.int (nI (R9.length + 1)), .int at_, .ref a_]))) (hz : yz Y ≤ w_) (hIw : I w_ = none) (hMe : M = P ++ (X, k, some b) :: R9) (h1P : ∀ e, e ∈ P → e.1 ≤ at_.toInt) (h2P : at_.toInt < X) (hZa : ZL < at_.toInt ∧ at_.toInt < ZH) (hZx : ZL < X ∧ X < ZH) (hbI : I b = some (.inr (40, [.int vb]))) (hRl : R9.length < 1000) : GM Y l yX26_next (ws_ yX26_next cX26_next 1 (some (FieldType.object "java/lang/Object"))) 7 151 [.ref w_] G n u 2 2 (pQ (fun r G' n' u' => some b = r ∧ (∃ xv : Int32, xv.toInt = X ∧ G' w_ = some (.inr (25, [.int (nI R9.length), .int xv, .ref a_]))) ∧ FR (fun q_ => q_ = w_) n G G' ∧ n ≤ n')) noX := by
  refine GM.intro (own := RX26) rfl (by decide +kernel) (Nat.le_of_ble_eq_true rfl) ?_
  intro p e s m args below meth c R Q hC hr hnm hF hL hE
  have hE1 := hE.1
  have hE2 := hE.2.1
  have hnz : yz Y ≤ n := by have := hC.z; have := hC.n; omega
  show V Y p l e R s m args below meth c 1 n u G n u Q 0 [(0, .ref w_)] []
  refine V.lts (fun hlt => ?_)
  have hl_a_ : a_ < n := hlt _ _ ha
  have hl_w_ : w_ < n := hlt _ _ h1
  have hIn := sub_none hI hlt
  refine g_aload_n hC dX26_next_0 rfl 0 rfl ?_
  refine V.lts (fun lc_1 => ?_)
  refine g_callq0 hC (g_runV hC (met_X26_next_2 (G := G) w_ hT hps hJ h4 hI hIo ha h1 (by omega) hIw hMe h1P h2P hZa hZx hbI hRl) kc_X26 h1 (lw_V q2204 q2205 q2206 q155 q2207) rfl md_X26_next_2 dX26_next_1 rfl ⟨by omega, by omega⟩ (by omega) (by omega) rfl (Nat.le_of_ble_eq_true rfl)) (fun r_2 G_2 n_2 u_2 hp_2 hn_2 hm_2 hu_2 => ?_)
  obtain ⟨rfl, hw_2, hf_2, hnn_2⟩ := hp_2
  have o_3 : G_2 a_ = some (.inr (24, [.ref t])) := (hf_2 _ (lc_1 _ _ ha) (fun q => (gne_c ha h1 (by decide)) q)).trans ha
  have hi_4 : sub I G_2 := hf_2.subs hI lc_1 (fun a q => by subst q; exact hIw)
  have hx_5 : sub (TZ t τ) G_2 := hf_2.subs hps lc_1 (fun a q => by subst q; exact (TZ_none hT.2.2.2.1 hT.1.1 hps h1 (by decide) (by decide) (by decide)))
  have hx_6 : sub J G_2 := hf_2.subs hJ lc_1 (fun a q => by subst q; exact (h4.no hJ h1 (by decide)))
  have hf_7 : FR (fun q_ => q_ = w_) n G G_2 := FR.refl.trans hf_2 (by omega) (fun a_ q_ => by first | exact .inl q_ | exact .inl (.inl q_) | exact .inl (.inr q_) | (subst q_; first | exact .inr (by omega) | exact .inl rfl))
  refine g_aret (v := some b) hC hr (by first | exact Or.inl ⟨_, rfl⟩ | exact Or.inr ⟨_, rfl⟩) ⟨_, rfl, ?_⟩ (by omega) (by omega) hE dX26_next_4
  exact ⟨rfl, hw_2, hf_7, by omega⟩
