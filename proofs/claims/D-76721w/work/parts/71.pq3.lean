set_option maxRecDepth 100000
/-! JDK 10: priority queues: add, poll -/
theorem PE_cg {S : Nat → Prop} {g g' : Nat → Option Nat} {n : Nat} (h : PE S g n) (e : ∀ i, i < n → g' i = g i) : PE S g' n :=
  ⟨fun i hi => by rw [e i hi]; exact h.1 i hi, fun a ha => by obtain ⟨i, h1, h2⟩ := h.2.1 a ha; exact ⟨i, h1, by rw [e i h1]; exact h2⟩, fun i j hi hj q => h.2.2 i j hi hj (by rw [← e i hi, ← e j hj]; exact q)⟩
theorem PH_cg {rk : Nat → Int} {g g' : Nat → Option Nat} {n : Nat} (h : PH rk g n) (e : ∀ i, i < n → g' i = g i) : PH rk g' n := fun i j hj hn => by rw [e i (by omega), e j hn]; exact h i j hj hn
theorem cpy0 {α : Type} {f g : Nat → α} {n i : Nat} (h : i < n) : va_cpy f g 0 0 n i = f i := by
  unfold va_cpy
  rw [if_pos ⟨Nat.zero_le _, by omega⟩]; congr 1; omega
theorem PQ_min {S : Nat → Prop} {rk : Nat → Int} {f : Nat → Option Nat} {n r : Nat} (hE : PE S f n) (hH : PH rk f n) (h0 : f 0 = some r) : ∀ a, S a → rk r ≤ rk a := fun a ha => by
  obtain ⟨i, i1, i2⟩ := hE.2.1 a ha
  have h := PH_min hH i i1
  rw [h0, i2] at h
  exact h
set_option maxHeartbeats 1000000 in
theorem met_J26_siftUpS {Y : YT} {l : Launch} {n u : Nat} {G : AH} (pq : Nat) (k : Nat) (x_ : Nat) {I : AH} {qa cm cap : Nat} {mc : Int32} {f : Nat → Option Nat} {S : Nat → Prop} {rk : Nat → Int} {ks : Int32} (hI : sub I G) (hIp : I pq = none) (hIe : I qa = none) (hzp : yz Y ≤ pq) (hzq : yz Y ≤ qa) (h1 : G pq = some (.inr (43, [.ref qa, .int ks, .ref cm, .int mc]))) (h2 : G qa = some (.inl (yA Y 11, cap, .inr (.inr (.inr (.inr f)))))) (hcm : G cm = some (.inr (22, []))) (hcap : cap < 1000) (hk : k < cap) (hPE : PE S f k) (hPH : PH rk f k) (hK_ : ∀ a, S a → KPs Y I a (rk a)) (hx : ¬ S x_) (hKx : KPs Y I x_ (rk x_)) : GM Y l yJ26_siftUp (ws_ yJ26_siftUp cJ26_siftUp 3 none) 8 185 [.ref pq, .int (nI k), .ref x_] G n u 0 0 (pV (fun G' n' u' => ∃ f', G' qa = some (.inl (yA Y 11, cap, .inr (.inr (.inr (.inr f'))))) ∧ PE (fun a => S a ∨ a = x_) f' (k + 1) ∧ PH rk f' (k + 1) ∧ (∀ i, k < i → f' i = f i) ∧ FR (fun q_ => q_ = qa) n G G' ∧ n = n' ∧ u = u')) noX := by
  refine GM.intro (own := RJ26) rfl (by decide +kernel) (Nat.le_of_ble_eq_true rfl) ?_
  intro p e s m args below meth c R Q hC hr hnm hF hL hE
  have hE1 := hE.1
  have hE2 := hE.2.1
  have hnz : yz Y ≤ n := by have := hC.z; have := hC.n; omega
  show V Y p l e R s m args below meth c 3 n u G n u Q 0 [(0, .ref pq), (1, .int (nI k)), (2, .ref x_)] []
  refine V.lts (fun hlt => ?_)
  have hl_pq : pq < n := hlt _ _ h1
  have hl_cm : cm < n := hlt _ _ hcm
  have hl_qa : qa < n := hlt _ _ h2
  have hIn := sub_none hI hlt
  refine g_aload_n hC dJ26_siftUp_0 rfl 0 rfl ?_
  refine g_get (v := .ref cm) hC kc_J26 h1 2 (by decide) q1962 rfl dJ26_siftUp_1 ?_
  refine g_ifnull hC dJ26_siftUp_4 ?_
  refine g_iload_n hC dJ26_siftUp_7 rfl 1 rfl ?_
  refine g_aload_n hC dJ26_siftUp_8 rfl 2 rfl ?_
  refine g_aload_n hC dJ26_siftUp_9 rfl 0 rfl ?_
  refine g_get (v := .ref qa) hC kc_J26 h1 0 (by decide) q1959 rfl dJ26_siftUp_10 ?_
  refine g_aload_n hC dJ26_siftUp_13 rfl 0 rfl ?_
  refine g_get (v := .ref cm) hC kc_J26 h1 2 (by decide) q1962 rfl dJ26_siftUp_14 ?_
  refine V.lts (fun lc_1 => ?_)
  refine g_callv0 hC (g_runS hC (met_J26_siftUpUsingComparatorS (G := G) k x_ qa cm hI hIe (by omega) hcm h2 (by omega) (by omega) hPE hPH hx hK_ hKx) (lw_S q2000 q2001 q133 q2002) md_J26_siftUpUsingComparator dJ26_siftUp_17 rfl ⟨by omega, by omega⟩ (by omega) (by omega) rfl (Nat.le_of_ble_eq_true rfl)) (fun G_2 n_2 u_2 hp_2 hn_2 hm_2 hu_2 => ?_)
  obtain ⟨f_2, hoa_2, hPE_2, hPH_2, hx2_2, hf_2, rfl, rfl⟩ := hp_2
  have o_3 : G_2 pq = some (.inr (43, [.ref qa, .int ks, .ref cm, .int mc])) := (hf_2 _ (lc_1 _ _ h1) (fun q => (fun q => absurd q (gne_oa h1 h2)) q)).trans h1
  have o_4 : G_2 cm = some (.inr (22, [])) := (hf_2 _ (lc_1 _ _ hcm) (fun q => (fun q => absurd q (gne_oa hcm h2)) q)).trans hcm
  have hi_5 : sub I G_2 := hf_2.subs hI lc_1 (fun a q => (fun q : a = _ => by subst q; exact hIe) q)
  have hf_6 : FR (fun q_ => q_ = qa) n G G_2 := FR.refl.trans hf_2 (by omega) (fun a_ q_ => by first | exact .inl q_ | exact False.elim q_ | exact .inl (.inl q_) | exact .inl (.inr q_) | (subst q_; first | exact .inr (by omega) | exact .inl rfl))
  refine g_goto (tgt := 32) hC dJ26_siftUp_20 (by decide) ?_
  refine g_vret hC hr ⟨rfl, ?_⟩ (by omega) (by omega) hE dJ26_siftUp_32
  exact ⟨_, hoa_2, hPE_2, hPH_2, hx2_2, hf_6, rfl, rfl⟩
set_option maxHeartbeats 1000000 in
theorem met_J26_offerS {Y : YT} {l : Launch} {n u : Nat} {G : AH} (pq : Nat) (x_ : Nat) {I : AH} {qa cm k cap : Nat} {mc : Int32} {f : Nat → Option Nat} {S : Nat → Prop} {rk : Nat → Int} (hI : sub I G) (hIp : I pq = none) (hIe : I qa = none) (hzp : yz Y ≤ pq) (hzq : yz Y ≤ qa) (h1 : G pq = some (.inr (43, [.ref qa, .int (nI k), .ref cm, .int mc]))) (h2 : G qa = some (.inl (yA Y 11, cap, .inr (.inr (.inr (.inr f)))))) (hcm : G cm = some (.inr (22, []))) (hcap : cap < 1000) (hk : k < cap) (hPE : PE S f k) (hPH : PH rk f k) (hK_ : ∀ a, S a → KPs Y I a (rk a)) (hx : ¬ S x_) (hKx : KPs Y I x_ (rk x_)) : GM Y l yJ26_offer (ws_ yJ26_offer cJ26_offer 3 (some FieldType.boolean)) 9 207 [.ref pq, .ref x_] G n u 0 0 (pI (fun r G' n' u' => 1 = r ∧ ∃ f' mc' qa' cap', G' pq = some (.inr (43, [.ref qa', .int (nI (k + 1)), .ref cm, .int mc'])) ∧ G' qa' = some (.inl (yA Y 11, cap', .inr (.inr (.inr (.inr f'))))) ∧ qa = qa' ∧ cap = cap' ∧ n = n' ∧ u = u' ∧ PE (fun a => S a ∨ a = x_) f' (k + 1) ∧ PH rk f' (k + 1) ∧ FR (fun q_ => q_ = pq ∨ q_ = qa) n G G')) noX := by
  refine GM.intro (own := RJ26) rfl (by decide +kernel) (Nat.le_of_ble_eq_true rfl) ?_
  intro p e s m args below meth c R Q hC hr hnm hF hL hE
  have hE1 := hE.1
  have hE2 := hE.2.1
  have hnz : yz Y ≤ n := by have := hC.z; have := hC.n; omega
  show V Y p l e R s m args below meth c 3 n u G n u Q 0 [(0, .ref pq), (1, .ref x_)] []
  refine V.lts (fun hlt => ?_)
  have hl_pq : pq < n := hlt _ _ h1
  have hl_cm : cm < n := hlt _ _ hcm
  have hl_qa : qa < n := hlt _ _ h2
  have hIn := sub_none hI hlt
  refine g_aload_n hC dJ26_offer_0 rfl 1 rfl ?_
  refine g_ifnonnull (tgt := 12) hC dJ26_offer_1 (by decide) ?_
  refine g_aload_n hC dJ26_offer_12 rfl 0 rfl ?_
  refine g_dup hC dJ26_offer_13 rfl ?_
  refine g_get (v := .int mc) hC kc_J26 h1 3 (by decide) q1964 rfl dJ26_offer_14 ?_
  refine g_iconst (v := 1) hC dJ26_offer_17 rfl ?_
  refine g_iadd hC dJ26_offer_18 ?_
  obtain ⟨G_1, eG_1⟩ : ∃ G_, gU G pq (.inr (43, [.ref qa, .int (nI k), .ref cm, .int (mc + 1)])) = G_ := ⟨_, rfl⟩
  have o_2 : G_1 cm = some (.inr (22, [])) := by rw [← eG_1]; exact (gU_n _ (gne_c hcm h1 (by decide))).trans hcm
  have a_3 : G_1 qa = some (.inl (yA Y 11, cap, .inr (.inr (.inr (.inr f))))) := by rw [← eG_1]; exact (gU_n _ (gne_ao h2 h1)).trans h2
  have hi_4 : sub I G_1 := by rw [← eG_1]; exact sub_away hI hIp
  have hf_5 : FR (fun q_ => q_ = pq ∨ q_ = qa) n G G_1 := by rw [← eG_1]; exact FR.put FR.refl (.inl (.inl rfl))
  refine g_put hC kc_J26 h1 3 (by decide) q1964 rfl rfl rfl (by show 3 < 4; decide) rfl (by omega) (G' := G_1) eG_1 dJ26_offer_19 ?_
  have o_6 : G_1 pq = some (.inr (43, [.ref qa, .int (nI k), .ref cm, .int (mc + 1)])) := by rw [← eG_1]; exact gU_s _ _ _
  refine g_aload_n hC dJ26_offer_22 rfl 0 rfl ?_
  refine g_get (v := .int (nI k)) hC kc_J26 o_6 1 (by decide) q1961 rfl dJ26_offer_23 ?_
  refine g_istore_n (L' := [(2, .int (nI k)), (0, .ref pq), (1, .ref x_)]) hC dJ26_offer_26 rfl (by decide) rfl ?_
  refine g_iload_n hC dJ26_offer_27 rfl 0 rfl ?_
  refine g_aload_n hC dJ26_offer_28 rfl 1 rfl ?_
  refine g_get (v := .ref qa) hC kc_J26 o_6 0 (by decide) q1959 rfl dJ26_offer_29 ?_
  refine g_alen (v := nI cap) hC a_3 (t0 := 11) rfl rfl dJ26_offer_32 ?_
  refine g_icmp_ltN hC k cap (by omega) (by omega) dJ26_offer_33 (tgt := 43) (by decide) (fun c_33 => ?_) (fun c_33 => ?_)
  · refine g_aload_n hC dJ26_offer_43 rfl 1 rfl ?_
    refine g_iload_n hC dJ26_offer_44 rfl 0 rfl ?_
    refine g_aload_n hC dJ26_offer_45 rfl 2 rfl ?_
    refine V.lts (fun lc_7 => ?_)
    refine g_callv0 hC (g_runV hC (met_J26_siftUpS (G := G_1) pq k x_ hi_4 hIp hIe (by omega) (by omega) o_6 a_3 o_2 (by omega) (by omega) hPE hPH hK_ hx hKx) kc_J26 o_6 (lw_V q1996 q1998 qs21 q133 q1999) rfl md_J26_siftUp dJ26_offer_46 rfl ⟨by omega, by omega⟩ (by omega) (by omega) rfl (Nat.le_of_ble_eq_true rfl)) (fun G_8 n_8 u_8 hp_8 hn_8 hm_8 hu_8 => ?_)
    obtain ⟨f_8, hoa_8, hPE_8, hPH_8, hx2_8, hf_8, rfl, rfl⟩ := hp_8
    have o_9 : G_8 pq = some (.inr (43, [.ref qa, .int (nI k), .ref cm, .int (mc + 1)])) := (hf_8 _ (lc_7 _ _ o_6) (fun q => (fun q => absurd q (gne_oa o_6 a_3)) q)).trans o_6
    have o_10 : G_8 cm = some (.inr (22, [])) := (hf_8 _ (lc_7 _ _ o_2) (fun q => (fun q => absurd q (gne_oa o_2 a_3)) q)).trans o_2
    have hi_11 : sub I G_8 := hf_8.subs hi_4 lc_7 (fun a q => (fun q : a = _ => by subst q; exact hIe) q)
    have hf_12 : FR (fun q_ => q_ = pq ∨ q_ = qa) n G G_8 := hf_5.trans hf_8 (by omega) (fun a_ q_ => by first | exact .inl q_ | exact False.elim q_ | exact .inl (.inl q_) | exact .inl (.inr q_) | (subst q_; first | exact .inr (by omega) | exact .inl rfl))
    refine g_aload_n hC dJ26_offer_49 rfl 1 rfl ?_
    refine g_iload_n hC dJ26_offer_50 rfl 0 rfl ?_
    refine g_iconst (v := 1) hC dJ26_offer_51 rfl ?_
    refine g_iaddN hC k 1 dJ26_offer_52 ?_
    obtain ⟨G_13, eG_13⟩ : ∃ G_, gU G_8 pq (.inr (43, [.ref qa, .int (nI (k + 1)), .ref cm, .int (mc + 1)])) = G_ := ⟨_, rfl⟩
    have o_14 : G_13 cm = some (.inr (22, [])) := by rw [← eG_13]; exact (gU_n _ (gne_c o_10 o_9 (by decide))).trans o_10
    have a_15 : G_13 qa = some (.inl (yA Y 11, cap, .inr (.inr (.inr (.inr f_8))))) := by rw [← eG_13]; exact (gU_n _ (gne_ao hoa_8 o_9)).trans hoa_8
    have hi_16 : sub I G_13 := by rw [← eG_13]; exact sub_away hi_11 hIp
    have hf_17 : FR (fun q_ => q_ = pq ∨ q_ = qa) n G G_13 := by rw [← eG_13]; exact FR.put hf_12 (.inl (.inl rfl))
    refine g_put hC kc_J26 o_9 1 (by decide) q1961 rfl rfl rfl (by show 1 < 4; decide) rfl (by omega) (G' := G_13) eG_13 dJ26_offer_53 ?_
    have o_18 : G_13 pq = some (.inr (43, [.ref qa, .int (nI (k + 1)), .ref cm, .int (mc + 1)])) := by rw [← eG_13]; exact gU_s _ _ _
    refine g_iconst (v := 1) hC dJ26_offer_56 rfl ?_
    refine g_iret hC hr rfl ⟨_, rfl, ?_⟩ (by omega) (by omega) hE dJ26_offer_57
    exact ⟨rfl, _, _, _, _, o_18, a_15, rfl, rfl, rfl, rfl, hPE_8, hPH_8, hf_17⟩
  · exact absurd c_33 (by omega)
set_option maxHeartbeats 1000000 in
theorem met_J26_addS {Y : YT} {l : Launch} {n u : Nat} {G : AH} (pq : Nat) (x_ : Nat) {I : AH} {qa cm k cap : Nat} {mc : Int32} {f : Nat → Option Nat} {S : Nat → Prop} {rk : Nat → Int} (hI : sub I G) (hIp : I pq = none) (hIe : I qa = none) (hzp : yz Y ≤ pq) (hzq : yz Y ≤ qa) (h1 : G pq = some (.inr (43, [.ref qa, .int (nI k), .ref cm, .int mc]))) (h2 : G qa = some (.inl (yA Y 11, cap, .inr (.inr (.inr (.inr f)))))) (hcm : G cm = some (.inr (22, []))) (hcap : cap < 1000) (hk : k < cap) (hPE : PE S f k) (hPH : PH rk f k) (hK_ : ∀ a, S a → KPs Y I a (rk a)) (hx : ¬ S x_) (hKx : KPs Y I x_ (rk x_)) : GM Y l yJ26_add (ws_ yJ26_add cJ26_add 2 (some FieldType.boolean)) 10 229 [.ref pq, .ref x_] G n u 0 0 (pI (fun r G' n' u' => 1 = r ∧ ∃ f' mc' qa' cap', G' pq = some (.inr (43, [.ref qa', .int (nI (k + 1)), .ref cm, .int mc'])) ∧ G' qa' = some (.inl (yA Y 11, cap', .inr (.inr (.inr (.inr f'))))) ∧ qa = qa' ∧ cap = cap' ∧ n = n' ∧ u = u' ∧ PE (fun a => S a ∨ a = x_) f' (k + 1) ∧ PH rk f' (k + 1) ∧ FR (fun q_ => q_ = pq ∨ q_ = qa) n G G')) noX := by
  refine GM.intro (own := RJ26) rfl (by decide +kernel) (Nat.le_of_ble_eq_true rfl) ?_
  intro p e s m args below meth c R Q hC hr hnm hF hL hE
  have hE1 := hE.1
  have hE2 := hE.2.1
  have hnz : yz Y ≤ n := by have := hC.z; have := hC.n; omega
  show V Y p l e R s m args below meth c 2 n u G n u Q 0 [(0, .ref pq), (1, .ref x_)] []
  refine V.lts (fun hlt => ?_)
  have hl_pq : pq < n := hlt _ _ h1
  have hl_cm : cm < n := hlt _ _ hcm
  have hl_qa : qa < n := hlt _ _ h2
  have hIn := sub_none hI hlt
  refine g_aload_n hC dJ26_add_0 rfl 0 rfl ?_
  refine g_aload_n hC dJ26_add_1 rfl 1 rfl ?_
  refine V.lts (fun lc_1 => ?_)
  refine g_calli0 hC (g_runV hC (met_J26_offerS (G := G) pq x_ hI hIp hIe (by omega) (by omega) h1 h2 hcm (by omega) (by omega) hPE hPH hK_ hx hKx) kc_J26 h1 (lw_V q1978 q1979 q1980 q133 q1981) rfl md_J26_offer dJ26_add_2 rfl ⟨by omega, by omega⟩ (by omega) (by omega) rfl (Nat.le_of_ble_eq_true rfl)) (fun r_2 G_2 n_2 u_2 hp_2 hn_2 hm_2 hu_2 => ?_)
  obtain ⟨rfl, f_2, mc_2, qa_2, cp_2, ho_2, hoa_2, rfl, rfl, rfl, rfl, hPE_2, hPH_2, hf_2⟩ := hp_2
  have o_3 : G_2 cm = some (.inr (22, [])) := (hf_2 _ (lc_1 _ _ hcm) (fun q => q.elim (fun q => (fun q => absurd q (gne_c hcm h1 (by decide))) q) (fun q => (fun q => absurd q (gne_oa hcm h2)) q))).trans hcm
  have hi_4 : sub I G_2 := hf_2.subs hI lc_1 (fun a q => (show _ from (fun q => q.elim (fun q => (fun q : a = _ => by subst q; exact hIp) q) (fun q => (fun q : a = _ => by subst q; exact hIe) q)) q))
  have hf_5 : FR (fun q_ => q_ = pq ∨ q_ = qa) n G G_2 := FR.refl.trans hf_2 (by omega) (fun a_ q_ => .inl q_)
  refine g_iret hC hr rfl ⟨_, rfl, ?_⟩ (by omega) (by omega) hE dJ26_add_5
  exact ⟨rfl, _, _, _, _, ho_2, hoa_2, rfl, rfl, rfl, rfl, hPE_2, hPH_2, hf_5⟩
set_option maxHeartbeats 1000000 in
theorem met_J26_pollS {Y : YT} {l : Launch} {n u : Nat} {G : AH} (pq : Nat) {I : AH} {qa cm mm cap : Nat} {mc : Int32} {f : Nat → Option Nat} {S : Nat → Prop} {rk : Nat → Int} (hI : sub I G) (hIp : I pq = none) (hIe : I qa = none) (hzp : yz Y ≤ pq) (hzq : yz Y ≤ qa) (h1 : G pq = some (.inr (43, [.ref qa, .int (nI (mm + 1)), .ref cm, .int mc]))) (h2 : G qa = some (.inl (yA Y 11, cap, .inr (.inr (.inr (.inr f)))))) (hcm : G cm = some (.inr (22, []))) (hcap : cap < 1000) (hk : mm + 1 ≤ cap) (hPE : PE S f (mm + 1)) (hPH : PH rk f (mm + 1)) (hK_ : ∀ a, S a → KPs Y I a (rk a)) : GM Y l yJ26_poll (ws_ yJ26_poll cJ26_poll 6 (some (FieldType.object "java/lang/Object"))) 8 188 [.ref pq] G n u 0 0 (pQ (fun r G' n' u' => ∃ r_ f' mc', some r_ = r ∧ S r_ ∧ (∀ a, S a → rk r_ ≤ rk a) ∧ G' pq = some (.inr (43, [.ref qa, .int (nI mm), .ref cm, .int mc'])) ∧ G' qa = some (.inl (yA Y 11, cap, .inr (.inr (.inr (.inr f'))))) ∧ PE (fun a => S a ∧ a ≠ r_) f' mm ∧ PH rk f' mm ∧ FR (fun q_ => q_ = pq ∨ q_ = qa) n G G' ∧ n = n' ∧ u = u')) noX := by
  refine GM.intro (own := RJ26) rfl (by decide +kernel) (Nat.le_of_ble_eq_true rfl) ?_
  intro p e s m args below meth c R Q hC hr hnm hF hL hE
  have hE1 := hE.1
  have hE2 := hE.2.1
  have hnz : yz Y ≤ n := by have := hC.z; have := hC.n; omega
  show V Y p l e R s m args below meth c 6 n u G n u Q 0 [(0, .ref pq)] []
  refine V.lts (fun hlt => ?_)
  have hl_pq : pq < n := hlt _ _ h1
  have hl_cm : cm < n := hlt _ _ hcm
  have hl_qa : qa < n := hlt _ _ h2
  have hIn := sub_none hI hlt
  refine g_aload_n hC dJ26_poll_0 rfl 0 rfl ?_
  refine g_get (v := .ref qa) hC kc_J26 h1 0 (by decide) q1959 rfl dJ26_poll_1 ?_
  refine g_dup hC dJ26_poll_4 rfl ?_
  refine g_astore_n (L' := [(1, .ref qa), (0, .ref pq)]) hC dJ26_poll_5 rfl (by decide) rfl ?_
  refine g_iconst (v := 0) hC dJ26_poll_6 rfl ?_
  obtain ⟨r_, hr0, hSr⟩ := hPE.1 0 (by omega)
  refine g_aald (t0 := 11) (i := nI 0) hC h2 rfl (vin (by omega) (by omega)) (r := some r_) (by rw [nI_clamp (by omega)]; exact hr0) dJ26_poll_7 ?_
  refine g_dup hC dJ26_poll_8 rfl ?_
  refine g_astore_n (L' := [(2, .ref r_), (1, .ref qa), (0, .ref pq)]) hC dJ26_poll_9 rfl (by decide) rfl ?_
  refine g_ifnull hC dJ26_poll_10 ?_
  refine g_aload_n hC dJ26_poll_13 rfl 2 rfl ?_
  refine g_dup hC dJ26_poll_14 rfl ?_
  refine g_get (v := .int mc) hC kc_J26 h1 3 (by decide) q1964 rfl dJ26_poll_15 ?_
  refine g_iconst (v := 1) hC dJ26_poll_18 rfl ?_
  refine g_iadd hC dJ26_poll_19 ?_
  obtain ⟨G_1, eG_1⟩ : ∃ G_, gU G pq (.inr (43, [.ref qa, .int (nI (mm + 1)), .ref cm, .int (mc + 1)])) = G_ := ⟨_, rfl⟩
  have o_2 : G_1 cm = some (.inr (22, [])) := by rw [← eG_1]; exact (gU_n _ (gne_c hcm h1 (by decide))).trans hcm
  have a_3 : G_1 qa = some (.inl (yA Y 11, cap, .inr (.inr (.inr (.inr f))))) := by rw [← eG_1]; exact (gU_n _ (gne_ao h2 h1)).trans h2
  have hi_4 : sub I G_1 := by rw [← eG_1]; exact sub_away hI hIp
  have hf_5 : FR (fun q_ => q_ = pq ∨ q_ = qa) n G G_1 := by rw [← eG_1]; exact FR.put FR.refl (.inl (.inl rfl))
  refine g_put hC kc_J26 h1 3 (by decide) q1964 rfl rfl rfl (by show 3 < 4; decide) rfl (by omega) (G' := G_1) eG_1 dJ26_poll_20 ?_
  have o_6 : G_1 pq = some (.inr (43, [.ref qa, .int (nI (mm + 1)), .ref cm, .int (mc + 1)])) := by rw [← eG_1]; exact gU_s _ _ _
  refine g_aload_n hC dJ26_poll_23 rfl 1 rfl ?_
  refine g_aload_n hC dJ26_poll_24 rfl 2 rfl ?_
  refine g_dup hC dJ26_poll_25 rfl ?_
  refine g_get (v := .int (nI (mm + 1))) hC kc_J26 o_6 1 (by decide) q1961 rfl dJ26_poll_26 ?_
  refine g_iconst (v := 1) hC dJ26_poll_29 rfl ?_
  refine g_isub1N hC mm dJ26_poll_30 ?_
  refine g_dup_x1 hC dJ26_poll_31 rfl rfl ?_
  obtain ⟨G_7, eG_7⟩ : ∃ G_, gU G_1 pq (.inr (43, [.ref qa, .int (nI mm), .ref cm, .int (mc + 1)])) = G_ := ⟨_, rfl⟩
  have o_8 : G_7 cm = some (.inr (22, [])) := by rw [← eG_7]; exact (gU_n _ (gne_c o_2 o_6 (by decide))).trans o_2
  have a_9 : G_7 qa = some (.inl (yA Y 11, cap, .inr (.inr (.inr (.inr f))))) := by rw [← eG_7]; exact (gU_n _ (gne_ao a_3 o_6)).trans a_3
  have hi_10 : sub I G_7 := by rw [← eG_7]; exact sub_away hi_4 hIp
  have hf_11 : FR (fun q_ => q_ = pq ∨ q_ = qa) n G G_7 := by rw [← eG_7]; exact FR.put hf_5 (.inl (.inl rfl))
  refine g_put hC kc_J26 o_6 1 (by decide) q1961 rfl rfl rfl (by show 1 < 4; decide) rfl (by omega) (G' := G_7) eG_7 dJ26_poll_32 ?_
  have o_12 : G_7 pq = some (.inr (43, [.ref qa, .int (nI mm), .ref cm, .int (mc + 1)])) := by rw [← eG_7]; exact gU_s _ _ _
  refine g_dup hC dJ26_poll_35 rfl ?_
  refine g_istore_n (L' := [(3, .int (nI mm)), (2, .ref r_), (1, .ref qa), (0, .ref pq)]) hC dJ26_poll_36 rfl (by decide) rfl ?_
  obtain ⟨x0, hx0, hSx0⟩ := hPE.1 mm (by omega)
  refine g_aald (t0 := 11) hC a_9 rfl (vin (by omega) (by omega)) (r := some x0) (by rw [nI_clamp (by omega)]; exact hx0) dJ26_poll_37 ?_
  refine g_astore (L' := [(4, .ref x0), (3, .int (nI mm)), (2, .ref r_), (1, .ref qa), (0, .ref pq)]) hC dJ26_poll_38 (by decide) rfl ?_
  refine g_aload_n hC dJ26_poll_40 rfl 3 rfl ?_
  refine g_iload_n hC dJ26_poll_41 rfl 1 rfl ?_
  refine g_null hC dJ26_poll_42 ?_
  obtain ⟨G_13, eG_13⟩ : ∃ G_, gU G_7 qa (.inl (yA Y 11, cap, .inr (.inr (.inr (.inr (va_up f mm none)))))) = G_ := ⟨_, rfl⟩
  have o_14 : G_13 pq = some (.inr (43, [.ref qa, .int (nI mm), .ref cm, .int (mc + 1)])) := by rw [← eG_13]; exact (gU_n _ (gne_oa o_12 a_9)).trans o_12
  have o_15 : G_13 cm = some (.inr (22, [])) := by rw [← eG_13]; exact (gU_n _ (gne_oa o_8 a_9)).trans o_8
  have hi_16 : sub I G_13 := by rw [← eG_13]; exact sub_away hi_10 hIe
  have hf_17 : FR (fun q_ => q_ = pq ∨ q_ = qa) n G G_13 := by rw [← eG_13]; exact FR.put hf_11 (.inl (.inr rfl))
  refine g_aastN (t0 := 11) hC a_9 rfl (vin (by omega) (by omega)) (by omega) (f' := (va_up f mm none)) (by rw [nI_clamp (by omega)]) (G' := G_13) eG_13 dJ26_poll_43 ?_
  have a_18 : G_13 qa = some (.inl (yA Y 11, cap, .inr (.inr (.inr (.inr (va_up f mm none)))))) := by rw [← eG_13]; exact gU_s _ _ _
  refine g_iload_n hC dJ26_poll_44 rfl 1 rfl ?_
  refine g_if_leN hC mm (by omega) dJ26_poll_45 (tgt := 79) (by decide) (fun c_45 => ?_) (fun c_45 => ?_)
  · refine g_aload_n hC dJ26_poll_79 rfl 2 rfl ?_
    refine g_aret (v := some r_) hC hr (by first | exact Or.inl ⟨_, rfl⟩ | exact Or.inr ⟨_, rfl⟩) ⟨_, rfl, ?_⟩ (by omega) (by omega) hE dJ26_poll_80
    obtain rfl : mm = 0 := by omega
    exact ⟨_, _, _, rfl, hSr, PQ_min hPE hPH hr0, o_14, a_18, PE_1 hPE hr0, fun i j _ hn => absurd hn (Nat.not_lt_zero _), hf_17, rfl, rfl⟩
  · refine g_aload_n hC dJ26_poll_48 rfl 4 rfl ?_
    refine g_get (v := .ref cm) hC kc_J26 o_14 2 (by decide) q1962 rfl dJ26_poll_49 ?_
    refine g_dup hC dJ26_poll_52 rfl ?_
    refine g_astore (L' := [(5, .ref cm), (4, .ref x0), (3, .int (nI mm)), (2, .ref r_), (1, .ref qa), (0, .ref pq)]) hC dJ26_poll_53 (by decide) rfl ?_
    refine g_ifnonnull (tgt := 69) hC dJ26_poll_55 (by decide) ?_
    refine g_iconst (v := 0) hC dJ26_poll_69 rfl ?_
    refine g_aload hC dJ26_poll_70 1 rfl ?_
    refine g_aload_n hC dJ26_poll_72 rfl 4 rfl ?_
    refine g_iload_n hC dJ26_poll_73 rfl 2 rfl ?_
    refine g_aload hC dJ26_poll_74 0 rfl ?_
    refine V.lts (fun lc_19 => ?_)
    refine g_callv0 hC (g_runS hC (met_J26_siftDownUsingComparatorS (G := G_13) x0 qa mm cm hi_16 hIe (by omega) o_15 a_18 (by omega) (by omega) (by omega) (PE_p hPE hr0 hx0 (by omega)) (DN_0 hPH) (fun a ha => hK_ a ha.1) (hK_ _ hSx0)) (lw_S q2433 q2434 q133 q2435) md_J26_siftDownUsingComparator dJ26_poll_76 rfl ⟨by omega, by omega⟩ (by omega) (by omega) rfl (Nat.le_of_ble_eq_true rfl)) (fun G_20 n_20 u_20 hp_20 hn_20 hm_20 hu_20 => ?_)
    obtain ⟨f_20, hoa_20, hPE_20, hPH_20, hf_20, rfl, rfl⟩ := hp_20
    have o_21 : G_20 pq = some (.inr (43, [.ref qa, .int (nI mm), .ref cm, .int (mc + 1)])) := (hf_20 _ (lc_19 _ _ o_14) (fun q => (fun q => absurd q (gne_oa o_14 a_18)) q)).trans o_14
    have o_22 : G_20 cm = some (.inr (22, [])) := (hf_20 _ (lc_19 _ _ o_15) (fun q => (fun q => absurd q (gne_oa o_15 a_18)) q)).trans o_15
    have hi_23 : sub I G_20 := hf_20.subs hi_16 lc_19 (fun a q => (fun q : a = _ => by subst q; exact hIe) q)
    have hf_24 : FR (fun q_ => q_ = pq ∨ q_ = qa) n G G_20 := hf_17.trans hf_20 (by omega) (fun a_ q_ => by first | exact .inl q_ | exact False.elim q_ | exact .inl (.inl q_) | exact .inl (.inr q_) | (subst q_; first | exact .inr (by omega) | exact .inl rfl))
    refine g_aload_n hC dJ26_poll_79 rfl 3 rfl ?_
    refine g_aret (v := some r_) hC hr (by first | exact Or.inl ⟨_, rfl⟩ | exact Or.inr ⟨_, rfl⟩) ⟨_, rfl, ?_⟩ (by omega) (by omega) hE dJ26_poll_80
    exact ⟨_, _, _, rfl, hSr, PQ_min hPE hPH hr0, o_21, hoa_20, hPE_20, hPH_20, hf_24, rfl, rfl⟩
set_option maxHeartbeats 1000000 in
theorem met_J26_siftUpY {Y : YT} {l : Launch} {n u : Nat} {G : AH} (pq : Nat) (k : Nat) (x_ : Nat) {h N K : Nat} {σ : MS} {η : HV} {I : AH} {qa cm cap : Nat} {mc : Int32} {f : Nat → Option Nat} {S : Nat → Prop} {rk : Nat → Int} {ks : Int32} (hh : sub (hM Y h N σ η) G) (hN : σ.1 0 0 = nI N) (hK : σ.1 4 0 = nI K) (hN2 : N ≤ 12) (hI : sub I G) (hIp : I pq = none) (hIe : I qa = none) (hnp : ¬ hD h pq) (hne : ¬ hD h qa) (hzp : yz Y ≤ pq) (hzq : yz Y ≤ qa) (h1 : G pq = some (.inr (43, [.ref qa, .int ks, .ref cm, .int mc]))) (h2 : G qa = some (.inl (yA Y 11, cap, .inr (.inr (.inr (.inr f)))))) (hcm : G cm = some (.inr (23, [.ref h]))) (hcap : cap < 1000) (hk : k < cap) (hPE : PE S f k) (hPH : PH rk f k) (hK_ : ∀ a, S a → KPy N σ I a (rk a)) (hx : ¬ S x_) (hKx : KPy N σ I x_ (rk x_)) : GM Y l yJ26_siftUp (ws_ yJ26_siftUp cJ26_siftUp 3 none) 4 89 [.ref pq, .int (nI k), .ref x_] G n u 0 0 (pV (fun G' n' u' => ∃ f', G' qa = some (.inl (yA Y 11, cap, .inr (.inr (.inr (.inr f'))))) ∧ PE (fun a => S a ∨ a = x_) f' (k + 1) ∧ PH rk f' (k + 1) ∧ (∀ i, k < i → f' i = f i) ∧ FR (fun q_ => q_ = qa) n G G' ∧ n = n' ∧ u = u')) noX := by
  refine GM.intro (own := RJ26) rfl (by decide +kernel) (Nat.le_of_ble_eq_true rfl) ?_
  intro p e s m args below meth c R Q hC hr hnm hF hL hE
  have hE1 := hE.1
  have hE2 := hE.2.1
  have hnz : yz Y ≤ n := by have := hC.z; have := hC.n; omega
  show V Y p l e R s m args below meth c 3 n u G n u Q 0 [(0, .ref pq), (1, .int (nI k)), (2, .ref x_)] []
  refine V.lts (fun hlt => ?_)
  have hl_pq : pq < n := hlt _ _ h1
  have hl_cm : cm < n := hlt _ _ hcm
  have hl_qa : qa < n := hlt _ _ h2
  have hl_h : h + 6 < n := hlt _ _ (hh _ _ (hM_j 6))
  have hIn := sub_none hI hlt
  refine g_aload_n hC dJ26_siftUp_0 rfl 0 rfl ?_
  refine g_get (v := .ref cm) hC kc_J26 h1 2 (by decide) q1962 rfl dJ26_siftUp_1 ?_
  refine g_ifnull hC dJ26_siftUp_4 ?_
  refine g_iload_n hC dJ26_siftUp_7 rfl 1 rfl ?_
  refine g_aload_n hC dJ26_siftUp_8 rfl 2 rfl ?_
  refine g_aload_n hC dJ26_siftUp_9 rfl 0 rfl ?_
  refine g_get (v := .ref qa) hC kc_J26 h1 0 (by decide) q1959 rfl dJ26_siftUp_10 ?_
  refine g_aload_n hC dJ26_siftUp_13 rfl 0 rfl ?_
  refine g_get (v := .ref cm) hC kc_J26 h1 2 (by decide) q1962 rfl dJ26_siftUp_14 ?_
  refine V.lts (fun lc_1 => ?_)
  refine g_callv0 hC (g_runS hC (met_J26_siftUpUsingComparatorY (G := G) k x_ qa cm hh hN hK hN2 hI hIe hne (by omega) hcm h2 (by omega) (by omega) hPE hPH hx hK_ hKx) (lw_S q2000 q2001 q133 q2002) md_J26_siftUpUsingComparator dJ26_siftUp_17 rfl ⟨by omega, by omega⟩ (by omega) (by omega) rfl (Nat.le_of_ble_eq_true rfl)) (fun G_2 n_2 u_2 hp_2 hn_2 hm_2 hu_2 => ?_)
  obtain ⟨f_2, hoa_2, hPE_2, hPH_2, hx2_2, hf_2, rfl, rfl⟩ := hp_2
  have o_3 : G_2 pq = some (.inr (43, [.ref qa, .int ks, .ref cm, .int mc])) := (hf_2 _ (lc_1 _ _ h1) (fun q => (fun q => absurd q (gne_oa h1 h2)) q)).trans h1
  have o_4 : G_2 cm = some (.inr (23, [.ref h])) := (hf_2 _ (lc_1 _ _ hcm) (fun q => (fun q => absurd q (gne_oa hcm h2)) q)).trans hcm
  have hs_5 : sub (hM Y h N σ η) G_2 := hf_2.subs hh lc_1 (fun a q => (fun q : a = _ => by subst q; exact (hM_none hne)) q)
  have hi_6 : sub I G_2 := hf_2.subs hI lc_1 (fun a q => (fun q : a = _ => by subst q; exact hIe) q)
  have hf_7 : FR (fun q_ => q_ = qa) n G G_2 := FR.refl.trans hf_2 (by omega) (fun a_ q_ => by first | exact .inl q_ | exact False.elim q_ | exact .inl (.inl q_) | exact .inl (.inr q_) | (subst q_; first | exact .inr (by omega) | exact .inl rfl))
  refine g_goto (tgt := 32) hC dJ26_siftUp_20 (by decide) ?_
  refine g_vret hC hr ⟨rfl, ?_⟩ (by omega) (by omega) hE dJ26_siftUp_32
  exact ⟨_, hoa_2, hPE_2, hPH_2, hx2_2, hf_7, rfl, rfl⟩
set_option maxHeartbeats 1000000 in
theorem met_J26_offerY {Y : YT} {l : Launch} {n u : Nat} {G : AH} (pq : Nat) (x_ : Nat) {h N K : Nat} {σ : MS} {η : HV} {I : AH} {qa cm k : Nat} {mc : Int32} {f : Nat → Option Nat} {S : Nat → Prop} {rk : Nat → Int} (hh : sub (hM Y h N σ η) G) (hN : σ.1 0 0 = nI N) (hK : σ.1 4 0 = nI K) (hN2 : N ≤ 12) (hI : sub I G) (hIp : I pq = none) (hIe : I qa = none) (hnp : ¬ hD h pq) (hne : ¬ hD h qa) (hzp : yz Y ≤ pq) (hzq : yz Y ≤ qa) (h1 : G pq = some (.inr (43, [.ref qa, .int (nI k), .ref cm, .int mc]))) (h2 : G qa = some (.inl (yA Y 11, 11, .inr (.inr (.inr (.inr f)))))) (hcm : G cm = some (.inr (23, [.ref h]))) (hk : k ≤ 11) (hPE : PE S f k) (hPH : PH rk f k) (hK_ : ∀ a, S a → KPy N σ I a (rk a)) (hx : ¬ S x_) (hKx : KPy N σ I x_ (rk x_)) : GM Y l yJ26_offer (ws_ yJ26_offer cJ26_offer 3 (some FieldType.boolean)) 5 111 [.ref pq, .ref x_] G n u 1 1000 (pI (fun r G' n' u' => 1 = r ∧ ∃ f' mc' qa' cap', G' pq = some (.inr (43, [.ref qa', .int (nI (k + 1)), .ref cm, .int mc'])) ∧ G' qa' = some (.inl (yA Y 11, cap', .inr (.inr (.inr (.inr f'))))) ∧ (qa' = qa ∨ n ≤ qa') ∧ (k < 11 → cap' = 11) ∧ (k + 1 ≤ cap' ∧ cap' ≤ 24) ∧ n ≤ n' ∧ u ≤ u' ∧ (k < 11 → n' = n ∧ u' = u) ∧ (n' ≤ n + 1 ∧ u' ≤ u + 24) ∧ PE (fun a => S a ∨ a = x_) f' (k + 1) ∧ PH rk f' (k + 1) ∧ FR (fun q_ => q_ = pq ∨ q_ = qa) n G G')) noX := by
  refine GM.intro (own := RJ26) rfl (by decide +kernel) (Nat.le_of_ble_eq_true rfl) ?_
  intro p e s m args below meth c R Q hC hr hnm hF hL hE
  have hE1 := hE.1
  have hE2 := hE.2.1
  have hnz : yz Y ≤ n := by have := hC.z; have := hC.n; omega
  show V Y p l e R s m args below meth c 3 n u G n u Q 0 [(0, .ref pq), (1, .ref x_)] []
  refine V.lts (fun hlt => ?_)
  have hl_pq : pq < n := hlt _ _ h1
  have hl_cm : cm < n := hlt _ _ hcm
  have hl_qa : qa < n := hlt _ _ h2
  have hl_h : h + 6 < n := hlt _ _ (hh _ _ (hM_j 6))
  have hIn := sub_none hI hlt
  refine g_aload_n hC dJ26_offer_0 rfl 1 rfl ?_
  refine g_ifnonnull (tgt := 12) hC dJ26_offer_1 (by decide) ?_
  refine g_aload_n hC dJ26_offer_12 rfl 0 rfl ?_
  refine g_dup hC dJ26_offer_13 rfl ?_
  refine g_get (v := .int mc) hC kc_J26 h1 3 (by decide) q1964 rfl dJ26_offer_14 ?_
  refine g_iconst (v := 1) hC dJ26_offer_17 rfl ?_
  refine g_iadd hC dJ26_offer_18 ?_
  obtain ⟨G_1, eG_1⟩ : ∃ G_, gU G pq (.inr (43, [.ref qa, .int (nI k), .ref cm, .int (mc + 1)])) = G_ := ⟨_, rfl⟩
  have o_2 : G_1 cm = some (.inr (23, [.ref h])) := by rw [← eG_1]; exact (gU_n _ (gne_c hcm h1 (by decide))).trans hcm
  have a_3 : G_1 qa = some (.inl (yA Y 11, 11, .inr (.inr (.inr (.inr f))))) := by rw [← eG_1]; exact (gU_n _ (gne_ao h2 h1)).trans h2
  have hs_4 : sub (hM Y h N σ η) G_1 := by rw [← eG_1]; exact sub_away hh (hM_none hnp)
  have hi_5 : sub I G_1 := by rw [← eG_1]; exact sub_away hI hIp
  have hf_6 : FR (fun q_ => q_ = pq ∨ q_ = qa) n G G_1 := by rw [← eG_1]; exact FR.put FR.refl (.inl (.inl rfl))
  refine g_put hC kc_J26 h1 3 (by decide) q1964 rfl rfl rfl (by show 3 < 4; decide) rfl (by omega) (G' := G_1) eG_1 dJ26_offer_19 ?_
  have o_7 : G_1 pq = some (.inr (43, [.ref qa, .int (nI k), .ref cm, .int (mc + 1)])) := by rw [← eG_1]; exact gU_s _ _ _
  refine g_aload_n hC dJ26_offer_22 rfl 0 rfl ?_
  refine g_get (v := .int (nI k)) hC kc_J26 o_7 1 (by decide) q1961 rfl dJ26_offer_23 ?_
  refine g_istore_n (L' := [(2, .int (nI k)), (0, .ref pq), (1, .ref x_)]) hC dJ26_offer_26 rfl (by decide) rfl ?_
  refine g_iload_n hC dJ26_offer_27 rfl 0 rfl ?_
  refine g_aload_n hC dJ26_offer_28 rfl 1 rfl ?_
  refine g_get (v := .ref qa) hC kc_J26 o_7 0 (by decide) q1959 rfl dJ26_offer_29 ?_
  refine g_alen (v := nI 11) hC a_3 (t0 := 11) rfl rfl dJ26_offer_32 ?_
  refine g_icmp_ltN hC k 11 (by omega) (by omega) dJ26_offer_33 (tgt := 43) (by decide) (fun c_33 => ?_) (fun c_33 => ?_)
  · refine g_aload_n hC dJ26_offer_43 rfl 1 rfl ?_
    refine g_iload_n hC dJ26_offer_44 rfl 0 rfl ?_
    refine g_aload_n hC dJ26_offer_45 rfl 2 rfl ?_
    refine V.lts (fun lc_8 => ?_)
    refine g_callv0 hC (g_runV hC (met_J26_siftUpY (G := G_1) pq k x_ hs_4 hN hK hN2 hi_5 hIp hIe hnp hne (by omega) (by omega) o_7 a_3 o_2 (by omega) (by omega) hPE hPH hK_ hx hKx) kc_J26 o_7 (lw_V q1996 q1998 qs21 q133 q1999) rfl md_J26_siftUp dJ26_offer_46 rfl ⟨by omega, by omega⟩ (by omega) (by omega) rfl (Nat.le_of_ble_eq_true rfl)) (fun G_9 n_9 u_9 hp_9 hn_9 hm_9 hu_9 => ?_)
    obtain ⟨f_9, hoa_9, hPE_9, hPH_9, hx2_9, hf_9, rfl, rfl⟩ := hp_9
    have o_10 : G_9 pq = some (.inr (43, [.ref qa, .int (nI k), .ref cm, .int (mc + 1)])) := (hf_9 _ (lc_8 _ _ o_7) (fun q => (fun q => absurd q (gne_oa o_7 a_3)) q)).trans o_7
    have o_11 : G_9 cm = some (.inr (23, [.ref h])) := (hf_9 _ (lc_8 _ _ o_2) (fun q => (fun q => absurd q (gne_oa o_2 a_3)) q)).trans o_2
    have hs_12 : sub (hM Y h N σ η) G_9 := hf_9.subs hs_4 lc_8 (fun a q => (fun q : a = _ => by subst q; exact (hM_none hne)) q)
    have hi_13 : sub I G_9 := hf_9.subs hi_5 lc_8 (fun a q => (fun q : a = _ => by subst q; exact hIe) q)
    have hf_14 : FR (fun q_ => q_ = pq ∨ q_ = qa) n G G_9 := hf_6.trans hf_9 (by omega) (fun a_ q_ => by first | exact .inl q_ | exact False.elim q_ | exact .inl (.inl q_) | exact .inl (.inr q_) | (subst q_; first | exact .inr (by omega) | exact .inl rfl))
    refine g_aload_n hC dJ26_offer_49 rfl 1 rfl ?_
    refine g_iload_n hC dJ26_offer_50 rfl 0 rfl ?_
    refine g_iconst (v := 1) hC dJ26_offer_51 rfl ?_
    refine g_iaddN hC k 1 dJ26_offer_52 ?_
    obtain ⟨G_15, eG_15⟩ : ∃ G_, gU G_9 pq (.inr (43, [.ref qa, .int (nI (k + 1)), .ref cm, .int (mc + 1)])) = G_ := ⟨_, rfl⟩
    have o_16 : G_15 cm = some (.inr (23, [.ref h])) := by rw [← eG_15]; exact (gU_n _ (gne_c o_11 o_10 (by decide))).trans o_11
    have a_17 : G_15 qa = some (.inl (yA Y 11, 11, .inr (.inr (.inr (.inr f_9))))) := by rw [← eG_15]; exact (gU_n _ (gne_ao hoa_9 o_10)).trans hoa_9
    have hs_18 : sub (hM Y h N σ η) G_15 := by rw [← eG_15]; exact sub_away hs_12 (hM_none hnp)
    have hi_19 : sub I G_15 := by rw [← eG_15]; exact sub_away hi_13 hIp
    have hf_20 : FR (fun q_ => q_ = pq ∨ q_ = qa) n G G_15 := by rw [← eG_15]; exact FR.put hf_14 (.inl (.inl rfl))
    refine g_put hC kc_J26 o_10 1 (by decide) q1961 rfl rfl rfl (by show 1 < 4; decide) rfl (by omega) (G' := G_15) eG_15 dJ26_offer_53 ?_
    have o_21 : G_15 pq = some (.inr (43, [.ref qa, .int (nI (k + 1)), .ref cm, .int (mc + 1)])) := by rw [← eG_15]; exact gU_s _ _ _
    refine g_iconst (v := 1) hC dJ26_offer_56 rfl ?_
    refine g_iret hC hr rfl ⟨_, rfl, ?_⟩ (by omega) (by omega) hE dJ26_offer_57
    exact ⟨rfl, _, _, _, _, o_21, a_17, .inl rfl, fun q => by omega, by omega, by omega, by omega, fun q => ⟨rfl, rfl⟩, ⟨by omega, by omega⟩, hPE_9, hPH_9, hf_20⟩
  · refine g_aload_n hC dJ26_offer_36 rfl 1 rfl ?_
    refine g_iload_n hC dJ26_offer_37 rfl 0 rfl ?_
    refine g_iconst (v := 1) hC dJ26_offer_38 rfl ?_
    refine g_iaddN hC k 1 dJ26_offer_39 ?_
    refine V.lts (fun lc_22 => ?_)
    refine g_callv0 hC (g_runV hC (met_J26_grow (G := G_1) pq (k + 1) o_7 a_3 (by omega) (by omega) (by omega) (fun i hi y hy => by obtain ⟨a9, e1, e2⟩ := hPE.1 i (by omega); rw [hy] at e1; cases e1; obtain ⟨q9, _, e3, _⟩ := hK_ _ e2; exact ⟨_, hi_5 _ _ e3, .inl ⟨_, rfl⟩⟩)) kc_J26 o_7 (lw_V q1982 q1984 qs20 q133 q1985) rfl md_J26_grow dJ26_offer_40 rfl ⟨by omega, by omega⟩ (by omega) (by omega) rfl (Nat.le_of_ble_eq_true rfl)) (fun G_23 n_23 u_23 hp_23 hn_23 hm_23 hu_23 => ?_)
    obtain ⟨ho_23, hoa_23, hf_23, hn2_23, hu2_23⟩ := hp_23
    have o_24 : G_23 cm = some (.inr (23, [.ref h])) := (hf_23 _ (lc_22 _ _ o_2) (fun q => (fun q => absurd q (gne_c o_2 o_7 (by decide))) q)).trans o_2
    have a_25 : G_23 qa = some (.inl (yA Y 11, 11, .inr (.inr (.inr (.inr f))))) := (hf_23 _ (lc_22 _ _ a_3) (fun q => (fun q => absurd q (gne_ao a_3 o_7)) q)).trans a_3
    have hs_26 : sub (hM Y h N σ η) G_23 := hf_23.subs hs_4 lc_22 (fun a q => (fun q : a = _ => by subst q; exact (hM_none hnp)) q)
    have hi_27 : sub I G_23 := hf_23.subs hi_5 lc_22 (fun a q => (fun q : a = _ => by subst q; exact hIp) q)
    have hf_28 : FR (fun q_ => q_ = pq ∨ q_ = qa) n G G_23 := hf_6.trans hf_23 (by omega) (fun a_ q_ => by first | exact .inl q_ | exact False.elim q_ | exact .inl (.inl q_) | exact .inl (.inr q_) | (subst q_; first | exact .inr (by omega) | exact .inl rfl))
    have hk11 : k = 11 := by omega
    refine g_aload_n hC dJ26_offer_43 rfl 1 rfl ?_
    refine g_iload_n hC dJ26_offer_44 rfl 0 rfl ?_
    refine g_aload_n hC dJ26_offer_45 rfl 2 rfl ?_
    refine V.lts (fun lc_29 => ?_)
    refine g_callv0 hC (g_runV hC (met_J26_siftUpY (G := G_23) pq k x_ hs_26 hN hK hN2 hi_27 hIp (hIn _ (by omega)) hnp (by unfold hD; omega) (by omega) (by omega) ho_23 hoa_23 o_24 (by omega) (by omega) (PE_cg hPE (fun i hi => cpy0 (by omega))) (PH_cg hPH (fun i hi => cpy0 (by omega))) hK_ hx hKx) kc_J26 ho_23 (lw_V q1996 q1998 qs21 q133 q1999) rfl md_J26_siftUp dJ26_offer_46 rfl ⟨by omega, by omega⟩ (by omega) (by omega) rfl (Nat.le_of_ble_eq_true rfl)) (fun G_30 n_30 u_30 hp_30 hn_30 hm_30 hu_30 => ?_)
    obtain ⟨f_30, hoa_30, hPE_30, hPH_30, hx2_30, hf_30, rfl, rfl⟩ := hp_30
    have o_31 : G_30 cm = some (.inr (23, [.ref h])) := (hf_30 _ (lc_29 _ _ o_24) (fun q => (fun q => absurd q (gne_oa o_24 hoa_23)) q)).trans o_24
    have o_32 : G_30 pq = some (.inr (43, [.ref n, .int (nI k), .ref cm, .int (mc + 1)])) := (hf_30 _ (lc_29 _ _ ho_23) (fun q => (fun q => absurd q (gne_oa ho_23 hoa_23)) q)).trans ho_23
    have a_33 : G_30 qa = some (.inl (yA Y 11, 11, .inr (.inr (.inr (.inr f))))) := (hf_30 _ (lc_29 _ _ a_25) (fun q => (fun q => absurd q (by omega)) q)).trans a_25
    have hs_34 : sub (hM Y h N σ η) G_30 := hf_30.subs hs_26 lc_29 (fun a q => (fun q : a = _ => by subst q; exact hM_none (by unfold hD; omega)) q)
    have hi_35 : sub I G_30 := hf_30.subs hi_27 lc_29 (fun a q => (fun q : a = _ => by subst q; exact hIn _ (by omega)) q)
    have hf_36 : FR (fun q_ => q_ = pq ∨ q_ = qa) n G G_30 := hf_28.trans hf_30 (by omega) (fun a_ q_ => by first | exact .inl q_ | exact False.elim q_ | exact .inl (.inl q_) | exact .inl (.inr q_) | (subst q_; first | exact .inr (by omega) | exact .inl rfl))
    refine g_aload_n hC dJ26_offer_49 rfl 1 rfl ?_
    refine g_iload_n hC dJ26_offer_50 rfl 0 rfl ?_
    refine g_iconst (v := 1) hC dJ26_offer_51 rfl ?_
    refine g_iaddN hC k 1 dJ26_offer_52 ?_
    obtain ⟨G_37, eG_37⟩ : ∃ G_, gU G_30 pq (.inr (43, [.ref n, .int (nI (k + 1)), .ref cm, .int (mc + 1)])) = G_ := ⟨_, rfl⟩
    have o_38 : G_37 cm = some (.inr (23, [.ref h])) := by rw [← eG_37]; exact (gU_n _ (gne_c o_31 o_32 (by decide))).trans o_31
    have a_39 : G_37 qa = some (.inl (yA Y 11, 11, .inr (.inr (.inr (.inr f))))) := by rw [← eG_37]; exact (gU_n _ (gne_ao a_33 o_32)).trans a_33
    have a_40 : G_37 n = some (.inl (yA Y 11, 24, .inr (.inr (.inr (.inr f_30))))) := by rw [← eG_37]; exact (gU_n _ (gne_ao hoa_30 o_32)).trans hoa_30
    have hs_41 : sub (hM Y h N σ η) G_37 := by rw [← eG_37]; exact sub_away hs_34 (hM_none hnp)
    have hi_42 : sub I G_37 := by rw [← eG_37]; exact sub_away hi_35 hIp
    have hf_43 : FR (fun q_ => q_ = pq ∨ q_ = qa) n G G_37 := by rw [← eG_37]; exact FR.put hf_36 (.inl (.inl rfl))
    refine g_put hC kc_J26 o_32 1 (by decide) q1961 rfl rfl rfl (by show 1 < 4; decide) rfl (by omega) (G' := G_37) eG_37 dJ26_offer_53 ?_
    have o_44 : G_37 pq = some (.inr (43, [.ref n, .int (nI (k + 1)), .ref cm, .int (mc + 1)])) := by rw [← eG_37]; exact gU_s _ _ _
    refine g_iconst (v := 1) hC dJ26_offer_56 rfl ?_
    refine g_iret hC hr rfl ⟨_, rfl, ?_⟩ (by omega) (by omega) hE dJ26_offer_57
    exact ⟨rfl, _, _, _, _, o_44, a_40, .inr (by omega), fun q => by omega, by omega, by omega, by omega, fun q => absurd q (by omega), ⟨by omega, by omega⟩, hPE_30, hPH_30, hf_43⟩
set_option maxHeartbeats 1000000 in
theorem met_J26_addY {Y : YT} {l : Launch} {n u : Nat} {G : AH} (pq : Nat) (x_ : Nat) {h N K : Nat} {σ : MS} {η : HV} {I : AH} {qa cm k : Nat} {mc : Int32} {f : Nat → Option Nat} {S : Nat → Prop} {rk : Nat → Int} (hh : sub (hM Y h N σ η) G) (hN : σ.1 0 0 = nI N) (hK : σ.1 4 0 = nI K) (hN2 : N ≤ 12) (hI : sub I G) (hIp : I pq = none) (hIe : I qa = none) (hnp : ¬ hD h pq) (hne : ¬ hD h qa) (hzp : yz Y ≤ pq) (hzq : yz Y ≤ qa) (h1 : G pq = some (.inr (43, [.ref qa, .int (nI k), .ref cm, .int mc]))) (h2 : G qa = some (.inl (yA Y 11, 11, .inr (.inr (.inr (.inr f)))))) (hcm : G cm = some (.inr (23, [.ref h]))) (hk : k ≤ 11) (hPE : PE S f k) (hPH : PH rk f k) (hK_ : ∀ a, S a → KPy N σ I a (rk a)) (hx : ¬ S x_) (hKx : KPy N σ I x_ (rk x_)) : GM Y l yJ26_add (ws_ yJ26_add cJ26_add 2 (some FieldType.boolean)) 6 133 [.ref pq, .ref x_] G n u 1 1000 (pI (fun r G' n' u' => 1 = r ∧ ∃ f' mc' qa' cap', G' pq = some (.inr (43, [.ref qa', .int (nI (k + 1)), .ref cm, .int mc'])) ∧ G' qa' = some (.inl (yA Y 11, cap', .inr (.inr (.inr (.inr f'))))) ∧ (qa' = qa ∨ n ≤ qa') ∧ (k < 11 → cap' = 11) ∧ (k + 1 ≤ cap' ∧ cap' ≤ 24) ∧ n ≤ n' ∧ u ≤ u' ∧ (k < 11 → n' = n ∧ u' = u) ∧ (n' ≤ n + 1 ∧ u' ≤ u + 24) ∧ PE (fun a => S a ∨ a = x_) f' (k + 1) ∧ PH rk f' (k + 1) ∧ FR (fun q_ => q_ = pq ∨ q_ = qa) n G G')) noX := by
  refine GM.intro (own := RJ26) rfl (by decide +kernel) (Nat.le_of_ble_eq_true rfl) ?_
  intro p e s m args below meth c R Q hC hr hnm hF hL hE
  have hE1 := hE.1
  have hE2 := hE.2.1
  have hnz : yz Y ≤ n := by have := hC.z; have := hC.n; omega
  show V Y p l e R s m args below meth c 2 n u G n u Q 0 [(0, .ref pq), (1, .ref x_)] []
  refine V.lts (fun hlt => ?_)
  have hl_pq : pq < n := hlt _ _ h1
  have hl_cm : cm < n := hlt _ _ hcm
  have hl_qa : qa < n := hlt _ _ h2
  have hl_h : h + 6 < n := hlt _ _ (hh _ _ (hM_j 6))
  have hIn := sub_none hI hlt
  refine g_aload_n hC dJ26_add_0 rfl 0 rfl ?_
  refine g_aload_n hC dJ26_add_1 rfl 1 rfl ?_
  refine V.lts (fun lc_1 => ?_)
  refine g_calli0 hC (g_runV hC (met_J26_offerY (G := G) pq x_ hh hN hK hN2 hI hIp hIe hnp hne (by omega) (by omega) h1 h2 hcm (by omega) hPE hPH hK_ hx hKx) kc_J26 h1 (lw_V q1978 q1979 q1980 q133 q1981) rfl md_J26_offer dJ26_add_2 rfl ⟨by omega, by omega⟩ (by omega) (by omega) rfl (Nat.le_of_ble_eq_true rfl)) (fun r_2 G_2 n_2 u_2 hp_2 hn_2 hm_2 hu_2 => ?_)
  obtain ⟨rfl, f_2, mc_2, qa_2, cp_2, ho_2, hoa_2, hqq_2, hcp_2, hcq_2, hnn_2, huu_2, hsk_2, hsl_2, hPE_2, hPH_2, hf_2⟩ := hp_2
  have o_3 : G_2 cm = some (.inr (23, [.ref h])) := (hf_2 _ (lc_1 _ _ hcm) (fun q => q.elim (fun q => (fun q => absurd q (gne_c hcm h1 (by decide))) q) (fun q => (fun q => absurd q (gne_oa hcm h2)) q))).trans hcm
  have hs_4 : sub (hM Y h N σ η) G_2 := hf_2.subs hh lc_1 (fun a q => (show _ from (fun q => q.elim (fun q => (fun q : a = _ => by subst q; exact (hM_none hnp)) q) (fun q => (fun q : a = _ => by subst q; exact (hM_none hne)) q)) q))
  have hi_5 : sub I G_2 := hf_2.subs hI lc_1 (fun a q => (show _ from (fun q => q.elim (fun q => (fun q : a = _ => by subst q; exact hIp) q) (fun q => (fun q : a = _ => by subst q; exact hIe) q)) q))
  have hf_6 : FR (fun q_ => q_ = pq ∨ q_ = qa) n G G_2 := FR.refl.trans hf_2 (by omega) (fun a_ q_ => .inl q_)
  refine g_iret hC hr rfl ⟨_, rfl, ?_⟩ (by omega) (by omega) hE dJ26_add_5
  exact ⟨rfl, _, _, _, _, ho_2, hoa_2, hqq_2, hcp_2, hcq_2, by omega, by omega, hsk_2, hsl_2, hPE_2, hPH_2, hf_6⟩
set_option maxHeartbeats 1000000 in
theorem met_J26_pollY {Y : YT} {l : Launch} {n u : Nat} {G : AH} (pq : Nat) {h N K : Nat} {σ : MS} {η : HV} {I : AH} {qa cm mm cap : Nat} {mc : Int32} {f : Nat → Option Nat} {S : Nat → Prop} {rk : Nat → Int} (hh : sub (hM Y h N σ η) G) (hN : σ.1 0 0 = nI N) (hK : σ.1 4 0 = nI K) (hN2 : N ≤ 12) (hI : sub I G) (hIp : I pq = none) (hIe : I qa = none) (hnp : ¬ hD h pq) (hne : ¬ hD h qa) (hzp : yz Y ≤ pq) (hzq : yz Y ≤ qa) (h1 : G pq = some (.inr (43, [.ref qa, .int (nI (mm + 1)), .ref cm, .int mc]))) (h2 : G qa = some (.inl (yA Y 11, cap, .inr (.inr (.inr (.inr f)))))) (hcm : G cm = some (.inr (23, [.ref h]))) (hcap : cap < 1000) (hk : mm + 1 ≤ cap) (hPE : PE S f (mm + 1)) (hPH : PH rk f (mm + 1)) (hK_ : ∀ a, S a → KPy N σ I a (rk a)) : GM Y l yJ26_poll (ws_ yJ26_poll cJ26_poll 6 (some (FieldType.object "java/lang/Object"))) 4 92 [.ref pq] G n u 0 0 (pQ (fun r G' n' u' => ∃ r_ f' mc', some r_ = r ∧ S r_ ∧ (∀ a, S a → rk r_ ≤ rk a) ∧ G' pq = some (.inr (43, [.ref qa, .int (nI mm), .ref cm, .int mc'])) ∧ G' qa = some (.inl (yA Y 11, cap, .inr (.inr (.inr (.inr f'))))) ∧ PE (fun a => S a ∧ a ≠ r_) f' mm ∧ PH rk f' mm ∧ FR (fun q_ => q_ = pq ∨ q_ = qa) n G G' ∧ n = n' ∧ u = u')) noX := by
  refine GM.intro (own := RJ26) rfl (by decide +kernel) (Nat.le_of_ble_eq_true rfl) ?_
  intro p e s m args below meth c R Q hC hr hnm hF hL hE
  have hE1 := hE.1
  have hE2 := hE.2.1
  have hnz : yz Y ≤ n := by have := hC.z; have := hC.n; omega
  show V Y p l e R s m args below meth c 6 n u G n u Q 0 [(0, .ref pq)] []
  refine V.lts (fun hlt => ?_)
  have hl_pq : pq < n := hlt _ _ h1
  have hl_cm : cm < n := hlt _ _ hcm
  have hl_qa : qa < n := hlt _ _ h2
  have hl_h : h + 6 < n := hlt _ _ (hh _ _ (hM_j 6))
  have hIn := sub_none hI hlt
  refine g_aload_n hC dJ26_poll_0 rfl 0 rfl ?_
  refine g_get (v := .ref qa) hC kc_J26 h1 0 (by decide) q1959 rfl dJ26_poll_1 ?_
  refine g_dup hC dJ26_poll_4 rfl ?_
  refine g_astore_n (L' := [(1, .ref qa), (0, .ref pq)]) hC dJ26_poll_5 rfl (by decide) rfl ?_
  refine g_iconst (v := 0) hC dJ26_poll_6 rfl ?_
  obtain ⟨r_, hr0, hSr⟩ := hPE.1 0 (by omega)
  refine g_aald (t0 := 11) (i := nI 0) hC h2 rfl (vin (by omega) (by omega)) (r := some r_) (by rw [nI_clamp (by omega)]; exact hr0) dJ26_poll_7 ?_
  refine g_dup hC dJ26_poll_8 rfl ?_
  refine g_astore_n (L' := [(2, .ref r_), (1, .ref qa), (0, .ref pq)]) hC dJ26_poll_9 rfl (by decide) rfl ?_
  refine g_ifnull hC dJ26_poll_10 ?_
  refine g_aload_n hC dJ26_poll_13 rfl 2 rfl ?_
  refine g_dup hC dJ26_poll_14 rfl ?_
  refine g_get (v := .int mc) hC kc_J26 h1 3 (by decide) q1964 rfl dJ26_poll_15 ?_
  refine g_iconst (v := 1) hC dJ26_poll_18 rfl ?_
  refine g_iadd hC dJ26_poll_19 ?_
  obtain ⟨G_1, eG_1⟩ : ∃ G_, gU G pq (.inr (43, [.ref qa, .int (nI (mm + 1)), .ref cm, .int (mc + 1)])) = G_ := ⟨_, rfl⟩
  have o_2 : G_1 cm = some (.inr (23, [.ref h])) := by rw [← eG_1]; exact (gU_n _ (gne_c hcm h1 (by decide))).trans hcm
  have a_3 : G_1 qa = some (.inl (yA Y 11, cap, .inr (.inr (.inr (.inr f))))) := by rw [← eG_1]; exact (gU_n _ (gne_ao h2 h1)).trans h2
  have hs_4 : sub (hM Y h N σ η) G_1 := by rw [← eG_1]; exact sub_away hh (hM_none hnp)
  have hi_5 : sub I G_1 := by rw [← eG_1]; exact sub_away hI hIp
  have hf_6 : FR (fun q_ => q_ = pq ∨ q_ = qa) n G G_1 := by rw [← eG_1]; exact FR.put FR.refl (.inl (.inl rfl))
  refine g_put hC kc_J26 h1 3 (by decide) q1964 rfl rfl rfl (by show 3 < 4; decide) rfl (by omega) (G' := G_1) eG_1 dJ26_poll_20 ?_
  have o_7 : G_1 pq = some (.inr (43, [.ref qa, .int (nI (mm + 1)), .ref cm, .int (mc + 1)])) := by rw [← eG_1]; exact gU_s _ _ _
  refine g_aload_n hC dJ26_poll_23 rfl 1 rfl ?_
  refine g_aload_n hC dJ26_poll_24 rfl 2 rfl ?_
  refine g_dup hC dJ26_poll_25 rfl ?_
  refine g_get (v := .int (nI (mm + 1))) hC kc_J26 o_7 1 (by decide) q1961 rfl dJ26_poll_26 ?_
  refine g_iconst (v := 1) hC dJ26_poll_29 rfl ?_
  refine g_isub1N hC mm dJ26_poll_30 ?_
  refine g_dup_x1 hC dJ26_poll_31 rfl rfl ?_
  obtain ⟨G_8, eG_8⟩ : ∃ G_, gU G_1 pq (.inr (43, [.ref qa, .int (nI mm), .ref cm, .int (mc + 1)])) = G_ := ⟨_, rfl⟩
  have o_9 : G_8 cm = some (.inr (23, [.ref h])) := by rw [← eG_8]; exact (gU_n _ (gne_c o_2 o_7 (by decide))).trans o_2
  have a_10 : G_8 qa = some (.inl (yA Y 11, cap, .inr (.inr (.inr (.inr f))))) := by rw [← eG_8]; exact (gU_n _ (gne_ao a_3 o_7)).trans a_3
  have hs_11 : sub (hM Y h N σ η) G_8 := by rw [← eG_8]; exact sub_away hs_4 (hM_none hnp)
  have hi_12 : sub I G_8 := by rw [← eG_8]; exact sub_away hi_5 hIp
  have hf_13 : FR (fun q_ => q_ = pq ∨ q_ = qa) n G G_8 := by rw [← eG_8]; exact FR.put hf_6 (.inl (.inl rfl))
  refine g_put hC kc_J26 o_7 1 (by decide) q1961 rfl rfl rfl (by show 1 < 4; decide) rfl (by omega) (G' := G_8) eG_8 dJ26_poll_32 ?_
  have o_14 : G_8 pq = some (.inr (43, [.ref qa, .int (nI mm), .ref cm, .int (mc + 1)])) := by rw [← eG_8]; exact gU_s _ _ _
  refine g_dup hC dJ26_poll_35 rfl ?_
  refine g_istore_n (L' := [(3, .int (nI mm)), (2, .ref r_), (1, .ref qa), (0, .ref pq)]) hC dJ26_poll_36 rfl (by decide) rfl ?_
  obtain ⟨x0, hx0, hSx0⟩ := hPE.1 mm (by omega)
  refine g_aald (t0 := 11) hC a_10 rfl (vin (by omega) (by omega)) (r := some x0) (by rw [nI_clamp (by omega)]; exact hx0) dJ26_poll_37 ?_
  refine g_astore (L' := [(4, .ref x0), (3, .int (nI mm)), (2, .ref r_), (1, .ref qa), (0, .ref pq)]) hC dJ26_poll_38 (by decide) rfl ?_
  refine g_aload_n hC dJ26_poll_40 rfl 3 rfl ?_
  refine g_iload_n hC dJ26_poll_41 rfl 1 rfl ?_
  refine g_null hC dJ26_poll_42 ?_
  obtain ⟨G_15, eG_15⟩ : ∃ G_, gU G_8 qa (.inl (yA Y 11, cap, .inr (.inr (.inr (.inr (va_up f mm none)))))) = G_ := ⟨_, rfl⟩
  have o_16 : G_15 pq = some (.inr (43, [.ref qa, .int (nI mm), .ref cm, .int (mc + 1)])) := by rw [← eG_15]; exact (gU_n _ (gne_oa o_14 a_10)).trans o_14
  have o_17 : G_15 cm = some (.inr (23, [.ref h])) := by rw [← eG_15]; exact (gU_n _ (gne_oa o_9 a_10)).trans o_9
  have hs_18 : sub (hM Y h N σ η) G_15 := by rw [← eG_15]; exact sub_away hs_11 (hM_none hne)
  have hi_19 : sub I G_15 := by rw [← eG_15]; exact sub_away hi_12 hIe
  have hf_20 : FR (fun q_ => q_ = pq ∨ q_ = qa) n G G_15 := by rw [← eG_15]; exact FR.put hf_13 (.inl (.inr rfl))
  refine g_aastN (t0 := 11) hC a_10 rfl (vin (by omega) (by omega)) (by omega) (f' := (va_up f mm none)) (by rw [nI_clamp (by omega)]) (G' := G_15) eG_15 dJ26_poll_43 ?_
  have a_21 : G_15 qa = some (.inl (yA Y 11, cap, .inr (.inr (.inr (.inr (va_up f mm none)))))) := by rw [← eG_15]; exact gU_s _ _ _
  refine g_iload_n hC dJ26_poll_44 rfl 1 rfl ?_
  refine g_if_leN hC mm (by omega) dJ26_poll_45 (tgt := 79) (by decide) (fun c_45 => ?_) (fun c_45 => ?_)
  · refine g_aload_n hC dJ26_poll_79 rfl 2 rfl ?_
    refine g_aret (v := some r_) hC hr (by first | exact Or.inl ⟨_, rfl⟩ | exact Or.inr ⟨_, rfl⟩) ⟨_, rfl, ?_⟩ (by omega) (by omega) hE dJ26_poll_80
    obtain rfl : mm = 0 := by omega
    exact ⟨_, _, _, rfl, hSr, PQ_min hPE hPH hr0, o_16, a_21, PE_1 hPE hr0, fun i j _ hn => absurd hn (Nat.not_lt_zero _), hf_20, rfl, rfl⟩
  · refine g_aload_n hC dJ26_poll_48 rfl 4 rfl ?_
    refine g_get (v := .ref cm) hC kc_J26 o_16 2 (by decide) q1962 rfl dJ26_poll_49 ?_
    refine g_dup hC dJ26_poll_52 rfl ?_
    refine g_astore (L' := [(5, .ref cm), (4, .ref x0), (3, .int (nI mm)), (2, .ref r_), (1, .ref qa), (0, .ref pq)]) hC dJ26_poll_53 (by decide) rfl ?_
    refine g_ifnonnull (tgt := 69) hC dJ26_poll_55 (by decide) ?_
    refine g_iconst (v := 0) hC dJ26_poll_69 rfl ?_
    refine g_aload hC dJ26_poll_70 1 rfl ?_
    refine g_aload_n hC dJ26_poll_72 rfl 4 rfl ?_
    refine g_iload_n hC dJ26_poll_73 rfl 2 rfl ?_
    refine g_aload hC dJ26_poll_74 0 rfl ?_
    refine V.lts (fun lc_22 => ?_)
    refine g_callv0 hC (g_runS hC (met_J26_siftDownUsingComparatorY (G := G_15) x0 qa mm cm hs_18 hN hK hN2 hi_19 hIe hne (by omega) o_17 a_21 (by omega) (by omega) (by omega) (PE_p hPE hr0 hx0 (by omega)) (DN_0 hPH) (fun a ha => hK_ a ha.1) (hK_ _ hSx0)) (lw_S q2433 q2434 q133 q2435) md_J26_siftDownUsingComparator dJ26_poll_76 rfl ⟨by omega, by omega⟩ (by omega) (by omega) rfl (Nat.le_of_ble_eq_true rfl)) (fun G_23 n_23 u_23 hp_23 hn_23 hm_23 hu_23 => ?_)
    obtain ⟨f_23, hoa_23, hPE_23, hPH_23, hf_23, rfl, rfl⟩ := hp_23
    have o_24 : G_23 pq = some (.inr (43, [.ref qa, .int (nI mm), .ref cm, .int (mc + 1)])) := (hf_23 _ (lc_22 _ _ o_16) (fun q => (fun q => absurd q (gne_oa o_16 a_21)) q)).trans o_16
    have o_25 : G_23 cm = some (.inr (23, [.ref h])) := (hf_23 _ (lc_22 _ _ o_17) (fun q => (fun q => absurd q (gne_oa o_17 a_21)) q)).trans o_17
    have hs_26 : sub (hM Y h N σ η) G_23 := hf_23.subs hs_18 lc_22 (fun a q => (fun q : a = _ => by subst q; exact (hM_none hne)) q)
    have hi_27 : sub I G_23 := hf_23.subs hi_19 lc_22 (fun a q => (fun q : a = _ => by subst q; exact hIe) q)
    have hf_28 : FR (fun q_ => q_ = pq ∨ q_ = qa) n G G_23 := hf_20.trans hf_23 (by omega) (fun a_ q_ => by first | exact .inl q_ | exact False.elim q_ | exact .inl (.inl q_) | exact .inl (.inr q_) | (subst q_; first | exact .inr (by omega) | exact .inl rfl))
    refine g_aload_n hC dJ26_poll_79 rfl 3 rfl ?_
    refine g_aret (v := some r_) hC hr (by first | exact Or.inl ⟨_, rfl⟩ | exact Or.inr ⟨_, rfl⟩) ⟨_, rfl, ?_⟩ (by omega) (by omega) hE dJ26_poll_80
    exact ⟨_, _, _, rfl, hSr, PQ_min hPE hPH hr0, o_24, hoa_23, hPE_23, hPH_23, hf_28, rfl, rfl⟩
