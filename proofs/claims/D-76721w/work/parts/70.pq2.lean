set_option maxRecDepth 100000
/-! JDK 9: priority queues: made, added to, polled -/
set_option maxHeartbeats 1000000 in
theorem met_J25_init {Y : YT} {l : Launch} {n u : Nat} {G : AH} (a_ : Nat)   : GM Y l yJ25_init (ws_ yJ25_init cJ25_init 1 none) 2 44 [.ref a_] G n u 0 0 (pV (fun G' n' u' => G = G' ∧ n = n' ∧ u = u')) noX := by
  refine GM.intro (own := RJ25) rfl (by decide +kernel) (Nat.le_of_ble_eq_true rfl) ?_
  intro p e s m args below meth c R Q hC hr hnm hF hL hE
  have hE1 := hE.1
  have hE2 := hE.2.1
  have hnz : yz Y ≤ n := by have := hC.z; have := hC.n; omega
  show V Y p l e R s m args below meth c 1 n u G n u Q 0 [(0, .ref a_)] []
  refine V.lts (fun hlt => ?_)
  refine g_aload_n hC dJ25_init_0 rfl 0 rfl ?_
  refine V.lts (fun lc_1 => ?_)
  refine g_callv0 hC (g_runI (ret := none) hC (met_J24_init (G := G) a_) (lw_meth q1954) q131 q1952 q1953 rfl md_J24_init dJ25_init_1 rfl ⟨by omega, by omega⟩ (by omega) (by omega) rfl (Nat.le_of_ble_eq_true rfl)) (fun G_2 n_2 u_2 hp_2 hn_2 hm_2 hu_2 => ?_)
  obtain ⟨rfl, rfl, rfl⟩ := hp_2
  refine g_vret hC hr ⟨rfl, ?_⟩ (by omega) (by omega) hE dJ25_init_4
  exact ⟨rfl, rfl, rfl⟩
set_option maxHeartbeats 1000000 in
theorem met_J26_init_2 {Y : YT} {l : Launch} {n u : Nat} {G : AH} (a_ : Nat) (c_ : Nat)  (h1 : G a_ = some (.inr (43, [.null, .int 0, .null, .int 0]))) (hz : yz Y ≤ a_) : GM Y l yJ26_init_2 (ws_ yJ26_init_2 cJ26_init_2 3 none) 3 64 [.ref a_, .int (nI 11), .ref c_] G n u 1 11 (pV (fun G' n' u' => G' a_ = some (.inr (43, [.ref n, .int 0, .ref c_, .int 0])) ∧ G' n = some (.inl (yA Y 11, 11, .inr (.inr (.inr (.inr (fun _ => none)))))) ∧ FR (fun q_ => q_ = a_) n G G' ∧ n' = n + 1 ∧ u' = u + 11)) noX := by
  refine GM.intro (own := RJ26) rfl (by decide +kernel) (Nat.le_of_ble_eq_true rfl) ?_
  intro p e s m args below meth c R Q hC hr hnm hF hL hE
  have hE1 := hE.1
  have hE2 := hE.2.1
  have hnz : yz Y ≤ n := by have := hC.z; have := hC.n; omega
  show V Y p l e R s m args below meth c 3 n u G n u Q 0 [(0, .ref a_), (1, .int (nI 11)), (2, .ref c_)] []
  refine V.lts (fun hlt => ?_)
  have hl_a_ : a_ < n := hlt _ _ h1
  refine g_aload_n hC dJ26_init_2_0 rfl 0 rfl ?_
  refine V.lts (fun lc_1 => ?_)
  refine g_callv0 hC (g_runI (ret := none) hC (met_J25_init (G := G) a_  ) (lw_meth q1951) q132 q1949 q1950 rfl md_J25_init dJ26_init_2_1 rfl ⟨by omega, by omega⟩ (by omega) (by omega) rfl (Nat.le_of_ble_eq_true rfl)) (fun G_2 n_2 u_2 hp_2 hn_2 hm_2 hu_2 => ?_)
  obtain ⟨rfl, rfl, rfl⟩ := hp_2
  refine g_iload_n hC dJ26_init_2_4 rfl 1 rfl ?_
  refine g_iconst (v := 1) hC dJ26_init_2_5 rfl ?_
  refine g_icmp_geN hC 11 1 (by omega) (by omega) dJ26_init_2_6 (tgt := 17) (by decide) (fun c_6 => ?_) (fun c_6 => ?_)
  · refine g_aload_n hC dJ26_init_2_17 rfl 0 rfl ?_
    refine g_iload_n hC dJ26_init_2_18 rfl 1 rfl ?_
    obtain ⟨G_3, eG_3⟩ : ∃ G_, gU G n (.inl (yA Y 11, 11, .inr (.inr (.inr (.inr (fun _ => none)))))) = G_ := ⟨_, rfl⟩
    refine V.lts (fun ltG_3 => ?_)
    have o_4 : G_3 a_ = some (.inr (43, [.null, .int 0, .null, .int 0])) := by rw [← eG_3]; exact (gU_n _ (Nat.ne_of_lt (ltG_3 _ _ h1))).trans h1
    have hf_5 : FR (fun q_ => q_ = a_) n G G_3 := by rw [← eG_3]; exact FR.put FR.refl (.inr (by omega))
    refine g_anew hC q1956 q1957 (t0 := 11) rfl (nI_pos (by omega)) (N := 11) (nI_clamp (by omega)) (by omega) (G' := G_3) eG_3 (by omega) (by omega) dJ26_init_2_19 ?_
    have a_6 : G_3 n = some (.inl (yA Y 11, 11, .inr (.inr (.inr (.inr (fun _ => none)))))) := by rw [← eG_3]; exact gU_s _ _ _
    obtain ⟨G_7, eG_7⟩ : ∃ G_, gU G_3 a_ (.inr (43, [.ref n, .int 0, .null, .int 0])) = G_ := ⟨_, rfl⟩
    have a_8 : G_7 n = some (.inl (yA Y 11, 11, .inr (.inr (.inr (.inr (fun _ => none)))))) := by rw [← eG_7]; exact (gU_n _ (gne_ao a_6 o_4)).trans a_6
    have hf_9 : FR (fun q_ => q_ = a_) n G G_7 := by rw [← eG_7]; exact FR.put hf_5 (.inl rfl)
    refine g_put hC kc_J26 o_4 0 (by decide) q1959 rfl rfl rfl (by show 0 < 4; decide) rfl (by omega) (G' := G_7) eG_7 dJ26_init_2_22 ?_
    have o_10 : G_7 a_ = some (.inr (43, [.ref n, .int 0, .null, .int 0])) := by rw [← eG_7]; exact gU_s _ _ _
    refine g_aload_n hC dJ26_init_2_25 rfl 0 rfl ?_
    refine g_aload_n hC dJ26_init_2_26 rfl 2 rfl ?_
    obtain ⟨G_11, eG_11⟩ : ∃ G_, gU G_7 a_ (.inr (43, [.ref n, .int 0, .ref c_, .int 0])) = G_ := ⟨_, rfl⟩
    have a_12 : G_11 n = some (.inl (yA Y 11, 11, .inr (.inr (.inr (.inr (fun _ => none)))))) := by rw [← eG_11]; exact (gU_n _ (gne_ao a_8 o_10)).trans a_8
    have hf_13 : FR (fun q_ => q_ = a_) n G G_11 := by rw [← eG_11]; exact FR.put hf_9 (.inl rfl)
    refine g_putF hC hnm kc_J26 o_10 2 (by decide) q1962 rfl rfl rfl rfl (by show 2 < 4; decide) rfl (by omega) (G' := G_11) eG_11 dJ26_init_2_27 ?_
    have o_14 : G_11 a_ = some (.inr (43, [.ref n, .int 0, .ref c_, .int 0])) := by rw [← eG_11]; exact gU_s _ _ _
    refine g_vret hC hr ⟨rfl, ?_⟩ (by omega) (by omega) hE dJ26_init_2_30
    exact ⟨o_14, a_12, hf_13, by omega, by omega⟩
  · exact absurd c_6 (by omega)
set_option maxHeartbeats 1000000 in
theorem met_J26_init {Y : YT} {l : Launch} {n u : Nat} {G : AH} (a_ : Nat) (c_ : Nat)  (h1 : G a_ = some (.inr (43, [.null, .int 0, .null, .int 0]))) (hz : yz Y ≤ a_) : GM Y l yJ26_init (ws_ yJ26_init cJ26_init 2 none) 4 86 [.ref a_, .ref c_] G n u 1 11 (pV (fun G' n' u' => G' a_ = some (.inr (43, [.ref n, .int 0, .ref c_, .int 0])) ∧ G' n = some (.inl (yA Y 11, 11, .inr (.inr (.inr (.inr (fun _ => none)))))) ∧ FR (fun q_ => q_ = a_) n G G' ∧ n' = n + 1 ∧ u' = u + 11)) noX := by
  refine GM.intro (own := RJ26) rfl (by decide +kernel) (Nat.le_of_ble_eq_true rfl) ?_
  intro p e s m args below meth c R Q hC hr hnm hF hL hE
  have hE1 := hE.1
  have hE2 := hE.2.1
  have hnz : yz Y ≤ n := by have := hC.z; have := hC.n; omega
  show V Y p l e R s m args below meth c 2 n u G n u Q 0 [(0, .ref a_), (1, .ref c_)] []
  refine V.lts (fun hlt => ?_)
  have hl_a_ : a_ < n := hlt _ _ h1
  refine g_aload_n hC dJ26_init_0 rfl 0 rfl ?_
  refine g_bipush (v := 11) hC dJ26_init_1 (by decide) ?_
  refine g_aload_n hC dJ26_init_3 rfl 1 rfl ?_
  refine V.lts (fun lc_1 => ?_)
  refine g_callv0 hC (g_runI (ret := none) hC (met_J26_init_2 (G := G) a_ c_ h1 (by omega)) (lw_meth q1948) q133 q1946 q1947 rfl md_J26_init_2 dJ26_init_4 rfl ⟨by omega, by omega⟩ (by omega) (by omega) rfl (Nat.le_of_ble_eq_true rfl)) (fun G_2 n_2 u_2 hp_2 hn_2 hm_2 hu_2 => ?_)
  obtain ⟨ho_2, ha_2, hf_2, hn2_2, hu2_2⟩ := hp_2
  have hf_3 : FR (fun q_ => q_ = a_) n G G_2 := FR.refl.trans hf_2 (by omega) (fun a_ q_ => by first | exact .inl q_ | exact .inl (.inl q_) | exact .inl (.inr q_) | (subst q_; first | exact .inr (by omega) | exact .inl rfl))
  refine g_vret hC hr ⟨rfl, ?_⟩ (by omega) (by omega) hE dJ26_init_7
  exact ⟨ho_2, ha_2, hf_3, by omega, by omega⟩
set_option maxHeartbeats 1000000 in
theorem met_J26_size {Y : YT} {l : Launch} {n u : Nat} {G : AH} (pq : Nat) {qa cm k : Nat} {mc : Int32} (h1 : G pq = some (.inr (43, [.ref qa, .int (nI k), .ref cm, .int mc]))) (hk : k < 1000) : GM Y l yJ26_size (ws_ yJ26_size cJ26_size 1 (some FieldType.int)) 0 0 [.ref pq] G n u 0 0 (pI (fun r G' n' u' => nI k = r ∧ G = G' ∧ n = n' ∧ u = u')) noX := by
  refine GM.intro (own := RJ26) rfl (by decide +kernel) (Nat.le_of_ble_eq_true rfl) ?_
  intro p e s m args below meth c R Q hC hr hnm hF hL hE
  have hE1 := hE.1
  have hE2 := hE.2.1
  have hnz : yz Y ≤ n := by have := hC.z; have := hC.n; omega
  show V Y p l e R s m args below meth c 1 n u G n u Q 0 [(0, .ref pq)] []
  refine V.lts (fun hlt => ?_)
  have hl_pq : pq < n := hlt _ _ h1
  refine g_aload_n hC dJ26_size_0 rfl 0 rfl ?_
  refine g_get (v := .int (nI k)) hC kc_J26 h1 1 (by decide) q1961 rfl dJ26_size_1 ?_
  refine g_iret hC hr rfl ⟨_, rfl, ?_⟩ (by omega) (by omega) hE dJ26_size_4
  exact ⟨rfl, rfl, rfl, rfl⟩
set_option maxHeartbeats 1000000 in
theorem met_J24_isEmpty_J26 {Y : YT} {l : Launch} {n u : Nat} {G : AH} (pq : Nat) {qa cm k : Nat} {mc : Int32} (h1 : G pq = some (.inr (43, [.ref qa, .int (nI k), .ref cm, .int mc]))) (hk : k < 1000) : GM Y l yJ24_isEmpty (ws_ yJ24_isEmpty cJ24_isEmpty 1 (some FieldType.boolean)) 1 20 [.ref pq] G n u 0 0 (pI (fun r G' n' u' => b2i (decide (k = 0)) = r ∧ G = G' ∧ n = n' ∧ u = u')) noX := by
  refine GM.intro (own := RJ24) rfl (by decide +kernel) (Nat.le_of_ble_eq_true rfl) ?_
  intro p e s m args below meth c R Q hC hr hnm hF hL hE
  have hE1 := hE.1
  have hE2 := hE.2.1
  have hnz : yz Y ≤ n := by have := hC.z; have := hC.n; omega
  show V Y p l e R s m args below meth c 1 n u G n u Q 0 [(0, .ref pq)] []
  refine V.lts (fun hlt => ?_)
  have hl_pq : pq < n := hlt _ _ h1
  refine g_aload_n hC dJ24_isEmpty_0 rfl 0 rfl ?_
  refine V.lts (fun lc_1 => ?_)
  refine g_calli0 hC (g_runA (n := 0) (owner := "java/util/AbstractCollection") (x := ⟨"java/util/AbstractCollection", "size", "()I"⟩) hC (met_J26_size (G := G) pq h1 (by omega)) kc_J26 h1 (lw_U q2017 q2019 q2026 q2027 q133 q2028) q2018 ⟨by decide, by decide, by decide +kernel⟩ dJ24_isEmpty_1 rfl ⟨by omega, by omega⟩ (by omega) (by omega) rfl (Nat.le_of_ble_eq_true rfl)) (fun r_2 G_2 n_2 u_2 hp_2 hn_2 hm_2 hu_2 => ?_)
  obtain ⟨rfl, rfl, rfl, rfl⟩ := hp_2
  refine g_if_neN hC k (by omega) dJ24_isEmpty_4 (tgt := 11) (by decide) (fun c_4 => ?_) (fun c_4 => ?_)
  · refine g_iconst (v := 0) hC dJ24_isEmpty_11 rfl ?_
    refine g_iret hC hr rfl ⟨_, rfl, ?_⟩ (by omega) (by omega) hE dJ24_isEmpty_12
    exact ⟨by rw [decide_eq_false (by omega)]; rfl, rfl, rfl, rfl⟩
  · refine g_iconst (v := 1) hC dJ24_isEmpty_7 rfl ?_
    refine g_goto (tgt := 12) hC dJ24_isEmpty_8 (by decide) ?_
    refine g_iret hC hr rfl ⟨_, rfl, ?_⟩ (by omega) (by omega) hE dJ24_isEmpty_12
    exact ⟨by rw [decide_eq_true (by omega)]; rfl, rfl, rfl, rfl⟩
/-- an object whose class is known to be one -/
def OBJe (e : va_E) : Prop := (∃ fs, e = .inr (40, fs)) ∨ (∃ kd fs, kd ≤ 4 ∧ e = .inr (11 + kd, fs))
theorem any_E {Y : YT} {p : Program} {s : State} {m : MethodId} {args : Array Value} {meth : Method} {c : Code} {nL n0 u0 : Nat} {G : AH} {nn uu : Nat} {cc : ByteArray} {own : String} {hh : List (Nat × Nat × Nat × Nat)} {H : Heap} {a : Nat} {e : va_E} (hC : CX Y p s m args meth c cc nL own hh n0 u0) (g : GH Y G nn uu H) (hg : G a = some e) (he : OBJe e) : va_Any "java/lang/Object" s H a := by
  rcases he with ⟨fs, rfl⟩ | ⟨kd, fs, hk, rfl⟩
  · exact any_o hC.K g kc_J12 hg (asgY hC.K q4068)
  · rcases kd with _ | _ | _ | _ | _ | kd
    · exact any_o hC.K g kc_X12 hg (asgY hC.K q4046)
    · exact any_o hC.K g kc_X13 hg (asgY hC.K q4064)
    · exact any_o hC.K g kc_X14 hg (asgY hC.K q4065)
    · exact any_o hC.K g kc_X15 hg (asgY hC.K q4066)
    · exact any_o hC.K g kc_X16 hg (asgY hC.K q4067)
    · omega
set_option maxHeartbeats 1000000 in
theorem met_J18_copyOf_3 {Y : YT} {l : Launch} {n u : Nat} {G : AH} (a_ : Nat) (k_ : Nat) (mi : Nat) {cap : Nat} {f : Nat → Option Nat} (hmi : va_Mi "[Ljava/lang/Object;" mi (yS Y)) (h1 : G a_ = some (.inl (yA Y 11, cap, .inr (.inr (.inr (.inr f)))))) (hz : yz Y ≤ a_) (hk : cap ≤ k_) (hk2 : k_ < 1000) (hel : ∀ i, i < cap → ∀ y, f i = some y → ∃ e, G y = some e ∧ OBJe e) : GM Y l yJ18_copyOf_3 (ws_ yJ18_copyOf_3 cJ18_copyOf_3 4 (some (FieldType.array (FieldType.object "java/lang/Object")))) 1 40 [.ref a_, .int (nI k_), .ref mi] G n u 1 1000 (pQ (fun r G' n' u' => some n = r ∧ G' n = some (.inl (yA Y 11, k_, .inr (.inr (.inr (.inr (va_cpy f (fun _ => none) 0 0 cap)))))) ∧ FR noD n G G' ∧ n' = n + 1 ∧ u' = u + k_)) noX := by
  refine GM.intro (own := RJ18) rfl (by decide +kernel) (Nat.le_of_ble_eq_true rfl) ?_
  intro p e s m args below meth c R Q hC hr hnm hF hL hE
  have hE1 := hE.1
  have hE2 := hE.2.1
  have hnz : yz Y ≤ n := by have := hC.z; have := hC.n; omega
  show V Y p l e R s m args below meth c 4 n u G n u Q 0 [(0, .ref a_), (1, .int (nI k_)), (2, .ref mi)] []
  refine V.lts (fun hlt => ?_)
  have hl_a_ : a_ < n := hlt _ _ h1
  refine g_aload_n hC dJ18_copyOf_3_0 rfl 2 rfl ?_
  refine g_ldcM hC (hmi.moved hC.K.2.1.alike) q1994 dJ18_copyOf_3_1 ?_
  refine g_acmp_ne (rx := some mi) (ry := some mi) hC dJ18_copyOf_3_3 (tgt := 13) (by decide) (fun c_3 => ?_) (fun c_3 => ?_)
  · exact absurd rfl c_3
  · refine g_iload_n hC dJ18_copyOf_3_6 rfl 1 rfl ?_
    obtain ⟨G_1, eG_1⟩ : ∃ G_, gU G n (.inl (yA Y 11, k_, .inr (.inr (.inr (.inr (fun _ => none)))))) = G_ := ⟨_, rfl⟩
    refine V.lts (fun ltG_1 => ?_)
    have a_2 : G_1 a_ = some (.inl (yA Y 11, cap, .inr (.inr (.inr (.inr f))))) := by rw [← eG_1]; exact (gU_n _ (Nat.ne_of_lt (ltG_1 _ _ h1))).trans h1
    have hf_3 : FR noD n G G_1 := by rw [← eG_1]; exact FR.put FR.refl (.inr (by omega))
    refine g_anew hC q1995 q1957 (t0 := 11) rfl (nI_pos (by omega)) (N := k_) (nI_clamp (by omega)) (by omega) (G' := G_1) eG_1 (by omega) (by omega) dJ18_copyOf_3_7 ?_
    have a_4 : G_1 n = some (.inl (yA Y 11, k_, .inr (.inr (.inr (.inr (fun _ => none)))))) := by rw [← eG_1]; exact gU_s _ _ _
    refine g_goto (tgt := 24) hC dJ18_copyOf_3_10 (by decide) ?_
    refine g_astore_n (L' := [(3, .ref n), (0, .ref a_), (1, .int (nI k_)), (2, .ref mi)]) hC dJ18_copyOf_3_24 rfl (by decide) rfl ?_
    refine g_aload_n hC dJ18_copyOf_3_25 rfl 1 rfl ?_
    refine g_iconst (v := 0) hC dJ18_copyOf_3_26 rfl ?_
    refine g_aload_n hC dJ18_copyOf_3_27 rfl 0 rfl ?_
    refine g_iconst (v := 0) hC dJ18_copyOf_3_28 rfl ?_
    refine g_aload_n hC dJ18_copyOf_3_29 rfl 1 rfl ?_
    refine g_alen (v := nI cap) hC a_2 (t0 := 11) rfl rfl dJ18_copyOf_3_30 ?_
    refine g_iload_n hC dJ18_copyOf_3_31 rfl 2 rfl ?_
    refine V.lts (fun lc_5 => ?_)
    refine g_calli0 hC (g_runS hC (met_J2_min (nI cap) (nI k_) ) (lw_S q869 q870 q88 q871) md_J2_min dJ18_copyOf_3_32 rfl ⟨by omega, by omega⟩ (by omega) (by omega) rfl (Nat.le_of_ble_eq_true rfl)) (fun r_6 G_6 n_6 u_6 hp_6 hn_6 hm_6 hu_6 => ?_)
    obtain ⟨rfl, rfl, rfl, rfl⟩ := hp_6
    rw [imin_n (by omega) (by omega), Nat.min_eq_left (by omega)]
    obtain ⟨G_7, eG_7⟩ : ∃ G_, gU G_1 n (.inl (yA Y 11, k_, .inr (.inr (.inr (.inr (va_cpy f (fun _ => none) 0 0 cap)))))) = G_ := ⟨_, rfl⟩
    have a_8 : G_7 a_ = some (.inl (yA Y 11, cap, .inr (.inr (.inr (.inr f))))) := by rw [← eG_7]; exact (gU_n _ (by omega)).trans a_2
    have hf_9 : FR noD n G G_7 := by rw [← eG_7]; exact FR.put hf_3 (.inr (by omega))
    refine g_copyq hC (t0 := 11) rfl (t1 := 11) rfl rfl rfl a_2 a_4 (by omega) (sp := 0) (dp := 0) (k := cap) (by omega) (by omega) (by omega) (by omega) (fun H gg i hi y hy => by obtain ⟨e_, he1, he2⟩ := hel i hi y (by rw [Nat.zero_add] at hy; exact hy); exact any_E hC gg ((hf_3 _ (hlt _ _ he1) (fun q => q)).trans he1) he2) rfl (G' := G_7) eG_7 q872 dJ18_copyOf_3_35 (by omega) (by first | (simp; omega) | (simp [Value.category]; omega)) ?_
    have a_10 : G_7 n = some (.inl (yA Y 11, k_, .inr (.inr (.inr (.inr (va_cpy f (fun _ => none) 0 0 cap)))))) := by rw [← eG_7]; exact gU_s _ _ _
    refine g_aload_n hC dJ18_copyOf_3_38 rfl 0 rfl ?_
    refine g_aret (v := some n) hC hr (by first | exact Or.inl ⟨_, rfl⟩ | exact Or.inr ⟨_, rfl⟩) ⟨_, rfl, ?_⟩ (by omega) (by omega) hE dJ18_copyOf_3_39
    exact ⟨rfl, a_10, hf_9, rfl, rfl⟩
set_option maxHeartbeats 1000000 in
theorem met_J18_copyOf_2 {Y : YT} {l : Launch} {n u : Nat} {G : AH} (a_ : Nat) (k_ : Nat) {cap : Nat} {f : Nat → Option Nat} (h1 : G a_ = some (.inl (yA Y 11, cap, .inr (.inr (.inr (.inr f)))))) (hz : yz Y ≤ a_) (hk : cap ≤ k_) (hk2 : k_ < 1000) (hel : ∀ i, i < cap → ∀ y, f i = some y → ∃ e, G y = some e ∧ OBJe e) : GM Y l yJ18_copyOf_2 (ws_ yJ18_copyOf_2 cJ18_copyOf_2 2 (some (FieldType.array (FieldType.object "java/lang/Object")))) 2 63 [.ref a_, .int (nI k_)] G n u 1 1000 (pQ (fun r G' n' u' => some n = r ∧ G' n = some (.inl (yA Y 11, k_, .inr (.inr (.inr (.inr (va_cpy f (fun _ => none) 0 0 cap)))))) ∧ FR noD n G G' ∧ n' = n + 1 ∧ u' = u + k_)) noX := by
  refine GM.intro (own := RJ18) rfl (by decide +kernel) (Nat.le_of_ble_eq_true rfl) ?_
  intro p e s m args below meth c R Q hC hr hnm hF hL hE
  have hE1 := hE.1
  have hE2 := hE.2.1
  have hnz : yz Y ≤ n := by have := hC.z; have := hC.n; omega
  show V Y p l e R s m args below meth c 2 n u G n u Q 0 [(0, .ref a_), (1, .int (nI k_))] []
  refine V.lts (fun hlt => ?_)
  have hl_a_ : a_ < n := hlt _ _ h1
  refine g_aload_n hC dJ18_copyOf_2_0 rfl 0 rfl ?_
  refine g_iload_n hC dJ18_copyOf_2_1 rfl 1 rfl ?_
  refine g_aload_n hC dJ18_copyOf_2_2 rfl 0 rfl ?_
  obtain ⟨mi, hmi⟩ := hC.K.mir
  refine g_getCo hC (hmi.moved hC.K.2.1.alike) h1 q1990 q4108 (by omega) (by first | (simp; omega) | (simp [Value.category]; omega)) dJ18_copyOf_2_3 ?_
  refine V.lts (fun lc_1 => ?_)
  refine g_callq0 hC (g_runS hC (met_J18_copyOf_3 (G := G) a_ k_ mi hmi h1 (by omega) (by omega) (by omega) hel) (lw_S q1991 q1992 q112 q1993) md_J18_copyOf_3 dJ18_copyOf_2_6 rfl ⟨by omega, by omega⟩ (by omega) (by omega) rfl (Nat.le_of_ble_eq_true rfl)) (fun r_2 G_2 n_2 u_2 hp_2 hn_2 hm_2 hu_2 => ?_)
  obtain ⟨rfl, hoa_2, hf_2, hn2_2, hu2_2⟩ := hp_2
  have a_3 : G_2 a_ = some (.inl (yA Y 11, cap, .inr (.inr (.inr (.inr f))))) := (hf_2 _ (lc_1 _ _ h1) (fun q => q)).trans h1
  have hf_4 : FR noD n G G_2 := FR.refl.trans hf_2 (by omega) (fun a_ q_ => by first | exact .inl q_ | exact False.elim q_ | exact .inl (.inl q_) | exact .inl (.inr q_) | (subst q_; first | exact .inr (by omega) | exact .inl rfl))
  refine g_aret (v := some n) hC hr (by first | exact Or.inl ⟨_, rfl⟩ | exact Or.inr ⟨_, rfl⟩) ⟨_, rfl, ?_⟩ (by omega) (by omega) hE dJ18_copyOf_2_9
  exact ⟨rfl, hoa_2, hf_4, by omega, by omega⟩
theorem imax_n {a b : Nat} (ha : a < 2 ^ 31) (hb : b < 2 ^ 31) : imax (nI a) (nI b) = nI (max a b) := by
  unfold imax
  by_cases h : a < b
  · rw [if_pos (nI_lt h hb), Nat.max_eq_right (by omega)]
  · rw [if_neg (nI_nlt (by omega) ha), Nat.max_eq_left (by omega)]
set_option maxHeartbeats 1000000 in
theorem met_J17_newLength {Y : YT} {l : Launch} {n u : Nat} {G : AH} (a_ : Nat) (b_ : Nat) (c_ : Nat)  (h1 : 0 < a_) (h2 : a_ + b_ + c_ < 100000) : GM Y l yJ17_newLength (ws_ yJ17_newLength cJ17_newLength 4 (some FieldType.int)) 1 21 [.int (nI a_), .int (nI b_), .int (nI c_)] G n u 0 0 (pI (fun r G' n' u' => nI (a_ + max b_ c_) = r ∧ G = G' ∧ n = n' ∧ u = u')) noX := by
  refine GM.intro (own := RJ17) rfl (by decide +kernel) (Nat.le_of_ble_eq_true rfl) ?_
  intro p e s m args below meth c R Q hC hr hnm hF hL hE
  have hE1 := hE.1
  have hE2 := hE.2.1
  have hnz : yz Y ≤ n := by have := hC.z; have := hC.n; omega
  show V Y p l e R s m args below meth c 4 n u G n u Q 0 [(0, .int (nI a_)), (1, .int (nI b_)), (2, .int (nI c_))] []
  refine V.lts (fun hlt => ?_)
  refine g_iload_n hC dJ17_newLength_0 rfl 0 rfl ?_
  refine g_iload_n hC dJ17_newLength_1 rfl 1 rfl ?_
  refine g_iload_n hC dJ17_newLength_2 rfl 2 rfl ?_
  refine V.lts (fun lc_1 => ?_)
  refine g_calli0 hC (g_runS hC (met_J2_max (nI b_) (nI c_) ) (lw_S q853 q756 q88 q757) md_J2_max dJ17_newLength_3 rfl ⟨by omega, by omega⟩ (by omega) (by omega) rfl (Nat.le_of_ble_eq_true rfl)) (fun r_2 G_2 n_2 u_2 hp_2 hn_2 hm_2 hu_2 => ?_)
  obtain ⟨rfl, rfl, rfl, rfl⟩ := hp_2
  rw [imax_n (by omega) (by omega)]
  refine g_iaddN hC a_ (max b_ c_) dJ17_newLength_6 ?_
  refine g_istore_n (L' := [(3, .int (nI (a_ + (max b_ c_)))), (0, .int (nI a_)), (1, .int (nI b_)), (2, .int (nI c_))]) hC dJ17_newLength_7 rfl (by decide) rfl ?_
  refine g_iconst (v := 0) hC dJ17_newLength_8 rfl ?_
  refine g_iload_n hC dJ17_newLength_9 rfl 0 rfl ?_
  have hmx : max b_ c_ ≤ b_ + c_ := by omega
  refine g_icmp_geN hC 0 (a_ + (max b_ c_)) (by omega) (by omega) dJ17_newLength_10 (tgt := 21) (by decide) (fun c_10 => ?_) (fun c_10 => ?_)
  · exact absurd c_10 (by omega)
  · refine g_iload_n hC dJ17_newLength_13 rfl 0 rfl ?_
    refine g_ldc (v := 2147483639) hC q854 dJ17_newLength_14 ?_
    refine g_icmp_gtN hC (a_ + (max b_ c_)) 2147483639 (by omega) (by omega) dJ17_newLength_16 (tgt := 21) (by decide) (fun c_16 => ?_) (fun c_16 => ?_)
    · exact absurd c_16 (by first | omega | (intro q; exact absurd q (by decide)))
    · refine g_iload_n hC dJ17_newLength_19 rfl 0 rfl ?_
      refine g_iret hC hr rfl ⟨_, rfl, ?_⟩ (by omega) (by omega) hE dJ17_newLength_20
      exact ⟨rfl, rfl, rfl, rfl⟩
set_option maxHeartbeats 1000000 in
theorem met_J26_grow {Y : YT} {l : Launch} {n u : Nat} {G : AH} (pq : Nat) (m_ : Nat) {qa cm k : Nat} {mc : Int32} {f : Nat → Option Nat} (h1 : G pq = some (.inr (43, [.ref qa, .int (nI k), .ref cm, .int mc]))) (h2 : G qa = some (.inl (yA Y 11, 11, .inr (.inr (.inr (.inr f)))))) (hz : yz Y ≤ pq) (hzq : yz Y ≤ qa) (hm : m_ = 12) (hel : ∀ i, i < 11 → ∀ y, f i = some y → ∃ e, G y = some e ∧ OBJe e) : GM Y l yJ26_grow (ws_ yJ26_grow cJ26_grow 4 none) 3 84 [.ref pq, .int (nI m_)] G n u 1 1000 (pV (fun G' n' u' => G' pq = some (.inr (43, [.ref n, .int (nI k), .ref cm, .int mc])) ∧ G' n = some (.inl (yA Y 11, 24, .inr (.inr (.inr (.inr (va_cpy f (fun _ => none) 0 0 11)))))) ∧ FR (fun q_ => q_ = pq) n G G' ∧ n' = n + 1 ∧ u' = u + 24)) noX := by
  refine GM.intro (own := RJ26) rfl (by decide +kernel) (Nat.le_of_ble_eq_true rfl) ?_
  intro p e s m args below meth c R Q hC hr hnm hF hL hE
  have hE1 := hE.1
  have hE2 := hE.2.1
  have hnz : yz Y ≤ n := by have := hC.z; have := hC.n; omega
  show V Y p l e R s m args below meth c 4 n u G n u Q 0 [(0, .ref pq), (1, .int (nI m_))] []
  refine V.lts (fun hlt => ?_)
  have hl_pq : pq < n := hlt _ _ h1
  have hl_qa : qa < n := hlt _ _ h2
  refine g_aload_n hC dJ26_grow_0 rfl 0 rfl ?_
  refine g_get (v := .ref qa) hC kc_J26 h1 0 (by decide) q1959 rfl dJ26_grow_1 ?_
  refine g_alen (v := nI 11) hC h2 (t0 := 11) rfl rfl dJ26_grow_4 ?_
  refine g_istore_n (L' := [(2, .int (nI 11)), (0, .ref pq), (1, .int (nI m_))]) hC dJ26_grow_5 rfl (by decide) rfl ?_
  refine g_iload_n hC dJ26_grow_6 rfl 0 rfl ?_
  refine g_iload_n hC dJ26_grow_7 rfl 2 rfl ?_
  refine g_iload_n hC dJ26_grow_8 rfl 0 rfl ?_
  refine g_isubN hC m_ 11 (by omega) dJ26_grow_9 ?_
  refine g_iload_n hC dJ26_grow_10 rfl 0 rfl ?_
  refine g_bipush (v := 64) hC dJ26_grow_11 (by decide) ?_
  refine g_icmp_geN hC 11 64 (by omega) (by omega) dJ26_grow_13 (tgt := 22) (by decide) (fun c_13 => ?_) (fun c_13 => ?_)
  · exact absurd c_13 (by omega)
  · refine g_iload_n hC dJ26_grow_16 rfl 0 rfl ?_
    refine g_iconst (v := 2) hC dJ26_grow_17 rfl ?_
    refine g_iaddN hC 11 2 dJ26_grow_18 ?_
    refine g_goto (tgt := 25) hC dJ26_grow_19 (by decide) ?_
    refine V.lts (fun lc_1 => ?_)
    refine g_calli0 hC (g_runS hC (met_J17_newLength (G := G) 11 (m_ - 11) (11 + 2) (by omega) (by omega)) (lw_S q1986 q851 q111 q852) md_J17_newLength dJ26_grow_25 rfl ⟨by omega, by omega⟩ (by omega) (by omega) rfl (Nat.le_of_ble_eq_true rfl)) (fun r_2 G_2 n_2 u_2 hp_2 hn_2 hm_2 hu_2 => ?_)
    obtain ⟨rfl, rfl, rfl, rfl⟩ := hp_2
    rw [show 11 + max (m_ - 11) (11 + 2) = 24 by omega]
    refine g_istore_n (L' := [(3, .int (nI 24)), (2, .int (nI 11)), (0, .ref pq), (1, .int (nI m_))]) hC dJ26_grow_28 rfl (by decide) rfl ?_
    refine g_aload_n hC dJ26_grow_29 rfl 2 rfl ?_
    refine g_aload_n hC dJ26_grow_30 rfl 2 rfl ?_
    refine g_get (v := .ref qa) hC kc_J26 h1 0 (by decide) q1959 rfl dJ26_grow_31 ?_
    refine g_iload_n hC dJ26_grow_34 rfl 0 rfl ?_
    refine V.lts (fun lc_3 => ?_)
    refine g_callq0 hC (g_runS hC (met_J18_copyOf_2 (G := G) qa 24 h2 (by omega) (by omega) (by omega) hel) (lw_S q1987 q1988 q112 q1989) md_J18_copyOf_2 dJ26_grow_35 rfl ⟨by omega, by omega⟩ (by omega) (by omega) rfl (Nat.le_of_ble_eq_true rfl)) (fun r_4 G_4 n_4 u_4 hp_4 hn_4 hm_4 hu_4 => ?_)
    obtain ⟨rfl, hoa_4, hf_4, hn2_4, hu2_4⟩ := hp_4
    have o_5 : G_4 pq = some (.inr (43, [.ref qa, .int (nI k), .ref cm, .int mc])) := (hf_4 _ (lc_3 _ _ h1) (fun q => q)).trans h1
    have a_6 : G_4 qa = some (.inl (yA Y 11, 11, .inr (.inr (.inr (.inr f))))) := (hf_4 _ (lc_3 _ _ h2) (fun q => q)).trans h2
    have hf_7 : FR (fun q_ => q_ = pq) n G G_4 := FR.refl.trans hf_4 (by omega) (fun a_ q_ => by first | exact .inl q_ | exact False.elim q_ | exact .inl (.inl q_) | exact .inl (.inr q_) | (subst q_; first | exact .inr (by omega) | exact .inl rfl))
    obtain ⟨G_8, eG_8⟩ : ∃ G_, gU G_4 pq (.inr (43, [.ref n, .int (nI k), .ref cm, .int mc])) = G_ := ⟨_, rfl⟩
    have a_9 : G_8 qa = some (.inl (yA Y 11, 11, .inr (.inr (.inr (.inr f))))) := by rw [← eG_8]; exact (gU_n _ (gne_ao a_6 o_5)).trans a_6
    have a_10 : G_8 n = some (.inl (yA Y 11, 24, .inr (.inr (.inr (.inr (va_cpy f (fun _ => none) 0 0 11)))))) := by rw [← eG_8]; exact (gU_n _ (gne_ao hoa_4 o_5)).trans hoa_4
    have hf_11 : FR (fun q_ => q_ = pq) n G G_8 := by rw [← eG_8]; exact FR.put hf_7 (.inl rfl)
    refine g_put hC kc_J26 o_5 0 (by decide) q1959 rfl rfl rfl (by show 0 < 4; decide) rfl (by omega) (G' := G_8) eG_8 dJ26_grow_38 ?_
    have o_12 : G_8 pq = some (.inr (43, [.ref n, .int (nI k), .ref cm, .int mc])) := by rw [← eG_8]; exact gU_s _ _ _
    refine g_vret hC hr ⟨rfl, ?_⟩ (by omega) (by omega) hE dJ26_grow_41
    exact ⟨o_12, a_10, hf_11, by omega, by omega⟩
