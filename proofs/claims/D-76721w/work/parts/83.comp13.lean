set_option maxRecDepth 100000
/-! COMPONENT, 17: a plug-in added -/
theorem hA_ext {N wh : Nat} {σ σ' : MS} {g : Nat → Nat → Int32} {x : Int32} (h : ∀ i, i < N → tl σ' wh i = tl σ wh i) (hx : tl σ' wh N = x) : upd (hA N wh σ g) N x = hA (N + 1) wh σ' g := by
  funext i
  unfold upd hA
  by_cases e : i = N
  · subst e; rw [if_pos rfl, if_pos (by omega), hx]
  · rw [if_neg e]
    by_cases h2 : i < N
    · rw [if_pos h2, if_pos (by omega), h i h2]
    · rw [if_neg h2, if_neg (by omega)]
theorem hA_ext0 {N wh : Nat} {σ σ' : MS} {g : Nat → Nat → Int32} (h : ∀ i, i < N → tl σ' wh i = tl σ wh i) (hx : tl σ' wh N = g wh N) : hA N wh σ g = hA (N + 1) wh σ' g := by
  rw [← hA_ext h hx]
  funext i
  unfold upd hA
  by_cases e : i = N
  · subst e; rw [if_pos rfl, if_neg (by omega)]
  · rw [if_neg e]
/-- what stands behind a host with one more plug-in -/
def ηP (N a : Nat) (η : HV) : HV := (η.1, fun k i => if k = 0 then (if i = N then some a else η.2 0 i) else η.2 1 i)
theorem np_old {σ : MS} {n w i : Nat} {k r ne of fa na : Int32} (hi : i < n) (hn : n < 12) : tl (npF σ n k r ne of fa na) w i = tl σ w i := by
  unfold npF
  rw [tl_ne (by decide)]
  repeat rw [tl_mu (by omega)]
theorem np_at {σ : MS} {n : Nat} {k r ne of fa na : Int32} : tl (npF σ n k r ne of fa na) 0 n = 0 ∧ tl (npF σ n k r ne of fa na) 5 n = fa ∧ tl (npF σ n k r ne of fa na) 7 n = 0 ∧ tl (npF σ n k r ne of fa na) 8 n = 0 := by
  refine ⟨?_, ?_, ?_, ?_⟩ <;> (unfold npF tl; simp [mu_at]) <;> omega
theorem np_oth {σ : MS} {n c i : Nat} {k r ne of fa na : Int32} (h1 : c ≠ 1) (h0 : c ≠ 0) : (npF σ n k r ne of fa na).1 c i = σ.1 c i := by
  unfold npF
  rw [mu_nk h0]
  repeat rw [mu_nk h1]
theorem npN_0 {σ : MS} {n : Nat} {k r ne of fa na : Int32} : (npF σ n k r ne of fa na).1 0 0 = nI (n + 1) := mu_hit
theorem hM_P {Y : YT} {h N K a : Nat} {σ : MS} {η : HV} {G : AH} {k r ne of fa na : Int32} (hN12 : N < 12) (hK : σ.1 4 0 = nI K) (h7 : η.1 7 N = 0) (h0 : G h = some (.inr (2, [.int (nI (N + 1)), .int (nI K), .int (σ.1 2 0), .int (σ.1 3 0), .ref (h + 1), .ref (h + 2), .ref (h + 3), .ref (h + 4), .ref (h + 5), .ref (h + 6), .ref (h + 7)])))
    (h1 : G (h + 1) = some (.inl (yA Y 6, 12, .inr (.inr (.inr (.inr (va_up (η.2 0) N (some a)))))))) (h2 : G (h + 2) = some (.inl (yA Y 0, 12, .inl (upd (hA N 0 σ η.1) N 0)))) (h3 : G (h + 3) = some (.inl (yA Y 0, 12, .inl (upd (hA N 5 σ η.1) N fa)))) (h4 : G (h + 4) = some (.inl (yA Y 0, 12, .inl (upd (hA N 8 σ η.1) N 0)))) (h5 : G (h + 5) = some (.inl (yA Y 0, 12, .inl (hA N 7 σ η.1))))
    (h6 : G (h + 6) = some (.inl (yA Y 7, 24, .inr (.inr (.inr (.inr (η.2 1))))))) : sub (hM Y h (N + 1) (npF σ N k r ne of fa na) (ηP N a η)) G := by
  obtain ⟨n0, n5, n7, n8⟩ := np_at (σ := σ) (n := N) (k := k) (r := r) (ne := ne) (of := of) (fa := fa) (na := na)
  rw [hA_ext (σ' := npF σ N k r ne of fa na) (fun i hi => np_old hi hN12) n0] at h2
  rw [hA_ext (σ' := npF σ N k r ne of fa na) (fun i hi => np_old hi hN12) n5] at h3
  rw [hA_ext (σ' := npF σ N k r ne of fa na) (fun i hi => np_old hi hN12) n8] at h4
  rw [hA_ext0 (σ' := npF σ N k r ne of fa na) (fun i hi => np_old hi hN12) (n7.trans h7.symm)] at h5
  rw [show va_up (η.2 0) N (some a) = (ηP N a η).2 0 from funext fun i => by unfold va_up ηP; rfl] at h1
  refine hM_of ?_ h1 h2 h3 h4 h5 h6
  rw [h0]; unfold hE
  rw [npN_0, np_oth (by decide) (by decide), np_oth (by decide) (by decide), np_oth (by decide) (by decide), hK]; rfl
set_option maxHeartbeats 1000000 in
theorem met_X0_ofKind_0 {Y : YT} {l : Launch} {n u : Nat} {G : AH} (i_ : Nat) (nm : Nat) (r_ : Int32) (ne_ : Int32) (of_ : Int32)   : GM Y l yX0_ofKind (ws_ yX0_ofKind cX0_ofKind 6 (some (FieldType.object "PluginChains$Plain"))) 2 49 [.int 0, .int (nI i_), .ref nm, .int r_, .int ne_, .int of_] G n u 1 5 (pQ (fun r G' n' u' => some n = r ∧ G' n = some (.inr (11, [.int (nI i_), .ref nm, .int r_, .int ne_, .int of_])) ∧ FR noD n G G' ∧ n + 1 = n' ∧ u + 5 = u')) noX := by
  refine GM.intro (own := RX0) rfl (by decide +kernel) (Nat.le_of_ble_eq_true rfl) ?_
  intro p e s m args below meth c R Q hC hr hnm hF hL hE
  have hE1 := hE.1
  have hE2 := hE.2.1
  have hnz : yz Y ≤ n := by have := hC.z; have := hC.n; omega
  show V Y p l e R s m args below meth c 6 n u G n u Q 0 [(0, .int 0), (1, .int (nI i_)), (2, .ref nm), (3, .int r_), (4, .int ne_), (5, .int of_)] []
  refine V.lts (fun hlt => ?_)
  refine g_iload_n hC dX0_ofKind_0 rfl 0 rfl ?_
  refine g_tableOut (tgt := 92) hC dX0_ofKind_1 (by decide) (by decide) ?_
  obtain ⟨G_1, eG_1⟩ : ∃ G_, gU G n (.inr (11, [.int 0, .null, .int 0, .int 0, .int 0])) = G_ := ⟨_, rfl⟩
  refine V.lts (fun ltG_1 => ?_)
  have hf_2 : FR noD n G G_1 := by rw [← eG_1]; exact FR.put FR.refl (.inr (by omega))
  refine g_new hC kc_X12 q716 q1478 q118 (fs := [.int 0, .null, .int 0, .int 0, .int 0]) rfl (G' := G_1) eG_1 (by omega) (by omega) dX0_ofKind_92 ?_
  have o_3 : G_1 n = some (.inr (11, [.int 0, .null, .int 0, .int 0, .int 0])) := by rw [← eG_1]; exact gU_s _ _ _
  refine g_dup hC dX0_ofKind_95 rfl ?_
  refine g_iload_n hC dX0_ofKind_96 rfl 1 rfl ?_
  refine g_aload_n hC dX0_ofKind_97 rfl 2 rfl ?_
  refine g_iload_n hC dX0_ofKind_98 rfl 3 rfl ?_
  refine g_iload hC dX0_ofKind_99 4 rfl ?_
  refine g_iload hC dX0_ofKind_101 5 rfl ?_
  refine V.lts (fun lc_4 => ?_)
  refine g_callv0 hC (g_runI (ret := none) hC (met_X12_init (G := G_1) n (nI i_) nm r_ ne_ of_ o_3 (by omega)) (lw_meth q1415) q118 q1479 q1414 rfl md_X12_init dX0_ofKind_103 rfl ⟨by omega, by omega⟩ (by omega) (by omega) rfl (Nat.le_of_ble_eq_true rfl)) (fun G_5 n_5 u_5 hp_5 hn_5 hm_5 hu_5 => ?_)
  obtain ⟨ho_5, hf_5, rfl, rfl⟩ := hp_5
  have hf_6 : FR noD n G G_5 := hf_2.trans hf_5 (by omega) (fun a_ q_ => by first | exact .inl q_ | exact .inl (.inl q_) | exact .inl (.inr q_) | (subst q_; first | exact .inr (by omega) | exact .inl rfl))
  refine g_aret (v := some n) hC hr (by first | exact Or.inl ⟨_, rfl⟩ | exact Or.inr ⟨_, rfl⟩) ⟨_, rfl, ?_⟩ (by omega) (by omega) hE dX0_ofKind_106
  exact ⟨rfl, ho_5, hf_6, rfl, rfl⟩
set_option maxHeartbeats 1000000 in
theorem met_X0_ofKind_1 {Y : YT} {l : Launch} {n u : Nat} {G : AH} (i_ : Nat) (nm : Nat) (r_ : Int32) (ne_ : Int32) (of_ : Int32)   : GM Y l yX0_ofKind (ws_ yX0_ofKind cX0_ofKind 6 (some (FieldType.object "PluginChains$Plain"))) 3 74 [.int 1, .int (nI i_), .ref nm, .int r_, .int ne_, .int of_] G n u 1 5 (pQ (fun r G' n' u' => some n = r ∧ G' n = some (.inr (12, [.int (nI i_), .ref nm, .int r_, .int ne_, .int of_])) ∧ FR noD n G G' ∧ n + 1 = n' ∧ u + 5 = u')) noX := by
  refine GM.intro (own := RX0) rfl (by decide +kernel) (Nat.le_of_ble_eq_true rfl) ?_
  intro p e s m args below meth c R Q hC hr hnm hF hL hE
  have hE1 := hE.1
  have hE2 := hE.2.1
  have hnz : yz Y ≤ n := by have := hC.z; have := hC.n; omega
  show V Y p l e R s m args below meth c 6 n u G n u Q 0 [(0, .int 1), (1, .int (nI i_)), (2, .ref nm), (3, .int r_), (4, .int ne_), (5, .int of_)] []
  refine V.lts (fun hlt => ?_)
  refine g_iload_n hC dX0_ofKind_0 rfl 0 rfl ?_
  refine g_tableIn (tgt := 32) hC dX0_ofKind_1 (by decide) (by decide) rfl (by decide) ?_
  obtain ⟨G_1, eG_1⟩ : ∃ G_, gU G n (.inr (12, [.int 0, .null, .int 0, .int 0, .int 0])) = G_ := ⟨_, rfl⟩
  refine V.lts (fun ltG_1 => ?_)
  have hf_2 : FR noD n G G_1 := by rw [← eG_1]; exact FR.put FR.refl (.inr (by omega))
  refine g_new hC kc_X13 q1408 q1409 q119 (fs := [.int 0, .null, .int 0, .int 0, .int 0]) rfl (G' := G_1) eG_1 (by omega) (by omega) dX0_ofKind_32 ?_
  have o_3 : G_1 n = some (.inr (12, [.int 0, .null, .int 0, .int 0, .int 0])) := by rw [← eG_1]; exact gU_s _ _ _
  refine g_dup hC dX0_ofKind_35 rfl ?_
  refine g_iload_n hC dX0_ofKind_36 rfl 1 rfl ?_
  refine g_aload_n hC dX0_ofKind_37 rfl 2 rfl ?_
  refine g_iload_n hC dX0_ofKind_38 rfl 3 rfl ?_
  refine g_iload hC dX0_ofKind_39 4 rfl ?_
  refine g_iload hC dX0_ofKind_41 5 rfl ?_
  refine V.lts (fun lc_4 => ?_)
  refine g_callv0 hC (g_runI (ret := none) hC (met_X13_init (G := G_1) n (nI i_) nm r_ ne_ of_ o_3 (by omega)) (lw_meth q1412) q119 q1410 q1411 rfl md_X13_init dX0_ofKind_43 rfl ⟨by omega, by omega⟩ (by omega) (by omega) rfl (Nat.le_of_ble_eq_true rfl)) (fun G_5 n_5 u_5 hp_5 hn_5 hm_5 hu_5 => ?_)
  obtain ⟨ho_5, hf_5, rfl, rfl⟩ := hp_5
  have hf_6 : FR noD n G G_5 := hf_2.trans hf_5 (by omega) (fun a_ q_ => by first | exact .inl q_ | exact .inl (.inl q_) | exact .inl (.inr q_) | (subst q_; first | exact .inr (by omega) | exact .inl rfl))
  refine g_aret (v := some n) hC hr (by first | exact Or.inl ⟨_, rfl⟩ | exact Or.inr ⟨_, rfl⟩) ⟨_, rfl, ?_⟩ (by omega) (by omega) hE dX0_ofKind_46
  exact ⟨rfl, ho_5, hf_6, rfl, rfl⟩
set_option maxHeartbeats 1000000 in
theorem met_X0_ofKind_2 {Y : YT} {l : Launch} {n u : Nat} {G : AH} (i_ : Nat) (nm : Nat) (r_ : Int32) (ne_ : Int32) (of_ : Int32)   : GM Y l yX0_ofKind (ws_ yX0_ofKind cX0_ofKind 6 (some (FieldType.object "PluginChains$Plain"))) 3 74 [.int 2, .int (nI i_), .ref nm, .int r_, .int ne_, .int of_] G n u 1 5 (pQ (fun r G' n' u' => some n = r ∧ G' n = some (.inr (13, [.int (nI i_), .ref nm, .int r_, .int ne_, .int of_])) ∧ FR noD n G G' ∧ n + 1 = n' ∧ u + 5 = u')) noX := by
  refine GM.intro (own := RX0) rfl (by decide +kernel) (Nat.le_of_ble_eq_true rfl) ?_
  intro p e s m args below meth c R Q hC hr hnm hF hL hE
  have hE1 := hE.1
  have hE2 := hE.2.1
  have hnz : yz Y ≤ n := by have := hC.z; have := hC.n; omega
  show V Y p l e R s m args below meth c 6 n u G n u Q 0 [(0, .int 2), (1, .int (nI i_)), (2, .ref nm), (3, .int r_), (4, .int ne_), (5, .int of_)] []
  refine V.lts (fun hlt => ?_)
  refine g_iload_n hC dX0_ofKind_0 rfl 0 rfl ?_
  refine g_tableIn (tgt := 47) hC dX0_ofKind_1 (by decide) (by decide) rfl (by decide) ?_
  obtain ⟨G_1, eG_1⟩ : ∃ G_, gU G n (.inr (13, [.int 0, .null, .int 0, .int 0, .int 0])) = G_ := ⟨_, rfl⟩
  refine V.lts (fun ltG_1 => ?_)
  have hf_2 : FR noD n G G_1 := by rw [← eG_1]; exact FR.put FR.refl (.inr (by omega))
  refine g_new hC kc_X14 q1445 q1446 q120 (fs := [.int 0, .null, .int 0, .int 0, .int 0]) rfl (G' := G_1) eG_1 (by omega) (by omega) dX0_ofKind_47 ?_
  have o_3 : G_1 n = some (.inr (13, [.int 0, .null, .int 0, .int 0, .int 0])) := by rw [← eG_1]; exact gU_s _ _ _
  refine g_dup hC dX0_ofKind_50 rfl ?_
  refine g_iload_n hC dX0_ofKind_51 rfl 1 rfl ?_
  refine g_aload_n hC dX0_ofKind_52 rfl 2 rfl ?_
  refine g_iload_n hC dX0_ofKind_53 rfl 3 rfl ?_
  refine g_iload hC dX0_ofKind_54 4 rfl ?_
  refine g_iload hC dX0_ofKind_56 5 rfl ?_
  refine V.lts (fun lc_4 => ?_)
  refine g_callv0 hC (g_runI (ret := none) hC (met_X14_init (G := G_1) n (nI i_) nm r_ ne_ of_ o_3 (by omega)) (lw_meth q1449) q120 q1447 q1448 rfl md_X14_init dX0_ofKind_58 rfl ⟨by omega, by omega⟩ (by omega) (by omega) rfl (Nat.le_of_ble_eq_true rfl)) (fun G_5 n_5 u_5 hp_5 hn_5 hm_5 hu_5 => ?_)
  obtain ⟨ho_5, hf_5, rfl, rfl⟩ := hp_5
  have hf_6 : FR noD n G G_5 := hf_2.trans hf_5 (by omega) (fun a_ q_ => by first | exact .inl q_ | exact .inl (.inl q_) | exact .inl (.inr q_) | (subst q_; first | exact .inr (by omega) | exact .inl rfl))
  refine g_aret (v := some n) hC hr (by first | exact Or.inl ⟨_, rfl⟩ | exact Or.inr ⟨_, rfl⟩) ⟨_, rfl, ?_⟩ (by omega) (by omega) hE dX0_ofKind_61
  exact ⟨rfl, ho_5, hf_6, rfl, rfl⟩
set_option maxHeartbeats 1000000 in
theorem met_X0_ofKind_3 {Y : YT} {l : Launch} {n u : Nat} {G : AH} (i_ : Nat) (nm : Nat) (r_ : Int32) (ne_ : Int32) (of_ : Int32)   : GM Y l yX0_ofKind (ws_ yX0_ofKind cX0_ofKind 6 (some (FieldType.object "PluginChains$Plain"))) 4 99 [.int 3, .int (nI i_), .ref nm, .int r_, .int ne_, .int of_] G n u 1 5 (pQ (fun r G' n' u' => some n = r ∧ G' n = some (.inr (14, [.int (nI i_), .ref nm, .int r_, .int ne_, .int of_])) ∧ FR noD n G G' ∧ n + 1 = n' ∧ u + 5 = u')) noX := by
  refine GM.intro (own := RX0) rfl (by decide +kernel) (Nat.le_of_ble_eq_true rfl) ?_
  intro p e s m args below meth c R Q hC hr hnm hF hL hE
  have hE1 := hE.1
  have hE2 := hE.2.1
  have hnz : yz Y ≤ n := by have := hC.z; have := hC.n; omega
  show V Y p l e R s m args below meth c 6 n u G n u Q 0 [(0, .int 3), (1, .int (nI i_)), (2, .ref nm), (3, .int r_), (4, .int ne_), (5, .int of_)] []
  refine V.lts (fun hlt => ?_)
  refine g_iload_n hC dX0_ofKind_0 rfl 0 rfl ?_
  refine g_tableIn (tgt := 62) hC dX0_ofKind_1 (by decide) (by decide) rfl (by decide) ?_
  obtain ⟨G_1, eG_1⟩ : ∃ G_, gU G n (.inr (14, [.int 0, .null, .int 0, .int 0, .int 0])) = G_ := ⟨_, rfl⟩
  refine V.lts (fun ltG_1 => ?_)
  have hf_2 : FR noD n G G_1 := by rw [← eG_1]; exact FR.put FR.refl (.inr (by omega))
  refine g_new hC kc_X15 q1456 q1457 q121 (fs := [.int 0, .null, .int 0, .int 0, .int 0]) rfl (G' := G_1) eG_1 (by omega) (by omega) dX0_ofKind_62 ?_
  have o_3 : G_1 n = some (.inr (14, [.int 0, .null, .int 0, .int 0, .int 0])) := by rw [← eG_1]; exact gU_s _ _ _
  refine g_dup hC dX0_ofKind_65 rfl ?_
  refine g_iload_n hC dX0_ofKind_66 rfl 1 rfl ?_
  refine g_aload_n hC dX0_ofKind_67 rfl 2 rfl ?_
  refine g_iload_n hC dX0_ofKind_68 rfl 3 rfl ?_
  refine g_iload hC dX0_ofKind_69 4 rfl ?_
  refine g_iload hC dX0_ofKind_71 5 rfl ?_
  refine V.lts (fun lc_4 => ?_)
  refine g_callv0 hC (g_runI (ret := none) hC (met_X15_init (G := G_1) n (nI i_) nm r_ ne_ of_ o_3 (by omega)) (lw_meth q1460) q121 q1458 q1459 rfl md_X15_init dX0_ofKind_73 rfl ⟨by omega, by omega⟩ (by omega) (by omega) rfl (Nat.le_of_ble_eq_true rfl)) (fun G_5 n_5 u_5 hp_5 hn_5 hm_5 hu_5 => ?_)
  obtain ⟨ho_5, hf_5, rfl, rfl⟩ := hp_5
  have hf_6 : FR noD n G G_5 := hf_2.trans hf_5 (by omega) (fun a_ q_ => by first | exact .inl q_ | exact .inl (.inl q_) | exact .inl (.inr q_) | (subst q_; first | exact .inr (by omega) | exact .inl rfl))
  refine g_aret (v := some n) hC hr (by first | exact Or.inl ⟨_, rfl⟩ | exact Or.inr ⟨_, rfl⟩) ⟨_, rfl, ?_⟩ (by omega) (by omega) hE dX0_ofKind_76
  exact ⟨rfl, ho_5, hf_6, rfl, rfl⟩
set_option maxHeartbeats 1000000 in
theorem met_X0_ofKind_4 {Y : YT} {l : Launch} {n u : Nat} {G : AH} (i_ : Nat) (nm : Nat) (r_ : Int32) (ne_ : Int32) (of_ : Int32)   : GM Y l yX0_ofKind (ws_ yX0_ofKind cX0_ofKind 6 (some (FieldType.object "PluginChains$Plain"))) 4 99 [.int 4, .int (nI i_), .ref nm, .int r_, .int ne_, .int of_] G n u 1 5 (pQ (fun r G' n' u' => some n = r ∧ G' n = some (.inr (15, [.int (nI i_), .ref nm, .int r_, .int ne_, .int of_])) ∧ FR noD n G G' ∧ n + 1 = n' ∧ u + 5 = u')) noX := by
  refine GM.intro (own := RX0) rfl (by decide +kernel) (Nat.le_of_ble_eq_true rfl) ?_
  intro p e s m args below meth c R Q hC hr hnm hF hL hE
  have hE1 := hE.1
  have hE2 := hE.2.1
  have hnz : yz Y ≤ n := by have := hC.z; have := hC.n; omega
  show V Y p l e R s m args below meth c 6 n u G n u Q 0 [(0, .int 4), (1, .int (nI i_)), (2, .ref nm), (3, .int r_), (4, .int ne_), (5, .int of_)] []
  refine V.lts (fun hlt => ?_)
  refine g_iload_n hC dX0_ofKind_0 rfl 0 rfl ?_
  refine g_tableIn (tgt := 77) hC dX0_ofKind_1 (by decide) (by decide) rfl (by decide) ?_
  obtain ⟨G_1, eG_1⟩ : ∃ G_, gU G n (.inr (15, [.int 0, .null, .int 0, .int 0, .int 0])) = G_ := ⟨_, rfl⟩
  refine V.lts (fun ltG_1 => ?_)
  have hf_2 : FR noD n G G_1 := by rw [← eG_1]; exact FR.put FR.refl (.inr (by omega))
  refine g_new hC kc_X16 q1467 q1468 q122 (fs := [.int 0, .null, .int 0, .int 0, .int 0]) rfl (G' := G_1) eG_1 (by omega) (by omega) dX0_ofKind_77 ?_
  have o_3 : G_1 n = some (.inr (15, [.int 0, .null, .int 0, .int 0, .int 0])) := by rw [← eG_1]; exact gU_s _ _ _
  refine g_dup hC dX0_ofKind_80 rfl ?_
  refine g_iload_n hC dX0_ofKind_81 rfl 1 rfl ?_
  refine g_aload_n hC dX0_ofKind_82 rfl 2 rfl ?_
  refine g_iload_n hC dX0_ofKind_83 rfl 3 rfl ?_
  refine g_iload hC dX0_ofKind_84 4 rfl ?_
  refine g_iload hC dX0_ofKind_86 5 rfl ?_
  refine V.lts (fun lc_4 => ?_)
  refine g_callv0 hC (g_runI (ret := none) hC (met_X16_init (G := G_1) n (nI i_) nm r_ ne_ of_ o_3 (by omega)) (lw_meth q1471) q122 q1469 q1470 rfl md_X16_init dX0_ofKind_88 rfl ⟨by omega, by omega⟩ (by omega) (by omega) rfl (Nat.le_of_ble_eq_true rfl)) (fun G_5 n_5 u_5 hp_5 hn_5 hm_5 hu_5 => ?_)
  obtain ⟨ho_5, hf_5, rfl, rfl⟩ := hp_5
  have hf_6 : FR noD n G G_5 := hf_2.trans hf_5 (by omega) (fun a_ q_ => by first | exact .inl q_ | exact .inl (.inl q_) | exact .inl (.inr q_) | (subst q_; first | exact .inr (by omega) | exact .inl rfl))
  refine g_aret (v := some n) hC hr (by first | exact Or.inl ⟨_, rfl⟩ | exact Or.inr ⟨_, rfl⟩) ⟨_, rfl, ?_⟩ (by omega) (by omega) hE dX0_ofKind_91
  exact ⟨rfl, ho_5, hf_6, rfl, rfl⟩
set_option maxHeartbeats 1000000 in
theorem met_X2_add_0 {Y : YT} {l : Launch} {n u : Nat} {G : AH} (h : Nat) (nm : Nat) (r_ : Int32) (ne_ : Int32) (of_ : Int32) (fa_ : Int32) {N K : Nat} {σ : MS} {η : HV} {I : AH} {τ : TS} {q : TQ} {M : MP} (X : Int) (na_ : Int32) (hh : sub (hM Y h N σ η) G) (hN : σ.1 0 0 = nI N) (hK : σ.1 4 0 = nI K) (hN12 : N < 12) (h7 : η.1 7 N = 0) (hI : sub I G) (hIh_h : ∀ a, hD h a → I a = none) (hIo : sub (oM Y) I) (hT : TMI (KS Y) Y (h + 7) none I τ q M) (hps : sub (TZ (h + 7) τ) G) (hzh : yz Y ≤ h) (hkX : KS Y I nm X) (hX : ∀ e, e ∈ M → e.1 ≠ X) (hX1 : 0 ≤ X ∧ X < 1000000) : GM Y l yX2_add (ws_ yX2_add cX2_add 7 (some FieldType.int)) 9 211 [.ref h, .int 0, .ref nm, .int r_, .int ne_, .int of_, .int fa_] G n u 2 11 (pI (fun r G' n' u' => nI N = r ∧ sub (hM Y h (N + 1) (npF σ N 0 r_ ne_ of_ fa_ na_) (ηP N n η)) G' ∧ G' n = some (.inr (11, [.int (nI N), .ref nm, .int r_, .int ne_, .int of_])) ∧ (∃ τ' q' v, TMI (KS Y) Y (h + 7) none I τ' q' (mput X nm (some v) M) ∧ sub (TZ (h + 7) τ') G' ∧ (∀ a, TD (h + 7) τ' a → (hD h a ∨ TD (h + 7) τ a) ∨ n ≤ a)) ∧ FR (fun a => hD h a ∨ TD (h + 7) τ a) n G G' ∧ n' = n + 2 ∧ u' = u + 11)) noX := by
  refine GM.intro (own := RX2) rfl (by decide +kernel) (Nat.le_of_ble_eq_true rfl) ?_
  intro p e s m args below meth c R Q hC hr hnm hF hL hE
  have hE1 := hE.1
  have hE2 := hE.2.1
  have hnz : yz Y ≤ n := by have := hC.z; have := hC.n; omega
  show V Y p l e R s m args below meth c 7 n u G n u Q 0 [(0, .ref h), (1, .int 0), (2, .ref nm), (3, .int r_), (4, .int ne_), (5, .int of_), (6, .int fa_)] []
  refine V.lts (fun hlt => ?_)
  have hIn := sub_none hI hlt
  have hl_h6 : h + 6 < n := hlt _ _ (hh _ _ (hM_j 6))
  have hl_h7 : h + 7 < n := hlt _ _ (hps _ _ (TZ_h hT.2.2.2.1))
  have x0 : G h = some (.inr (2, [.int (nI N), .int (nI K), .int (σ.1 2 0), .int (σ.1 3 0), .ref (h + 1), .ref (h + 2), .ref (h + 3), .ref (h + 4), .ref (h + 5), .ref (h + 6), .ref (h + 7)])) := hh _ _ (hM_0 hN hK)
  have x1 : G (h + 1) = some (.inl (yA Y 6, 12, .inr (.inr (.inr (.inr (η.2 0)))))) := hh _ _ (hM_j 1)
  have x6 : G (h + 6) = some (.inl (yA Y 7, 24, .inr (.inr (.inr (.inr (η.2 1)))))) := hh _ _ (hM_j 6)
  have x2 : G (h + 2) = some (.inl (yA Y 0, 12, .inl (hA N 0 σ η.1))) := hh _ _ (hM_j 2)
  have x3 : G (h + 3) = some (.inl (yA Y 0, 12, .inl (hA N 5 σ η.1))) := hh _ _ (hM_j 3)
  have x4 : G (h + 4) = some (.inl (yA Y 0, 12, .inl (hA N 8 σ η.1))) := hh _ _ (hM_j 4)
  have x5 : G (h + 5) = some (.inl (yA Y 0, 12, .inl (hA N 7 σ η.1))) := hh _ _ (hM_j 5)
  have hTf : ∀ a, TD (h + 7) τ a → (hD h a ∨ TD (h + 7) τ a) ∨ n ≤ a := fun a q => .inl (.inr q)
  refine g_aload_n hC dX2_add_0 rfl 0 rfl ?_
  refine g_get (v := .ref (h + 1)) hC kc_X2 x0 4 (by decide) q262 rfl dX2_add_1 ?_
  refine g_aload_n hC dX2_add_4 rfl 0 rfl ?_
  refine g_get (v := .int (nI N)) hC kc_X2 x0 0 (by decide) q251 rfl dX2_add_5 ?_
  refine g_iload_n hC dX2_add_8 rfl 1 rfl ?_
  refine g_aload_n hC dX2_add_9 rfl 0 rfl ?_
  refine g_get (v := .int (nI N)) hC kc_X2 x0 0 (by decide) q251 rfl dX2_add_10 ?_
  refine g_aload_n hC dX2_add_13 rfl 2 rfl ?_
  refine g_iload_n hC dX2_add_14 rfl 3 rfl ?_
  refine g_iload hC dX2_add_15 4 rfl ?_
  refine g_iload hC dX2_add_17 5 rfl ?_
  refine V.lts (fun lc_1 => ?_)
  refine g_callq0 hC (g_runS hC (met_X0_ofKind_0 (G := G) N nm r_ ne_ of_) (lw_S q1405 q1406 q81 q1407) md_X0_ofKind dX2_add_19 rfl ⟨by omega, by omega⟩ (by omega) (by omega) rfl (Nat.le_of_ble_eq_true rfl)) (fun r_2 G_2 n_2 u_2 hp_2 hn_2 hm_2 hu_2 => ?_)
  obtain ⟨rfl, ho_2, hf_2, rfl, rfl⟩ := hp_2
  have o_3 : G_2 h = some (.inr (2, [.int (nI N), .int (nI K), .int (σ.1 2 0), .int (σ.1 3 0), .ref (h + 1), .ref (h + 2), .ref (h + 3), .ref (h + 4), .ref (h + 5), .ref (h + 6), .ref (h + 7)])) := (hf_2 _ (lc_1 _ _ x0) (fun q => q)).trans x0
  have a_4 : G_2 (h + 1) = some (.inl (yA Y 6, 12, .inr (.inr (.inr (.inr (η.2 0)))))) := (hf_2 _ (lc_1 _ _ x1) (fun q => q)).trans x1
  have a_5 : G_2 (h + 6) = some (.inl (yA Y 7, 24, .inr (.inr (.inr (.inr (η.2 1)))))) := (hf_2 _ (lc_1 _ _ x6) (fun q => q)).trans x6
  have a_6 : G_2 (h + 2) = some (.inl (yA Y 0, 12, .inl (hA N 0 σ η.1))) := (hf_2 _ (lc_1 _ _ x2) (fun q => q)).trans x2
  have a_7 : G_2 (h + 3) = some (.inl (yA Y 0, 12, .inl (hA N 5 σ η.1))) := (hf_2 _ (lc_1 _ _ x3) (fun q => q)).trans x3
  have a_8 : G_2 (h + 4) = some (.inl (yA Y 0, 12, .inl (hA N 8 σ η.1))) := (hf_2 _ (lc_1 _ _ x4) (fun q => q)).trans x4
  have a_9 : G_2 (h + 5) = some (.inl (yA Y 0, 12, .inl (hA N 7 σ η.1))) := (hf_2 _ (lc_1 _ _ x5) (fun q => q)).trans x5
  have hi_10 : sub I G_2 := hf_2.subs hI lc_1 (fun a q => False.elim q)
  have hx_11 : sub (TZ (h + 7) τ) G_2 := hf_2.subs hps lc_1 (fun a q => False.elim q)
  have hf_12 : FR (fun a => hD h a ∨ TD (h + 7) τ a) n G G_2 := FR.refl.trans hf_2 (by omega) (fun a_ q_ => by first | exact .inl q_ | exact False.elim q_ | exact .inl (.inl q_) | exact .inl (.inr q_) | (subst q_; first | exact .inr (by omega) | exact .inl rfl))
  obtain ⟨G_13, eG_13⟩ : ∃ G_, gU G_2 (h + 1) (.inl (yA Y 6, 12, .inr (.inr (.inr (.inr (va_up (η.2 0) N (some n))))))) = G_ := ⟨_, rfl⟩
  have o_14 : G_13 h = some (.inr (2, [.int (nI N), .int (nI K), .int (σ.1 2 0), .int (σ.1 3 0), .ref (h + 1), .ref (h + 2), .ref (h + 3), .ref (h + 4), .ref (h + 5), .ref (h + 6), .ref (h + 7)])) := by rw [← eG_13]; exact (gU_n _ (by omega)).trans o_3
  have o_15 : G_13 n = some (.inr (11, [.int (nI N), .ref nm, .int r_, .int ne_, .int of_])) := by rw [← eG_13]; exact (gU_n _ (gne_oa ho_2 a_4)).trans ho_2
  have a_16 : G_13 (h + 6) = some (.inl (yA Y 7, 24, .inr (.inr (.inr (.inr (η.2 1)))))) := by rw [← eG_13]; exact (gU_n _ (by omega)).trans a_5
  have a_17 : G_13 (h + 2) = some (.inl (yA Y 0, 12, .inl (hA N 0 σ η.1))) := by rw [← eG_13]; exact (gU_n _ (by omega)).trans a_6
  have a_18 : G_13 (h + 3) = some (.inl (yA Y 0, 12, .inl (hA N 5 σ η.1))) := by rw [← eG_13]; exact (gU_n _ (by omega)).trans a_7
  have a_19 : G_13 (h + 4) = some (.inl (yA Y 0, 12, .inl (hA N 8 σ η.1))) := by rw [← eG_13]; exact (gU_n _ (by omega)).trans a_8
  have a_20 : G_13 (h + 5) = some (.inl (yA Y 0, 12, .inl (hA N 7 σ η.1))) := by rw [← eG_13]; exact (gU_n _ (by omega)).trans a_9
  have hi_21 : sub I G_13 := by rw [← eG_13]; exact sub_away hi_10 (hIh_h _ ⟨by omega, by omega⟩)
  have hx_22 : sub (TZ (h + 7) τ) G_13 := by rw [← eG_13]; exact sub_away hx_11 (TZ_noneA hx_11 a_4)
  have hf_23 : FR (fun a => hD h a ∨ TD (h + 7) τ a) n G G_13 := by rw [← eG_13]; exact FR.put hf_12 (.inl (.inl ⟨by omega, by omega⟩))
  refine g_aastG (t0 := 6) hC kc_X12 ho_2 a_4 rfl (asgS hC.K kc_X12) (vin (by omega) (by omega)) (by omega) (f' := (va_up (η.2 0) N (some n))) (by rw [nI_clamp (by omega)]) (G' := G_13) eG_13 dX2_add_22 ?_
  have a_24 : G_13 (h + 1) = some (.inl (yA Y 6, 12, .inr (.inr (.inr (.inr (va_up (η.2 0) N (some n))))))) := by rw [← eG_13]; exact gU_s _ _ _
  refine g_aload_n hC dX2_add_23 rfl 0 rfl ?_
  refine g_get (v := .ref (h + 2)) hC kc_X2 o_14 5 (by decide) q265 rfl dX2_add_24 ?_
  refine g_aload_n hC dX2_add_27 rfl 0 rfl ?_
  refine g_get (v := .int (nI N)) hC kc_X2 o_14 0 (by decide) q251 rfl dX2_add_28 ?_
  refine g_iconst (v := 0) hC dX2_add_31 rfl ?_
  obtain ⟨G_25, eG_25⟩ : ∃ G_, gU G_13 (h + 2) (.inl (yA Y 0, 12, .inl (upd (hA N 0 σ η.1) N 0))) = G_ := ⟨_, rfl⟩
  have o_26 : G_25 h = some (.inr (2, [.int (nI N), .int (nI K), .int (σ.1 2 0), .int (σ.1 3 0), .ref (h + 1), .ref (h + 2), .ref (h + 3), .ref (h + 4), .ref (h + 5), .ref (h + 6), .ref (h + 7)])) := by rw [← eG_25]; exact (gU_n _ (by omega)).trans o_14
  have o_27 : G_25 n = some (.inr (11, [.int (nI N), .ref nm, .int r_, .int ne_, .int of_])) := by rw [← eG_25]; exact (gU_n _ (gne_oa o_15 a_17)).trans o_15
  have a_28 : G_25 (h + 1) = some (.inl (yA Y 6, 12, .inr (.inr (.inr (.inr (va_up (η.2 0) N (some n))))))) := by rw [← eG_25]; exact (gU_n _ (by omega)).trans a_24
  have a_29 : G_25 (h + 6) = some (.inl (yA Y 7, 24, .inr (.inr (.inr (.inr (η.2 1)))))) := by rw [← eG_25]; exact (gU_n _ (by omega)).trans a_16
  have a_30 : G_25 (h + 3) = some (.inl (yA Y 0, 12, .inl (hA N 5 σ η.1))) := by rw [← eG_25]; exact (gU_n _ (by omega)).trans a_18
  have a_31 : G_25 (h + 4) = some (.inl (yA Y 0, 12, .inl (hA N 8 σ η.1))) := by rw [← eG_25]; exact (gU_n _ (by omega)).trans a_19
  have a_32 : G_25 (h + 5) = some (.inl (yA Y 0, 12, .inl (hA N 7 σ η.1))) := by rw [← eG_25]; exact (gU_n _ (by omega)).trans a_20
  have hi_33 : sub I G_25 := by rw [← eG_25]; exact sub_away hi_21 (hIh_h _ ⟨by omega, by omega⟩)
  have hx_34 : sub (TZ (h + 7) τ) G_25 := by rw [← eG_25]; exact sub_away hx_22 (TZ_noneA hx_22 a_17)
  have hf_35 : FR (fun a => hD h a ∨ TD (h + 7) τ a) n G G_25 := by rw [← eG_25]; exact FR.put hf_23 (.inl (.inl ⟨by omega, by omega⟩))
  refine g_iast hC a_17 (vin (by omega) (by omega)) (by omega) (f' := (upd (hA N 0 σ η.1) N 0)) (by rw [nI_clamp (by omega)]) (G' := G_25) eG_25 dX2_add_32 ?_
  have a_36 : G_25 (h + 2) = some (.inl (yA Y 0, 12, .inl (upd (hA N 0 σ η.1) N 0))) := by rw [← eG_25]; exact gU_s _ _ _
  refine g_aload_n hC dX2_add_33 rfl 0 rfl ?_
  refine g_get (v := .ref (h + 3)) hC kc_X2 o_26 6 (by decide) q268 rfl dX2_add_34 ?_
  refine g_aload_n hC dX2_add_37 rfl 0 rfl ?_
  refine g_get (v := .int (nI N)) hC kc_X2 o_26 0 (by decide) q251 rfl dX2_add_38 ?_
  refine g_iload hC dX2_add_41 6 rfl ?_
  obtain ⟨G_37, eG_37⟩ : ∃ G_, gU G_25 (h + 3) (.inl (yA Y 0, 12, .inl (upd (hA N 5 σ η.1) N fa_))) = G_ := ⟨_, rfl⟩
  have o_38 : G_37 h = some (.inr (2, [.int (nI N), .int (nI K), .int (σ.1 2 0), .int (σ.1 3 0), .ref (h + 1), .ref (h + 2), .ref (h + 3), .ref (h + 4), .ref (h + 5), .ref (h + 6), .ref (h + 7)])) := by rw [← eG_37]; exact (gU_n _ (by omega)).trans o_26
  have o_39 : G_37 n = some (.inr (11, [.int (nI N), .ref nm, .int r_, .int ne_, .int of_])) := by rw [← eG_37]; exact (gU_n _ (gne_oa o_27 a_30)).trans o_27
  have a_40 : G_37 (h + 1) = some (.inl (yA Y 6, 12, .inr (.inr (.inr (.inr (va_up (η.2 0) N (some n))))))) := by rw [← eG_37]; exact (gU_n _ (by omega)).trans a_28
  have a_41 : G_37 (h + 6) = some (.inl (yA Y 7, 24, .inr (.inr (.inr (.inr (η.2 1)))))) := by rw [← eG_37]; exact (gU_n _ (by omega)).trans a_29
  have a_42 : G_37 (h + 2) = some (.inl (yA Y 0, 12, .inl (upd (hA N 0 σ η.1) N 0))) := by rw [← eG_37]; exact (gU_n _ (by omega)).trans a_36
  have a_43 : G_37 (h + 4) = some (.inl (yA Y 0, 12, .inl (hA N 8 σ η.1))) := by rw [← eG_37]; exact (gU_n _ (by omega)).trans a_31
  have a_44 : G_37 (h + 5) = some (.inl (yA Y 0, 12, .inl (hA N 7 σ η.1))) := by rw [← eG_37]; exact (gU_n _ (by omega)).trans a_32
  have hi_45 : sub I G_37 := by rw [← eG_37]; exact sub_away hi_33 (hIh_h _ ⟨by omega, by omega⟩)
  have hx_46 : sub (TZ (h + 7) τ) G_37 := by rw [← eG_37]; exact sub_away hx_34 (TZ_noneA hx_34 a_30)
  have hf_47 : FR (fun a => hD h a ∨ TD (h + 7) τ a) n G G_37 := by rw [← eG_37]; exact FR.put hf_35 (.inl (.inl ⟨by omega, by omega⟩))
  refine g_iast hC a_30 (vin (by omega) (by omega)) (by omega) (f' := (upd (hA N 5 σ η.1) N fa_)) (by rw [nI_clamp (by omega)]) (G' := G_37) eG_37 dX2_add_43 ?_
  have a_48 : G_37 (h + 3) = some (.inl (yA Y 0, 12, .inl (upd (hA N 5 σ η.1) N fa_))) := by rw [← eG_37]; exact gU_s _ _ _
  refine g_aload_n hC dX2_add_44 rfl 0 rfl ?_
  refine g_get (v := .ref (h + 4)) hC kc_X2 o_38 7 (by decide) q271 rfl dX2_add_45 ?_
  refine g_aload_n hC dX2_add_48 rfl 0 rfl ?_
  refine g_get (v := .int (nI N)) hC kc_X2 o_38 0 (by decide) q251 rfl dX2_add_49 ?_
  refine g_iconst (v := 0) hC dX2_add_52 rfl ?_
  obtain ⟨G_49, eG_49⟩ : ∃ G_, gU G_37 (h + 4) (.inl (yA Y 0, 12, .inl (upd (hA N 8 σ η.1) N 0))) = G_ := ⟨_, rfl⟩
  have o_50 : G_49 h = some (.inr (2, [.int (nI N), .int (nI K), .int (σ.1 2 0), .int (σ.1 3 0), .ref (h + 1), .ref (h + 2), .ref (h + 3), .ref (h + 4), .ref (h + 5), .ref (h + 6), .ref (h + 7)])) := by rw [← eG_49]; exact (gU_n _ (by omega)).trans o_38
  have o_51 : G_49 n = some (.inr (11, [.int (nI N), .ref nm, .int r_, .int ne_, .int of_])) := by rw [← eG_49]; exact (gU_n _ (gne_oa o_39 a_43)).trans o_39
  have a_52 : G_49 (h + 1) = some (.inl (yA Y 6, 12, .inr (.inr (.inr (.inr (va_up (η.2 0) N (some n))))))) := by rw [← eG_49]; exact (gU_n _ (by omega)).trans a_40
  have a_53 : G_49 (h + 6) = some (.inl (yA Y 7, 24, .inr (.inr (.inr (.inr (η.2 1)))))) := by rw [← eG_49]; exact (gU_n _ (by omega)).trans a_41
  have a_54 : G_49 (h + 2) = some (.inl (yA Y 0, 12, .inl (upd (hA N 0 σ η.1) N 0))) := by rw [← eG_49]; exact (gU_n _ (by omega)).trans a_42
  have a_55 : G_49 (h + 3) = some (.inl (yA Y 0, 12, .inl (upd (hA N 5 σ η.1) N fa_))) := by rw [← eG_49]; exact (gU_n _ (by omega)).trans a_48
  have a_56 : G_49 (h + 5) = some (.inl (yA Y 0, 12, .inl (hA N 7 σ η.1))) := by rw [← eG_49]; exact (gU_n _ (by omega)).trans a_44
  have hi_57 : sub I G_49 := by rw [← eG_49]; exact sub_away hi_45 (hIh_h _ ⟨by omega, by omega⟩)
  have hx_58 : sub (TZ (h + 7) τ) G_49 := by rw [← eG_49]; exact sub_away hx_46 (TZ_noneA hx_46 a_43)
  have hf_59 : FR (fun a => hD h a ∨ TD (h + 7) τ a) n G G_49 := by rw [← eG_49]; exact FR.put hf_47 (.inl (.inl ⟨by omega, by omega⟩))
  refine g_iast hC a_43 (vin (by omega) (by omega)) (by omega) (f' := (upd (hA N 8 σ η.1) N 0)) (by rw [nI_clamp (by omega)]) (G' := G_49) eG_49 dX2_add_53 ?_
  have a_60 : G_49 (h + 4) = some (.inl (yA Y 0, 12, .inl (upd (hA N 8 σ η.1) N 0))) := by rw [← eG_49]; exact gU_s _ _ _
  refine g_aload_n hC dX2_add_54 rfl 0 rfl ?_
  refine g_get (v := .ref (h + 7)) hC kc_X2 o_50 10 (by decide) q282 rfl dX2_add_55 ?_
  refine g_aload_n hC dX2_add_58 rfl 2 rfl ?_
  refine g_aload_n hC dX2_add_59 rfl 0 rfl ?_
  refine g_get (v := .int (nI N)) hC kc_X2 o_50 0 (by decide) q251 rfl dX2_add_60 ?_
  refine V.lts (fun lc_61 => ?_)
  refine g_callq0 hC (g_runS hC (met_J12_valueOf (G := G_49) (nI N) ((hIo).trans hi_57)) (lw_S q1486 q1487 q106 q1488) md_J12_valueOf dX2_add_63 rfl ⟨by omega, by omega⟩ (by omega) (by omega) rfl (Nat.le_of_ble_eq_true rfl)) (fun r_62 G_62 n_62 u_62 hp_62 hn_62 hm_62 hu_62 => ?_)
  obtain ⟨bx_62, rfl, ho_62, hf_62, hq_62, hv_62, hsm_62⟩ := hp_62
  obtain ⟨rfl, rfl, rfl, hob_62'⟩ := hsm_62 N (by omega) rfl
  have hob_62 := ((hIo).trans hi_57) _ _ hob_62'
  refine V.lts (fun lc_63 => ?_)
  refine g_callq0 hC (g_runV hC (mp_putS (G := G_49) hT hx_58 hi_57 (by omega) lc_63 nm bx_62 X hkX hX (by unfold ZL; omega) (by unfold ZH; omega)) kc_J1 (hx_58 _ _ (TZ_h hT.2.2.2.1)) (lw_V q1505 q1506 q1507 q85 q1508) rfl md_J1_put dX2_add_66 rfl ⟨by omega, by omega⟩ (by omega) (by omega) rfl (Nat.le_of_ble_eq_true rfl)) (fun r_64 G_64 n_64 u_64 hp_64 hn_64 hm_64 hu_64 => ?_)
  obtain ⟨rfl, τ_64, q_64, hT_64, hps_64, hf_64, hD_64, rfl, rfl⟩ := hp_64
  have o_65 : G_64 h = some (.inr (2, [.int (nI N), .int (nI K), .int (σ.1 2 0), .int (σ.1 3 0), .ref (h + 1), .ref (h + 2), .ref (h + 3), .ref (h + 4), .ref (h + 5), .ref (h + 6), .ref (h + 7)])) := (hf_64 _ (lc_63 _ _ o_50) (TZ_out hT.2.2.2.1 hT.1.1 hx_58 o_50 (by decide) (by decide))).trans o_50
  have o_66 : G_64 n = some (.inr (11, [.int (nI N), .ref nm, .int r_, .int ne_, .int of_])) := (hf_64 _ (lc_63 _ _ o_51) (TZ_out hT.2.2.2.1 hT.1.1 hx_58 o_51 (by decide) (by decide))).trans o_51
  have o_67 : G_64 bx_62 = some (.inr (40, [.int (nI N)])) := (hf_64 _ (lc_63 _ _ hob_62) (TZ_out hT.2.2.2.1 hT.1.1 hx_58 hob_62 (by decide) (by decide))).trans hob_62
  have a_68 : G_64 (h + 1) = some (.inl (yA Y 6, 12, .inr (.inr (.inr (.inr (va_up (η.2 0) N (some n))))))) := (hf_64 _ (lc_63 _ _ a_52) (TZ_outA hT.2.2.2.1 hT.1.1 hx_58 a_52)).trans a_52
  have a_69 : G_64 (h + 6) = some (.inl (yA Y 7, 24, .inr (.inr (.inr (.inr (η.2 1)))))) := (hf_64 _ (lc_63 _ _ a_53) (TZ_outA hT.2.2.2.1 hT.1.1 hx_58 a_53)).trans a_53
  have a_70 : G_64 (h + 2) = some (.inl (yA Y 0, 12, .inl (upd (hA N 0 σ η.1) N 0))) := (hf_64 _ (lc_63 _ _ a_54) (TZ_outA hT.2.2.2.1 hT.1.1 hx_58 a_54)).trans a_54
  have a_71 : G_64 (h + 3) = some (.inl (yA Y 0, 12, .inl (upd (hA N 5 σ η.1) N fa_))) := (hf_64 _ (lc_63 _ _ a_55) (TZ_outA hT.2.2.2.1 hT.1.1 hx_58 a_55)).trans a_55
  have a_72 : G_64 (h + 4) = some (.inl (yA Y 0, 12, .inl (upd (hA N 8 σ η.1) N 0))) := (hf_64 _ (lc_63 _ _ a_60) (TZ_outA hT.2.2.2.1 hT.1.1 hx_58 a_60)).trans a_60
  have a_73 : G_64 (h + 5) = some (.inl (yA Y 0, 12, .inl (hA N 7 σ η.1))) := (hf_64 _ (lc_63 _ _ a_56) (TZ_outA hT.2.2.2.1 hT.1.1 hx_58 a_56)).trans a_56
  have hi_74 : sub I G_64 := hf_64.subs hi_57 lc_63 (fun a q => hT.2.2.2.2.2 a q)
  have hf_75 : FR (fun a => hD h a ∨ TD (h + 7) τ a) n G G_64 := hf_59.trans hf_64 (by omega) (fun a_ q_ => hTf a_ q_)
  have hTn_76 : ∀ a, TD (h + 7) τ_64 a → (fun a => hD h a ∨ TD (h + 7) τ a) a ∨ n ≤ a := fun a q => (hD_64 a q).elim (hTf a) (fun e => .inr (by omega))
  refine g_pop hC dX2_add_69 rfl ?_
  refine g_aload_n hC dX2_add_70 rfl 0 rfl ?_
  refine g_dup hC dX2_add_71 rfl ?_
  refine g_get (v := .int (nI N)) hC kc_X2 o_65 0 (by decide) q251 rfl dX2_add_72 ?_
  refine g_dup_x1 hC dX2_add_75 rfl rfl ?_
  refine g_iconst (v := 1) hC dX2_add_76 rfl ?_
  refine g_iaddN hC N 1 dX2_add_77 ?_
  obtain ⟨G_77, eG_77⟩ : ∃ G_, gU G_64 h (.inr (2, [.int (nI (N + 1)), .int (nI K), .int (σ.1 2 0), .int (σ.1 3 0), .ref (h + 1), .ref (h + 2), .ref (h + 3), .ref (h + 4), .ref (h + 5), .ref (h + 6), .ref (h + 7)])) = G_ := ⟨_, rfl⟩
  have o_78 : G_77 n = some (.inr (11, [.int (nI N), .ref nm, .int r_, .int ne_, .int of_])) := by rw [← eG_77]; exact (gU_n _ (gne_c o_66 o_65 (by decide))).trans o_66
  have o_79 : G_77 bx_62 = some (.inr (40, [.int (nI N)])) := by rw [← eG_77]; exact (gU_n _ (gne_c o_67 o_65 (by decide))).trans o_67
  have a_80 : G_77 (h + 1) = some (.inl (yA Y 6, 12, .inr (.inr (.inr (.inr (va_up (η.2 0) N (some n))))))) := by rw [← eG_77]; exact (gU_n _ (by omega)).trans a_68
  have a_81 : G_77 (h + 6) = some (.inl (yA Y 7, 24, .inr (.inr (.inr (.inr (η.2 1)))))) := by rw [← eG_77]; exact (gU_n _ (by omega)).trans a_69
  have a_82 : G_77 (h + 2) = some (.inl (yA Y 0, 12, .inl (upd (hA N 0 σ η.1) N 0))) := by rw [← eG_77]; exact (gU_n _ (by omega)).trans a_70
  have a_83 : G_77 (h + 3) = some (.inl (yA Y 0, 12, .inl (upd (hA N 5 σ η.1) N fa_))) := by rw [← eG_77]; exact (gU_n _ (by omega)).trans a_71
  have a_84 : G_77 (h + 4) = some (.inl (yA Y 0, 12, .inl (upd (hA N 8 σ η.1) N 0))) := by rw [← eG_77]; exact (gU_n _ (by omega)).trans a_72
  have a_85 : G_77 (h + 5) = some (.inl (yA Y 0, 12, .inl (hA N 7 σ η.1))) := by rw [← eG_77]; exact (gU_n _ (by omega)).trans a_73
  have hi_86 : sub I G_77 := by rw [← eG_77]; exact sub_away hi_74 (hIh_h _ ⟨by omega, by omega⟩)
  have hx_87 : sub (TZ (h + 7) τ_64) G_77 := by rw [← eG_77]; exact sub_away hps_64 (TZ_none hT_64.2.2.2.1 hT_64.1.1 hps_64 o_65 (by decide) (by decide) (by decide))
  have hf_88 : FR (fun a => hD h a ∨ TD (h + 7) τ a) n G G_77 := by rw [← eG_77]; exact FR.put hf_75 (.inl (.inl ⟨by omega, by omega⟩))
  refine g_put hC kc_X2 o_65 0 (by decide) q251 rfl rfl rfl (by show 0 < 11; decide) rfl (by omega) (G' := G_77) eG_77 dX2_add_78 ?_
  have o_89 : G_77 h = some (.inr (2, [.int (nI (N + 1)), .int (nI K), .int (σ.1 2 0), .int (σ.1 3 0), .ref (h + 1), .ref (h + 2), .ref (h + 3), .ref (h + 4), .ref (h + 5), .ref (h + 6), .ref (h + 7)])) := by rw [← eG_77]; exact gU_s _ _ _
  refine g_iret hC hr rfl ⟨_, rfl, ?_⟩ (by omega) (by omega) hE dX2_add_81
  exact ⟨rfl, hM_P (by omega) hK h7 o_89 a_80 a_82 a_83 a_84 a_85 a_81, o_78, ⟨_, _, _, hT_64, hx_87, hTn_76⟩, hf_88, by omega, by omega⟩
set_option maxHeartbeats 1000000 in
theorem met_X2_add_1 {Y : YT} {l : Launch} {n u : Nat} {G : AH} (h : Nat) (nm : Nat) (r_ : Int32) (ne_ : Int32) (of_ : Int32) (fa_ : Int32) {N K : Nat} {σ : MS} {η : HV} {I : AH} {τ : TS} {q : TQ} {M : MP} (X : Int) (na_ : Int32) (hh : sub (hM Y h N σ η) G) (hN : σ.1 0 0 = nI N) (hK : σ.1 4 0 = nI K) (hN12 : N < 12) (h7 : η.1 7 N = 0) (hI : sub I G) (hIh_h : ∀ a, hD h a → I a = none) (hIo : sub (oM Y) I) (hT : TMI (KS Y) Y (h + 7) none I τ q M) (hps : sub (TZ (h + 7) τ) G) (hzh : yz Y ≤ h) (hkX : KS Y I nm X) (hX : ∀ e, e ∈ M → e.1 ≠ X) (hX1 : 0 ≤ X ∧ X < 1000000) : GM Y l yX2_add (ws_ yX2_add cX2_add 7 (some FieldType.int)) 9 211 [.ref h, .int 1, .ref nm, .int r_, .int ne_, .int of_, .int fa_] G n u 2 11 (pI (fun r G' n' u' => nI N = r ∧ sub (hM Y h (N + 1) (npF σ N 1 r_ ne_ of_ fa_ na_) (ηP N n η)) G' ∧ G' n = some (.inr (12, [.int (nI N), .ref nm, .int r_, .int ne_, .int of_])) ∧ (∃ τ' q' v, TMI (KS Y) Y (h + 7) none I τ' q' (mput X nm (some v) M) ∧ sub (TZ (h + 7) τ') G' ∧ (∀ a, TD (h + 7) τ' a → (hD h a ∨ TD (h + 7) τ a) ∨ n ≤ a)) ∧ FR (fun a => hD h a ∨ TD (h + 7) τ a) n G G' ∧ n' = n + 2 ∧ u' = u + 11)) noX := by
  refine GM.intro (own := RX2) rfl (by decide +kernel) (Nat.le_of_ble_eq_true rfl) ?_
  intro p e s m args below meth c R Q hC hr hnm hF hL hE
  have hE1 := hE.1
  have hE2 := hE.2.1
  have hnz : yz Y ≤ n := by have := hC.z; have := hC.n; omega
  show V Y p l e R s m args below meth c 7 n u G n u Q 0 [(0, .ref h), (1, .int 1), (2, .ref nm), (3, .int r_), (4, .int ne_), (5, .int of_), (6, .int fa_)] []
  refine V.lts (fun hlt => ?_)
  have hIn := sub_none hI hlt
  have hl_h6 : h + 6 < n := hlt _ _ (hh _ _ (hM_j 6))
  have hl_h7 : h + 7 < n := hlt _ _ (hps _ _ (TZ_h hT.2.2.2.1))
  have x0 : G h = some (.inr (2, [.int (nI N), .int (nI K), .int (σ.1 2 0), .int (σ.1 3 0), .ref (h + 1), .ref (h + 2), .ref (h + 3), .ref (h + 4), .ref (h + 5), .ref (h + 6), .ref (h + 7)])) := hh _ _ (hM_0 hN hK)
  have x1 : G (h + 1) = some (.inl (yA Y 6, 12, .inr (.inr (.inr (.inr (η.2 0)))))) := hh _ _ (hM_j 1)
  have x6 : G (h + 6) = some (.inl (yA Y 7, 24, .inr (.inr (.inr (.inr (η.2 1)))))) := hh _ _ (hM_j 6)
  have x2 : G (h + 2) = some (.inl (yA Y 0, 12, .inl (hA N 0 σ η.1))) := hh _ _ (hM_j 2)
  have x3 : G (h + 3) = some (.inl (yA Y 0, 12, .inl (hA N 5 σ η.1))) := hh _ _ (hM_j 3)
  have x4 : G (h + 4) = some (.inl (yA Y 0, 12, .inl (hA N 8 σ η.1))) := hh _ _ (hM_j 4)
  have x5 : G (h + 5) = some (.inl (yA Y 0, 12, .inl (hA N 7 σ η.1))) := hh _ _ (hM_j 5)
  have hTf : ∀ a, TD (h + 7) τ a → (hD h a ∨ TD (h + 7) τ a) ∨ n ≤ a := fun a q => .inl (.inr q)
  refine g_aload_n hC dX2_add_0 rfl 0 rfl ?_
  refine g_get (v := .ref (h + 1)) hC kc_X2 x0 4 (by decide) q262 rfl dX2_add_1 ?_
  refine g_aload_n hC dX2_add_4 rfl 0 rfl ?_
  refine g_get (v := .int (nI N)) hC kc_X2 x0 0 (by decide) q251 rfl dX2_add_5 ?_
  refine g_iload_n hC dX2_add_8 rfl 1 rfl ?_
  refine g_aload_n hC dX2_add_9 rfl 0 rfl ?_
  refine g_get (v := .int (nI N)) hC kc_X2 x0 0 (by decide) q251 rfl dX2_add_10 ?_
  refine g_aload_n hC dX2_add_13 rfl 2 rfl ?_
  refine g_iload_n hC dX2_add_14 rfl 3 rfl ?_
  refine g_iload hC dX2_add_15 4 rfl ?_
  refine g_iload hC dX2_add_17 5 rfl ?_
  refine V.lts (fun lc_1 => ?_)
  refine g_callq0 hC (g_runS hC (met_X0_ofKind_1 (G := G) N nm r_ ne_ of_) (lw_S q1405 q1406 q81 q1407) md_X0_ofKind dX2_add_19 rfl ⟨by omega, by omega⟩ (by omega) (by omega) rfl (Nat.le_of_ble_eq_true rfl)) (fun r_2 G_2 n_2 u_2 hp_2 hn_2 hm_2 hu_2 => ?_)
  obtain ⟨rfl, ho_2, hf_2, rfl, rfl⟩ := hp_2
  have o_3 : G_2 h = some (.inr (2, [.int (nI N), .int (nI K), .int (σ.1 2 0), .int (σ.1 3 0), .ref (h + 1), .ref (h + 2), .ref (h + 3), .ref (h + 4), .ref (h + 5), .ref (h + 6), .ref (h + 7)])) := (hf_2 _ (lc_1 _ _ x0) (fun q => q)).trans x0
  have a_4 : G_2 (h + 1) = some (.inl (yA Y 6, 12, .inr (.inr (.inr (.inr (η.2 0)))))) := (hf_2 _ (lc_1 _ _ x1) (fun q => q)).trans x1
  have a_5 : G_2 (h + 6) = some (.inl (yA Y 7, 24, .inr (.inr (.inr (.inr (η.2 1)))))) := (hf_2 _ (lc_1 _ _ x6) (fun q => q)).trans x6
  have a_6 : G_2 (h + 2) = some (.inl (yA Y 0, 12, .inl (hA N 0 σ η.1))) := (hf_2 _ (lc_1 _ _ x2) (fun q => q)).trans x2
  have a_7 : G_2 (h + 3) = some (.inl (yA Y 0, 12, .inl (hA N 5 σ η.1))) := (hf_2 _ (lc_1 _ _ x3) (fun q => q)).trans x3
  have a_8 : G_2 (h + 4) = some (.inl (yA Y 0, 12, .inl (hA N 8 σ η.1))) := (hf_2 _ (lc_1 _ _ x4) (fun q => q)).trans x4
  have a_9 : G_2 (h + 5) = some (.inl (yA Y 0, 12, .inl (hA N 7 σ η.1))) := (hf_2 _ (lc_1 _ _ x5) (fun q => q)).trans x5
  have hi_10 : sub I G_2 := hf_2.subs hI lc_1 (fun a q => False.elim q)
  have hx_11 : sub (TZ (h + 7) τ) G_2 := hf_2.subs hps lc_1 (fun a q => False.elim q)
  have hf_12 : FR (fun a => hD h a ∨ TD (h + 7) τ a) n G G_2 := FR.refl.trans hf_2 (by omega) (fun a_ q_ => by first | exact .inl q_ | exact False.elim q_ | exact .inl (.inl q_) | exact .inl (.inr q_) | (subst q_; first | exact .inr (by omega) | exact .inl rfl))
  obtain ⟨G_13, eG_13⟩ : ∃ G_, gU G_2 (h + 1) (.inl (yA Y 6, 12, .inr (.inr (.inr (.inr (va_up (η.2 0) N (some n))))))) = G_ := ⟨_, rfl⟩
  have o_14 : G_13 h = some (.inr (2, [.int (nI N), .int (nI K), .int (σ.1 2 0), .int (σ.1 3 0), .ref (h + 1), .ref (h + 2), .ref (h + 3), .ref (h + 4), .ref (h + 5), .ref (h + 6), .ref (h + 7)])) := by rw [← eG_13]; exact (gU_n _ (by omega)).trans o_3
  have o_15 : G_13 n = some (.inr (12, [.int (nI N), .ref nm, .int r_, .int ne_, .int of_])) := by rw [← eG_13]; exact (gU_n _ (gne_oa ho_2 a_4)).trans ho_2
  have a_16 : G_13 (h + 6) = some (.inl (yA Y 7, 24, .inr (.inr (.inr (.inr (η.2 1)))))) := by rw [← eG_13]; exact (gU_n _ (by omega)).trans a_5
  have a_17 : G_13 (h + 2) = some (.inl (yA Y 0, 12, .inl (hA N 0 σ η.1))) := by rw [← eG_13]; exact (gU_n _ (by omega)).trans a_6
  have a_18 : G_13 (h + 3) = some (.inl (yA Y 0, 12, .inl (hA N 5 σ η.1))) := by rw [← eG_13]; exact (gU_n _ (by omega)).trans a_7
  have a_19 : G_13 (h + 4) = some (.inl (yA Y 0, 12, .inl (hA N 8 σ η.1))) := by rw [← eG_13]; exact (gU_n _ (by omega)).trans a_8
  have a_20 : G_13 (h + 5) = some (.inl (yA Y 0, 12, .inl (hA N 7 σ η.1))) := by rw [← eG_13]; exact (gU_n _ (by omega)).trans a_9
  have hi_21 : sub I G_13 := by rw [← eG_13]; exact sub_away hi_10 (hIh_h _ ⟨by omega, by omega⟩)
  have hx_22 : sub (TZ (h + 7) τ) G_13 := by rw [← eG_13]; exact sub_away hx_11 (TZ_noneA hx_11 a_4)
  have hf_23 : FR (fun a => hD h a ∨ TD (h + 7) τ a) n G G_13 := by rw [← eG_13]; exact FR.put hf_12 (.inl (.inl ⟨by omega, by omega⟩))
  refine g_aastG (t0 := 6) hC kc_X13 ho_2 a_4 rfl (asgY hC.K q4035) (vin (by omega) (by omega)) (by omega) (f' := (va_up (η.2 0) N (some n))) (by rw [nI_clamp (by omega)]) (G' := G_13) eG_13 dX2_add_22 ?_
  have a_24 : G_13 (h + 1) = some (.inl (yA Y 6, 12, .inr (.inr (.inr (.inr (va_up (η.2 0) N (some n))))))) := by rw [← eG_13]; exact gU_s _ _ _
  refine g_aload_n hC dX2_add_23 rfl 0 rfl ?_
  refine g_get (v := .ref (h + 2)) hC kc_X2 o_14 5 (by decide) q265 rfl dX2_add_24 ?_
  refine g_aload_n hC dX2_add_27 rfl 0 rfl ?_
  refine g_get (v := .int (nI N)) hC kc_X2 o_14 0 (by decide) q251 rfl dX2_add_28 ?_
  refine g_iconst (v := 0) hC dX2_add_31 rfl ?_
  obtain ⟨G_25, eG_25⟩ : ∃ G_, gU G_13 (h + 2) (.inl (yA Y 0, 12, .inl (upd (hA N 0 σ η.1) N 0))) = G_ := ⟨_, rfl⟩
  have o_26 : G_25 h = some (.inr (2, [.int (nI N), .int (nI K), .int (σ.1 2 0), .int (σ.1 3 0), .ref (h + 1), .ref (h + 2), .ref (h + 3), .ref (h + 4), .ref (h + 5), .ref (h + 6), .ref (h + 7)])) := by rw [← eG_25]; exact (gU_n _ (by omega)).trans o_14
  have o_27 : G_25 n = some (.inr (12, [.int (nI N), .ref nm, .int r_, .int ne_, .int of_])) := by rw [← eG_25]; exact (gU_n _ (gne_oa o_15 a_17)).trans o_15
  have a_28 : G_25 (h + 1) = some (.inl (yA Y 6, 12, .inr (.inr (.inr (.inr (va_up (η.2 0) N (some n))))))) := by rw [← eG_25]; exact (gU_n _ (by omega)).trans a_24
  have a_29 : G_25 (h + 6) = some (.inl (yA Y 7, 24, .inr (.inr (.inr (.inr (η.2 1)))))) := by rw [← eG_25]; exact (gU_n _ (by omega)).trans a_16
  have a_30 : G_25 (h + 3) = some (.inl (yA Y 0, 12, .inl (hA N 5 σ η.1))) := by rw [← eG_25]; exact (gU_n _ (by omega)).trans a_18
  have a_31 : G_25 (h + 4) = some (.inl (yA Y 0, 12, .inl (hA N 8 σ η.1))) := by rw [← eG_25]; exact (gU_n _ (by omega)).trans a_19
  have a_32 : G_25 (h + 5) = some (.inl (yA Y 0, 12, .inl (hA N 7 σ η.1))) := by rw [← eG_25]; exact (gU_n _ (by omega)).trans a_20
  have hi_33 : sub I G_25 := by rw [← eG_25]; exact sub_away hi_21 (hIh_h _ ⟨by omega, by omega⟩)
  have hx_34 : sub (TZ (h + 7) τ) G_25 := by rw [← eG_25]; exact sub_away hx_22 (TZ_noneA hx_22 a_17)
  have hf_35 : FR (fun a => hD h a ∨ TD (h + 7) τ a) n G G_25 := by rw [← eG_25]; exact FR.put hf_23 (.inl (.inl ⟨by omega, by omega⟩))
  refine g_iast hC a_17 (vin (by omega) (by omega)) (by omega) (f' := (upd (hA N 0 σ η.1) N 0)) (by rw [nI_clamp (by omega)]) (G' := G_25) eG_25 dX2_add_32 ?_
  have a_36 : G_25 (h + 2) = some (.inl (yA Y 0, 12, .inl (upd (hA N 0 σ η.1) N 0))) := by rw [← eG_25]; exact gU_s _ _ _
  refine g_aload_n hC dX2_add_33 rfl 0 rfl ?_
  refine g_get (v := .ref (h + 3)) hC kc_X2 o_26 6 (by decide) q268 rfl dX2_add_34 ?_
  refine g_aload_n hC dX2_add_37 rfl 0 rfl ?_
  refine g_get (v := .int (nI N)) hC kc_X2 o_26 0 (by decide) q251 rfl dX2_add_38 ?_
  refine g_iload hC dX2_add_41 6 rfl ?_
  obtain ⟨G_37, eG_37⟩ : ∃ G_, gU G_25 (h + 3) (.inl (yA Y 0, 12, .inl (upd (hA N 5 σ η.1) N fa_))) = G_ := ⟨_, rfl⟩
  have o_38 : G_37 h = some (.inr (2, [.int (nI N), .int (nI K), .int (σ.1 2 0), .int (σ.1 3 0), .ref (h + 1), .ref (h + 2), .ref (h + 3), .ref (h + 4), .ref (h + 5), .ref (h + 6), .ref (h + 7)])) := by rw [← eG_37]; exact (gU_n _ (by omega)).trans o_26
  have o_39 : G_37 n = some (.inr (12, [.int (nI N), .ref nm, .int r_, .int ne_, .int of_])) := by rw [← eG_37]; exact (gU_n _ (gne_oa o_27 a_30)).trans o_27
  have a_40 : G_37 (h + 1) = some (.inl (yA Y 6, 12, .inr (.inr (.inr (.inr (va_up (η.2 0) N (some n))))))) := by rw [← eG_37]; exact (gU_n _ (by omega)).trans a_28
  have a_41 : G_37 (h + 6) = some (.inl (yA Y 7, 24, .inr (.inr (.inr (.inr (η.2 1)))))) := by rw [← eG_37]; exact (gU_n _ (by omega)).trans a_29
  have a_42 : G_37 (h + 2) = some (.inl (yA Y 0, 12, .inl (upd (hA N 0 σ η.1) N 0))) := by rw [← eG_37]; exact (gU_n _ (by omega)).trans a_36
  have a_43 : G_37 (h + 4) = some (.inl (yA Y 0, 12, .inl (hA N 8 σ η.1))) := by rw [← eG_37]; exact (gU_n _ (by omega)).trans a_31
  have a_44 : G_37 (h + 5) = some (.inl (yA Y 0, 12, .inl (hA N 7 σ η.1))) := by rw [← eG_37]; exact (gU_n _ (by omega)).trans a_32
  have hi_45 : sub I G_37 := by rw [← eG_37]; exact sub_away hi_33 (hIh_h _ ⟨by omega, by omega⟩)
  have hx_46 : sub (TZ (h + 7) τ) G_37 := by rw [← eG_37]; exact sub_away hx_34 (TZ_noneA hx_34 a_30)
  have hf_47 : FR (fun a => hD h a ∨ TD (h + 7) τ a) n G G_37 := by rw [← eG_37]; exact FR.put hf_35 (.inl (.inl ⟨by omega, by omega⟩))
  refine g_iast hC a_30 (vin (by omega) (by omega)) (by omega) (f' := (upd (hA N 5 σ η.1) N fa_)) (by rw [nI_clamp (by omega)]) (G' := G_37) eG_37 dX2_add_43 ?_
  have a_48 : G_37 (h + 3) = some (.inl (yA Y 0, 12, .inl (upd (hA N 5 σ η.1) N fa_))) := by rw [← eG_37]; exact gU_s _ _ _
  refine g_aload_n hC dX2_add_44 rfl 0 rfl ?_
  refine g_get (v := .ref (h + 4)) hC kc_X2 o_38 7 (by decide) q271 rfl dX2_add_45 ?_
  refine g_aload_n hC dX2_add_48 rfl 0 rfl ?_
  refine g_get (v := .int (nI N)) hC kc_X2 o_38 0 (by decide) q251 rfl dX2_add_49 ?_
  refine g_iconst (v := 0) hC dX2_add_52 rfl ?_
  obtain ⟨G_49, eG_49⟩ : ∃ G_, gU G_37 (h + 4) (.inl (yA Y 0, 12, .inl (upd (hA N 8 σ η.1) N 0))) = G_ := ⟨_, rfl⟩
  have o_50 : G_49 h = some (.inr (2, [.int (nI N), .int (nI K), .int (σ.1 2 0), .int (σ.1 3 0), .ref (h + 1), .ref (h + 2), .ref (h + 3), .ref (h + 4), .ref (h + 5), .ref (h + 6), .ref (h + 7)])) := by rw [← eG_49]; exact (gU_n _ (by omega)).trans o_38
  have o_51 : G_49 n = some (.inr (12, [.int (nI N), .ref nm, .int r_, .int ne_, .int of_])) := by rw [← eG_49]; exact (gU_n _ (gne_oa o_39 a_43)).trans o_39
  have a_52 : G_49 (h + 1) = some (.inl (yA Y 6, 12, .inr (.inr (.inr (.inr (va_up (η.2 0) N (some n))))))) := by rw [← eG_49]; exact (gU_n _ (by omega)).trans a_40
  have a_53 : G_49 (h + 6) = some (.inl (yA Y 7, 24, .inr (.inr (.inr (.inr (η.2 1)))))) := by rw [← eG_49]; exact (gU_n _ (by omega)).trans a_41
  have a_54 : G_49 (h + 2) = some (.inl (yA Y 0, 12, .inl (upd (hA N 0 σ η.1) N 0))) := by rw [← eG_49]; exact (gU_n _ (by omega)).trans a_42
  have a_55 : G_49 (h + 3) = some (.inl (yA Y 0, 12, .inl (upd (hA N 5 σ η.1) N fa_))) := by rw [← eG_49]; exact (gU_n _ (by omega)).trans a_48
  have a_56 : G_49 (h + 5) = some (.inl (yA Y 0, 12, .inl (hA N 7 σ η.1))) := by rw [← eG_49]; exact (gU_n _ (by omega)).trans a_44
  have hi_57 : sub I G_49 := by rw [← eG_49]; exact sub_away hi_45 (hIh_h _ ⟨by omega, by omega⟩)
  have hx_58 : sub (TZ (h + 7) τ) G_49 := by rw [← eG_49]; exact sub_away hx_46 (TZ_noneA hx_46 a_43)
  have hf_59 : FR (fun a => hD h a ∨ TD (h + 7) τ a) n G G_49 := by rw [← eG_49]; exact FR.put hf_47 (.inl (.inl ⟨by omega, by omega⟩))
  refine g_iast hC a_43 (vin (by omega) (by omega)) (by omega) (f' := (upd (hA N 8 σ η.1) N 0)) (by rw [nI_clamp (by omega)]) (G' := G_49) eG_49 dX2_add_53 ?_
  have a_60 : G_49 (h + 4) = some (.inl (yA Y 0, 12, .inl (upd (hA N 8 σ η.1) N 0))) := by rw [← eG_49]; exact gU_s _ _ _
  refine g_aload_n hC dX2_add_54 rfl 0 rfl ?_
  refine g_get (v := .ref (h + 7)) hC kc_X2 o_50 10 (by decide) q282 rfl dX2_add_55 ?_
  refine g_aload_n hC dX2_add_58 rfl 2 rfl ?_
  refine g_aload_n hC dX2_add_59 rfl 0 rfl ?_
  refine g_get (v := .int (nI N)) hC kc_X2 o_50 0 (by decide) q251 rfl dX2_add_60 ?_
  refine V.lts (fun lc_61 => ?_)
  refine g_callq0 hC (g_runS hC (met_J12_valueOf (G := G_49) (nI N) ((hIo).trans hi_57)) (lw_S q1486 q1487 q106 q1488) md_J12_valueOf dX2_add_63 rfl ⟨by omega, by omega⟩ (by omega) (by omega) rfl (Nat.le_of_ble_eq_true rfl)) (fun r_62 G_62 n_62 u_62 hp_62 hn_62 hm_62 hu_62 => ?_)
  obtain ⟨bx_62, rfl, ho_62, hf_62, hq_62, hv_62, hsm_62⟩ := hp_62
  obtain ⟨rfl, rfl, rfl, hob_62'⟩ := hsm_62 N (by omega) rfl
  have hob_62 := ((hIo).trans hi_57) _ _ hob_62'
  refine V.lts (fun lc_63 => ?_)
  refine g_callq0 hC (g_runV hC (mp_putS (G := G_49) hT hx_58 hi_57 (by omega) lc_63 nm bx_62 X hkX hX (by unfold ZL; omega) (by unfold ZH; omega)) kc_J1 (hx_58 _ _ (TZ_h hT.2.2.2.1)) (lw_V q1505 q1506 q1507 q85 q1508) rfl md_J1_put dX2_add_66 rfl ⟨by omega, by omega⟩ (by omega) (by omega) rfl (Nat.le_of_ble_eq_true rfl)) (fun r_64 G_64 n_64 u_64 hp_64 hn_64 hm_64 hu_64 => ?_)
  obtain ⟨rfl, τ_64, q_64, hT_64, hps_64, hf_64, hD_64, rfl, rfl⟩ := hp_64
  have o_65 : G_64 h = some (.inr (2, [.int (nI N), .int (nI K), .int (σ.1 2 0), .int (σ.1 3 0), .ref (h + 1), .ref (h + 2), .ref (h + 3), .ref (h + 4), .ref (h + 5), .ref (h + 6), .ref (h + 7)])) := (hf_64 _ (lc_63 _ _ o_50) (TZ_out hT.2.2.2.1 hT.1.1 hx_58 o_50 (by decide) (by decide))).trans o_50
  have o_66 : G_64 n = some (.inr (12, [.int (nI N), .ref nm, .int r_, .int ne_, .int of_])) := (hf_64 _ (lc_63 _ _ o_51) (TZ_out hT.2.2.2.1 hT.1.1 hx_58 o_51 (by decide) (by decide))).trans o_51
  have o_67 : G_64 bx_62 = some (.inr (40, [.int (nI N)])) := (hf_64 _ (lc_63 _ _ hob_62) (TZ_out hT.2.2.2.1 hT.1.1 hx_58 hob_62 (by decide) (by decide))).trans hob_62
  have a_68 : G_64 (h + 1) = some (.inl (yA Y 6, 12, .inr (.inr (.inr (.inr (va_up (η.2 0) N (some n))))))) := (hf_64 _ (lc_63 _ _ a_52) (TZ_outA hT.2.2.2.1 hT.1.1 hx_58 a_52)).trans a_52
  have a_69 : G_64 (h + 6) = some (.inl (yA Y 7, 24, .inr (.inr (.inr (.inr (η.2 1)))))) := (hf_64 _ (lc_63 _ _ a_53) (TZ_outA hT.2.2.2.1 hT.1.1 hx_58 a_53)).trans a_53
  have a_70 : G_64 (h + 2) = some (.inl (yA Y 0, 12, .inl (upd (hA N 0 σ η.1) N 0))) := (hf_64 _ (lc_63 _ _ a_54) (TZ_outA hT.2.2.2.1 hT.1.1 hx_58 a_54)).trans a_54
  have a_71 : G_64 (h + 3) = some (.inl (yA Y 0, 12, .inl (upd (hA N 5 σ η.1) N fa_))) := (hf_64 _ (lc_63 _ _ a_55) (TZ_outA hT.2.2.2.1 hT.1.1 hx_58 a_55)).trans a_55
  have a_72 : G_64 (h + 4) = some (.inl (yA Y 0, 12, .inl (upd (hA N 8 σ η.1) N 0))) := (hf_64 _ (lc_63 _ _ a_60) (TZ_outA hT.2.2.2.1 hT.1.1 hx_58 a_60)).trans a_60
  have a_73 : G_64 (h + 5) = some (.inl (yA Y 0, 12, .inl (hA N 7 σ η.1))) := (hf_64 _ (lc_63 _ _ a_56) (TZ_outA hT.2.2.2.1 hT.1.1 hx_58 a_56)).trans a_56
  have hi_74 : sub I G_64 := hf_64.subs hi_57 lc_63 (fun a q => hT.2.2.2.2.2 a q)
  have hf_75 : FR (fun a => hD h a ∨ TD (h + 7) τ a) n G G_64 := hf_59.trans hf_64 (by omega) (fun a_ q_ => hTf a_ q_)
  have hTn_76 : ∀ a, TD (h + 7) τ_64 a → (fun a => hD h a ∨ TD (h + 7) τ a) a ∨ n ≤ a := fun a q => (hD_64 a q).elim (hTf a) (fun e => .inr (by omega))
  refine g_pop hC dX2_add_69 rfl ?_
  refine g_aload_n hC dX2_add_70 rfl 0 rfl ?_
  refine g_dup hC dX2_add_71 rfl ?_
  refine g_get (v := .int (nI N)) hC kc_X2 o_65 0 (by decide) q251 rfl dX2_add_72 ?_
  refine g_dup_x1 hC dX2_add_75 rfl rfl ?_
  refine g_iconst (v := 1) hC dX2_add_76 rfl ?_
  refine g_iaddN hC N 1 dX2_add_77 ?_
  obtain ⟨G_77, eG_77⟩ : ∃ G_, gU G_64 h (.inr (2, [.int (nI (N + 1)), .int (nI K), .int (σ.1 2 0), .int (σ.1 3 0), .ref (h + 1), .ref (h + 2), .ref (h + 3), .ref (h + 4), .ref (h + 5), .ref (h + 6), .ref (h + 7)])) = G_ := ⟨_, rfl⟩
  have o_78 : G_77 n = some (.inr (12, [.int (nI N), .ref nm, .int r_, .int ne_, .int of_])) := by rw [← eG_77]; exact (gU_n _ (gne_c o_66 o_65 (by decide))).trans o_66
  have o_79 : G_77 bx_62 = some (.inr (40, [.int (nI N)])) := by rw [← eG_77]; exact (gU_n _ (gne_c o_67 o_65 (by decide))).trans o_67
  have a_80 : G_77 (h + 1) = some (.inl (yA Y 6, 12, .inr (.inr (.inr (.inr (va_up (η.2 0) N (some n))))))) := by rw [← eG_77]; exact (gU_n _ (by omega)).trans a_68
  have a_81 : G_77 (h + 6) = some (.inl (yA Y 7, 24, .inr (.inr (.inr (.inr (η.2 1)))))) := by rw [← eG_77]; exact (gU_n _ (by omega)).trans a_69
  have a_82 : G_77 (h + 2) = some (.inl (yA Y 0, 12, .inl (upd (hA N 0 σ η.1) N 0))) := by rw [← eG_77]; exact (gU_n _ (by omega)).trans a_70
  have a_83 : G_77 (h + 3) = some (.inl (yA Y 0, 12, .inl (upd (hA N 5 σ η.1) N fa_))) := by rw [← eG_77]; exact (gU_n _ (by omega)).trans a_71
  have a_84 : G_77 (h + 4) = some (.inl (yA Y 0, 12, .inl (upd (hA N 8 σ η.1) N 0))) := by rw [← eG_77]; exact (gU_n _ (by omega)).trans a_72
  have a_85 : G_77 (h + 5) = some (.inl (yA Y 0, 12, .inl (hA N 7 σ η.1))) := by rw [← eG_77]; exact (gU_n _ (by omega)).trans a_73
  have hi_86 : sub I G_77 := by rw [← eG_77]; exact sub_away hi_74 (hIh_h _ ⟨by omega, by omega⟩)
  have hx_87 : sub (TZ (h + 7) τ_64) G_77 := by rw [← eG_77]; exact sub_away hps_64 (TZ_none hT_64.2.2.2.1 hT_64.1.1 hps_64 o_65 (by decide) (by decide) (by decide))
  have hf_88 : FR (fun a => hD h a ∨ TD (h + 7) τ a) n G G_77 := by rw [← eG_77]; exact FR.put hf_75 (.inl (.inl ⟨by omega, by omega⟩))
  refine g_put hC kc_X2 o_65 0 (by decide) q251 rfl rfl rfl (by show 0 < 11; decide) rfl (by omega) (G' := G_77) eG_77 dX2_add_78 ?_
  have o_89 : G_77 h = some (.inr (2, [.int (nI (N + 1)), .int (nI K), .int (σ.1 2 0), .int (σ.1 3 0), .ref (h + 1), .ref (h + 2), .ref (h + 3), .ref (h + 4), .ref (h + 5), .ref (h + 6), .ref (h + 7)])) := by rw [← eG_77]; exact gU_s _ _ _
  refine g_iret hC hr rfl ⟨_, rfl, ?_⟩ (by omega) (by omega) hE dX2_add_81
  exact ⟨rfl, hM_P (by omega) hK h7 o_89 a_80 a_82 a_83 a_84 a_85 a_81, o_78, ⟨_, _, _, hT_64, hx_87, hTn_76⟩, hf_88, by omega, by omega⟩
set_option maxHeartbeats 1000000 in
theorem met_X2_add_2 {Y : YT} {l : Launch} {n u : Nat} {G : AH} (h : Nat) (nm : Nat) (r_ : Int32) (ne_ : Int32) (of_ : Int32) (fa_ : Int32) {N K : Nat} {σ : MS} {η : HV} {I : AH} {τ : TS} {q : TQ} {M : MP} (X : Int) (na_ : Int32) (hh : sub (hM Y h N σ η) G) (hN : σ.1 0 0 = nI N) (hK : σ.1 4 0 = nI K) (hN12 : N < 12) (h7 : η.1 7 N = 0) (hI : sub I G) (hIh_h : ∀ a, hD h a → I a = none) (hIo : sub (oM Y) I) (hT : TMI (KS Y) Y (h + 7) none I τ q M) (hps : sub (TZ (h + 7) τ) G) (hzh : yz Y ≤ h) (hkX : KS Y I nm X) (hX : ∀ e, e ∈ M → e.1 ≠ X) (hX1 : 0 ≤ X ∧ X < 1000000) : GM Y l yX2_add (ws_ yX2_add cX2_add 7 (some FieldType.int)) 9 211 [.ref h, .int 2, .ref nm, .int r_, .int ne_, .int of_, .int fa_] G n u 2 11 (pI (fun r G' n' u' => nI N = r ∧ sub (hM Y h (N + 1) (npF σ N 2 r_ ne_ of_ fa_ na_) (ηP N n η)) G' ∧ G' n = some (.inr (13, [.int (nI N), .ref nm, .int r_, .int ne_, .int of_])) ∧ (∃ τ' q' v, TMI (KS Y) Y (h + 7) none I τ' q' (mput X nm (some v) M) ∧ sub (TZ (h + 7) τ') G' ∧ (∀ a, TD (h + 7) τ' a → (hD h a ∨ TD (h + 7) τ a) ∨ n ≤ a)) ∧ FR (fun a => hD h a ∨ TD (h + 7) τ a) n G G' ∧ n' = n + 2 ∧ u' = u + 11)) noX := by
  refine GM.intro (own := RX2) rfl (by decide +kernel) (Nat.le_of_ble_eq_true rfl) ?_
  intro p e s m args below meth c R Q hC hr hnm hF hL hE
  have hE1 := hE.1
  have hE2 := hE.2.1
  have hnz : yz Y ≤ n := by have := hC.z; have := hC.n; omega
  show V Y p l e R s m args below meth c 7 n u G n u Q 0 [(0, .ref h), (1, .int 2), (2, .ref nm), (3, .int r_), (4, .int ne_), (5, .int of_), (6, .int fa_)] []
  refine V.lts (fun hlt => ?_)
  have hIn := sub_none hI hlt
  have hl_h6 : h + 6 < n := hlt _ _ (hh _ _ (hM_j 6))
  have hl_h7 : h + 7 < n := hlt _ _ (hps _ _ (TZ_h hT.2.2.2.1))
  have x0 : G h = some (.inr (2, [.int (nI N), .int (nI K), .int (σ.1 2 0), .int (σ.1 3 0), .ref (h + 1), .ref (h + 2), .ref (h + 3), .ref (h + 4), .ref (h + 5), .ref (h + 6), .ref (h + 7)])) := hh _ _ (hM_0 hN hK)
  have x1 : G (h + 1) = some (.inl (yA Y 6, 12, .inr (.inr (.inr (.inr (η.2 0)))))) := hh _ _ (hM_j 1)
  have x6 : G (h + 6) = some (.inl (yA Y 7, 24, .inr (.inr (.inr (.inr (η.2 1)))))) := hh _ _ (hM_j 6)
  have x2 : G (h + 2) = some (.inl (yA Y 0, 12, .inl (hA N 0 σ η.1))) := hh _ _ (hM_j 2)
  have x3 : G (h + 3) = some (.inl (yA Y 0, 12, .inl (hA N 5 σ η.1))) := hh _ _ (hM_j 3)
  have x4 : G (h + 4) = some (.inl (yA Y 0, 12, .inl (hA N 8 σ η.1))) := hh _ _ (hM_j 4)
  have x5 : G (h + 5) = some (.inl (yA Y 0, 12, .inl (hA N 7 σ η.1))) := hh _ _ (hM_j 5)
  have hTf : ∀ a, TD (h + 7) τ a → (hD h a ∨ TD (h + 7) τ a) ∨ n ≤ a := fun a q => .inl (.inr q)
  refine g_aload_n hC dX2_add_0 rfl 0 rfl ?_
  refine g_get (v := .ref (h + 1)) hC kc_X2 x0 4 (by decide) q262 rfl dX2_add_1 ?_
  refine g_aload_n hC dX2_add_4 rfl 0 rfl ?_
  refine g_get (v := .int (nI N)) hC kc_X2 x0 0 (by decide) q251 rfl dX2_add_5 ?_
  refine g_iload_n hC dX2_add_8 rfl 1 rfl ?_
  refine g_aload_n hC dX2_add_9 rfl 0 rfl ?_
  refine g_get (v := .int (nI N)) hC kc_X2 x0 0 (by decide) q251 rfl dX2_add_10 ?_
  refine g_aload_n hC dX2_add_13 rfl 2 rfl ?_
  refine g_iload_n hC dX2_add_14 rfl 3 rfl ?_
  refine g_iload hC dX2_add_15 4 rfl ?_
  refine g_iload hC dX2_add_17 5 rfl ?_
  refine V.lts (fun lc_1 => ?_)
  refine g_callq0 hC (g_runS hC (met_X0_ofKind_2 (G := G) N nm r_ ne_ of_) (lw_S q1405 q1406 q81 q1407) md_X0_ofKind dX2_add_19 rfl ⟨by omega, by omega⟩ (by omega) (by omega) rfl (Nat.le_of_ble_eq_true rfl)) (fun r_2 G_2 n_2 u_2 hp_2 hn_2 hm_2 hu_2 => ?_)
  obtain ⟨rfl, ho_2, hf_2, rfl, rfl⟩ := hp_2
  have o_3 : G_2 h = some (.inr (2, [.int (nI N), .int (nI K), .int (σ.1 2 0), .int (σ.1 3 0), .ref (h + 1), .ref (h + 2), .ref (h + 3), .ref (h + 4), .ref (h + 5), .ref (h + 6), .ref (h + 7)])) := (hf_2 _ (lc_1 _ _ x0) (fun q => q)).trans x0
  have a_4 : G_2 (h + 1) = some (.inl (yA Y 6, 12, .inr (.inr (.inr (.inr (η.2 0)))))) := (hf_2 _ (lc_1 _ _ x1) (fun q => q)).trans x1
  have a_5 : G_2 (h + 6) = some (.inl (yA Y 7, 24, .inr (.inr (.inr (.inr (η.2 1)))))) := (hf_2 _ (lc_1 _ _ x6) (fun q => q)).trans x6
  have a_6 : G_2 (h + 2) = some (.inl (yA Y 0, 12, .inl (hA N 0 σ η.1))) := (hf_2 _ (lc_1 _ _ x2) (fun q => q)).trans x2
  have a_7 : G_2 (h + 3) = some (.inl (yA Y 0, 12, .inl (hA N 5 σ η.1))) := (hf_2 _ (lc_1 _ _ x3) (fun q => q)).trans x3
  have a_8 : G_2 (h + 4) = some (.inl (yA Y 0, 12, .inl (hA N 8 σ η.1))) := (hf_2 _ (lc_1 _ _ x4) (fun q => q)).trans x4
  have a_9 : G_2 (h + 5) = some (.inl (yA Y 0, 12, .inl (hA N 7 σ η.1))) := (hf_2 _ (lc_1 _ _ x5) (fun q => q)).trans x5
  have hi_10 : sub I G_2 := hf_2.subs hI lc_1 (fun a q => False.elim q)
  have hx_11 : sub (TZ (h + 7) τ) G_2 := hf_2.subs hps lc_1 (fun a q => False.elim q)
  have hf_12 : FR (fun a => hD h a ∨ TD (h + 7) τ a) n G G_2 := FR.refl.trans hf_2 (by omega) (fun a_ q_ => by first | exact .inl q_ | exact False.elim q_ | exact .inl (.inl q_) | exact .inl (.inr q_) | (subst q_; first | exact .inr (by omega) | exact .inl rfl))
  obtain ⟨G_13, eG_13⟩ : ∃ G_, gU G_2 (h + 1) (.inl (yA Y 6, 12, .inr (.inr (.inr (.inr (va_up (η.2 0) N (some n))))))) = G_ := ⟨_, rfl⟩
  have o_14 : G_13 h = some (.inr (2, [.int (nI N), .int (nI K), .int (σ.1 2 0), .int (σ.1 3 0), .ref (h + 1), .ref (h + 2), .ref (h + 3), .ref (h + 4), .ref (h + 5), .ref (h + 6), .ref (h + 7)])) := by rw [← eG_13]; exact (gU_n _ (by omega)).trans o_3
  have o_15 : G_13 n = some (.inr (13, [.int (nI N), .ref nm, .int r_, .int ne_, .int of_])) := by rw [← eG_13]; exact (gU_n _ (gne_oa ho_2 a_4)).trans ho_2
  have a_16 : G_13 (h + 6) = some (.inl (yA Y 7, 24, .inr (.inr (.inr (.inr (η.2 1)))))) := by rw [← eG_13]; exact (gU_n _ (by omega)).trans a_5
  have a_17 : G_13 (h + 2) = some (.inl (yA Y 0, 12, .inl (hA N 0 σ η.1))) := by rw [← eG_13]; exact (gU_n _ (by omega)).trans a_6
  have a_18 : G_13 (h + 3) = some (.inl (yA Y 0, 12, .inl (hA N 5 σ η.1))) := by rw [← eG_13]; exact (gU_n _ (by omega)).trans a_7
  have a_19 : G_13 (h + 4) = some (.inl (yA Y 0, 12, .inl (hA N 8 σ η.1))) := by rw [← eG_13]; exact (gU_n _ (by omega)).trans a_8
  have a_20 : G_13 (h + 5) = some (.inl (yA Y 0, 12, .inl (hA N 7 σ η.1))) := by rw [← eG_13]; exact (gU_n _ (by omega)).trans a_9
  have hi_21 : sub I G_13 := by rw [← eG_13]; exact sub_away hi_10 (hIh_h _ ⟨by omega, by omega⟩)
  have hx_22 : sub (TZ (h + 7) τ) G_13 := by rw [← eG_13]; exact sub_away hx_11 (TZ_noneA hx_11 a_4)
  have hf_23 : FR (fun a => hD h a ∨ TD (h + 7) τ a) n G G_13 := by rw [← eG_13]; exact FR.put hf_12 (.inl (.inl ⟨by omega, by omega⟩))
  refine g_aastG (t0 := 6) hC kc_X14 ho_2 a_4 rfl (asgY hC.K q4038) (vin (by omega) (by omega)) (by omega) (f' := (va_up (η.2 0) N (some n))) (by rw [nI_clamp (by omega)]) (G' := G_13) eG_13 dX2_add_22 ?_
  have a_24 : G_13 (h + 1) = some (.inl (yA Y 6, 12, .inr (.inr (.inr (.inr (va_up (η.2 0) N (some n))))))) := by rw [← eG_13]; exact gU_s _ _ _
  refine g_aload_n hC dX2_add_23 rfl 0 rfl ?_
  refine g_get (v := .ref (h + 2)) hC kc_X2 o_14 5 (by decide) q265 rfl dX2_add_24 ?_
  refine g_aload_n hC dX2_add_27 rfl 0 rfl ?_
  refine g_get (v := .int (nI N)) hC kc_X2 o_14 0 (by decide) q251 rfl dX2_add_28 ?_
  refine g_iconst (v := 0) hC dX2_add_31 rfl ?_
  obtain ⟨G_25, eG_25⟩ : ∃ G_, gU G_13 (h + 2) (.inl (yA Y 0, 12, .inl (upd (hA N 0 σ η.1) N 0))) = G_ := ⟨_, rfl⟩
  have o_26 : G_25 h = some (.inr (2, [.int (nI N), .int (nI K), .int (σ.1 2 0), .int (σ.1 3 0), .ref (h + 1), .ref (h + 2), .ref (h + 3), .ref (h + 4), .ref (h + 5), .ref (h + 6), .ref (h + 7)])) := by rw [← eG_25]; exact (gU_n _ (by omega)).trans o_14
  have o_27 : G_25 n = some (.inr (13, [.int (nI N), .ref nm, .int r_, .int ne_, .int of_])) := by rw [← eG_25]; exact (gU_n _ (gne_oa o_15 a_17)).trans o_15
  have a_28 : G_25 (h + 1) = some (.inl (yA Y 6, 12, .inr (.inr (.inr (.inr (va_up (η.2 0) N (some n))))))) := by rw [← eG_25]; exact (gU_n _ (by omega)).trans a_24
  have a_29 : G_25 (h + 6) = some (.inl (yA Y 7, 24, .inr (.inr (.inr (.inr (η.2 1)))))) := by rw [← eG_25]; exact (gU_n _ (by omega)).trans a_16
  have a_30 : G_25 (h + 3) = some (.inl (yA Y 0, 12, .inl (hA N 5 σ η.1))) := by rw [← eG_25]; exact (gU_n _ (by omega)).trans a_18
  have a_31 : G_25 (h + 4) = some (.inl (yA Y 0, 12, .inl (hA N 8 σ η.1))) := by rw [← eG_25]; exact (gU_n _ (by omega)).trans a_19
  have a_32 : G_25 (h + 5) = some (.inl (yA Y 0, 12, .inl (hA N 7 σ η.1))) := by rw [← eG_25]; exact (gU_n _ (by omega)).trans a_20
  have hi_33 : sub I G_25 := by rw [← eG_25]; exact sub_away hi_21 (hIh_h _ ⟨by omega, by omega⟩)
  have hx_34 : sub (TZ (h + 7) τ) G_25 := by rw [← eG_25]; exact sub_away hx_22 (TZ_noneA hx_22 a_17)
  have hf_35 : FR (fun a => hD h a ∨ TD (h + 7) τ a) n G G_25 := by rw [← eG_25]; exact FR.put hf_23 (.inl (.inl ⟨by omega, by omega⟩))
  refine g_iast hC a_17 (vin (by omega) (by omega)) (by omega) (f' := (upd (hA N 0 σ η.1) N 0)) (by rw [nI_clamp (by omega)]) (G' := G_25) eG_25 dX2_add_32 ?_
  have a_36 : G_25 (h + 2) = some (.inl (yA Y 0, 12, .inl (upd (hA N 0 σ η.1) N 0))) := by rw [← eG_25]; exact gU_s _ _ _
  refine g_aload_n hC dX2_add_33 rfl 0 rfl ?_
  refine g_get (v := .ref (h + 3)) hC kc_X2 o_26 6 (by decide) q268 rfl dX2_add_34 ?_
  refine g_aload_n hC dX2_add_37 rfl 0 rfl ?_
  refine g_get (v := .int (nI N)) hC kc_X2 o_26 0 (by decide) q251 rfl dX2_add_38 ?_
  refine g_iload hC dX2_add_41 6 rfl ?_
  obtain ⟨G_37, eG_37⟩ : ∃ G_, gU G_25 (h + 3) (.inl (yA Y 0, 12, .inl (upd (hA N 5 σ η.1) N fa_))) = G_ := ⟨_, rfl⟩
  have o_38 : G_37 h = some (.inr (2, [.int (nI N), .int (nI K), .int (σ.1 2 0), .int (σ.1 3 0), .ref (h + 1), .ref (h + 2), .ref (h + 3), .ref (h + 4), .ref (h + 5), .ref (h + 6), .ref (h + 7)])) := by rw [← eG_37]; exact (gU_n _ (by omega)).trans o_26
  have o_39 : G_37 n = some (.inr (13, [.int (nI N), .ref nm, .int r_, .int ne_, .int of_])) := by rw [← eG_37]; exact (gU_n _ (gne_oa o_27 a_30)).trans o_27
  have a_40 : G_37 (h + 1) = some (.inl (yA Y 6, 12, .inr (.inr (.inr (.inr (va_up (η.2 0) N (some n))))))) := by rw [← eG_37]; exact (gU_n _ (by omega)).trans a_28
  have a_41 : G_37 (h + 6) = some (.inl (yA Y 7, 24, .inr (.inr (.inr (.inr (η.2 1)))))) := by rw [← eG_37]; exact (gU_n _ (by omega)).trans a_29
  have a_42 : G_37 (h + 2) = some (.inl (yA Y 0, 12, .inl (upd (hA N 0 σ η.1) N 0))) := by rw [← eG_37]; exact (gU_n _ (by omega)).trans a_36
  have a_43 : G_37 (h + 4) = some (.inl (yA Y 0, 12, .inl (hA N 8 σ η.1))) := by rw [← eG_37]; exact (gU_n _ (by omega)).trans a_31
  have a_44 : G_37 (h + 5) = some (.inl (yA Y 0, 12, .inl (hA N 7 σ η.1))) := by rw [← eG_37]; exact (gU_n _ (by omega)).trans a_32
  have hi_45 : sub I G_37 := by rw [← eG_37]; exact sub_away hi_33 (hIh_h _ ⟨by omega, by omega⟩)
  have hx_46 : sub (TZ (h + 7) τ) G_37 := by rw [← eG_37]; exact sub_away hx_34 (TZ_noneA hx_34 a_30)
  have hf_47 : FR (fun a => hD h a ∨ TD (h + 7) τ a) n G G_37 := by rw [← eG_37]; exact FR.put hf_35 (.inl (.inl ⟨by omega, by omega⟩))
  refine g_iast hC a_30 (vin (by omega) (by omega)) (by omega) (f' := (upd (hA N 5 σ η.1) N fa_)) (by rw [nI_clamp (by omega)]) (G' := G_37) eG_37 dX2_add_43 ?_
  have a_48 : G_37 (h + 3) = some (.inl (yA Y 0, 12, .inl (upd (hA N 5 σ η.1) N fa_))) := by rw [← eG_37]; exact gU_s _ _ _
  refine g_aload_n hC dX2_add_44 rfl 0 rfl ?_
  refine g_get (v := .ref (h + 4)) hC kc_X2 o_38 7 (by decide) q271 rfl dX2_add_45 ?_
  refine g_aload_n hC dX2_add_48 rfl 0 rfl ?_
  refine g_get (v := .int (nI N)) hC kc_X2 o_38 0 (by decide) q251 rfl dX2_add_49 ?_
  refine g_iconst (v := 0) hC dX2_add_52 rfl ?_
  obtain ⟨G_49, eG_49⟩ : ∃ G_, gU G_37 (h + 4) (.inl (yA Y 0, 12, .inl (upd (hA N 8 σ η.1) N 0))) = G_ := ⟨_, rfl⟩
  have o_50 : G_49 h = some (.inr (2, [.int (nI N), .int (nI K), .int (σ.1 2 0), .int (σ.1 3 0), .ref (h + 1), .ref (h + 2), .ref (h + 3), .ref (h + 4), .ref (h + 5), .ref (h + 6), .ref (h + 7)])) := by rw [← eG_49]; exact (gU_n _ (by omega)).trans o_38
  have o_51 : G_49 n = some (.inr (13, [.int (nI N), .ref nm, .int r_, .int ne_, .int of_])) := by rw [← eG_49]; exact (gU_n _ (gne_oa o_39 a_43)).trans o_39
  have a_52 : G_49 (h + 1) = some (.inl (yA Y 6, 12, .inr (.inr (.inr (.inr (va_up (η.2 0) N (some n))))))) := by rw [← eG_49]; exact (gU_n _ (by omega)).trans a_40
  have a_53 : G_49 (h + 6) = some (.inl (yA Y 7, 24, .inr (.inr (.inr (.inr (η.2 1)))))) := by rw [← eG_49]; exact (gU_n _ (by omega)).trans a_41
  have a_54 : G_49 (h + 2) = some (.inl (yA Y 0, 12, .inl (upd (hA N 0 σ η.1) N 0))) := by rw [← eG_49]; exact (gU_n _ (by omega)).trans a_42
  have a_55 : G_49 (h + 3) = some (.inl (yA Y 0, 12, .inl (upd (hA N 5 σ η.1) N fa_))) := by rw [← eG_49]; exact (gU_n _ (by omega)).trans a_48
  have a_56 : G_49 (h + 5) = some (.inl (yA Y 0, 12, .inl (hA N 7 σ η.1))) := by rw [← eG_49]; exact (gU_n _ (by omega)).trans a_44
  have hi_57 : sub I G_49 := by rw [← eG_49]; exact sub_away hi_45 (hIh_h _ ⟨by omega, by omega⟩)
  have hx_58 : sub (TZ (h + 7) τ) G_49 := by rw [← eG_49]; exact sub_away hx_46 (TZ_noneA hx_46 a_43)
  have hf_59 : FR (fun a => hD h a ∨ TD (h + 7) τ a) n G G_49 := by rw [← eG_49]; exact FR.put hf_47 (.inl (.inl ⟨by omega, by omega⟩))
  refine g_iast hC a_43 (vin (by omega) (by omega)) (by omega) (f' := (upd (hA N 8 σ η.1) N 0)) (by rw [nI_clamp (by omega)]) (G' := G_49) eG_49 dX2_add_53 ?_
  have a_60 : G_49 (h + 4) = some (.inl (yA Y 0, 12, .inl (upd (hA N 8 σ η.1) N 0))) := by rw [← eG_49]; exact gU_s _ _ _
  refine g_aload_n hC dX2_add_54 rfl 0 rfl ?_
  refine g_get (v := .ref (h + 7)) hC kc_X2 o_50 10 (by decide) q282 rfl dX2_add_55 ?_
  refine g_aload_n hC dX2_add_58 rfl 2 rfl ?_
  refine g_aload_n hC dX2_add_59 rfl 0 rfl ?_
  refine g_get (v := .int (nI N)) hC kc_X2 o_50 0 (by decide) q251 rfl dX2_add_60 ?_
  refine V.lts (fun lc_61 => ?_)
  refine g_callq0 hC (g_runS hC (met_J12_valueOf (G := G_49) (nI N) ((hIo).trans hi_57)) (lw_S q1486 q1487 q106 q1488) md_J12_valueOf dX2_add_63 rfl ⟨by omega, by omega⟩ (by omega) (by omega) rfl (Nat.le_of_ble_eq_true rfl)) (fun r_62 G_62 n_62 u_62 hp_62 hn_62 hm_62 hu_62 => ?_)
  obtain ⟨bx_62, rfl, ho_62, hf_62, hq_62, hv_62, hsm_62⟩ := hp_62
  obtain ⟨rfl, rfl, rfl, hob_62'⟩ := hsm_62 N (by omega) rfl
  have hob_62 := ((hIo).trans hi_57) _ _ hob_62'
  refine V.lts (fun lc_63 => ?_)
  refine g_callq0 hC (g_runV hC (mp_putS (G := G_49) hT hx_58 hi_57 (by omega) lc_63 nm bx_62 X hkX hX (by unfold ZL; omega) (by unfold ZH; omega)) kc_J1 (hx_58 _ _ (TZ_h hT.2.2.2.1)) (lw_V q1505 q1506 q1507 q85 q1508) rfl md_J1_put dX2_add_66 rfl ⟨by omega, by omega⟩ (by omega) (by omega) rfl (Nat.le_of_ble_eq_true rfl)) (fun r_64 G_64 n_64 u_64 hp_64 hn_64 hm_64 hu_64 => ?_)
  obtain ⟨rfl, τ_64, q_64, hT_64, hps_64, hf_64, hD_64, rfl, rfl⟩ := hp_64
  have o_65 : G_64 h = some (.inr (2, [.int (nI N), .int (nI K), .int (σ.1 2 0), .int (σ.1 3 0), .ref (h + 1), .ref (h + 2), .ref (h + 3), .ref (h + 4), .ref (h + 5), .ref (h + 6), .ref (h + 7)])) := (hf_64 _ (lc_63 _ _ o_50) (TZ_out hT.2.2.2.1 hT.1.1 hx_58 o_50 (by decide) (by decide))).trans o_50
  have o_66 : G_64 n = some (.inr (13, [.int (nI N), .ref nm, .int r_, .int ne_, .int of_])) := (hf_64 _ (lc_63 _ _ o_51) (TZ_out hT.2.2.2.1 hT.1.1 hx_58 o_51 (by decide) (by decide))).trans o_51
  have o_67 : G_64 bx_62 = some (.inr (40, [.int (nI N)])) := (hf_64 _ (lc_63 _ _ hob_62) (TZ_out hT.2.2.2.1 hT.1.1 hx_58 hob_62 (by decide) (by decide))).trans hob_62
  have a_68 : G_64 (h + 1) = some (.inl (yA Y 6, 12, .inr (.inr (.inr (.inr (va_up (η.2 0) N (some n))))))) := (hf_64 _ (lc_63 _ _ a_52) (TZ_outA hT.2.2.2.1 hT.1.1 hx_58 a_52)).trans a_52
  have a_69 : G_64 (h + 6) = some (.inl (yA Y 7, 24, .inr (.inr (.inr (.inr (η.2 1)))))) := (hf_64 _ (lc_63 _ _ a_53) (TZ_outA hT.2.2.2.1 hT.1.1 hx_58 a_53)).trans a_53
  have a_70 : G_64 (h + 2) = some (.inl (yA Y 0, 12, .inl (upd (hA N 0 σ η.1) N 0))) := (hf_64 _ (lc_63 _ _ a_54) (TZ_outA hT.2.2.2.1 hT.1.1 hx_58 a_54)).trans a_54
  have a_71 : G_64 (h + 3) = some (.inl (yA Y 0, 12, .inl (upd (hA N 5 σ η.1) N fa_))) := (hf_64 _ (lc_63 _ _ a_55) (TZ_outA hT.2.2.2.1 hT.1.1 hx_58 a_55)).trans a_55
  have a_72 : G_64 (h + 4) = some (.inl (yA Y 0, 12, .inl (upd (hA N 8 σ η.1) N 0))) := (hf_64 _ (lc_63 _ _ a_60) (TZ_outA hT.2.2.2.1 hT.1.1 hx_58 a_60)).trans a_60
  have a_73 : G_64 (h + 5) = some (.inl (yA Y 0, 12, .inl (hA N 7 σ η.1))) := (hf_64 _ (lc_63 _ _ a_56) (TZ_outA hT.2.2.2.1 hT.1.1 hx_58 a_56)).trans a_56
  have hi_74 : sub I G_64 := hf_64.subs hi_57 lc_63 (fun a q => hT.2.2.2.2.2 a q)
  have hf_75 : FR (fun a => hD h a ∨ TD (h + 7) τ a) n G G_64 := hf_59.trans hf_64 (by omega) (fun a_ q_ => hTf a_ q_)
  have hTn_76 : ∀ a, TD (h + 7) τ_64 a → (fun a => hD h a ∨ TD (h + 7) τ a) a ∨ n ≤ a := fun a q => (hD_64 a q).elim (hTf a) (fun e => .inr (by omega))
  refine g_pop hC dX2_add_69 rfl ?_
  refine g_aload_n hC dX2_add_70 rfl 0 rfl ?_
  refine g_dup hC dX2_add_71 rfl ?_
  refine g_get (v := .int (nI N)) hC kc_X2 o_65 0 (by decide) q251 rfl dX2_add_72 ?_
  refine g_dup_x1 hC dX2_add_75 rfl rfl ?_
  refine g_iconst (v := 1) hC dX2_add_76 rfl ?_
  refine g_iaddN hC N 1 dX2_add_77 ?_
  obtain ⟨G_77, eG_77⟩ : ∃ G_, gU G_64 h (.inr (2, [.int (nI (N + 1)), .int (nI K), .int (σ.1 2 0), .int (σ.1 3 0), .ref (h + 1), .ref (h + 2), .ref (h + 3), .ref (h + 4), .ref (h + 5), .ref (h + 6), .ref (h + 7)])) = G_ := ⟨_, rfl⟩
  have o_78 : G_77 n = some (.inr (13, [.int (nI N), .ref nm, .int r_, .int ne_, .int of_])) := by rw [← eG_77]; exact (gU_n _ (gne_c o_66 o_65 (by decide))).trans o_66
  have o_79 : G_77 bx_62 = some (.inr (40, [.int (nI N)])) := by rw [← eG_77]; exact (gU_n _ (gne_c o_67 o_65 (by decide))).trans o_67
  have a_80 : G_77 (h + 1) = some (.inl (yA Y 6, 12, .inr (.inr (.inr (.inr (va_up (η.2 0) N (some n))))))) := by rw [← eG_77]; exact (gU_n _ (by omega)).trans a_68
  have a_81 : G_77 (h + 6) = some (.inl (yA Y 7, 24, .inr (.inr (.inr (.inr (η.2 1)))))) := by rw [← eG_77]; exact (gU_n _ (by omega)).trans a_69
  have a_82 : G_77 (h + 2) = some (.inl (yA Y 0, 12, .inl (upd (hA N 0 σ η.1) N 0))) := by rw [← eG_77]; exact (gU_n _ (by omega)).trans a_70
  have a_83 : G_77 (h + 3) = some (.inl (yA Y 0, 12, .inl (upd (hA N 5 σ η.1) N fa_))) := by rw [← eG_77]; exact (gU_n _ (by omega)).trans a_71
  have a_84 : G_77 (h + 4) = some (.inl (yA Y 0, 12, .inl (upd (hA N 8 σ η.1) N 0))) := by rw [← eG_77]; exact (gU_n _ (by omega)).trans a_72
  have a_85 : G_77 (h + 5) = some (.inl (yA Y 0, 12, .inl (hA N 7 σ η.1))) := by rw [← eG_77]; exact (gU_n _ (by omega)).trans a_73
  have hi_86 : sub I G_77 := by rw [← eG_77]; exact sub_away hi_74 (hIh_h _ ⟨by omega, by omega⟩)
  have hx_87 : sub (TZ (h + 7) τ_64) G_77 := by rw [← eG_77]; exact sub_away hps_64 (TZ_none hT_64.2.2.2.1 hT_64.1.1 hps_64 o_65 (by decide) (by decide) (by decide))
  have hf_88 : FR (fun a => hD h a ∨ TD (h + 7) τ a) n G G_77 := by rw [← eG_77]; exact FR.put hf_75 (.inl (.inl ⟨by omega, by omega⟩))
  refine g_put hC kc_X2 o_65 0 (by decide) q251 rfl rfl rfl (by show 0 < 11; decide) rfl (by omega) (G' := G_77) eG_77 dX2_add_78 ?_
  have o_89 : G_77 h = some (.inr (2, [.int (nI (N + 1)), .int (nI K), .int (σ.1 2 0), .int (σ.1 3 0), .ref (h + 1), .ref (h + 2), .ref (h + 3), .ref (h + 4), .ref (h + 5), .ref (h + 6), .ref (h + 7)])) := by rw [← eG_77]; exact gU_s _ _ _
  refine g_iret hC hr rfl ⟨_, rfl, ?_⟩ (by omega) (by omega) hE dX2_add_81
  exact ⟨rfl, hM_P (by omega) hK h7 o_89 a_80 a_82 a_83 a_84 a_85 a_81, o_78, ⟨_, _, _, hT_64, hx_87, hTn_76⟩, hf_88, by omega, by omega⟩
set_option maxHeartbeats 1000000 in
theorem met_X2_add_3 {Y : YT} {l : Launch} {n u : Nat} {G : AH} (h : Nat) (nm : Nat) (r_ : Int32) (ne_ : Int32) (of_ : Int32) (fa_ : Int32) {N K : Nat} {σ : MS} {η : HV} {I : AH} {τ : TS} {q : TQ} {M : MP} (X : Int) (na_ : Int32) (hh : sub (hM Y h N σ η) G) (hN : σ.1 0 0 = nI N) (hK : σ.1 4 0 = nI K) (hN12 : N < 12) (h7 : η.1 7 N = 0) (hI : sub I G) (hIh_h : ∀ a, hD h a → I a = none) (hIo : sub (oM Y) I) (hT : TMI (KS Y) Y (h + 7) none I τ q M) (hps : sub (TZ (h + 7) τ) G) (hzh : yz Y ≤ h) (hkX : KS Y I nm X) (hX : ∀ e, e ∈ M → e.1 ≠ X) (hX1 : 0 ≤ X ∧ X < 1000000) : GM Y l yX2_add (ws_ yX2_add cX2_add 7 (some FieldType.int)) 9 211 [.ref h, .int 3, .ref nm, .int r_, .int ne_, .int of_, .int fa_] G n u 2 11 (pI (fun r G' n' u' => nI N = r ∧ sub (hM Y h (N + 1) (npF σ N 3 r_ ne_ of_ fa_ na_) (ηP N n η)) G' ∧ G' n = some (.inr (14, [.int (nI N), .ref nm, .int r_, .int ne_, .int of_])) ∧ (∃ τ' q' v, TMI (KS Y) Y (h + 7) none I τ' q' (mput X nm (some v) M) ∧ sub (TZ (h + 7) τ') G' ∧ (∀ a, TD (h + 7) τ' a → (hD h a ∨ TD (h + 7) τ a) ∨ n ≤ a)) ∧ FR (fun a => hD h a ∨ TD (h + 7) τ a) n G G' ∧ n' = n + 2 ∧ u' = u + 11)) noX := by
  refine GM.intro (own := RX2) rfl (by decide +kernel) (Nat.le_of_ble_eq_true rfl) ?_
  intro p e s m args below meth c R Q hC hr hnm hF hL hE
  have hE1 := hE.1
  have hE2 := hE.2.1
  have hnz : yz Y ≤ n := by have := hC.z; have := hC.n; omega
  show V Y p l e R s m args below meth c 7 n u G n u Q 0 [(0, .ref h), (1, .int 3), (2, .ref nm), (3, .int r_), (4, .int ne_), (5, .int of_), (6, .int fa_)] []
  refine V.lts (fun hlt => ?_)
  have hIn := sub_none hI hlt
  have hl_h6 : h + 6 < n := hlt _ _ (hh _ _ (hM_j 6))
  have hl_h7 : h + 7 < n := hlt _ _ (hps _ _ (TZ_h hT.2.2.2.1))
  have x0 : G h = some (.inr (2, [.int (nI N), .int (nI K), .int (σ.1 2 0), .int (σ.1 3 0), .ref (h + 1), .ref (h + 2), .ref (h + 3), .ref (h + 4), .ref (h + 5), .ref (h + 6), .ref (h + 7)])) := hh _ _ (hM_0 hN hK)
  have x1 : G (h + 1) = some (.inl (yA Y 6, 12, .inr (.inr (.inr (.inr (η.2 0)))))) := hh _ _ (hM_j 1)
  have x6 : G (h + 6) = some (.inl (yA Y 7, 24, .inr (.inr (.inr (.inr (η.2 1)))))) := hh _ _ (hM_j 6)
  have x2 : G (h + 2) = some (.inl (yA Y 0, 12, .inl (hA N 0 σ η.1))) := hh _ _ (hM_j 2)
  have x3 : G (h + 3) = some (.inl (yA Y 0, 12, .inl (hA N 5 σ η.1))) := hh _ _ (hM_j 3)
  have x4 : G (h + 4) = some (.inl (yA Y 0, 12, .inl (hA N 8 σ η.1))) := hh _ _ (hM_j 4)
  have x5 : G (h + 5) = some (.inl (yA Y 0, 12, .inl (hA N 7 σ η.1))) := hh _ _ (hM_j 5)
  have hTf : ∀ a, TD (h + 7) τ a → (hD h a ∨ TD (h + 7) τ a) ∨ n ≤ a := fun a q => .inl (.inr q)
  refine g_aload_n hC dX2_add_0 rfl 0 rfl ?_
  refine g_get (v := .ref (h + 1)) hC kc_X2 x0 4 (by decide) q262 rfl dX2_add_1 ?_
  refine g_aload_n hC dX2_add_4 rfl 0 rfl ?_
  refine g_get (v := .int (nI N)) hC kc_X2 x0 0 (by decide) q251 rfl dX2_add_5 ?_
  refine g_iload_n hC dX2_add_8 rfl 1 rfl ?_
  refine g_aload_n hC dX2_add_9 rfl 0 rfl ?_
  refine g_get (v := .int (nI N)) hC kc_X2 x0 0 (by decide) q251 rfl dX2_add_10 ?_
  refine g_aload_n hC dX2_add_13 rfl 2 rfl ?_
  refine g_iload_n hC dX2_add_14 rfl 3 rfl ?_
  refine g_iload hC dX2_add_15 4 rfl ?_
  refine g_iload hC dX2_add_17 5 rfl ?_
  refine V.lts (fun lc_1 => ?_)
  refine g_callq0 hC (g_runS hC (met_X0_ofKind_3 (G := G) N nm r_ ne_ of_) (lw_S q1405 q1406 q81 q1407) md_X0_ofKind dX2_add_19 rfl ⟨by omega, by omega⟩ (by omega) (by omega) rfl (Nat.le_of_ble_eq_true rfl)) (fun r_2 G_2 n_2 u_2 hp_2 hn_2 hm_2 hu_2 => ?_)
  obtain ⟨rfl, ho_2, hf_2, rfl, rfl⟩ := hp_2
  have o_3 : G_2 h = some (.inr (2, [.int (nI N), .int (nI K), .int (σ.1 2 0), .int (σ.1 3 0), .ref (h + 1), .ref (h + 2), .ref (h + 3), .ref (h + 4), .ref (h + 5), .ref (h + 6), .ref (h + 7)])) := (hf_2 _ (lc_1 _ _ x0) (fun q => q)).trans x0
  have a_4 : G_2 (h + 1) = some (.inl (yA Y 6, 12, .inr (.inr (.inr (.inr (η.2 0)))))) := (hf_2 _ (lc_1 _ _ x1) (fun q => q)).trans x1
  have a_5 : G_2 (h + 6) = some (.inl (yA Y 7, 24, .inr (.inr (.inr (.inr (η.2 1)))))) := (hf_2 _ (lc_1 _ _ x6) (fun q => q)).trans x6
  have a_6 : G_2 (h + 2) = some (.inl (yA Y 0, 12, .inl (hA N 0 σ η.1))) := (hf_2 _ (lc_1 _ _ x2) (fun q => q)).trans x2
  have a_7 : G_2 (h + 3) = some (.inl (yA Y 0, 12, .inl (hA N 5 σ η.1))) := (hf_2 _ (lc_1 _ _ x3) (fun q => q)).trans x3
  have a_8 : G_2 (h + 4) = some (.inl (yA Y 0, 12, .inl (hA N 8 σ η.1))) := (hf_2 _ (lc_1 _ _ x4) (fun q => q)).trans x4
  have a_9 : G_2 (h + 5) = some (.inl (yA Y 0, 12, .inl (hA N 7 σ η.1))) := (hf_2 _ (lc_1 _ _ x5) (fun q => q)).trans x5
  have hi_10 : sub I G_2 := hf_2.subs hI lc_1 (fun a q => False.elim q)
  have hx_11 : sub (TZ (h + 7) τ) G_2 := hf_2.subs hps lc_1 (fun a q => False.elim q)
  have hf_12 : FR (fun a => hD h a ∨ TD (h + 7) τ a) n G G_2 := FR.refl.trans hf_2 (by omega) (fun a_ q_ => by first | exact .inl q_ | exact False.elim q_ | exact .inl (.inl q_) | exact .inl (.inr q_) | (subst q_; first | exact .inr (by omega) | exact .inl rfl))
  obtain ⟨G_13, eG_13⟩ : ∃ G_, gU G_2 (h + 1) (.inl (yA Y 6, 12, .inr (.inr (.inr (.inr (va_up (η.2 0) N (some n))))))) = G_ := ⟨_, rfl⟩
  have o_14 : G_13 h = some (.inr (2, [.int (nI N), .int (nI K), .int (σ.1 2 0), .int (σ.1 3 0), .ref (h + 1), .ref (h + 2), .ref (h + 3), .ref (h + 4), .ref (h + 5), .ref (h + 6), .ref (h + 7)])) := by rw [← eG_13]; exact (gU_n _ (by omega)).trans o_3
  have o_15 : G_13 n = some (.inr (14, [.int (nI N), .ref nm, .int r_, .int ne_, .int of_])) := by rw [← eG_13]; exact (gU_n _ (gne_oa ho_2 a_4)).trans ho_2
  have a_16 : G_13 (h + 6) = some (.inl (yA Y 7, 24, .inr (.inr (.inr (.inr (η.2 1)))))) := by rw [← eG_13]; exact (gU_n _ (by omega)).trans a_5
  have a_17 : G_13 (h + 2) = some (.inl (yA Y 0, 12, .inl (hA N 0 σ η.1))) := by rw [← eG_13]; exact (gU_n _ (by omega)).trans a_6
  have a_18 : G_13 (h + 3) = some (.inl (yA Y 0, 12, .inl (hA N 5 σ η.1))) := by rw [← eG_13]; exact (gU_n _ (by omega)).trans a_7
  have a_19 : G_13 (h + 4) = some (.inl (yA Y 0, 12, .inl (hA N 8 σ η.1))) := by rw [← eG_13]; exact (gU_n _ (by omega)).trans a_8
  have a_20 : G_13 (h + 5) = some (.inl (yA Y 0, 12, .inl (hA N 7 σ η.1))) := by rw [← eG_13]; exact (gU_n _ (by omega)).trans a_9
  have hi_21 : sub I G_13 := by rw [← eG_13]; exact sub_away hi_10 (hIh_h _ ⟨by omega, by omega⟩)
  have hx_22 : sub (TZ (h + 7) τ) G_13 := by rw [← eG_13]; exact sub_away hx_11 (TZ_noneA hx_11 a_4)
  have hf_23 : FR (fun a => hD h a ∨ TD (h + 7) τ a) n G G_13 := by rw [← eG_13]; exact FR.put hf_12 (.inl (.inl ⟨by omega, by omega⟩))
  refine g_aastG (t0 := 6) hC kc_X15 ho_2 a_4 rfl (asgY hC.K q4036) (vin (by omega) (by omega)) (by omega) (f' := (va_up (η.2 0) N (some n))) (by rw [nI_clamp (by omega)]) (G' := G_13) eG_13 dX2_add_22 ?_
  have a_24 : G_13 (h + 1) = some (.inl (yA Y 6, 12, .inr (.inr (.inr (.inr (va_up (η.2 0) N (some n))))))) := by rw [← eG_13]; exact gU_s _ _ _
  refine g_aload_n hC dX2_add_23 rfl 0 rfl ?_
  refine g_get (v := .ref (h + 2)) hC kc_X2 o_14 5 (by decide) q265 rfl dX2_add_24 ?_
  refine g_aload_n hC dX2_add_27 rfl 0 rfl ?_
  refine g_get (v := .int (nI N)) hC kc_X2 o_14 0 (by decide) q251 rfl dX2_add_28 ?_
  refine g_iconst (v := 0) hC dX2_add_31 rfl ?_
  obtain ⟨G_25, eG_25⟩ : ∃ G_, gU G_13 (h + 2) (.inl (yA Y 0, 12, .inl (upd (hA N 0 σ η.1) N 0))) = G_ := ⟨_, rfl⟩
  have o_26 : G_25 h = some (.inr (2, [.int (nI N), .int (nI K), .int (σ.1 2 0), .int (σ.1 3 0), .ref (h + 1), .ref (h + 2), .ref (h + 3), .ref (h + 4), .ref (h + 5), .ref (h + 6), .ref (h + 7)])) := by rw [← eG_25]; exact (gU_n _ (by omega)).trans o_14
  have o_27 : G_25 n = some (.inr (14, [.int (nI N), .ref nm, .int r_, .int ne_, .int of_])) := by rw [← eG_25]; exact (gU_n _ (gne_oa o_15 a_17)).trans o_15
  have a_28 : G_25 (h + 1) = some (.inl (yA Y 6, 12, .inr (.inr (.inr (.inr (va_up (η.2 0) N (some n))))))) := by rw [← eG_25]; exact (gU_n _ (by omega)).trans a_24
  have a_29 : G_25 (h + 6) = some (.inl (yA Y 7, 24, .inr (.inr (.inr (.inr (η.2 1)))))) := by rw [← eG_25]; exact (gU_n _ (by omega)).trans a_16
  have a_30 : G_25 (h + 3) = some (.inl (yA Y 0, 12, .inl (hA N 5 σ η.1))) := by rw [← eG_25]; exact (gU_n _ (by omega)).trans a_18
  have a_31 : G_25 (h + 4) = some (.inl (yA Y 0, 12, .inl (hA N 8 σ η.1))) := by rw [← eG_25]; exact (gU_n _ (by omega)).trans a_19
  have a_32 : G_25 (h + 5) = some (.inl (yA Y 0, 12, .inl (hA N 7 σ η.1))) := by rw [← eG_25]; exact (gU_n _ (by omega)).trans a_20
  have hi_33 : sub I G_25 := by rw [← eG_25]; exact sub_away hi_21 (hIh_h _ ⟨by omega, by omega⟩)
  have hx_34 : sub (TZ (h + 7) τ) G_25 := by rw [← eG_25]; exact sub_away hx_22 (TZ_noneA hx_22 a_17)
  have hf_35 : FR (fun a => hD h a ∨ TD (h + 7) τ a) n G G_25 := by rw [← eG_25]; exact FR.put hf_23 (.inl (.inl ⟨by omega, by omega⟩))
  refine g_iast hC a_17 (vin (by omega) (by omega)) (by omega) (f' := (upd (hA N 0 σ η.1) N 0)) (by rw [nI_clamp (by omega)]) (G' := G_25) eG_25 dX2_add_32 ?_
  have a_36 : G_25 (h + 2) = some (.inl (yA Y 0, 12, .inl (upd (hA N 0 σ η.1) N 0))) := by rw [← eG_25]; exact gU_s _ _ _
  refine g_aload_n hC dX2_add_33 rfl 0 rfl ?_
  refine g_get (v := .ref (h + 3)) hC kc_X2 o_26 6 (by decide) q268 rfl dX2_add_34 ?_
  refine g_aload_n hC dX2_add_37 rfl 0 rfl ?_
  refine g_get (v := .int (nI N)) hC kc_X2 o_26 0 (by decide) q251 rfl dX2_add_38 ?_
  refine g_iload hC dX2_add_41 6 rfl ?_
  obtain ⟨G_37, eG_37⟩ : ∃ G_, gU G_25 (h + 3) (.inl (yA Y 0, 12, .inl (upd (hA N 5 σ η.1) N fa_))) = G_ := ⟨_, rfl⟩
  have o_38 : G_37 h = some (.inr (2, [.int (nI N), .int (nI K), .int (σ.1 2 0), .int (σ.1 3 0), .ref (h + 1), .ref (h + 2), .ref (h + 3), .ref (h + 4), .ref (h + 5), .ref (h + 6), .ref (h + 7)])) := by rw [← eG_37]; exact (gU_n _ (by omega)).trans o_26
  have o_39 : G_37 n = some (.inr (14, [.int (nI N), .ref nm, .int r_, .int ne_, .int of_])) := by rw [← eG_37]; exact (gU_n _ (gne_oa o_27 a_30)).trans o_27
  have a_40 : G_37 (h + 1) = some (.inl (yA Y 6, 12, .inr (.inr (.inr (.inr (va_up (η.2 0) N (some n))))))) := by rw [← eG_37]; exact (gU_n _ (by omega)).trans a_28
  have a_41 : G_37 (h + 6) = some (.inl (yA Y 7, 24, .inr (.inr (.inr (.inr (η.2 1)))))) := by rw [← eG_37]; exact (gU_n _ (by omega)).trans a_29
  have a_42 : G_37 (h + 2) = some (.inl (yA Y 0, 12, .inl (upd (hA N 0 σ η.1) N 0))) := by rw [← eG_37]; exact (gU_n _ (by omega)).trans a_36
  have a_43 : G_37 (h + 4) = some (.inl (yA Y 0, 12, .inl (hA N 8 σ η.1))) := by rw [← eG_37]; exact (gU_n _ (by omega)).trans a_31
  have a_44 : G_37 (h + 5) = some (.inl (yA Y 0, 12, .inl (hA N 7 σ η.1))) := by rw [← eG_37]; exact (gU_n _ (by omega)).trans a_32
  have hi_45 : sub I G_37 := by rw [← eG_37]; exact sub_away hi_33 (hIh_h _ ⟨by omega, by omega⟩)
  have hx_46 : sub (TZ (h + 7) τ) G_37 := by rw [← eG_37]; exact sub_away hx_34 (TZ_noneA hx_34 a_30)
  have hf_47 : FR (fun a => hD h a ∨ TD (h + 7) τ a) n G G_37 := by rw [← eG_37]; exact FR.put hf_35 (.inl (.inl ⟨by omega, by omega⟩))
  refine g_iast hC a_30 (vin (by omega) (by omega)) (by omega) (f' := (upd (hA N 5 σ η.1) N fa_)) (by rw [nI_clamp (by omega)]) (G' := G_37) eG_37 dX2_add_43 ?_
  have a_48 : G_37 (h + 3) = some (.inl (yA Y 0, 12, .inl (upd (hA N 5 σ η.1) N fa_))) := by rw [← eG_37]; exact gU_s _ _ _
  refine g_aload_n hC dX2_add_44 rfl 0 rfl ?_
  refine g_get (v := .ref (h + 4)) hC kc_X2 o_38 7 (by decide) q271 rfl dX2_add_45 ?_
  refine g_aload_n hC dX2_add_48 rfl 0 rfl ?_
  refine g_get (v := .int (nI N)) hC kc_X2 o_38 0 (by decide) q251 rfl dX2_add_49 ?_
  refine g_iconst (v := 0) hC dX2_add_52 rfl ?_
  obtain ⟨G_49, eG_49⟩ : ∃ G_, gU G_37 (h + 4) (.inl (yA Y 0, 12, .inl (upd (hA N 8 σ η.1) N 0))) = G_ := ⟨_, rfl⟩
  have o_50 : G_49 h = some (.inr (2, [.int (nI N), .int (nI K), .int (σ.1 2 0), .int (σ.1 3 0), .ref (h + 1), .ref (h + 2), .ref (h + 3), .ref (h + 4), .ref (h + 5), .ref (h + 6), .ref (h + 7)])) := by rw [← eG_49]; exact (gU_n _ (by omega)).trans o_38
  have o_51 : G_49 n = some (.inr (14, [.int (nI N), .ref nm, .int r_, .int ne_, .int of_])) := by rw [← eG_49]; exact (gU_n _ (gne_oa o_39 a_43)).trans o_39
  have a_52 : G_49 (h + 1) = some (.inl (yA Y 6, 12, .inr (.inr (.inr (.inr (va_up (η.2 0) N (some n))))))) := by rw [← eG_49]; exact (gU_n _ (by omega)).trans a_40
  have a_53 : G_49 (h + 6) = some (.inl (yA Y 7, 24, .inr (.inr (.inr (.inr (η.2 1)))))) := by rw [← eG_49]; exact (gU_n _ (by omega)).trans a_41
  have a_54 : G_49 (h + 2) = some (.inl (yA Y 0, 12, .inl (upd (hA N 0 σ η.1) N 0))) := by rw [← eG_49]; exact (gU_n _ (by omega)).trans a_42
  have a_55 : G_49 (h + 3) = some (.inl (yA Y 0, 12, .inl (upd (hA N 5 σ η.1) N fa_))) := by rw [← eG_49]; exact (gU_n _ (by omega)).trans a_48
  have a_56 : G_49 (h + 5) = some (.inl (yA Y 0, 12, .inl (hA N 7 σ η.1))) := by rw [← eG_49]; exact (gU_n _ (by omega)).trans a_44
  have hi_57 : sub I G_49 := by rw [← eG_49]; exact sub_away hi_45 (hIh_h _ ⟨by omega, by omega⟩)
  have hx_58 : sub (TZ (h + 7) τ) G_49 := by rw [← eG_49]; exact sub_away hx_46 (TZ_noneA hx_46 a_43)
  have hf_59 : FR (fun a => hD h a ∨ TD (h + 7) τ a) n G G_49 := by rw [← eG_49]; exact FR.put hf_47 (.inl (.inl ⟨by omega, by omega⟩))
  refine g_iast hC a_43 (vin (by omega) (by omega)) (by omega) (f' := (upd (hA N 8 σ η.1) N 0)) (by rw [nI_clamp (by omega)]) (G' := G_49) eG_49 dX2_add_53 ?_
  have a_60 : G_49 (h + 4) = some (.inl (yA Y 0, 12, .inl (upd (hA N 8 σ η.1) N 0))) := by rw [← eG_49]; exact gU_s _ _ _
  refine g_aload_n hC dX2_add_54 rfl 0 rfl ?_
  refine g_get (v := .ref (h + 7)) hC kc_X2 o_50 10 (by decide) q282 rfl dX2_add_55 ?_
  refine g_aload_n hC dX2_add_58 rfl 2 rfl ?_
  refine g_aload_n hC dX2_add_59 rfl 0 rfl ?_
  refine g_get (v := .int (nI N)) hC kc_X2 o_50 0 (by decide) q251 rfl dX2_add_60 ?_
  refine V.lts (fun lc_61 => ?_)
  refine g_callq0 hC (g_runS hC (met_J12_valueOf (G := G_49) (nI N) ((hIo).trans hi_57)) (lw_S q1486 q1487 q106 q1488) md_J12_valueOf dX2_add_63 rfl ⟨by omega, by omega⟩ (by omega) (by omega) rfl (Nat.le_of_ble_eq_true rfl)) (fun r_62 G_62 n_62 u_62 hp_62 hn_62 hm_62 hu_62 => ?_)
  obtain ⟨bx_62, rfl, ho_62, hf_62, hq_62, hv_62, hsm_62⟩ := hp_62
  obtain ⟨rfl, rfl, rfl, hob_62'⟩ := hsm_62 N (by omega) rfl
  have hob_62 := ((hIo).trans hi_57) _ _ hob_62'
  refine V.lts (fun lc_63 => ?_)
  refine g_callq0 hC (g_runV hC (mp_putS (G := G_49) hT hx_58 hi_57 (by omega) lc_63 nm bx_62 X hkX hX (by unfold ZL; omega) (by unfold ZH; omega)) kc_J1 (hx_58 _ _ (TZ_h hT.2.2.2.1)) (lw_V q1505 q1506 q1507 q85 q1508) rfl md_J1_put dX2_add_66 rfl ⟨by omega, by omega⟩ (by omega) (by omega) rfl (Nat.le_of_ble_eq_true rfl)) (fun r_64 G_64 n_64 u_64 hp_64 hn_64 hm_64 hu_64 => ?_)
  obtain ⟨rfl, τ_64, q_64, hT_64, hps_64, hf_64, hD_64, rfl, rfl⟩ := hp_64
  have o_65 : G_64 h = some (.inr (2, [.int (nI N), .int (nI K), .int (σ.1 2 0), .int (σ.1 3 0), .ref (h + 1), .ref (h + 2), .ref (h + 3), .ref (h + 4), .ref (h + 5), .ref (h + 6), .ref (h + 7)])) := (hf_64 _ (lc_63 _ _ o_50) (TZ_out hT.2.2.2.1 hT.1.1 hx_58 o_50 (by decide) (by decide))).trans o_50
  have o_66 : G_64 n = some (.inr (14, [.int (nI N), .ref nm, .int r_, .int ne_, .int of_])) := (hf_64 _ (lc_63 _ _ o_51) (TZ_out hT.2.2.2.1 hT.1.1 hx_58 o_51 (by decide) (by decide))).trans o_51
  have o_67 : G_64 bx_62 = some (.inr (40, [.int (nI N)])) := (hf_64 _ (lc_63 _ _ hob_62) (TZ_out hT.2.2.2.1 hT.1.1 hx_58 hob_62 (by decide) (by decide))).trans hob_62
  have a_68 : G_64 (h + 1) = some (.inl (yA Y 6, 12, .inr (.inr (.inr (.inr (va_up (η.2 0) N (some n))))))) := (hf_64 _ (lc_63 _ _ a_52) (TZ_outA hT.2.2.2.1 hT.1.1 hx_58 a_52)).trans a_52
  have a_69 : G_64 (h + 6) = some (.inl (yA Y 7, 24, .inr (.inr (.inr (.inr (η.2 1)))))) := (hf_64 _ (lc_63 _ _ a_53) (TZ_outA hT.2.2.2.1 hT.1.1 hx_58 a_53)).trans a_53
  have a_70 : G_64 (h + 2) = some (.inl (yA Y 0, 12, .inl (upd (hA N 0 σ η.1) N 0))) := (hf_64 _ (lc_63 _ _ a_54) (TZ_outA hT.2.2.2.1 hT.1.1 hx_58 a_54)).trans a_54
  have a_71 : G_64 (h + 3) = some (.inl (yA Y 0, 12, .inl (upd (hA N 5 σ η.1) N fa_))) := (hf_64 _ (lc_63 _ _ a_55) (TZ_outA hT.2.2.2.1 hT.1.1 hx_58 a_55)).trans a_55
  have a_72 : G_64 (h + 4) = some (.inl (yA Y 0, 12, .inl (upd (hA N 8 σ η.1) N 0))) := (hf_64 _ (lc_63 _ _ a_60) (TZ_outA hT.2.2.2.1 hT.1.1 hx_58 a_60)).trans a_60
  have a_73 : G_64 (h + 5) = some (.inl (yA Y 0, 12, .inl (hA N 7 σ η.1))) := (hf_64 _ (lc_63 _ _ a_56) (TZ_outA hT.2.2.2.1 hT.1.1 hx_58 a_56)).trans a_56
  have hi_74 : sub I G_64 := hf_64.subs hi_57 lc_63 (fun a q => hT.2.2.2.2.2 a q)
  have hf_75 : FR (fun a => hD h a ∨ TD (h + 7) τ a) n G G_64 := hf_59.trans hf_64 (by omega) (fun a_ q_ => hTf a_ q_)
  have hTn_76 : ∀ a, TD (h + 7) τ_64 a → (fun a => hD h a ∨ TD (h + 7) τ a) a ∨ n ≤ a := fun a q => (hD_64 a q).elim (hTf a) (fun e => .inr (by omega))
  refine g_pop hC dX2_add_69 rfl ?_
  refine g_aload_n hC dX2_add_70 rfl 0 rfl ?_
  refine g_dup hC dX2_add_71 rfl ?_
  refine g_get (v := .int (nI N)) hC kc_X2 o_65 0 (by decide) q251 rfl dX2_add_72 ?_
  refine g_dup_x1 hC dX2_add_75 rfl rfl ?_
  refine g_iconst (v := 1) hC dX2_add_76 rfl ?_
  refine g_iaddN hC N 1 dX2_add_77 ?_
  obtain ⟨G_77, eG_77⟩ : ∃ G_, gU G_64 h (.inr (2, [.int (nI (N + 1)), .int (nI K), .int (σ.1 2 0), .int (σ.1 3 0), .ref (h + 1), .ref (h + 2), .ref (h + 3), .ref (h + 4), .ref (h + 5), .ref (h + 6), .ref (h + 7)])) = G_ := ⟨_, rfl⟩
  have o_78 : G_77 n = some (.inr (14, [.int (nI N), .ref nm, .int r_, .int ne_, .int of_])) := by rw [← eG_77]; exact (gU_n _ (gne_c o_66 o_65 (by decide))).trans o_66
  have o_79 : G_77 bx_62 = some (.inr (40, [.int (nI N)])) := by rw [← eG_77]; exact (gU_n _ (gne_c o_67 o_65 (by decide))).trans o_67
  have a_80 : G_77 (h + 1) = some (.inl (yA Y 6, 12, .inr (.inr (.inr (.inr (va_up (η.2 0) N (some n))))))) := by rw [← eG_77]; exact (gU_n _ (by omega)).trans a_68
  have a_81 : G_77 (h + 6) = some (.inl (yA Y 7, 24, .inr (.inr (.inr (.inr (η.2 1)))))) := by rw [← eG_77]; exact (gU_n _ (by omega)).trans a_69
  have a_82 : G_77 (h + 2) = some (.inl (yA Y 0, 12, .inl (upd (hA N 0 σ η.1) N 0))) := by rw [← eG_77]; exact (gU_n _ (by omega)).trans a_70
  have a_83 : G_77 (h + 3) = some (.inl (yA Y 0, 12, .inl (upd (hA N 5 σ η.1) N fa_))) := by rw [← eG_77]; exact (gU_n _ (by omega)).trans a_71
  have a_84 : G_77 (h + 4) = some (.inl (yA Y 0, 12, .inl (upd (hA N 8 σ η.1) N 0))) := by rw [← eG_77]; exact (gU_n _ (by omega)).trans a_72
  have a_85 : G_77 (h + 5) = some (.inl (yA Y 0, 12, .inl (hA N 7 σ η.1))) := by rw [← eG_77]; exact (gU_n _ (by omega)).trans a_73
  have hi_86 : sub I G_77 := by rw [← eG_77]; exact sub_away hi_74 (hIh_h _ ⟨by omega, by omega⟩)
  have hx_87 : sub (TZ (h + 7) τ_64) G_77 := by rw [← eG_77]; exact sub_away hps_64 (TZ_none hT_64.2.2.2.1 hT_64.1.1 hps_64 o_65 (by decide) (by decide) (by decide))
  have hf_88 : FR (fun a => hD h a ∨ TD (h + 7) τ a) n G G_77 := by rw [← eG_77]; exact FR.put hf_75 (.inl (.inl ⟨by omega, by omega⟩))
  refine g_put hC kc_X2 o_65 0 (by decide) q251 rfl rfl rfl (by show 0 < 11; decide) rfl (by omega) (G' := G_77) eG_77 dX2_add_78 ?_
  have o_89 : G_77 h = some (.inr (2, [.int (nI (N + 1)), .int (nI K), .int (σ.1 2 0), .int (σ.1 3 0), .ref (h + 1), .ref (h + 2), .ref (h + 3), .ref (h + 4), .ref (h + 5), .ref (h + 6), .ref (h + 7)])) := by rw [← eG_77]; exact gU_s _ _ _
  refine g_iret hC hr rfl ⟨_, rfl, ?_⟩ (by omega) (by omega) hE dX2_add_81
  exact ⟨rfl, hM_P (by omega) hK h7 o_89 a_80 a_82 a_83 a_84 a_85 a_81, o_78, ⟨_, _, _, hT_64, hx_87, hTn_76⟩, hf_88, by omega, by omega⟩
set_option maxHeartbeats 1000000 in
theorem met_X2_add_4 {Y : YT} {l : Launch} {n u : Nat} {G : AH} (h : Nat) (nm : Nat) (r_ : Int32) (ne_ : Int32) (of_ : Int32) (fa_ : Int32) {N K : Nat} {σ : MS} {η : HV} {I : AH} {τ : TS} {q : TQ} {M : MP} (X : Int) (na_ : Int32) (hh : sub (hM Y h N σ η) G) (hN : σ.1 0 0 = nI N) (hK : σ.1 4 0 = nI K) (hN12 : N < 12) (h7 : η.1 7 N = 0) (hI : sub I G) (hIh_h : ∀ a, hD h a → I a = none) (hIo : sub (oM Y) I) (hT : TMI (KS Y) Y (h + 7) none I τ q M) (hps : sub (TZ (h + 7) τ) G) (hzh : yz Y ≤ h) (hkX : KS Y I nm X) (hX : ∀ e, e ∈ M → e.1 ≠ X) (hX1 : 0 ≤ X ∧ X < 1000000) : GM Y l yX2_add (ws_ yX2_add cX2_add 7 (some FieldType.int)) 9 211 [.ref h, .int 4, .ref nm, .int r_, .int ne_, .int of_, .int fa_] G n u 2 11 (pI (fun r G' n' u' => nI N = r ∧ sub (hM Y h (N + 1) (npF σ N 4 r_ ne_ of_ fa_ na_) (ηP N n η)) G' ∧ G' n = some (.inr (15, [.int (nI N), .ref nm, .int r_, .int ne_, .int of_])) ∧ (∃ τ' q' v, TMI (KS Y) Y (h + 7) none I τ' q' (mput X nm (some v) M) ∧ sub (TZ (h + 7) τ') G' ∧ (∀ a, TD (h + 7) τ' a → (hD h a ∨ TD (h + 7) τ a) ∨ n ≤ a)) ∧ FR (fun a => hD h a ∨ TD (h + 7) τ a) n G G' ∧ n' = n + 2 ∧ u' = u + 11)) noX := by
  refine GM.intro (own := RX2) rfl (by decide +kernel) (Nat.le_of_ble_eq_true rfl) ?_
  intro p e s m args below meth c R Q hC hr hnm hF hL hE
  have hE1 := hE.1
  have hE2 := hE.2.1
  have hnz : yz Y ≤ n := by have := hC.z; have := hC.n; omega
  show V Y p l e R s m args below meth c 7 n u G n u Q 0 [(0, .ref h), (1, .int 4), (2, .ref nm), (3, .int r_), (4, .int ne_), (5, .int of_), (6, .int fa_)] []
  refine V.lts (fun hlt => ?_)
  have hIn := sub_none hI hlt
  have hl_h6 : h + 6 < n := hlt _ _ (hh _ _ (hM_j 6))
  have hl_h7 : h + 7 < n := hlt _ _ (hps _ _ (TZ_h hT.2.2.2.1))
  have x0 : G h = some (.inr (2, [.int (nI N), .int (nI K), .int (σ.1 2 0), .int (σ.1 3 0), .ref (h + 1), .ref (h + 2), .ref (h + 3), .ref (h + 4), .ref (h + 5), .ref (h + 6), .ref (h + 7)])) := hh _ _ (hM_0 hN hK)
  have x1 : G (h + 1) = some (.inl (yA Y 6, 12, .inr (.inr (.inr (.inr (η.2 0)))))) := hh _ _ (hM_j 1)
  have x6 : G (h + 6) = some (.inl (yA Y 7, 24, .inr (.inr (.inr (.inr (η.2 1)))))) := hh _ _ (hM_j 6)
  have x2 : G (h + 2) = some (.inl (yA Y 0, 12, .inl (hA N 0 σ η.1))) := hh _ _ (hM_j 2)
  have x3 : G (h + 3) = some (.inl (yA Y 0, 12, .inl (hA N 5 σ η.1))) := hh _ _ (hM_j 3)
  have x4 : G (h + 4) = some (.inl (yA Y 0, 12, .inl (hA N 8 σ η.1))) := hh _ _ (hM_j 4)
  have x5 : G (h + 5) = some (.inl (yA Y 0, 12, .inl (hA N 7 σ η.1))) := hh _ _ (hM_j 5)
  have hTf : ∀ a, TD (h + 7) τ a → (hD h a ∨ TD (h + 7) τ a) ∨ n ≤ a := fun a q => .inl (.inr q)
  refine g_aload_n hC dX2_add_0 rfl 0 rfl ?_
  refine g_get (v := .ref (h + 1)) hC kc_X2 x0 4 (by decide) q262 rfl dX2_add_1 ?_
  refine g_aload_n hC dX2_add_4 rfl 0 rfl ?_
  refine g_get (v := .int (nI N)) hC kc_X2 x0 0 (by decide) q251 rfl dX2_add_5 ?_
  refine g_iload_n hC dX2_add_8 rfl 1 rfl ?_
  refine g_aload_n hC dX2_add_9 rfl 0 rfl ?_
  refine g_get (v := .int (nI N)) hC kc_X2 x0 0 (by decide) q251 rfl dX2_add_10 ?_
  refine g_aload_n hC dX2_add_13 rfl 2 rfl ?_
  refine g_iload_n hC dX2_add_14 rfl 3 rfl ?_
  refine g_iload hC dX2_add_15 4 rfl ?_
  refine g_iload hC dX2_add_17 5 rfl ?_
  refine V.lts (fun lc_1 => ?_)
  refine g_callq0 hC (g_runS hC (met_X0_ofKind_4 (G := G) N nm r_ ne_ of_) (lw_S q1405 q1406 q81 q1407) md_X0_ofKind dX2_add_19 rfl ⟨by omega, by omega⟩ (by omega) (by omega) rfl (Nat.le_of_ble_eq_true rfl)) (fun r_2 G_2 n_2 u_2 hp_2 hn_2 hm_2 hu_2 => ?_)
  obtain ⟨rfl, ho_2, hf_2, rfl, rfl⟩ := hp_2
  have o_3 : G_2 h = some (.inr (2, [.int (nI N), .int (nI K), .int (σ.1 2 0), .int (σ.1 3 0), .ref (h + 1), .ref (h + 2), .ref (h + 3), .ref (h + 4), .ref (h + 5), .ref (h + 6), .ref (h + 7)])) := (hf_2 _ (lc_1 _ _ x0) (fun q => q)).trans x0
  have a_4 : G_2 (h + 1) = some (.inl (yA Y 6, 12, .inr (.inr (.inr (.inr (η.2 0)))))) := (hf_2 _ (lc_1 _ _ x1) (fun q => q)).trans x1
  have a_5 : G_2 (h + 6) = some (.inl (yA Y 7, 24, .inr (.inr (.inr (.inr (η.2 1)))))) := (hf_2 _ (lc_1 _ _ x6) (fun q => q)).trans x6
  have a_6 : G_2 (h + 2) = some (.inl (yA Y 0, 12, .inl (hA N 0 σ η.1))) := (hf_2 _ (lc_1 _ _ x2) (fun q => q)).trans x2
  have a_7 : G_2 (h + 3) = some (.inl (yA Y 0, 12, .inl (hA N 5 σ η.1))) := (hf_2 _ (lc_1 _ _ x3) (fun q => q)).trans x3
  have a_8 : G_2 (h + 4) = some (.inl (yA Y 0, 12, .inl (hA N 8 σ η.1))) := (hf_2 _ (lc_1 _ _ x4) (fun q => q)).trans x4
  have a_9 : G_2 (h + 5) = some (.inl (yA Y 0, 12, .inl (hA N 7 σ η.1))) := (hf_2 _ (lc_1 _ _ x5) (fun q => q)).trans x5
  have hi_10 : sub I G_2 := hf_2.subs hI lc_1 (fun a q => False.elim q)
  have hx_11 : sub (TZ (h + 7) τ) G_2 := hf_2.subs hps lc_1 (fun a q => False.elim q)
  have hf_12 : FR (fun a => hD h a ∨ TD (h + 7) τ a) n G G_2 := FR.refl.trans hf_2 (by omega) (fun a_ q_ => by first | exact .inl q_ | exact False.elim q_ | exact .inl (.inl q_) | exact .inl (.inr q_) | (subst q_; first | exact .inr (by omega) | exact .inl rfl))
  obtain ⟨G_13, eG_13⟩ : ∃ G_, gU G_2 (h + 1) (.inl (yA Y 6, 12, .inr (.inr (.inr (.inr (va_up (η.2 0) N (some n))))))) = G_ := ⟨_, rfl⟩
  have o_14 : G_13 h = some (.inr (2, [.int (nI N), .int (nI K), .int (σ.1 2 0), .int (σ.1 3 0), .ref (h + 1), .ref (h + 2), .ref (h + 3), .ref (h + 4), .ref (h + 5), .ref (h + 6), .ref (h + 7)])) := by rw [← eG_13]; exact (gU_n _ (by omega)).trans o_3
  have o_15 : G_13 n = some (.inr (15, [.int (nI N), .ref nm, .int r_, .int ne_, .int of_])) := by rw [← eG_13]; exact (gU_n _ (gne_oa ho_2 a_4)).trans ho_2
  have a_16 : G_13 (h + 6) = some (.inl (yA Y 7, 24, .inr (.inr (.inr (.inr (η.2 1)))))) := by rw [← eG_13]; exact (gU_n _ (by omega)).trans a_5
  have a_17 : G_13 (h + 2) = some (.inl (yA Y 0, 12, .inl (hA N 0 σ η.1))) := by rw [← eG_13]; exact (gU_n _ (by omega)).trans a_6
  have a_18 : G_13 (h + 3) = some (.inl (yA Y 0, 12, .inl (hA N 5 σ η.1))) := by rw [← eG_13]; exact (gU_n _ (by omega)).trans a_7
  have a_19 : G_13 (h + 4) = some (.inl (yA Y 0, 12, .inl (hA N 8 σ η.1))) := by rw [← eG_13]; exact (gU_n _ (by omega)).trans a_8
  have a_20 : G_13 (h + 5) = some (.inl (yA Y 0, 12, .inl (hA N 7 σ η.1))) := by rw [← eG_13]; exact (gU_n _ (by omega)).trans a_9
  have hi_21 : sub I G_13 := by rw [← eG_13]; exact sub_away hi_10 (hIh_h _ ⟨by omega, by omega⟩)
  have hx_22 : sub (TZ (h + 7) τ) G_13 := by rw [← eG_13]; exact sub_away hx_11 (TZ_noneA hx_11 a_4)
  have hf_23 : FR (fun a => hD h a ∨ TD (h + 7) τ a) n G G_13 := by rw [← eG_13]; exact FR.put hf_12 (.inl (.inl ⟨by omega, by omega⟩))
  refine g_aastG (t0 := 6) hC kc_X16 ho_2 a_4 rfl (asgY hC.K q4037) (vin (by omega) (by omega)) (by omega) (f' := (va_up (η.2 0) N (some n))) (by rw [nI_clamp (by omega)]) (G' := G_13) eG_13 dX2_add_22 ?_
  have a_24 : G_13 (h + 1) = some (.inl (yA Y 6, 12, .inr (.inr (.inr (.inr (va_up (η.2 0) N (some n))))))) := by rw [← eG_13]; exact gU_s _ _ _
  refine g_aload_n hC dX2_add_23 rfl 0 rfl ?_
  refine g_get (v := .ref (h + 2)) hC kc_X2 o_14 5 (by decide) q265 rfl dX2_add_24 ?_
  refine g_aload_n hC dX2_add_27 rfl 0 rfl ?_
  refine g_get (v := .int (nI N)) hC kc_X2 o_14 0 (by decide) q251 rfl dX2_add_28 ?_
  refine g_iconst (v := 0) hC dX2_add_31 rfl ?_
  obtain ⟨G_25, eG_25⟩ : ∃ G_, gU G_13 (h + 2) (.inl (yA Y 0, 12, .inl (upd (hA N 0 σ η.1) N 0))) = G_ := ⟨_, rfl⟩
  have o_26 : G_25 h = some (.inr (2, [.int (nI N), .int (nI K), .int (σ.1 2 0), .int (σ.1 3 0), .ref (h + 1), .ref (h + 2), .ref (h + 3), .ref (h + 4), .ref (h + 5), .ref (h + 6), .ref (h + 7)])) := by rw [← eG_25]; exact (gU_n _ (by omega)).trans o_14
  have o_27 : G_25 n = some (.inr (15, [.int (nI N), .ref nm, .int r_, .int ne_, .int of_])) := by rw [← eG_25]; exact (gU_n _ (gne_oa o_15 a_17)).trans o_15
  have a_28 : G_25 (h + 1) = some (.inl (yA Y 6, 12, .inr (.inr (.inr (.inr (va_up (η.2 0) N (some n))))))) := by rw [← eG_25]; exact (gU_n _ (by omega)).trans a_24
  have a_29 : G_25 (h + 6) = some (.inl (yA Y 7, 24, .inr (.inr (.inr (.inr (η.2 1)))))) := by rw [← eG_25]; exact (gU_n _ (by omega)).trans a_16
  have a_30 : G_25 (h + 3) = some (.inl (yA Y 0, 12, .inl (hA N 5 σ η.1))) := by rw [← eG_25]; exact (gU_n _ (by omega)).trans a_18
  have a_31 : G_25 (h + 4) = some (.inl (yA Y 0, 12, .inl (hA N 8 σ η.1))) := by rw [← eG_25]; exact (gU_n _ (by omega)).trans a_19
  have a_32 : G_25 (h + 5) = some (.inl (yA Y 0, 12, .inl (hA N 7 σ η.1))) := by rw [← eG_25]; exact (gU_n _ (by omega)).trans a_20
  have hi_33 : sub I G_25 := by rw [← eG_25]; exact sub_away hi_21 (hIh_h _ ⟨by omega, by omega⟩)
  have hx_34 : sub (TZ (h + 7) τ) G_25 := by rw [← eG_25]; exact sub_away hx_22 (TZ_noneA hx_22 a_17)
  have hf_35 : FR (fun a => hD h a ∨ TD (h + 7) τ a) n G G_25 := by rw [← eG_25]; exact FR.put hf_23 (.inl (.inl ⟨by omega, by omega⟩))
  refine g_iast hC a_17 (vin (by omega) (by omega)) (by omega) (f' := (upd (hA N 0 σ η.1) N 0)) (by rw [nI_clamp (by omega)]) (G' := G_25) eG_25 dX2_add_32 ?_
  have a_36 : G_25 (h + 2) = some (.inl (yA Y 0, 12, .inl (upd (hA N 0 σ η.1) N 0))) := by rw [← eG_25]; exact gU_s _ _ _
  refine g_aload_n hC dX2_add_33 rfl 0 rfl ?_
  refine g_get (v := .ref (h + 3)) hC kc_X2 o_26 6 (by decide) q268 rfl dX2_add_34 ?_
  refine g_aload_n hC dX2_add_37 rfl 0 rfl ?_
  refine g_get (v := .int (nI N)) hC kc_X2 o_26 0 (by decide) q251 rfl dX2_add_38 ?_
  refine g_iload hC dX2_add_41 6 rfl ?_
  obtain ⟨G_37, eG_37⟩ : ∃ G_, gU G_25 (h + 3) (.inl (yA Y 0, 12, .inl (upd (hA N 5 σ η.1) N fa_))) = G_ := ⟨_, rfl⟩
  have o_38 : G_37 h = some (.inr (2, [.int (nI N), .int (nI K), .int (σ.1 2 0), .int (σ.1 3 0), .ref (h + 1), .ref (h + 2), .ref (h + 3), .ref (h + 4), .ref (h + 5), .ref (h + 6), .ref (h + 7)])) := by rw [← eG_37]; exact (gU_n _ (by omega)).trans o_26
  have o_39 : G_37 n = some (.inr (15, [.int (nI N), .ref nm, .int r_, .int ne_, .int of_])) := by rw [← eG_37]; exact (gU_n _ (gne_oa o_27 a_30)).trans o_27
  have a_40 : G_37 (h + 1) = some (.inl (yA Y 6, 12, .inr (.inr (.inr (.inr (va_up (η.2 0) N (some n))))))) := by rw [← eG_37]; exact (gU_n _ (by omega)).trans a_28
  have a_41 : G_37 (h + 6) = some (.inl (yA Y 7, 24, .inr (.inr (.inr (.inr (η.2 1)))))) := by rw [← eG_37]; exact (gU_n _ (by omega)).trans a_29
  have a_42 : G_37 (h + 2) = some (.inl (yA Y 0, 12, .inl (upd (hA N 0 σ η.1) N 0))) := by rw [← eG_37]; exact (gU_n _ (by omega)).trans a_36
  have a_43 : G_37 (h + 4) = some (.inl (yA Y 0, 12, .inl (hA N 8 σ η.1))) := by rw [← eG_37]; exact (gU_n _ (by omega)).trans a_31
  have a_44 : G_37 (h + 5) = some (.inl (yA Y 0, 12, .inl (hA N 7 σ η.1))) := by rw [← eG_37]; exact (gU_n _ (by omega)).trans a_32
  have hi_45 : sub I G_37 := by rw [← eG_37]; exact sub_away hi_33 (hIh_h _ ⟨by omega, by omega⟩)
  have hx_46 : sub (TZ (h + 7) τ) G_37 := by rw [← eG_37]; exact sub_away hx_34 (TZ_noneA hx_34 a_30)
  have hf_47 : FR (fun a => hD h a ∨ TD (h + 7) τ a) n G G_37 := by rw [← eG_37]; exact FR.put hf_35 (.inl (.inl ⟨by omega, by omega⟩))
  refine g_iast hC a_30 (vin (by omega) (by omega)) (by omega) (f' := (upd (hA N 5 σ η.1) N fa_)) (by rw [nI_clamp (by omega)]) (G' := G_37) eG_37 dX2_add_43 ?_
  have a_48 : G_37 (h + 3) = some (.inl (yA Y 0, 12, .inl (upd (hA N 5 σ η.1) N fa_))) := by rw [← eG_37]; exact gU_s _ _ _
  refine g_aload_n hC dX2_add_44 rfl 0 rfl ?_
  refine g_get (v := .ref (h + 4)) hC kc_X2 o_38 7 (by decide) q271 rfl dX2_add_45 ?_
  refine g_aload_n hC dX2_add_48 rfl 0 rfl ?_
  refine g_get (v := .int (nI N)) hC kc_X2 o_38 0 (by decide) q251 rfl dX2_add_49 ?_
  refine g_iconst (v := 0) hC dX2_add_52 rfl ?_
  obtain ⟨G_49, eG_49⟩ : ∃ G_, gU G_37 (h + 4) (.inl (yA Y 0, 12, .inl (upd (hA N 8 σ η.1) N 0))) = G_ := ⟨_, rfl⟩
  have o_50 : G_49 h = some (.inr (2, [.int (nI N), .int (nI K), .int (σ.1 2 0), .int (σ.1 3 0), .ref (h + 1), .ref (h + 2), .ref (h + 3), .ref (h + 4), .ref (h + 5), .ref (h + 6), .ref (h + 7)])) := by rw [← eG_49]; exact (gU_n _ (by omega)).trans o_38
  have o_51 : G_49 n = some (.inr (15, [.int (nI N), .ref nm, .int r_, .int ne_, .int of_])) := by rw [← eG_49]; exact (gU_n _ (gne_oa o_39 a_43)).trans o_39
  have a_52 : G_49 (h + 1) = some (.inl (yA Y 6, 12, .inr (.inr (.inr (.inr (va_up (η.2 0) N (some n))))))) := by rw [← eG_49]; exact (gU_n _ (by omega)).trans a_40
  have a_53 : G_49 (h + 6) = some (.inl (yA Y 7, 24, .inr (.inr (.inr (.inr (η.2 1)))))) := by rw [← eG_49]; exact (gU_n _ (by omega)).trans a_41
  have a_54 : G_49 (h + 2) = some (.inl (yA Y 0, 12, .inl (upd (hA N 0 σ η.1) N 0))) := by rw [← eG_49]; exact (gU_n _ (by omega)).trans a_42
  have a_55 : G_49 (h + 3) = some (.inl (yA Y 0, 12, .inl (upd (hA N 5 σ η.1) N fa_))) := by rw [← eG_49]; exact (gU_n _ (by omega)).trans a_48
  have a_56 : G_49 (h + 5) = some (.inl (yA Y 0, 12, .inl (hA N 7 σ η.1))) := by rw [← eG_49]; exact (gU_n _ (by omega)).trans a_44
  have hi_57 : sub I G_49 := by rw [← eG_49]; exact sub_away hi_45 (hIh_h _ ⟨by omega, by omega⟩)
  have hx_58 : sub (TZ (h + 7) τ) G_49 := by rw [← eG_49]; exact sub_away hx_46 (TZ_noneA hx_46 a_43)
  have hf_59 : FR (fun a => hD h a ∨ TD (h + 7) τ a) n G G_49 := by rw [← eG_49]; exact FR.put hf_47 (.inl (.inl ⟨by omega, by omega⟩))
  refine g_iast hC a_43 (vin (by omega) (by omega)) (by omega) (f' := (upd (hA N 8 σ η.1) N 0)) (by rw [nI_clamp (by omega)]) (G' := G_49) eG_49 dX2_add_53 ?_
  have a_60 : G_49 (h + 4) = some (.inl (yA Y 0, 12, .inl (upd (hA N 8 σ η.1) N 0))) := by rw [← eG_49]; exact gU_s _ _ _
  refine g_aload_n hC dX2_add_54 rfl 0 rfl ?_
  refine g_get (v := .ref (h + 7)) hC kc_X2 o_50 10 (by decide) q282 rfl dX2_add_55 ?_
  refine g_aload_n hC dX2_add_58 rfl 2 rfl ?_
  refine g_aload_n hC dX2_add_59 rfl 0 rfl ?_
  refine g_get (v := .int (nI N)) hC kc_X2 o_50 0 (by decide) q251 rfl dX2_add_60 ?_
  refine V.lts (fun lc_61 => ?_)
  refine g_callq0 hC (g_runS hC (met_J12_valueOf (G := G_49) (nI N) ((hIo).trans hi_57)) (lw_S q1486 q1487 q106 q1488) md_J12_valueOf dX2_add_63 rfl ⟨by omega, by omega⟩ (by omega) (by omega) rfl (Nat.le_of_ble_eq_true rfl)) (fun r_62 G_62 n_62 u_62 hp_62 hn_62 hm_62 hu_62 => ?_)
  obtain ⟨bx_62, rfl, ho_62, hf_62, hq_62, hv_62, hsm_62⟩ := hp_62
  obtain ⟨rfl, rfl, rfl, hob_62'⟩ := hsm_62 N (by omega) rfl
  have hob_62 := ((hIo).trans hi_57) _ _ hob_62'
  refine V.lts (fun lc_63 => ?_)
  refine g_callq0 hC (g_runV hC (mp_putS (G := G_49) hT hx_58 hi_57 (by omega) lc_63 nm bx_62 X hkX hX (by unfold ZL; omega) (by unfold ZH; omega)) kc_J1 (hx_58 _ _ (TZ_h hT.2.2.2.1)) (lw_V q1505 q1506 q1507 q85 q1508) rfl md_J1_put dX2_add_66 rfl ⟨by omega, by omega⟩ (by omega) (by omega) rfl (Nat.le_of_ble_eq_true rfl)) (fun r_64 G_64 n_64 u_64 hp_64 hn_64 hm_64 hu_64 => ?_)
  obtain ⟨rfl, τ_64, q_64, hT_64, hps_64, hf_64, hD_64, rfl, rfl⟩ := hp_64
  have o_65 : G_64 h = some (.inr (2, [.int (nI N), .int (nI K), .int (σ.1 2 0), .int (σ.1 3 0), .ref (h + 1), .ref (h + 2), .ref (h + 3), .ref (h + 4), .ref (h + 5), .ref (h + 6), .ref (h + 7)])) := (hf_64 _ (lc_63 _ _ o_50) (TZ_out hT.2.2.2.1 hT.1.1 hx_58 o_50 (by decide) (by decide))).trans o_50
  have o_66 : G_64 n = some (.inr (15, [.int (nI N), .ref nm, .int r_, .int ne_, .int of_])) := (hf_64 _ (lc_63 _ _ o_51) (TZ_out hT.2.2.2.1 hT.1.1 hx_58 o_51 (by decide) (by decide))).trans o_51
  have o_67 : G_64 bx_62 = some (.inr (40, [.int (nI N)])) := (hf_64 _ (lc_63 _ _ hob_62) (TZ_out hT.2.2.2.1 hT.1.1 hx_58 hob_62 (by decide) (by decide))).trans hob_62
  have a_68 : G_64 (h + 1) = some (.inl (yA Y 6, 12, .inr (.inr (.inr (.inr (va_up (η.2 0) N (some n))))))) := (hf_64 _ (lc_63 _ _ a_52) (TZ_outA hT.2.2.2.1 hT.1.1 hx_58 a_52)).trans a_52
  have a_69 : G_64 (h + 6) = some (.inl (yA Y 7, 24, .inr (.inr (.inr (.inr (η.2 1)))))) := (hf_64 _ (lc_63 _ _ a_53) (TZ_outA hT.2.2.2.1 hT.1.1 hx_58 a_53)).trans a_53
  have a_70 : G_64 (h + 2) = some (.inl (yA Y 0, 12, .inl (upd (hA N 0 σ η.1) N 0))) := (hf_64 _ (lc_63 _ _ a_54) (TZ_outA hT.2.2.2.1 hT.1.1 hx_58 a_54)).trans a_54
  have a_71 : G_64 (h + 3) = some (.inl (yA Y 0, 12, .inl (upd (hA N 5 σ η.1) N fa_))) := (hf_64 _ (lc_63 _ _ a_55) (TZ_outA hT.2.2.2.1 hT.1.1 hx_58 a_55)).trans a_55
  have a_72 : G_64 (h + 4) = some (.inl (yA Y 0, 12, .inl (upd (hA N 8 σ η.1) N 0))) := (hf_64 _ (lc_63 _ _ a_60) (TZ_outA hT.2.2.2.1 hT.1.1 hx_58 a_60)).trans a_60
  have a_73 : G_64 (h + 5) = some (.inl (yA Y 0, 12, .inl (hA N 7 σ η.1))) := (hf_64 _ (lc_63 _ _ a_56) (TZ_outA hT.2.2.2.1 hT.1.1 hx_58 a_56)).trans a_56
  have hi_74 : sub I G_64 := hf_64.subs hi_57 lc_63 (fun a q => hT.2.2.2.2.2 a q)
  have hf_75 : FR (fun a => hD h a ∨ TD (h + 7) τ a) n G G_64 := hf_59.trans hf_64 (by omega) (fun a_ q_ => hTf a_ q_)
  have hTn_76 : ∀ a, TD (h + 7) τ_64 a → (fun a => hD h a ∨ TD (h + 7) τ a) a ∨ n ≤ a := fun a q => (hD_64 a q).elim (hTf a) (fun e => .inr (by omega))
  refine g_pop hC dX2_add_69 rfl ?_
  refine g_aload_n hC dX2_add_70 rfl 0 rfl ?_
  refine g_dup hC dX2_add_71 rfl ?_
  refine g_get (v := .int (nI N)) hC kc_X2 o_65 0 (by decide) q251 rfl dX2_add_72 ?_
  refine g_dup_x1 hC dX2_add_75 rfl rfl ?_
  refine g_iconst (v := 1) hC dX2_add_76 rfl ?_
  refine g_iaddN hC N 1 dX2_add_77 ?_
  obtain ⟨G_77, eG_77⟩ : ∃ G_, gU G_64 h (.inr (2, [.int (nI (N + 1)), .int (nI K), .int (σ.1 2 0), .int (σ.1 3 0), .ref (h + 1), .ref (h + 2), .ref (h + 3), .ref (h + 4), .ref (h + 5), .ref (h + 6), .ref (h + 7)])) = G_ := ⟨_, rfl⟩
  have o_78 : G_77 n = some (.inr (15, [.int (nI N), .ref nm, .int r_, .int ne_, .int of_])) := by rw [← eG_77]; exact (gU_n _ (gne_c o_66 o_65 (by decide))).trans o_66
  have o_79 : G_77 bx_62 = some (.inr (40, [.int (nI N)])) := by rw [← eG_77]; exact (gU_n _ (gne_c o_67 o_65 (by decide))).trans o_67
  have a_80 : G_77 (h + 1) = some (.inl (yA Y 6, 12, .inr (.inr (.inr (.inr (va_up (η.2 0) N (some n))))))) := by rw [← eG_77]; exact (gU_n _ (by omega)).trans a_68
  have a_81 : G_77 (h + 6) = some (.inl (yA Y 7, 24, .inr (.inr (.inr (.inr (η.2 1)))))) := by rw [← eG_77]; exact (gU_n _ (by omega)).trans a_69
  have a_82 : G_77 (h + 2) = some (.inl (yA Y 0, 12, .inl (upd (hA N 0 σ η.1) N 0))) := by rw [← eG_77]; exact (gU_n _ (by omega)).trans a_70
  have a_83 : G_77 (h + 3) = some (.inl (yA Y 0, 12, .inl (upd (hA N 5 σ η.1) N fa_))) := by rw [← eG_77]; exact (gU_n _ (by omega)).trans a_71
  have a_84 : G_77 (h + 4) = some (.inl (yA Y 0, 12, .inl (upd (hA N 8 σ η.1) N 0))) := by rw [← eG_77]; exact (gU_n _ (by omega)).trans a_72
  have a_85 : G_77 (h + 5) = some (.inl (yA Y 0, 12, .inl (hA N 7 σ η.1))) := by rw [← eG_77]; exact (gU_n _ (by omega)).trans a_73
  have hi_86 : sub I G_77 := by rw [← eG_77]; exact sub_away hi_74 (hIh_h _ ⟨by omega, by omega⟩)
  have hx_87 : sub (TZ (h + 7) τ_64) G_77 := by rw [← eG_77]; exact sub_away hps_64 (TZ_none hT_64.2.2.2.1 hT_64.1.1 hps_64 o_65 (by decide) (by decide) (by decide))
  have hf_88 : FR (fun a => hD h a ∨ TD (h + 7) τ a) n G G_77 := by rw [← eG_77]; exact FR.put hf_75 (.inl (.inl ⟨by omega, by omega⟩))
  refine g_put hC kc_X2 o_65 0 (by decide) q251 rfl rfl rfl (by show 0 < 11; decide) rfl (by omega) (G' := G_77) eG_77 dX2_add_78 ?_
  have o_89 : G_77 h = some (.inr (2, [.int (nI (N + 1)), .int (nI K), .int (σ.1 2 0), .int (σ.1 3 0), .ref (h + 1), .ref (h + 2), .ref (h + 3), .ref (h + 4), .ref (h + 5), .ref (h + 6), .ref (h + 7)])) := by rw [← eG_77]; exact gU_s _ _ _
  refine g_iret hC hr rfl ⟨_, rfl, ?_⟩ (by omega) (by omega) hE dX2_add_81
  exact ⟨rfl, hM_P (by omega) hK h7 o_89 a_80 a_82 a_83 a_84 a_85 a_81, o_78, ⟨_, _, _, hT_64, hx_87, hTn_76⟩, hf_88, by omega, by omega⟩
theorem met_X2_add {Y : YT} {l : Launch} {n u : Nat} {G : AH} (h : Nat) {kd : Nat} (hkd : kd ≤ 4) (nm : Nat) (r_ ne_ of_ fa_ : Int32) {N K : Nat} {σ : MS} {η : HV} {I : AH} {τ : TS} {q : TQ} {M : MP} (X : Int) (na_ : Int32) (hh : sub (hM Y h N σ η) G) (hN : σ.1 0 0 = nI N) (hK : σ.1 4 0 = nI K) (hN12 : N < 12) (h7 : η.1 7 N = 0) (hI : sub I G) (hIh_h : ∀ a, hD h a → I a = none) (hIo : sub (oM Y) I) (hT : TMI (KS Y) Y (h + 7) none I τ q M) (hps : sub (TZ (h + 7) τ) G) (hzh : yz Y ≤ h) (hkX : KS Y I nm X) (hX : ∀ e, e ∈ M → e.1 ≠ X) (hX1 : 0 ≤ X ∧ X < 1000000) : GM Y l yX2_add (ws_ yX2_add cX2_add 7 (some FieldType.int)) 9 211 [.ref h, .int (nI kd), .ref nm, .int r_, .int ne_, .int of_, .int fa_] G n u 2 11 (pI (fun r G' n' u' => nI N = r ∧ sub (hM Y h (N + 1) (npF σ N (nI kd) r_ ne_ of_ fa_ na_) (ηP N n η)) G' ∧ G' n = some (.inr (11 + kd, [.int (nI N), .ref nm, .int r_, .int ne_, .int of_])) ∧ (∃ τ' q' v, TMI (KS Y) Y (h + 7) none I τ' q' (mput X nm (some v) M) ∧ sub (TZ (h + 7) τ') G' ∧ (∀ a, TD (h + 7) τ' a → (hD h a ∨ TD (h + 7) τ a) ∨ n ≤ a)) ∧ FR (fun a => hD h a ∨ TD (h + 7) τ a) n G G' ∧ n' = n + 2 ∧ u' = u + 11)) noX := by
  rcases kd with _ | _ | _ | _ | _ | kd
  · exact met_X2_add_0 h nm r_ ne_ of_ fa_ X na_ hh hN hK hN12 h7 hI hIh_h hIo hT hps hzh hkX hX hX1
  · exact met_X2_add_1 h nm r_ ne_ of_ fa_ X na_ hh hN hK hN12 h7 hI hIh_h hIo hT hps hzh hkX hX hX1
  · exact met_X2_add_2 h nm r_ ne_ of_ fa_ X na_ hh hN hK hN12 h7 hI hIh_h hIo hT hps hzh hkX hX hX1
  · exact met_X2_add_3 h nm r_ ne_ of_ fa_ X na_ hh hN hK hN12 h7 hI hIh_h hIo hT hps hzh hkX hX hX1
  · exact met_X2_add_4 h nm r_ ne_ of_ fa_ X na_ hh hN hK hN12 h7 hI hIh_h hIo hT hps hzh hkX hX hX1
  · omega
