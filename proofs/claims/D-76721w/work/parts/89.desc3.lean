set_option maxRecDepth 100000
/-! COMPONENT, 22: the descending iterator -/
/-- what a descending iterator has yet to give -/
def IRr (τ : TS) (q : TQ) (M : MP) (pv : Option Nat) (R : MP) : Prop := (∃ P, M = R.reverse ++ P) ∧ match pv with
  | none => R = []
  | some s => τ.2.2.2 s = true ∧ ∃ k v R', R = (q.1 s, k, v) :: R' ∧ τ.1 0 s = some k
theorem PV.ir {τ : TS} {q : TQ} {M P R : MP} {LO HI x : Int} {pv : Option Nat} (hM : TM τ q LO HI M) (h : PV τ q x pv) (hP : M = R.reverse ++ P) (h1 : ∀ e, e ∈ P → x ≤ e.1) (h2 : ∀ e, e ∈ R → e.1 < x) : IRr τ q M pv R := by
  refine ⟨⟨P, hP⟩, ?_⟩
  cases pv with
  | none =>
    cases R with
    | nil => rfl
    | cons e R' =>
      obtain ⟨x', k, v⟩ := e
      obtain ⟨a, a1, a2, -⟩ := (hM.mem x' k v).mp (by rw [hP]; simp)
      have h3 := h a a1
      have h4 := h2 (x', k, v) (by simp)
      simp only at h4; omega
  | some s =>
    obtain ⟨s1, s2, s3⟩ := h
    refine ⟨s1, ?_⟩
    obtain ⟨k, k1, k2⟩ := hM.at_ s1
    have hs : (q.1 s, k, τ.1 1 s) ∈ R := by
      rw [hP] at k2
      rcases List.mem_append.mp k2 with q1 | q1
      · exact List.mem_reverse.mp q1
      · have := h1 _ q1; simp only at this; omega
    cases R with
    | nil => cases hs
    | cons e R' =>
      obtain ⟨x', k', v'⟩ := e
      obtain ⟨a, a1, a2, a3, a4⟩ := (hM.mem x' k' v').mp (by rw [hP]; simp)
      have h4 := h2 (x', k', v') (by simp)
      have h5 := s3 a a1 (by rw [a2]; exact h4)
      have hso := hM.so
      rw [hP, List.reverse_cons, List.append_assoc] at hso
      have h6 := (List.pairwise_append.mp hso).2.2
      rcases List.mem_cons.mp hs with q1 | q1
      · refine ⟨k', v', R', ?_, ?_⟩
        · rw [Prod.mk.injEq] at q1; rw [q1.1]
        · rw [Prod.mk.injEq, Prod.mk.injEq] at q1; rw [← q1.2.1]; exact k1
      · have := h6 _ (List.mem_reverse.mpr q1) (x', k', v') (by simp)
        simp only at this; omega
theorem PV.ir0 {τ : TS} {q : TQ} {M : MP} {pv : Option Nat} (hM : TM τ q ZL ZH M) (h : PV τ q ZH pv) : IRr τ q M pv M.reverse := h.ir hM (P := []) (by simp) (fun e he => nomatch he) (fun e he => by
  obtain ⟨x, k, v⟩ := e
  obtain ⟨a, a1, a2, -⟩ := (hM.mem x k v).mp (List.mem_reverse.mp he)
  have := hM.tw.h0 a a1
  simp only; omega)
theorem PV.irS {τ : TS} {q : TQ} {M : MP} {s : Nat} {R' : MP} {k : Nat} {v : Option Nat} {pv : Option Nat} (hM : TM τ q ZL ZH M) (h0 : IRr τ q M (some s) ((q.1 s, k, v) :: R')) (h : PV τ q (q.1 s) pv) : IRr τ q M pv R' := by
  obtain ⟨⟨P, hP⟩, -⟩ := h0
  rw [List.reverse_cons, List.append_assoc] at hP
  have hso := hM.so
  rw [hP] at hso
  have h6 := List.pairwise_append.mp hso
  refine h.ir hM (P := [(q.1 s, k, v)] ++ P) hP (fun e he => ?_) (fun e he => h6.2.2 e (List.mem_reverse.mpr he) (q.1 s, k, v) (by simp))
  rcases List.mem_append.mp he with q1 | q1
  · simp at q1; rw [q1]; exact Int.le_refl _
  · have := (List.pairwise_append.mp h6.2.1).2.2 (q.1 s, k, v) (by simp) e q1; simp only at this; omega
section GN
variable {Y : YT} {p : Program} {l : Launch} {e : Env} {R : Room} {s : State} {m : MethodId} {args : Array Value} {below : List Frame} {meth : Method} {c : Code} {nL n0 u0 : Nat} {G : AH} {nn uu : Nat} {Q : State → Prop} {pc : Nat} {L : List (Nat × Value)} {rest : List Value} {cc : ByteArray} {own : String} {hh : List (Nat × Nat × Nat × Nat)}
theorem g_getsN (hC : CX Y p s m args meth c cc nL own hh n0 u0) {C n d ref host : String} {v : Value} {index : Nat} (hZ : va_Z C n d v (fun q => yz Y ≤ q) (yS Y) (yH Y)) (hlink : Cond.fieldLinkNest own index ref n d host ∈ lw_tbl) (hsame : ∀ x, s.fieldFound? C n d = some x → s.fieldFound? ref n d = some x) (hdg : decode cc pc = .ok (.getstatic index, 3))
    (kk : V Y p l e R s m args below meth c nL n0 u0 G nn uu Q (pc + 3) L (v :: rest)) : V Y p l e R s m args below meth c nL n0 u0 G nn uu Q pc L rest := fun H locs ls g aS b =>
  va_getsN hC.x hC.b ((hZ.moved hC.K.2.1.alike).kept (fun a ha _ => hC.old a ha)) aS hC.own (va_Nw.use (A := args) rfl (hC.K.nestF hlink)) hsame hdg (kk H locs ls g aS b)
end GN
theorem mp_last {Y : YT} {l : Launch} {t n u : Nat} {τ : TS} {q : TQ} {M : MP} {G J : AH} {K : AH → Nat → Int → Prop} {c : Option Nat} (hT : TMI K Y t c J τ q M) (hs : sub (TZ t τ) G) : GM Y l yJ1_getLastEntry (ws_ yJ1_getLastEntry cJ1_getLastEntry 2 (some (FieldType.object "java/util/TreeMap$Entry"))) 0 0 [.ref t] G n u 0 0 (pQ (fun r G' n' u' => PV τ q ZH r ∧ G = G' ∧ n = n' ∧ u = u')) noX := by
  obtain ⟨hG, hKS⟩ := hT.g hs
  have h := met_J1_getLastEntry (l := l) (n := n) (u := u) (B := G) hT.1 hT.2.1.tw
  rw [hG] at h; exact h
theorem mp_pred {Y : YT} {l : Launch} {t n u : Nat} {τ : TS} {q : TQ} {M : MP} {G J : AH} {K : AH → Nat → Int → Prop} {c : Option Nat} (hT : TMI K Y t c J τ q M) (hs : sub (TZ t τ) G) (x : Nat) (hx : τ.2.2.2 x = true) : GM Y l yJ1_predecessor (ws_ yJ1_predecessor cJ1_predecessor 3 (some (FieldType.object "java/util/TreeMap$Entry"))) 0 0 [.ref x] G n u 0 0 (pQ (fun r G' n' u' => PV τ q (q.1 x) r ∧ G = G' ∧ n = n' ∧ u = u')) noX := by
  obtain ⟨hG, hKS⟩ := hT.g hs
  have h := met_J1_predecessor (l := l) (n := n) (u := u) (B := G) hT.1 x hT.2.1.tw hx
  rw [hG] at h; exact h
set_option maxHeartbeats 1000000 in
theorem met_J45_navigableKeySet_a {Y : YT} {l : Launch} {n u : Nat} {G : AH} (d : Nat) {t rc : Nat} (hd : G d = some (.inr (55, [.null, .null, .ref t, .null, .null, .int 1, .int 1, .int 1, .int 1, .null, .null, .null, .ref rc]))) (hz : yz Y ≤ d) : GM Y l yJ45_navigableKeySet (ws_ yJ45_navigableKeySet cJ45_navigableKeySet 2 (some (FieldType.object "java/util/NavigableSet"))) 4 85 [.ref d] G n u 1 1 (pQ (fun r G' n' u' => some n = r ∧ G' n = some (.inr (54, [.ref d])) ∧ G' d = some (.inr (55, [.null, .null, .ref t, .null, .null, .int 1, .int 1, .int 1, .int 1, .null, .null, .ref n, .ref rc])) ∧ FR (fun q_ => q_ = d) n G G' ∧ n + 1 = n' ∧ u + 1 = u')) noX := by
  refine GM.intro (own := RJ45) rfl (by decide +kernel) (Nat.le_of_ble_eq_true rfl) ?_
  intro p e s m args below meth c R Q hC hr hnm hF hL hE
  have hE1 := hE.1
  have hE2 := hE.2.1
  have hnz : yz Y ≤ n := by have := hC.z; have := hC.n; omega
  show V Y p l e R s m args below meth c 2 n u G n u Q 0 [(0, .ref d)] []
  refine V.lts (fun hlt => ?_)
  have hl_d : d < n := hlt _ _ hd
  refine g_aload_n hC dJ45_navigableKeySet_0 rfl 0 rfl ?_
  refine g_get (v := .null) hC kc_J46 hd 11 (by decide) q3291 rfl dJ45_navigableKeySet_1 ?_
  refine g_astore_nN (L' := [(1, .null), (0, .ref d)]) hC dJ45_navigableKeySet_4 rfl (by decide) rfl ?_
  refine g_aload_nN hC dJ45_navigableKeySet_5 rfl 0 rfl ?_
  refine g_ifnullN (tgt := 13) hC dJ45_navigableKeySet_6 (by decide) ?_
  refine g_aload_n hC dJ45_navigableKeySet_13 rfl 1 rfl ?_
  obtain ⟨G_1, eG_1⟩ : ∃ G_, gU G n (.inr (54, [.null])) = G_ := ⟨_, rfl⟩
  refine V.lts (fun ltG_1 => ?_)
  have o_2 : G_1 d = some (.inr (55, [.null, .null, .ref t, .null, .null, .int 1, .int 1, .int 1, .int 1, .null, .null, .null, .ref rc])) := by rw [← eG_1]; exact (gU_n _ (Nat.ne_of_lt (ltG_1 _ _ hd))).trans hd
  have hf_3 : FR (fun q_ => q_ = d) n G G_1 := by rw [← eG_1]; exact FR.put FR.refl (.inr (by omega))
  refine g_new hC kc_J44 q2771 q2757 q152 (fs := [.null]) rfl (G' := G_1) eG_1 (by omega) (by omega) dJ45_navigableKeySet_14 ?_
  have o_4 : G_1 n = some (.inr (54, [.null])) := by rw [← eG_1]; exact gU_s _ _ _
  refine g_dup hC dJ45_navigableKeySet_17 rfl ?_
  refine g_aload_n hC dJ45_navigableKeySet_18 rfl 1 rfl ?_
  refine V.lts (fun lc_5 => ?_)
  refine g_callv0 hC (g_runI (ret := none) hC (met_J44_init_d (G := G_1) n d o_4 (by omega)) (lw_meth q2760) q152 q2772 q2759 rfl md_J44_init dJ45_navigableKeySet_19 rfl ⟨by omega, by omega⟩ (by omega) (by omega) rfl (Nat.le_of_ble_eq_true rfl)) (fun G_6 n_6 u_6 hp_6 hn_6 hm_6 hu_6 => ?_)
  obtain ⟨ho_6, hf_6, rfl, rfl⟩ := hp_6
  have o_7 : G_6 d = some (.inr (55, [.null, .null, .ref t, .null, .null, .int 1, .int 1, .int 1, .int 1, .null, .null, .null, .ref rc])) := (hf_6 _ (lc_5 _ _ o_2) (fun q => (gne_c o_2 o_4 (by decide)) q)).trans o_2
  have hf_8 : FR (fun q_ => q_ = d) n G G_6 := hf_3.trans hf_6 (by omega) (fun a_ q_ => by first | exact .inl q_ | exact .inl (.inl q_) | exact .inl (.inr q_) | (subst q_; first | exact .inr (by omega) | exact .inl rfl))
  refine g_dup_x1 hC dJ45_navigableKeySet_22 rfl rfl ?_
  obtain ⟨G_9, eG_9⟩ : ∃ G_, gU G_6 d (.inr (55, [.null, .null, .ref t, .null, .null, .int 1, .int 1, .int 1, .int 1, .null, .null, .ref n, .ref rc])) = G_ := ⟨_, rfl⟩
  have o_10 : G_9 n = some (.inr (54, [.ref d])) := by rw [← eG_9]; exact (gU_n _ (gne_c ho_6 o_7 (by decide))).trans ho_6
  have hf_11 : FR (fun q_ => q_ = d) n G G_9 := by rw [← eG_9]; exact FR.put hf_8 (.inl rfl)
  refine g_put hC kc_J46 o_7 11 (by decide) q3291 rfl rfl rfl (by show 11 < 13; decide) rfl (by omega) (G' := G_9) eG_9 dJ45_navigableKeySet_23 ?_
  have o_12 : G_9 d = some (.inr (55, [.null, .null, .ref t, .null, .null, .int 1, .int 1, .int 1, .int 1, .null, .null, .ref n, .ref rc])) := by rw [← eG_9]; exact gU_s _ _ _
  refine g_aret (v := some n) hC hr (by first | exact Or.inl ⟨_, rfl⟩ | exact Or.inr ⟨_, rfl⟩) ⟨_, rfl, ?_⟩ (by omega) (by omega) hE dJ45_navigableKeySet_26
  exact ⟨rfl, o_10, o_12, hf_11, rfl, rfl⟩
set_option maxHeartbeats 1000000 in
theorem met_J45_navigableKeySet_b {Y : YT} {l : Launch} {n u : Nat} {G : AH} (d : Nat) {t rc kd : Nat} (hd : G d = some (.inr (55, [.null, .null, .ref t, .null, .null, .int 1, .int 1, .int 1, .int 1, .null, .null, .ref kd, .ref rc]))) : GM Y l yJ45_navigableKeySet (ws_ yJ45_navigableKeySet cJ45_navigableKeySet 2 (some (FieldType.object "java/util/NavigableSet"))) 0 0 [.ref d] G n u 0 0 (pQ (fun r G' n' u' => some kd = r ∧ G = G' ∧ n = n' ∧ u = u')) noX := by
  refine GM.intro (own := RJ45) rfl (by decide +kernel) (Nat.le_of_ble_eq_true rfl) ?_
  intro p e s m args below meth c R Q hC hr hnm hF hL hE
  have hE1 := hE.1
  have hE2 := hE.2.1
  have hnz : yz Y ≤ n := by have := hC.z; have := hC.n; omega
  show V Y p l e R s m args below meth c 2 n u G n u Q 0 [(0, .ref d)] []
  refine V.lts (fun hlt => ?_)
  have hl_d : d < n := hlt _ _ hd
  refine g_aload_n hC dJ45_navigableKeySet_0 rfl 0 rfl ?_
  refine g_get (v := .ref kd) hC kc_J46 hd 11 (by decide) q3291 rfl dJ45_navigableKeySet_1 ?_
  refine g_astore_n (L' := [(1, .ref kd), (0, .ref d)]) hC dJ45_navigableKeySet_4 rfl (by decide) rfl ?_
  refine g_aload_n hC dJ45_navigableKeySet_5 rfl 0 rfl ?_
  refine g_ifnull hC dJ45_navigableKeySet_6 ?_
  refine g_aload_n hC dJ45_navigableKeySet_9 rfl 0 rfl ?_
  refine g_goto (tgt := 26) hC dJ45_navigableKeySet_10 (by decide) ?_
  refine g_aret (v := some kd) hC hr (by first | exact Or.inl ⟨_, rfl⟩ | exact Or.inr ⟨_, rfl⟩) ⟨_, rfl, ?_⟩ (by omega) (by omega) hE dJ45_navigableKeySet_26
  exact ⟨rfl, rfl, rfl, rfl⟩
set_option maxHeartbeats 1000000 in
theorem met_J45_tooLow {Y : YT} {l : Launch} {n u : Nat} {G : AH} (d : Nat) (k_ : Nat) {t rc kd : Nat} (hd : G d = some (.inr (55, [.null, .null, .ref t, .null, .null, .int 1, .int 1, .int 1, .int 1, .null, .null, .ref kd, .ref rc]))) : GM Y l yJ45_tooLow (ws_ yJ45_tooLow cJ45_tooLow 3 (some FieldType.boolean)) 0 0 [.ref d, .ref k_] G n u 0 0 (pI (fun r G' n' u' => 0 = r ∧ G = G' ∧ n = n' ∧ u = u')) noX := by
  refine GM.intro (own := RJ45) rfl (by decide +kernel) (Nat.le_of_ble_eq_true rfl) ?_
  intro p e s m args below meth c R Q hC hr hnm hF hL hE
  have hE1 := hE.1
  have hE2 := hE.2.1
  have hnz : yz Y ≤ n := by have := hC.z; have := hC.n; omega
  show V Y p l e R s m args below meth c 3 n u G n u Q 0 [(0, .ref d), (1, .ref k_)] []
  refine V.lts (fun hlt => ?_)
  have hl_d : d < n := hlt _ _ hd
  refine g_aload_n hC dJ45_tooLow_0 rfl 0 rfl ?_
  refine g_get (v := .int 1) hC kc_J46 hd 5 (by decide) q3261 rfl dJ45_tooLow_1 ?_
  refine g_if_neN hC 1 (by omega) dJ45_tooLow_4 (tgt := 37) (by decide) (fun c_4 => ?_) (fun c_4 => ?_)
  · refine g_iconst (v := 0) hC dJ45_tooLow_37 rfl ?_
    refine g_iret hC hr rfl ⟨_, rfl, ?_⟩ (by omega) (by omega) hE dJ45_tooLow_38
    exact ⟨rfl, rfl, rfl, rfl⟩
  · first | exact absurd c_4 (by decide) | exact absurd c_4 (by omega)
set_option maxHeartbeats 1000000 in
theorem met_J45_absLowFence {Y : YT} {l : Launch} {n u : Nat} {G : AH} (d : Nat) {t rc kd : Nat} (hd : G d = some (.inr (55, [.null, .null, .ref t, .null, .null, .int 1, .int 1, .int 1, .int 1, .null, .null, .ref kd, .ref rc]))) : GM Y l yJ45_absLowFence (ws_ yJ45_absLowFence cJ45_absLowFence 1 (some (FieldType.object "java/util/TreeMap$Entry"))) 0 0 [.ref d] G n u 0 0 (pQ (fun r G' n' u' => none = r ∧ G = G' ∧ n = n' ∧ u = u')) noX := by
  refine GM.intro (own := RJ45) rfl (by decide +kernel) (Nat.le_of_ble_eq_true rfl) ?_
  intro p e s m args below meth c R Q hC hr hnm hF hL hE
  have hE1 := hE.1
  have hE2 := hE.2.1
  have hnz : yz Y ≤ n := by have := hC.z; have := hC.n; omega
  show V Y p l e R s m args below meth c 1 n u G n u Q 0 [(0, .ref d)] []
  refine V.lts (fun hlt => ?_)
  have hl_d : d < n := hlt _ _ hd
  refine g_aload_n hC dJ45_absLowFence_0 rfl 0 rfl ?_
  refine g_get (v := .int 1) hC kc_J46 hd 5 (by decide) q3261 rfl dJ45_absLowFence_1 ?_
  refine g_if_eqN hC 1 (by omega) dJ45_absLowFence_4 (tgt := 11) (by decide) (fun c_4 => ?_) (fun c_4 => ?_)
  · first | exact absurd c_4 (by decide) | exact absurd c_4 (by omega)
  · refine g_null hC dJ45_absLowFence_7 ?_
    refine g_goto (tgt := 43) hC dJ45_absLowFence_8 (by decide) ?_
    refine g_aret (v := none) hC hr (by first | exact Or.inl ⟨_, rfl⟩ | exact Or.inr ⟨_, rfl⟩) ⟨_, rfl, ?_⟩ (by omega) (by omega) hE dJ45_absLowFence_43
    exact ⟨rfl, rfl, rfl, rfl⟩
set_option maxHeartbeats 1000000 in
theorem met_J45_absHighest {Y : YT} {l : Launch} {n u : Nat} {G : AH} (d : Nat) {τ : TS} {q : TQ} {M : MP} {K : AH → Nat → Int → Prop} {J : AH} {c : Option Nat} {t rc kd : Nat} (hT : TMI K Y t c J τ q M) (hps : sub (TZ t τ) G) (hd : G d = some (.inr (55, [.null, .null, .ref t, .null, .null, .int 1, .int 1, .int 1, .int 1, .null, .null, .ref kd, .ref rc]))) : GM Y l yJ45_absHighest (ws_ yJ45_absHighest cJ45_absHighest 2 (some (FieldType.object "java/util/TreeMap$Entry"))) 1 22 [.ref d] G n u 0 0 (pQ (fun r G' n' u' => PV τ q ZH r ∧ G = G' ∧ n = n' ∧ u = u')) noX := by
  refine GM.intro (own := RJ45) rfl (by decide +kernel) (Nat.le_of_ble_eq_true rfl) ?_
  intro p e s m args below meth c R Q hC hr hnm hF hL hE
  have hE1 := hE.1
  have hE2 := hE.2.1
  have hnz : yz Y ≤ n := by have := hC.z; have := hC.n; omega
  show V Y p l e R s m args below meth c 2 n u G n u Q 0 [(0, .ref d)] []
  refine V.lts (fun hlt => ?_)
  have hl_d : d < n := hlt _ _ hd
  refine g_aload_n hC dJ45_absHighest_0 rfl 0 rfl ?_
  refine g_get (v := .int 1) hC kc_J46 hd 6 (by decide) q3267 rfl dJ45_absHighest_1 ?_
  refine g_if_eqN hC 1 (by omega) dJ45_absHighest_4 (tgt := 17) (by decide) (fun c_4 => ?_) (fun c_4 => ?_)
  · first | exact absurd c_4 (by decide) | exact absurd c_4 (by omega)
  · refine g_aload_n hC dJ45_absHighest_7 rfl 0 rfl ?_
    refine g_get (v := .ref t) hC kc_J46 hd 2 (by decide) q3247 rfl dJ45_absHighest_8 ?_
    refine V.lts (fun lc_1 => ?_)
    refine g_callq0 hC (g_runV hC (mp_last (G := G) hT hps) kc_J1 (hps _ _ (TZ_h hT.2.2.2.1)) (lw_V q2111 q2112 q2113 q85 q2114) rfl md_J1_getLastEntry dJ45_absHighest_11 rfl ⟨by omega, by omega⟩ (by omega) (by omega) rfl (Nat.le_of_ble_eq_true rfl)) (fun r_2 G_2 n_2 u_2 hp_2 hn_2 hm_2 hu_2 => ?_)
    obtain ⟨hpv, rfl, rfl, rfl⟩ := hp_2
    refine g_goto (tgt := 49) hC dJ45_absHighest_14 (by decide) ?_
    rcases hq9 : r_2 with _ | s9
    · rw [hq9] at hpv
      refine g_astore_nN (L' := [(1, .null), (0, .ref d)]) hC dJ45_absHighest_49 rfl (by decide) rfl ?_
      refine g_aload_nN hC dJ45_absHighest_50 rfl 0 rfl ?_
      refine g_ifnullN (tgt := 65) hC dJ45_absHighest_51 (by decide) ?_
      refine g_null hC dJ45_absHighest_65 ?_
      refine g_goto (tgt := 70) hC dJ45_absHighest_66 (by decide) ?_
      refine g_aret (v := none) hC hr (by first | exact Or.inl ⟨_, rfl⟩ | exact Or.inr ⟨_, rfl⟩) ⟨_, rfl, ?_⟩ (by omega) (by omega) hE dJ45_absHighest_70
      exact ⟨hpv, rfl, rfl, rfl⟩
    · rw [hq9] at hpv
      obtain ⟨k9, hk9⟩ := hT.2.1.ky s9 hpv.1
      refine g_astore_n (L' := [(1, .ref s9), (0, .ref d)]) hC dJ45_absHighest_49 rfl (by decide) rfl ?_
      refine g_aload_n hC dJ45_absHighest_50 rfl 0 rfl ?_
      refine g_ifnull hC dJ45_absHighest_51 ?_
      refine g_aload_n hC dJ45_absHighest_54 rfl 1 rfl ?_
      refine g_aload_n hC dJ45_absHighest_55 rfl 0 rfl ?_
      refine g_get (v := .ref k9) hC kc_J23 (hps _ _ (TZ_n hT.2.2.2.1 hT.1.1 hpv.1)) 0 (by decide) q1533 (congrArg (fun z => some (va_rf z)) hk9) dJ45_absHighest_56 ?_
      refine V.lts (fun lc_3 => ?_)
      refine g_calli0 hC (g_runU (n := 1) (owner := "java/util/TreeMap$NavigableSubMap") (x := ⟨"java/util/TreeMap$NavigableSubMap", "tooLow", "(Ljava/lang/Object;)Z"⟩) hC (met_J45_tooLow (G := G) d k9 hd) kc_J46 hd (lw_U q2123 q2125 q2127 q2124 q161 q2128) rfl ⟨by decide, by decide, by decide +kernel⟩ dJ45_absHighest_59 rfl ⟨by omega, by omega⟩ (by omega) (by omega) rfl (Nat.le_of_ble_eq_true rfl)) (fun r_4 G_4 n_4 u_4 hp_4 hn_4 hm_4 hu_4 => ?_)
      obtain ⟨rfl, rfl, rfl, rfl⟩ := hp_4
      refine g_if_eqN hC 0 (by omega) dJ45_absHighest_62 (tgt := 69) (by decide) (fun c_62 => ?_) (fun c_62 => ?_)
      · refine g_aload_n hC dJ45_absHighest_69 rfl 0 rfl ?_
        refine g_aret (v := some s9) hC hr (by first | exact Or.inl ⟨_, rfl⟩ | exact Or.inr ⟨_, rfl⟩) ⟨_, rfl, ?_⟩ (by omega) (by omega) hE dJ45_absHighest_70
        exact ⟨hpv, rfl, rfl, rfl⟩
      · first | exact absurd c_62 (by decide) | exact absurd c_62 (by omega)
set_option maxHeartbeats 1000000 in
theorem met_J28_init {Y : YT} {l : Launch} {n u : Nat} {G : AH} (i_ : Nat) (d : Nat) (pv : Option Nat) {τ : TS} {q : TQ} {M : MP} {K : AH → Nat → Int → Prop} {J : AH} {c : Option Nat} {t rc kd : Nat} (hT : TMI K Y t c J τ q M) (hps : sub (TZ t τ) G) (hd : G d = some (.inr (55, [.null, .null, .ref t, .null, .null, .int 1, .int 1, .int 1, .int 1, .null, .null, .ref kd, .ref rc]))) (h1 : G i_ = some (.inr (53, [.null, .null, .null, .int 0, .null]))) (hz : yz Y ≤ i_) : GM Y l yJ28_init (ws_ yJ28_init cJ28_init 4 none) 1 24 [.ref i_, .ref d, va_rf pv, .null] G n u 0 0 (pV (fun G' n' u' => ∃ ub, ub < yz Y ∧ G' i_ = some (.inr (53, [.null, va_rf pv, .ref ub, .int (τ.2.2.1 1), .ref d])) ∧ FR (fun q_ => q_ = i_) n G G' ∧ n = n' ∧ u = u')) noX := by
  rcases pv with _ | pv
  · refine GM.intro (own := RJ28) rfl (by decide +kernel) (Nat.le_of_ble_eq_true rfl) ?_
    intro p e s m args below meth c R Q hC hr hnm hF hL hE
    have hE1 := hE.1
    have hE2 := hE.2.1
    have hnz : yz Y ≤ n := by have := hC.z; have := hC.n; omega
    show V Y p l e R s m args below meth c 4 n u G n u Q 0 [(0, .ref i_), (1, .ref d), (2, .null), (3, .null)] []
    refine V.lts (fun hlt => ?_)
    have hl_d : d < n := hlt _ _ hd
    have hl_i_ : i_ < n := hlt _ _ h1
    refine g_aload_n hC dJ28_init_0 rfl 0 rfl ?_
    refine g_aload_n hC dJ28_init_1 rfl 1 rfl ?_
    obtain ⟨G_1, eG_1⟩ : ∃ G_, gU G i_ (.inr (53, [.null, .null, .null, .int 0, .ref d])) = G_ := ⟨_, rfl⟩
    have o_2 : G_1 d = some (.inr (55, [.null, .null, .ref t, .null, .null, .int 1, .int 1, .int 1, .int 1, .null, .null, .ref kd, .ref rc])) := by rw [← eG_1]; exact (gU_n _ (gne_c hd h1 (by decide))).trans hd
    have hx_3 : sub (TZ t τ) G_1 := by rw [← eG_1]; exact sub_away hps (TZ_none hT.2.2.2.1 hT.1.1 hps h1 (by decide) (by decide) (by decide))
    have hf_4 : FR (fun q_ => q_ = i_) n G G_1 := by rw [← eG_1]; exact FR.put FR.refl (.inl rfl)
    refine g_putF hC hnm kc_J43 h1 4 (by decide) q2088 rfl rfl rfl rfl (by show 4 < 5; decide) rfl (by omega) (G' := G_1) eG_1 dJ28_init_2 ?_
    have o_5 : G_1 i_ = some (.inr (53, [.null, .null, .null, .int 0, .ref d])) := by rw [← eG_1]; exact gU_s _ _ _
    refine g_aload_n hC dJ28_init_5 rfl 0 rfl ?_
    refine V.lts (fun lc_6 => ?_)
    refine g_objInit hC q2081 q178 q179 dJ28_init_6 (by omega) (by first | (simp; omega) | (simp [Value.category]; omega)) ?_
    refine g_aload_n hC dJ28_init_9 rfl 0 rfl ?_
    refine g_aload_n hC dJ28_init_10 rfl 1 rfl ?_
    refine g_get (v := .ref t) hC kc_J46 o_2 2 (by decide) q3244 rfl dJ28_init_11 ?_
    refine g_getN (v := .int (τ.2.2.1 1)) hC kc_J1 (hx_3 _ _ (TZ_h hT.2.2.2.1)) 5 (by decide) q226 (fun _ h => h) rfl dJ28_init_14 ?_
    obtain ⟨G_7, eG_7⟩ : ∃ G_, gU G_1 i_ (.inr (53, [.null, .null, .null, .int (τ.2.2.1 1), .ref d])) = G_ := ⟨_, rfl⟩
    have o_8 : G_7 d = some (.inr (55, [.null, .null, .ref t, .null, .null, .int 1, .int 1, .int 1, .int 1, .null, .null, .ref kd, .ref rc])) := by rw [← eG_7]; exact (gU_n _ (gne_c o_2 o_5 (by decide))).trans o_2
    have hx_9 : sub (TZ t τ) G_7 := by rw [← eG_7]; exact sub_away hx_3 (TZ_none hT.2.2.2.1 hT.1.1 hx_3 o_5 (by decide) (by decide) (by decide))
    have hf_10 : FR (fun q_ => q_ = i_) n G G_7 := by rw [← eG_7]; exact FR.put hf_4 (.inl rfl)
    refine g_put hC kc_J43 o_5 3 (by decide) q2087 rfl rfl rfl (by show 3 < 5; decide) rfl (by omega) (G' := G_7) eG_7 dJ28_init_17 ?_
    have o_11 : G_7 i_ = some (.inr (53, [.null, .null, .null, .int (τ.2.2.1 1), .ref d])) := by rw [← eG_7]; exact gU_s _ _ _
    refine g_aload_n hC dJ28_init_20 rfl 0 rfl ?_
    refine g_null hC dJ28_init_21 ?_
    obtain ⟨G_12, eG_12⟩ : ∃ G_, gU G_7 i_ (.inr (53, [.null, .null, .null, .int (τ.2.2.1 1), .ref d])) = G_ := ⟨_, rfl⟩
    have o_13 : G_12 d = some (.inr (55, [.null, .null, .ref t, .null, .null, .int 1, .int 1, .int 1, .int 1, .null, .null, .ref kd, .ref rc])) := by rw [← eG_12]; exact (gU_n _ (gne_c o_8 o_11 (by decide))).trans o_8
    have hx_14 : sub (TZ t τ) G_12 := by rw [← eG_12]; exact sub_away hx_9 (TZ_none hT.2.2.2.1 hT.1.1 hx_9 o_11 (by decide) (by decide) (by decide))
    have hf_15 : FR (fun q_ => q_ = i_) n G G_12 := by rw [← eG_12]; exact FR.put hf_10 (.inl rfl)
    refine g_put hC kc_J43 o_11 0 (by decide) q2084 rfl rfl rfl (by show 0 < 5; decide) rfl (by omega) (G' := G_12) eG_12 dJ28_init_22 ?_
    have o_16 : G_12 i_ = some (.inr (53, [.null, .null, .null, .int (τ.2.2.1 1), .ref d])) := by rw [← eG_12]; exact gU_s _ _ _
    refine g_aload_n hC dJ28_init_25 rfl 0 rfl ?_
    refine g_aload_nN hC dJ28_init_26 rfl 2 rfl ?_
    obtain ⟨G_17, eG_17⟩ : ∃ G_, gU G_12 i_ (.inr (53, [.null, .null, .null, .int (τ.2.2.1 1), .ref d])) = G_ := ⟨_, rfl⟩
    have o_18 : G_17 d = some (.inr (55, [.null, .null, .ref t, .null, .null, .int 1, .int 1, .int 1, .int 1, .null, .null, .ref kd, .ref rc])) := by rw [← eG_17]; exact (gU_n _ (gne_c o_13 o_16 (by decide))).trans o_13
    have hx_19 : sub (TZ t τ) G_17 := by rw [← eG_17]; exact sub_away hx_14 (TZ_none hT.2.2.2.1 hT.1.1 hx_14 o_16 (by decide) (by decide) (by decide))
    have hf_20 : FR (fun q_ => q_ = i_) n G G_17 := by rw [← eG_17]; exact FR.put hf_15 (.inl rfl)
    refine g_put hC kc_J43 o_16 1 (by decide) q2085 rfl rfl rfl (by show 1 < 5; decide) rfl (by omega) (G' := G_17) eG_17 dJ28_init_27 ?_
    have o_21 : G_17 i_ = some (.inr (53, [.null, .null, .null, .int (τ.2.2.1 1), .ref d])) := by rw [← eG_17]; exact gU_s _ _ _
    refine g_aload_n hC dJ28_init_30 rfl 0 rfl ?_
    refine g_aload_nN hC dJ28_init_31 rfl 3 rfl ?_
    refine g_ifnonnullN hC dJ28_init_32 ?_
    obtain ⟨sa_UNBOUNDED, hZ_UNBOUNDED, hlt_UNBOUNDED⟩ := hC.K.stX q2083 q85 sn_UNBOUNDED
    refine g_getsN (v := .ref sa_UNBOUNDED) hC hZ_UNBOUNDED q2082 (fun _ h => h) dJ28_init_35 ?_
    refine g_goto (tgt := 45) hC dJ28_init_38 (by decide) ?_
    obtain ⟨G_22, eG_22⟩ : ∃ G_, gU G_17 i_ (.inr (53, [.null, .null, .ref sa_UNBOUNDED, .int (τ.2.2.1 1), .ref d])) = G_ := ⟨_, rfl⟩
    have o_23 : G_22 d = some (.inr (55, [.null, .null, .ref t, .null, .null, .int 1, .int 1, .int 1, .int 1, .null, .null, .ref kd, .ref rc])) := by rw [← eG_22]; exact (gU_n _ (gne_c o_18 o_21 (by decide))).trans o_18
    have hx_24 : sub (TZ t τ) G_22 := by rw [← eG_22]; exact sub_away hx_19 (TZ_none hT.2.2.2.1 hT.1.1 hx_19 o_21 (by decide) (by decide) (by decide))
    have hf_25 : FR (fun q_ => q_ = i_) n G G_22 := by rw [← eG_22]; exact FR.put hf_20 (.inl rfl)
    refine g_putF hC hnm kc_J43 o_21 2 (by decide) q2086 rfl rfl rfl rfl (by show 2 < 5; decide) rfl (by omega) (G' := G_22) eG_22 dJ28_init_45 ?_
    have o_26 : G_22 i_ = some (.inr (53, [.null, .null, .ref sa_UNBOUNDED, .int (τ.2.2.1 1), .ref d])) := by rw [← eG_22]; exact gU_s _ _ _
    refine g_vret hC hr ⟨rfl, ?_⟩ (by omega) (by omega) hE dJ28_init_48
    exact ⟨sa_UNBOUNDED, hlt_UNBOUNDED, o_26, hf_25, rfl, rfl⟩
  · refine GM.intro (own := RJ28) rfl (by decide +kernel) (Nat.le_of_ble_eq_true rfl) ?_
    intro p e s m args below meth c R Q hC hr hnm hF hL hE
    have hE1 := hE.1
    have hE2 := hE.2.1
    have hnz : yz Y ≤ n := by have := hC.z; have := hC.n; omega
    show V Y p l e R s m args below meth c 4 n u G n u Q 0 [(0, .ref i_), (1, .ref d), (2, .ref pv), (3, .null)] []
    refine V.lts (fun hlt => ?_)
    have hl_d : d < n := hlt _ _ hd
    have hl_i_ : i_ < n := hlt _ _ h1
    refine g_aload_n hC dJ28_init_0 rfl 0 rfl ?_
    refine g_aload_n hC dJ28_init_1 rfl 1 rfl ?_
    obtain ⟨G_1, eG_1⟩ : ∃ G_, gU G i_ (.inr (53, [.null, .null, .null, .int 0, .ref d])) = G_ := ⟨_, rfl⟩
    have o_2 : G_1 d = some (.inr (55, [.null, .null, .ref t, .null, .null, .int 1, .int 1, .int 1, .int 1, .null, .null, .ref kd, .ref rc])) := by rw [← eG_1]; exact (gU_n _ (gne_c hd h1 (by decide))).trans hd
    have hx_3 : sub (TZ t τ) G_1 := by rw [← eG_1]; exact sub_away hps (TZ_none hT.2.2.2.1 hT.1.1 hps h1 (by decide) (by decide) (by decide))
    have hf_4 : FR (fun q_ => q_ = i_) n G G_1 := by rw [← eG_1]; exact FR.put FR.refl (.inl rfl)
    refine g_putF hC hnm kc_J43 h1 4 (by decide) q2088 rfl rfl rfl rfl (by show 4 < 5; decide) rfl (by omega) (G' := G_1) eG_1 dJ28_init_2 ?_
    have o_5 : G_1 i_ = some (.inr (53, [.null, .null, .null, .int 0, .ref d])) := by rw [← eG_1]; exact gU_s _ _ _
    refine g_aload_n hC dJ28_init_5 rfl 0 rfl ?_
    refine V.lts (fun lc_6 => ?_)
    refine g_objInit hC q2081 q178 q179 dJ28_init_6 (by omega) (by first | (simp; omega) | (simp [Value.category]; omega)) ?_
    refine g_aload_n hC dJ28_init_9 rfl 0 rfl ?_
    refine g_aload_n hC dJ28_init_10 rfl 1 rfl ?_
    refine g_get (v := .ref t) hC kc_J46 o_2 2 (by decide) q3244 rfl dJ28_init_11 ?_
    refine g_getN (v := .int (τ.2.2.1 1)) hC kc_J1 (hx_3 _ _ (TZ_h hT.2.2.2.1)) 5 (by decide) q226 (fun _ h => h) rfl dJ28_init_14 ?_
    obtain ⟨G_7, eG_7⟩ : ∃ G_, gU G_1 i_ (.inr (53, [.null, .null, .null, .int (τ.2.2.1 1), .ref d])) = G_ := ⟨_, rfl⟩
    have o_8 : G_7 d = some (.inr (55, [.null, .null, .ref t, .null, .null, .int 1, .int 1, .int 1, .int 1, .null, .null, .ref kd, .ref rc])) := by rw [← eG_7]; exact (gU_n _ (gne_c o_2 o_5 (by decide))).trans o_2
    have hx_9 : sub (TZ t τ) G_7 := by rw [← eG_7]; exact sub_away hx_3 (TZ_none hT.2.2.2.1 hT.1.1 hx_3 o_5 (by decide) (by decide) (by decide))
    have hf_10 : FR (fun q_ => q_ = i_) n G G_7 := by rw [← eG_7]; exact FR.put hf_4 (.inl rfl)
    refine g_put hC kc_J43 o_5 3 (by decide) q2087 rfl rfl rfl (by show 3 < 5; decide) rfl (by omega) (G' := G_7) eG_7 dJ28_init_17 ?_
    have o_11 : G_7 i_ = some (.inr (53, [.null, .null, .null, .int (τ.2.2.1 1), .ref d])) := by rw [← eG_7]; exact gU_s _ _ _
    refine g_aload_n hC dJ28_init_20 rfl 0 rfl ?_
    refine g_null hC dJ28_init_21 ?_
    obtain ⟨G_12, eG_12⟩ : ∃ G_, gU G_7 i_ (.inr (53, [.null, .null, .null, .int (τ.2.2.1 1), .ref d])) = G_ := ⟨_, rfl⟩
    have o_13 : G_12 d = some (.inr (55, [.null, .null, .ref t, .null, .null, .int 1, .int 1, .int 1, .int 1, .null, .null, .ref kd, .ref rc])) := by rw [← eG_12]; exact (gU_n _ (gne_c o_8 o_11 (by decide))).trans o_8
    have hx_14 : sub (TZ t τ) G_12 := by rw [← eG_12]; exact sub_away hx_9 (TZ_none hT.2.2.2.1 hT.1.1 hx_9 o_11 (by decide) (by decide) (by decide))
    have hf_15 : FR (fun q_ => q_ = i_) n G G_12 := by rw [← eG_12]; exact FR.put hf_10 (.inl rfl)
    refine g_put hC kc_J43 o_11 0 (by decide) q2084 rfl rfl rfl (by show 0 < 5; decide) rfl (by omega) (G' := G_12) eG_12 dJ28_init_22 ?_
    have o_16 : G_12 i_ = some (.inr (53, [.null, .null, .null, .int (τ.2.2.1 1), .ref d])) := by rw [← eG_12]; exact gU_s _ _ _
    refine g_aload_n hC dJ28_init_25 rfl 0 rfl ?_
    refine g_aload_n hC dJ28_init_26 rfl 2 rfl ?_
    obtain ⟨G_17, eG_17⟩ : ∃ G_, gU G_12 i_ (.inr (53, [.null, .ref pv, .null, .int (τ.2.2.1 1), .ref d])) = G_ := ⟨_, rfl⟩
    have o_18 : G_17 d = some (.inr (55, [.null, .null, .ref t, .null, .null, .int 1, .int 1, .int 1, .int 1, .null, .null, .ref kd, .ref rc])) := by rw [← eG_17]; exact (gU_n _ (gne_c o_13 o_16 (by decide))).trans o_13
    have hx_19 : sub (TZ t τ) G_17 := by rw [← eG_17]; exact sub_away hx_14 (TZ_none hT.2.2.2.1 hT.1.1 hx_14 o_16 (by decide) (by decide) (by decide))
    have hf_20 : FR (fun q_ => q_ = i_) n G G_17 := by rw [← eG_17]; exact FR.put hf_15 (.inl rfl)
    refine g_put hC kc_J43 o_16 1 (by decide) q2085 rfl rfl rfl (by show 1 < 5; decide) rfl (by omega) (G' := G_17) eG_17 dJ28_init_27 ?_
    have o_21 : G_17 i_ = some (.inr (53, [.null, .ref pv, .null, .int (τ.2.2.1 1), .ref d])) := by rw [← eG_17]; exact gU_s _ _ _
    refine g_aload_n hC dJ28_init_30 rfl 0 rfl ?_
    refine g_aload_nN hC dJ28_init_31 rfl 3 rfl ?_
    refine g_ifnonnullN hC dJ28_init_32 ?_
    obtain ⟨sa_UNBOUNDED, hZ_UNBOUNDED, hlt_UNBOUNDED⟩ := hC.K.stX q2083 q85 sn_UNBOUNDED
    refine g_getsN (v := .ref sa_UNBOUNDED) hC hZ_UNBOUNDED q2082 (fun _ h => h) dJ28_init_35 ?_
    refine g_goto (tgt := 45) hC dJ28_init_38 (by decide) ?_
    obtain ⟨G_22, eG_22⟩ : ∃ G_, gU G_17 i_ (.inr (53, [.null, .ref pv, .ref sa_UNBOUNDED, .int (τ.2.2.1 1), .ref d])) = G_ := ⟨_, rfl⟩
    have o_23 : G_22 d = some (.inr (55, [.null, .null, .ref t, .null, .null, .int 1, .int 1, .int 1, .int 1, .null, .null, .ref kd, .ref rc])) := by rw [← eG_22]; exact (gU_n _ (gne_c o_18 o_21 (by decide))).trans o_18
    have hx_24 : sub (TZ t τ) G_22 := by rw [← eG_22]; exact sub_away hx_19 (TZ_none hT.2.2.2.1 hT.1.1 hx_19 o_21 (by decide) (by decide) (by decide))
    have hf_25 : FR (fun q_ => q_ = i_) n G G_22 := by rw [← eG_22]; exact FR.put hf_20 (.inl rfl)
    refine g_putF hC hnm kc_J43 o_21 2 (by decide) q2086 rfl rfl rfl rfl (by show 2 < 5; decide) rfl (by omega) (G' := G_22) eG_22 dJ28_init_45 ?_
    have o_26 : G_22 i_ = some (.inr (53, [.null, .ref pv, .ref sa_UNBOUNDED, .int (τ.2.2.1 1), .ref d])) := by rw [← eG_22]; exact gU_s _ _ _
    refine g_vret hC hr ⟨rfl, ?_⟩ (by omega) (by omega) hE dJ28_init_48
    exact ⟨sa_UNBOUNDED, hlt_UNBOUNDED, o_26, hf_25, rfl, rfl⟩
set_option maxHeartbeats 1000000 in
theorem met_J43_init {Y : YT} {l : Launch} {n u : Nat} {G : AH} (i_ : Nat) (d : Nat) (pv : Option Nat) {τ : TS} {q : TQ} {M : MP} {K : AH → Nat → Int → Prop} {J : AH} {c : Option Nat} {t rc kd : Nat} (hT : TMI K Y t c J τ q M) (hps : sub (TZ t τ) G) (hd : G d = some (.inr (55, [.null, .null, .ref t, .null, .null, .int 1, .int 1, .int 1, .int 1, .null, .null, .ref kd, .ref rc]))) (h1 : G i_ = some (.inr (53, [.null, .null, .null, .int 0, .null]))) (hz : yz Y ≤ i_) : GM Y l yJ43_init (ws_ yJ43_init cJ43_init 4 none) 2 47 [.ref i_, .ref d, va_rf pv, .null] G n u 0 0 (pV (fun G' n' u' => ∃ ub, ub < yz Y ∧ G' i_ = some (.inr (53, [.null, va_rf pv, .ref ub, .int (τ.2.2.1 1), .ref d])) ∧ FR (fun q_ => q_ = i_) n G G' ∧ n = n' ∧ u = u')) noX := by
  rcases pv with _ | pv
  · refine GM.intro (own := RJ43) rfl (by decide +kernel) (Nat.le_of_ble_eq_true rfl) ?_
    intro p e s m args below meth c R Q hC hr hnm hF hL hE
    have hE1 := hE.1
    have hE2 := hE.2.1
    have hnz : yz Y ≤ n := by have := hC.z; have := hC.n; omega
    show V Y p l e R s m args below meth c 4 n u G n u Q 0 [(0, .ref i_), (1, .ref d), (2, .null), (3, .null)] []
    refine V.lts (fun hlt => ?_)
    have hl_d : d < n := hlt _ _ hd
    have hl_i_ : i_ < n := hlt _ _ h1
    refine g_aload_n hC dJ43_init_0 rfl 0 rfl ?_
    refine g_aload_n hC dJ43_init_1 rfl 1 rfl ?_
    refine g_aload_nN hC dJ43_init_2 rfl 2 rfl ?_
    refine g_aload_nN hC dJ43_init_3 rfl 3 rfl ?_
    refine V.lts (fun lc_1 => ?_)
    refine g_callv0 hC (g_runI (ret := none) hC (met_J28_init (G := G) i_ d none hT hps hd h1 (by omega)) (lw_meth q2080) q136 q2738 q2079 rfl md_J28_init dJ43_init_4 rfl ⟨by omega, by omega⟩ (by omega) (by omega) rfl (Nat.le_of_ble_eq_true rfl)) (fun G_2 n_2 u_2 hp_2 hn_2 hm_2 hu_2 => ?_)
    obtain ⟨ub_2, hub_2, ho_2, hf_2, rfl, rfl⟩ := hp_2
    have o_3 : G_2 d = some (.inr (55, [.null, .null, .ref t, .null, .null, .int 1, .int 1, .int 1, .int 1, .null, .null, .ref kd, .ref rc])) := (hf_2 _ (lc_1 _ _ hd) (fun q => (gne_c hd h1 (by decide)) q)).trans hd
    have hx_4 : sub (TZ t τ) G_2 := hf_2.subs hps lc_1 (fun a q => by subst q; exact (TZ_none hT.2.2.2.1 hT.1.1 hps h1 (by decide) (by decide) (by decide)))
    have hf_5 : FR (fun q_ => q_ = i_) n G G_2 := FR.refl.trans hf_2 (by omega) (fun a_ q_ => by first | exact .inl q_ | exact .inl (.inl q_) | exact .inl (.inr q_) | (subst q_; first | exact .inr (by omega) | exact .inl rfl))
    refine g_vret hC hr ⟨rfl, ?_⟩ (by omega) (by omega) hE dJ43_init_7
    exact ⟨ub_2, hub_2, ho_2, hf_5, rfl, rfl⟩
  · refine GM.intro (own := RJ43) rfl (by decide +kernel) (Nat.le_of_ble_eq_true rfl) ?_
    intro p e s m args below meth c R Q hC hr hnm hF hL hE
    have hE1 := hE.1
    have hE2 := hE.2.1
    have hnz : yz Y ≤ n := by have := hC.z; have := hC.n; omega
    show V Y p l e R s m args below meth c 4 n u G n u Q 0 [(0, .ref i_), (1, .ref d), (2, .ref pv), (3, .null)] []
    refine V.lts (fun hlt => ?_)
    have hl_d : d < n := hlt _ _ hd
    have hl_i_ : i_ < n := hlt _ _ h1
    refine g_aload_n hC dJ43_init_0 rfl 0 rfl ?_
    refine g_aload_n hC dJ43_init_1 rfl 1 rfl ?_
    refine g_aload_n hC dJ43_init_2 rfl 2 rfl ?_
    refine g_aload_nN hC dJ43_init_3 rfl 3 rfl ?_
    refine V.lts (fun lc_1 => ?_)
    refine g_callv0 hC (g_runI (ret := none) hC (met_J28_init (G := G) i_ d (some pv) hT hps hd h1 (by omega)) (lw_meth q2080) q136 q2738 q2079 rfl md_J28_init dJ43_init_4 rfl ⟨by omega, by omega⟩ (by omega) (by omega) rfl (Nat.le_of_ble_eq_true rfl)) (fun G_2 n_2 u_2 hp_2 hn_2 hm_2 hu_2 => ?_)
    obtain ⟨ub_2, hub_2, ho_2, hf_2, rfl, rfl⟩ := hp_2
    have o_3 : G_2 d = some (.inr (55, [.null, .null, .ref t, .null, .null, .int 1, .int 1, .int 1, .int 1, .null, .null, .ref kd, .ref rc])) := (hf_2 _ (lc_1 _ _ hd) (fun q => (gne_c hd h1 (by decide)) q)).trans hd
    have hx_4 : sub (TZ t τ) G_2 := hf_2.subs hps lc_1 (fun a q => by subst q; exact (TZ_none hT.2.2.2.1 hT.1.1 hps h1 (by decide) (by decide) (by decide)))
    have hf_5 : FR (fun q_ => q_ = i_) n G G_2 := FR.refl.trans hf_2 (by omega) (fun a_ q_ => by first | exact .inl q_ | exact .inl (.inl q_) | exact .inl (.inr q_) | (subst q_; first | exact .inr (by omega) | exact .inl rfl))
    refine g_vret hC hr ⟨rfl, ?_⟩ (by omega) (by omega) hE dJ43_init_7
    exact ⟨ub_2, hub_2, ho_2, hf_5, rfl, rfl⟩
set_option maxHeartbeats 1000000 in
theorem met_J46_keyIterator {Y : YT} {l : Launch} {n u : Nat} {G : AH} (d : Nat) {τ : TS} {q : TQ} {M : MP} {K : AH → Nat → Int → Prop} {J : AH} {c : Option Nat} {t rc kd : Nat} (hT : TMI K Y t c J τ q M) (hps : sub (TZ t τ) G) (hd : G d = some (.inr (55, [.null, .null, .ref t, .null, .null, .int 1, .int 1, .int 1, .int 1, .null, .null, .ref kd, .ref rc]))) : GM Y l yJ46_keyIterator (ws_ yJ46_keyIterator cJ46_keyIterator 1 (some (FieldType.object "java/util/Iterator"))) 3 70 [.ref d] G n u 1 5 (pQ (fun r G' n' u' => some n = r ∧ (∃ pv ub, IRr τ q M pv M.reverse ∧ ub < yz Y ∧ G' n = some (.inr (53, [.null, va_rf pv, .ref ub, .int (τ.2.2.1 1), .ref d]))) ∧ FR noD n G G' ∧ n + 1 = n' ∧ u + 5 = u')) noX := by
  refine GM.intro (own := RJ46) rfl (by decide +kernel) (Nat.le_of_ble_eq_true rfl) ?_
  intro p e s m args below meth c R Q hC hr hnm hF hL hE
  have hE1 := hE.1
  have hE2 := hE.2.1
  have hnz : yz Y ≤ n := by have := hC.z; have := hC.n; omega
  show V Y p l e R s m args below meth c 1 n u G n u Q 0 [(0, .ref d)] []
  refine V.lts (fun hlt => ?_)
  have hl_d : d < n := hlt _ _ hd
  obtain ⟨G_1, eG_1⟩ : ∃ G_, gU G n (.inr (53, [.null, .null, .null, .int 0, .null])) = G_ := ⟨_, rfl⟩
  refine V.lts (fun ltG_1 => ?_)
  have o_2 : G_1 d = some (.inr (55, [.null, .null, .ref t, .null, .null, .int 1, .int 1, .int 1, .int 1, .null, .null, .ref kd, .ref rc])) := by rw [← eG_1]; exact (gU_n _ (Nat.ne_of_lt (ltG_1 _ _ hd))).trans hd
  have hx_3 : sub (TZ t τ) G_1 := by rw [← eG_1]; exact sub_new hps ltG_1
  have hf_4 : FR noD n G G_1 := by rw [← eG_1]; exact FR.put FR.refl (.inr (by omega))
  refine g_new hC kc_J43 q2731 q2732 q151 (fs := [.null, .null, .null, .int 0, .null]) rfl (G' := G_1) eG_1 (by omega) (by omega) dJ46_keyIterator_0 ?_
  have o_5 : G_1 n = some (.inr (53, [.null, .null, .null, .int 0, .null])) := by rw [← eG_1]; exact gU_s _ _ _
  refine g_dup hC dJ46_keyIterator_3 rfl ?_
  refine g_aload_n hC dJ46_keyIterator_4 rfl 0 rfl ?_
  refine g_aload_n hC dJ46_keyIterator_5 rfl 0 rfl ?_
  refine V.lts (fun lc_6 => ?_)
  refine g_callq0 hC (g_runU (n := 0) (owner := "java/util/TreeMap$NavigableSubMap") (x := ⟨"java/util/TreeMap$DescendingSubMap", "absHighest", "()Ljava/util/TreeMap$Entry;"⟩) hC (met_J45_absHighest (G := G_1) d hT hx_3 o_2) kc_J46 o_2 (lw_U q2733 q2106 q2108 q2109 q161 q2110) rfl ⟨by decide, by decide, by decide +kernel⟩ dJ46_keyIterator_6 rfl ⟨by omega, by omega⟩ (by omega) (by omega) rfl (Nat.le_of_ble_eq_true rfl)) (fun r_7 G_7 n_7 u_7 hp_7 hn_7 hm_7 hu_7 => ?_)
  obtain ⟨hpv, rfl, rfl, rfl⟩ := hp_7
  refine g_aload_n hC dJ46_keyIterator_9 rfl 0 rfl ?_
  refine V.lts (fun lc_8 => ?_)
  refine g_callq0 hC (g_runU (n := 0) (owner := "java/util/TreeMap$NavigableSubMap") (x := ⟨"java/util/TreeMap$DescendingSubMap", "absLowFence", "()Ljava/util/TreeMap$Entry;"⟩) hC (met_J45_absLowFence (G := G_1) d o_2) kc_J46 o_2 (lw_U q2734 q2130 q2132 q2133 q161 q2134) rfl ⟨by decide, by decide, by decide +kernel⟩ dJ46_keyIterator_10 rfl ⟨by omega, by omega⟩ (by omega) (by omega) rfl (by simp only [List.map_cons, rf_cat]; exact Nat.le_of_ble_eq_true rfl)) (fun r_9 G_9 n_9 u_9 hp_9 hn_9 hm_9 hu_9 => ?_)
  obtain ⟨rfl, rfl, rfl, rfl⟩ := hp_9
  refine V.lts (fun lc_10 => ?_)
  refine g_callv0 hC (g_runI (ret := none) hC (met_J43_init (G := G_1) n d r_7 hT hx_3 o_2 o_5 (by omega)) (lw_meth q2737) q151 q2735 q2736 rfl md_J43_init dJ46_keyIterator_13 rfl ⟨by omega, by omega⟩ (by omega) (by omega) rfl (Nat.le_of_ble_eq_true rfl)) (fun G_11 n_11 u_11 hp_11 hn_11 hm_11 hu_11 => ?_)
  obtain ⟨ub_11, hub_11, ho_11, hf_11, rfl, rfl⟩ := hp_11
  have o_12 : G_11 d = some (.inr (55, [.null, .null, .ref t, .null, .null, .int 1, .int 1, .int 1, .int 1, .null, .null, .ref kd, .ref rc])) := (hf_11 _ (lc_10 _ _ o_2) (fun q => (gne_c o_2 o_5 (by decide)) q)).trans o_2
  have hx_13 : sub (TZ t τ) G_11 := hf_11.subs hx_3 lc_10 (fun a q => by subst q; exact (TZ_none hT.2.2.2.1 hT.1.1 hx_3 o_5 (by decide) (by decide) (by decide)))
  have hf_14 : FR noD n G G_11 := hf_4.trans hf_11 (by omega) (fun a_ q_ => by first | exact .inl q_ | exact .inl (.inl q_) | exact .inl (.inr q_) | (subst q_; first | exact .inr (by omega) | exact .inl rfl))
  refine g_aret (v := some n) hC hr (by first | exact Or.inl ⟨_, rfl⟩ | exact Or.inr ⟨_, rfl⟩) ⟨_, rfl, ?_⟩ (by omega) (by omega) hE dJ46_keyIterator_16
  exact ⟨rfl, ⟨_, _, hpv.ir0 hT.2.1, hub_11, ho_11⟩, hf_14, rfl, rfl⟩
