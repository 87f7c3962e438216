set_option maxRecDepth 100000
/-! COMPONENT, 13: sets made; lists of keys -/
theorem TZ_hM {Y : YT} {t h N : Nat} {τ : TS} {G : AH} {σ : MS} {η : HV} (hk : ∀ a, τ.1 7 0 = some a → a ≠ t ∧ τ.2.2.2 a = false) (ht : τ.2.2.2 t = false) (hs : sub (TZ t τ) G) (hh : sub (hM Y h N σ η) G) : ∀ a, TD t τ a → hM Y h N σ η a = none := TZ_pic hk ht hs hh (fun a i fs e => by
  unfold hM at e
  split at e
  · generalize a - h = j0 at e
    rcases j0 with _ | _ | _ | _ | _ | _ | _ | j
    all_goals (unfold hE at e; first | (cases e; done) | (cases e; exact ⟨by decide, by decide⟩))
  · cases e)
theorem TZ_hD {Y : YT} {t h N : Nat} {τ : TS} {G : AH} {σ : MS} {η : HV} (hs : sub (TZ t τ) G) (hh : sub (hM Y h N σ η) G) : ∀ a, hD h a → TZ t τ a = none := by
  have key : ∀ a i fs, G a = some (.inr (i, fs)) → i ≠ 34 → i ≠ 42 → i ≠ 54 → TZ t τ a = none := fun a i fs h h1 h2 h3 => by
    cases e : TZ t τ a with
    | none => rfl
    | some x =>
      have h4 := hs a x e
      unfold TZ at e
      split at e
      · rw [h] at h4; cases h4; cases e; contradiction
      · unfold tG at e
        split at e
        · rw [h] at h4; cases h4; cases e; contradiction
        · split at e
          · rw [h] at h4; cases h4; cases e; contradiction
          · cases e
  rintro a ⟨h1, h2⟩
  obtain ⟨j, rfl⟩ : ∃ j, a = h + j := ⟨a - h, by omega⟩
  have hj : j < 7 := by omega
  rcases j with _ | _ | _ | _ | _ | _ | _ | j
  · exact key _ _ _ (hh _ _ (hM_j 0)) (by decide) (by decide) (by decide)
  · exact TZ_noneA hs (hh _ _ (hM_j 1))
  · exact TZ_noneA hs (hh _ _ (hM_j 2))
  · exact TZ_noneA hs (hh _ _ (hM_j 3))
  · exact TZ_noneA hs (hh _ _ (hM_j 4))
  · exact TZ_noneA hs (hh _ _ (hM_j 5))
  · exact TZ_noneA hs (hh _ _ (hM_j 6))
  · omega
theorem KI_nI {J : AH} {k q : Nat} (h : KI J k (q : Int)) (hq : q < 2 ^ 31) : J k = some (.inr (40, [.int (nI q)])) := by
  obtain ⟨v, a, b⟩ := h
  rw [a]
  have : v = nI q := Int32.toInt_inj.mp (b.trans (nI_toInt hq).symm)
  rw [this]
theorem TMI.key {K : AH → Nat → Int → Prop} {Y : YT} {t : Nat} {c : Option Nat} {J : AH} {τ : TS} {q : TQ} {M : MP} (h : TMI K Y t c J τ q M) {X : Int} {k : Nat} {v : Option Nat} (hm : (X, k, v) ∈ M) : K J k X := by
  obtain ⟨a, a1, a2, a3, -⟩ := (h.2.1.mem X k v).mp hm
  rw [← a2]; exact h.2.2.2.2.1 a k a1 a3
theorem mput_end {X : Int} {k : Nat} {v : Option Nat} : ∀ {M : MP}, (∀ e, e ∈ M → e.1 < X) → mput X k v M = M ++ [(X, k, v)]
  | [], _ => rfl
  | e :: M, h => by
    unfold mput
    rw [if_pos (h e List.mem_cons_self), mput_end (fun e he => h e (List.mem_cons_of_mem _ he))]; rfl
/-- the ranks of a map as a list of small numbers -/
def keysN (M : MP) (L : List Nat) : Prop := M.map (fun e => e.1) = L.map (fun q : Nat => (q : Int))
theorem keysN_end {M : MP} {L : List Nat} {q k : Nat} {v : Option Nat} (h : keysN M L) (hL : ∀ x, x ∈ L → x < q) : keysN (mput (q : Int) k v M) (L ++ [q]) ∧ (∀ e, e ∈ M → e.1 ≠ (q : Int)) := by
  have hlt : ∀ e, e ∈ M → e.1 < (q : Int) := fun e he => by
    have h1 : e.1 ∈ M.map (fun e => e.1) := List.mem_map.mpr ⟨e, he, rfl⟩
    rw [h] at h1
    obtain ⟨x, x1, x2⟩ := List.mem_map.mp h1
    rw [← x2]; have := hL x x1; omega
  refine ⟨?_, fun e he => by have := hlt e he; omega⟩
  rw [mput_end hlt]
  unfold keysN
  rw [List.map_append, List.map_append, h]; rfl
theorem keysN_len {M : MP} {L : List Nat} (h : keysN M L) : M.length = L.length := by
  have := congrArg List.length h
  simpa using this
theorem keysN_nil : keysN [] [] := rfl
theorem keysN_cons {M : MP} {L : List Nat} (h : keysN M L) (hn : L ≠ []) : ∃ X k v R q L', M = (X, k, v) :: R ∧ L = q :: L' ∧ X = (q : Int) ∧ keysN R L' := by
  cases L with
  | nil => exact absurd rfl hn
  | cons q L' =>
    cases M with
    | nil => cases h
    | cons e R =>
      obtain ⟨X, k, v⟩ := e
      unfold keysN at h
      simp only [List.map_cons, List.cons.injEq] at h
      exact ⟨X, k, v, R, q, L', rfl, rfl, h.1, h.2⟩

set_option maxHeartbeats 1000000 in
theorem met_J35_init_2 {Y : YT} {l : Launch} {n u : Nat} {G : AH} (i_ : Nat) (m_ : Nat)  (h1 : G i_ = some (.inr (47, [.null]))) (hz : yz Y ≤ i_) : GM Y l yJ35_init_2 (ws_ yJ35_init_2 cJ35_init_2 2 none) 3 64 [.ref i_, .ref m_] G n u 0 0 (pV (fun G' n' u' => G' i_ = some (.inr (47, [.ref m_])) ∧ FR (fun q_ => q_ = i_) n G G' ∧ n = n' ∧ u = u')) noX := by
  refine GM.intro (own := RJ35) rfl (by decide +kernel) (Nat.le_of_ble_eq_true rfl) ?_
  intro p e s m args below meth c R Q hC hr hnm hF hL hE
  have hE1 := hE.1
  have hE2 := hE.2.1
  have hnz : yz Y ≤ n := by have := hC.z; have := hC.n; omega
  show V Y p l e R s m args below meth c 2 n u G n u Q 0 [(0, .ref i_), (1, .ref m_)] []
  refine V.lts (fun hlt => ?_)
  have hl_i_ : i_ < n := hlt _ _ h1
  refine g_aload_n hC dJ35_init_2_0 rfl 0 rfl ?_
  refine V.lts (fun lc_1 => ?_)
  refine g_callv0 hC (g_runI (ret := none) hC (met_J31_init (G := G) i_) (lw_meth q2365) q139 q2487 q2364 rfl md_J31_init dJ35_init_2_1 rfl ⟨by omega, by omega⟩ (by omega) (by omega) rfl (Nat.le_of_ble_eq_true rfl)) (fun G_2 n_2 u_2 hp_2 hn_2 hm_2 hu_2 => ?_)
  obtain ⟨rfl, rfl, rfl⟩ := hp_2
  refine g_aload_n hC dJ35_init_2_4 rfl 0 rfl ?_
  refine g_aload_n hC dJ35_init_2_5 rfl 1 rfl ?_
  obtain ⟨G_3, eG_3⟩ : ∃ G_, gU G i_ (.inr (47, [.ref m_])) = G_ := ⟨_, rfl⟩
  have hf_4 : FR (fun q_ => q_ = i_) n G G_3 := by rw [← eG_3]; exact FR.put FR.refl (.inl rfl)
  refine g_put hC kc_J35 h1 0 (by decide) q2488 rfl rfl rfl (by show 0 < 1; decide) rfl (by omega) (G' := G_3) eG_3 dJ35_init_2_6 ?_
  have o_5 : G_3 i_ = some (.inr (47, [.ref m_])) := by rw [← eG_3]; exact gU_s _ _ _
  refine g_vret hC hr ⟨rfl, ?_⟩ (by omega) (by omega) hE dJ35_init_2_9
  exact ⟨o_5, hf_4, rfl, rfl⟩
set_option maxHeartbeats 1000000 in
theorem met_J35_init {Y : YT} {l : Launch} {n u : Nat} {G : AH} (i_ : Nat) {I : AH} {K : AH → Nat → Int → Prop} (h1 : G i_ = some (.inr (47, [.null]))) (hz : yz Y ≤ i_) (hI : sub I G) (hIi : I i_ = none) : GM Y l yJ35_init (ws_ yJ35_init cJ35_init 1 none) 4 85 [.ref i_] G n u 1 9 (pV (fun G' n' u' => ∃ τ q, TMI K Y n none I τ q [] ∧ sub (TZ n τ) G' ∧ G' i_ = some (.inr (47, [.ref n])) ∧ FR (fun q_ => q_ = i_) n G G' ∧ (∀ a, TD n τ a → a = n) ∧ τ.1 8 0 = none ∧ n + 1 = n' ∧ u + 9 = u')) noX := by
  refine GM.intro (own := RJ35) rfl (by decide +kernel) (Nat.le_of_ble_eq_true rfl) ?_
  intro p e s m args below meth c R Q hC hr hnm hF hL hE
  have hE1 := hE.1
  have hE2 := hE.2.1
  have hnz : yz Y ≤ n := by have := hC.z; have := hC.n; omega
  show V Y p l e R s m args below meth c 1 n u G n u Q 0 [(0, .ref i_)] []
  refine V.lts (fun hlt => ?_)
  have hl_i_ : i_ < n := hlt _ _ h1
  have hIn := sub_none hI hlt
  refine g_aload_n hC dJ35_init_0 rfl 0 rfl ?_
  obtain ⟨G_1, eG_1⟩ : ∃ G_, gU G n (.inr (34, [.null, .null, .null, .null, .int 0, .int 0, .null, .null, .null])) = G_ := ⟨_, rfl⟩
  refine V.lts (fun ltG_1 => ?_)
  have o_2 : G_1 i_ = some (.inr (47, [.null])) := by rw [← eG_1]; exact (gU_n _ (Nat.ne_of_lt (ltG_1 _ _ h1))).trans h1
  have hi_3 : sub I G_1 := by rw [← eG_1]; exact sub_new hI ltG_1
  have hf_4 : FR (fun q_ => q_ = i_) n G G_1 := by rw [← eG_1]; exact FR.put FR.refl (.inr (by omega))
  refine g_new hC kc_J1 q2482 q212 q85 (fs := [.null, .null, .null, .null, .int 0, .int 0, .null, .null, .null]) rfl (G' := G_1) eG_1 (by omega) (by omega) dJ35_init_1 ?_
  have o_5 : G_1 n = some (.inr (34, [.null, .null, .null, .null, .int 0, .int 0, .null, .null, .null])) := by rw [← eG_1]; exact gU_s _ _ _
  refine g_dup hC dJ35_init_4 rfl ?_
  refine V.lts (fun lc_6 => ?_)
  refine g_callv0 hC (g_runI (ret := none) hC (mp_new (G := G_1) (t := n) (J := I) K o_5 (by omega) (hIn _ (by omega))) (lw_meth q215) q85 q2483 q214 rfl md_J1_init dJ35_init_5 rfl ⟨by omega, by omega⟩ (by omega) (by omega) rfl (Nat.le_of_ble_eq_true rfl)) (fun G_7 n_7 u_7 hp_7 hn_7 hm_7 hu_7 => ?_)
  obtain ⟨τ_7, q_7, hT_7, hps_7, hf_7, hD_7, h8_7, rfl, rfl⟩ := hp_7
  have o_8 : G_7 i_ = some (.inr (47, [.null])) := (hf_7 _ (lc_6 _ _ o_2) (fun q => (gne_c o_2 o_5 (by decide)) q)).trans o_2
  have hi_9 : sub I G_7 := hf_7.subs hi_3 lc_6 (fun a q => by subst q; exact hIn _ (by omega))
  have hf_10 : FR (fun q_ => q_ = i_) n G G_7 := hf_4.trans hf_7 (by omega) (fun a_ q_ => by first | exact .inl q_ | exact .inl (.inl q_) | exact .inl (.inr q_) | (subst q_; first | exact .inr (by omega) | exact .inl rfl))
  have hTn_11 : ∀ a, TD n τ_7 a → (fun q_ => q_ = i_) a ∨ n ≤ a := fun a q => .inr (by have := hD_7 a q; omega)
  refine V.lts (fun lc_12 => ?_)
  refine g_callv0 hC (g_runI (ret := none) hC (met_J35_init_2 (G := G_7) i_ n o_8 (by omega)) (lw_meth q2486) q143 q2484 q2485 rfl md_J35_init_2 dJ35_init_8 rfl ⟨by omega, by omega⟩ (by omega) (by omega) rfl (Nat.le_of_ble_eq_true rfl)) (fun G_13 n_13 u_13 hp_13 hn_13 hm_13 hu_13 => ?_)
  obtain ⟨ho_13, hf_13, rfl, rfl⟩ := hp_13
  have hi_14 : sub I G_13 := hf_13.subs hi_9 lc_12 (fun a q => by subst q; exact hIi)
  have hx_15 : sub (TZ n τ_7) G_13 := hf_13.subs hps_7 lc_12 (fun a q => by subst q; exact (TZ_none hT_7.2.2.2.1 hT_7.1.1 hps_7 o_8 (by decide) (by decide) (by decide)))
  have hf_16 : FR (fun q_ => q_ = i_) n G G_13 := hf_10.trans hf_13 (by omega) (fun a_ q_ => by first | exact .inl q_ | exact .inl (.inl q_) | exact .inl (.inr q_) | (subst q_; first | exact .inr (by omega) | exact .inl rfl))
  refine g_vret hC hr ⟨rfl, ?_⟩ (by omega) (by omega) hE dJ35_init_11
  exact ⟨_, _, hT_7, hx_15, ho_13, hf_16, fun a q => hD_7 a q, h8_7, rfl, rfl⟩
set_option maxHeartbeats 1000000 in
theorem met_J35_init_3 {Y : YT} {l : Launch} {n u : Nat} {G : AH} (i_ : Nat) (c_ : Nat) {I : AH} {K : AH → Nat → Int → Prop} (h1 : G i_ = some (.inr (47, [.null]))) (hz : yz Y ≤ i_) (hI : sub I G) (hIi : I i_ = none) : GM Y l yJ35_init_3 (ws_ yJ35_init_3 cJ35_init_3 2 none) 4 85 [.ref i_, .ref c_] G n u 1 9 (pV (fun G' n' u' => ∃ τ q, TMI K Y n (some c_) I τ q [] ∧ sub (TZ n τ) G' ∧ G' i_ = some (.inr (47, [.ref n])) ∧ FR (fun q_ => q_ = i_) n G G' ∧ (∀ a, TD n τ a → a = n) ∧ τ.1 8 0 = none ∧ n + 1 = n' ∧ u + 9 = u')) noX := by
  refine GM.intro (own := RJ35) rfl (by decide +kernel) (Nat.le_of_ble_eq_true rfl) ?_
  intro p e s m args below meth c R Q hC hr hnm hF hL hE
  have hE1 := hE.1
  have hE2 := hE.2.1
  have hnz : yz Y ≤ n := by have := hC.z; have := hC.n; omega
  show V Y p l e R s m args below meth c 2 n u G n u Q 0 [(0, .ref i_), (1, .ref c_)] []
  refine V.lts (fun hlt => ?_)
  have hl_i_ : i_ < n := hlt _ _ h1
  have hIn := sub_none hI hlt
  refine g_aload_n hC dJ35_init_3_0 rfl 0 rfl ?_
  obtain ⟨G_1, eG_1⟩ : ∃ G_, gU G n (.inr (34, [.null, .null, .null, .null, .int 0, .int 0, .null, .null, .null])) = G_ := ⟨_, rfl⟩
  refine V.lts (fun ltG_1 => ?_)
  have o_2 : G_1 i_ = some (.inr (47, [.null])) := by rw [← eG_1]; exact (gU_n _ (Nat.ne_of_lt (ltG_1 _ _ h1))).trans h1
  have hi_3 : sub I G_1 := by rw [← eG_1]; exact sub_new hI ltG_1
  have hf_4 : FR (fun q_ => q_ = i_) n G G_1 := by rw [← eG_1]; exact FR.put FR.refl (.inr (by omega))
  refine g_new hC kc_J1 q2482 q212 q85 (fs := [.null, .null, .null, .null, .int 0, .int 0, .null, .null, .null]) rfl (G' := G_1) eG_1 (by omega) (by omega) dJ35_init_3_1 ?_
  have o_5 : G_1 n = some (.inr (34, [.null, .null, .null, .null, .int 0, .int 0, .null, .null, .null])) := by rw [← eG_1]; exact gU_s _ _ _
  refine g_dup hC dJ35_init_3_4 rfl ?_
  refine g_aload_n hC dJ35_init_3_5 rfl 1 rfl ?_
  refine V.lts (fun lc_6 => ?_)
  refine g_callv0 hC (g_runI (ret := none) hC (mp_new_c (G := G_1) (t := n) (J := I) K c_ o_5 (by omega) (hIn _ (by omega))) (lw_meth q3123) q85 q3121 q3122 rfl md_J1_init_2 dJ35_init_3_6 rfl ⟨by omega, by omega⟩ (by omega) (by omega) rfl (Nat.le_of_ble_eq_true rfl)) (fun G_7 n_7 u_7 hp_7 hn_7 hm_7 hu_7 => ?_)
  obtain ⟨τ_7, q_7, hT_7, hps_7, hf_7, hD_7, h8_7, rfl, rfl⟩ := hp_7
  have o_8 : G_7 i_ = some (.inr (47, [.null])) := (hf_7 _ (lc_6 _ _ o_2) (fun q => (gne_c o_2 o_5 (by decide)) q)).trans o_2
  have hi_9 : sub I G_7 := hf_7.subs hi_3 lc_6 (fun a q => by subst q; exact hIn _ (by omega))
  have hf_10 : FR (fun q_ => q_ = i_) n G G_7 := hf_4.trans hf_7 (by omega) (fun a_ q_ => by first | exact .inl q_ | exact .inl (.inl q_) | exact .inl (.inr q_) | (subst q_; first | exact .inr (by omega) | exact .inl rfl))
  have hTn_11 : ∀ a, TD n τ_7 a → (fun q_ => q_ = i_) a ∨ n ≤ a := fun a q => .inr (by have := hD_7 a q; omega)
  refine V.lts (fun lc_12 => ?_)
  refine g_callv0 hC (g_runI (ret := none) hC (met_J35_init_2 (G := G_7) i_ n o_8 (by omega)) (lw_meth q2486) q143 q2484 q2485 rfl md_J35_init_2 dJ35_init_3_9 rfl ⟨by omega, by omega⟩ (by omega) (by omega) rfl (Nat.le_of_ble_eq_true rfl)) (fun G_13 n_13 u_13 hp_13 hn_13 hm_13 hu_13 => ?_)
  obtain ⟨ho_13, hf_13, rfl, rfl⟩ := hp_13
  have hi_14 : sub I G_13 := hf_13.subs hi_9 lc_12 (fun a q => by subst q; exact hIi)
  have hx_15 : sub (TZ n τ_7) G_13 := hf_13.subs hps_7 lc_12 (fun a q => by subst q; exact (TZ_none hT_7.2.2.2.1 hT_7.1.1 hps_7 o_8 (by decide) (by decide) (by decide)))
  have hf_16 : FR (fun q_ => q_ = i_) n G G_13 := hf_10.trans hf_13 (by omega) (fun a_ q_ => by first | exact .inl q_ | exact .inl (.inl q_) | exact .inl (.inr q_) | (subst q_; first | exact .inr (by omega) | exact .inl rfl))
  refine g_vret hC hr ⟨rfl, ?_⟩ (by omega) (by omega) hE dJ35_init_3_12
  exact ⟨_, _, hT_7, hx_15, ho_13, hf_16, fun a q => hD_7 a q, h8_7, rfl, rfl⟩
