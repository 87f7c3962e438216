set_option maxRecDepth 100000
/-! COMPONENT, 25: the chain of a point -/
/-- a hook's rank: the highest priority first, then the oldest plug-in, then the first made -/
def rkH (σ : MS) (q : Nat) : Int := -(hkF σ 2 q).toInt * 1000000000000 + (tl σ 7 (hkF σ 0 q).toNatClampNeg).toInt * 1000 + q
/-- a hook that takes part -/
def inC (σ : MS) (pt : Int32) (q : Nat) : Bool := decide (hkF σ 1 q = pt) && decide (tl σ 0 (hkF σ 0 q).toNatClampNeg = 1)
/-- what is known of hooks -/
abbrev HKb (N K : Nat) (σ : MS) : Prop := ∀ q, q < K → (∃ p, p < N ∧ hkF σ 0 q = nI p) ∧ (-1000 < (hkF σ 2 q).toInt ∧ (hkF σ 2 q).toInt < 1000)
theorem rkH_b {N K q : Nat} {σ : MS} (hb : HKb N K σ) (hN : N ≤ 12) (hA : AGd N σ) (hq : q < K) (hK : K ≤ 24) : ZL < rkH σ q ∧ rkH σ q < ZH := by
  obtain ⟨⟨p, hp, e⟩, h1, h2⟩ := hb q hq
  have ha := hA.1 p hp
  unfold rkH ZL ZH
  rw [e, nI_clamp (by omega)]
  omega
theorem rkH_inj {N K q q' : Nat} {σ : MS} (hb : HKb N K σ) (hN : N ≤ 12) (hA : AGd N σ) (hq : q < K) (hq' : q' < K) (hK : K ≤ 24) (h : rkH σ q = rkH σ q') : q = q' := by
  obtain ⟨⟨p, hp, e⟩, h1, h2⟩ := hb q hq
  obtain ⟨⟨p', hp', e'⟩, h1', h2'⟩ := hb q' hq'
  have ha := hA.1 p hp
  have ha' := hA.1 p' hp'
  unfold rkH at h
  rw [e, e', nI_clamp (by omega), nI_clamp (by omega)] at h
  omega
/-- the chain as a list: hooks below i, by rank -/
def CHM (σ : MS) (I : AH) (pt : Int32) (i : Nat) (M : MP) : Prop := (∀ X k v, (X, k, v) ∈ M → ∃ q, q < i ∧ inC σ pt q = true ∧ X = rkH σ q ∧ I k = some (.inr (26, [.int (nI q), .int (hkF σ 0 q), .int (hkF σ 1 q), .int (hkF σ 2 q), .int (hkF σ 3 q), .int (hkF σ 4 q)]))) ∧ (∀ q, q < i → inC σ pt q = true → ∃ k v, (rkH σ q, k, v) ∈ M)
theorem CHM_0 {σ : MS} {I : AH} {pt : Int32} : CHM σ I pt 0 [] := ⟨fun _ _ _ h => (nomatch h), fun q h => absurd h (Nat.not_lt_zero _)⟩
theorem CHM.no {σ : MS} {I : AH} {pt : Int32} {i : Nat} {M : MP} (h : CHM σ I pt i M) (hr : inC σ pt i = false) : CHM σ I pt (i + 1) M := by
  refine ⟨fun X k v he => ?_, fun q hq hr2 => ?_⟩
  · obtain ⟨q, h1, h2⟩ := h.1 X k v he; exact ⟨q, by omega, h2⟩
  · by_cases e : q = i
    · subst e; rw [hr] at hr2; cases hr2
    · exact h.2 q (by omega) hr2
theorem CHM.new {N K i : Nat} {σ : MS} {I : AH} {pt : Int32} {M : MP} (h : CHM σ I pt i M) (hb : HKb N K σ) (hN : N ≤ 12) (hA : AGd N σ) (hi : i < K) (hK : K ≤ 24) : ∀ e, e ∈ M → e.1 ≠ rkH σ i := fun e he hx => by
  obtain ⟨X, k, v⟩ := e
  obtain ⟨q, h1, h2, h3, -⟩ := h.1 X k v he
  have := rkH_inj hb hN hA (by omega) hi hK (h3.symm.trans hx)
  omega
theorem CHM.put {i k : Nat} {v : Option Nat} {σ : MS} {I : AH} {pt : Int32} {M : MP} (h : CHM σ I pt i M) (hr : inC σ pt i = true) (hx : ∀ e, e ∈ M → e.1 ≠ rkH σ i) (hk : I k = some (.inr (26, [.int (nI i), .int (hkF σ 0 i), .int (hkF σ 1 i), .int (hkF σ 2 i), .int (hkF σ 3 i), .int (hkF σ 4 i)]))) : CHM σ I pt (i + 1) (mput (rkH σ i) k v M) := by
  have hm := mput_mem (k := k) (v := v) M hx
  refine ⟨fun X k' v' he => ?_, fun q hq hr2 => ?_⟩
  · rcases (hm _).mp he with q1 | q1
    · rw [Prod.mk.injEq, Prod.mk.injEq] at q1
      exact ⟨i, by omega, hr, q1.1, by rw [q1.2.1]; exact hk⟩
    · obtain ⟨q, h1, h2⟩ := h.1 X k' v' q1; exact ⟨q, by omega, h2⟩
  · by_cases e : q = i
    · subst e; exact ⟨k, v, (hm _).mpr (.inl rfl)⟩
    · obtain ⟨k', v', h1⟩ := h.2 q (by omega) hr2; exact ⟨k', v', (hm _).mpr (.inr h1)⟩
set_option maxHeartbeats 1000000 in
theorem met_X0_chainOf {Y : YT} {l : Launch} {n u : Nat} {G : AH} (h : Nat) (pt : Int32) {N K : Nat} {σ : MS} {η : HV} {I : AH} (hh : sub (hM Y h N σ η) G) (hN : σ.1 0 0 = nI N) (hK : σ.1 4 0 = nI K) (hN2 : N ≤ 12) (hK2 : K ≤ 24) (hI : sub I G) (hIh_h : ∀ a, hD h a → I a = none) (hhk : HKs K σ I (η.2 1)) (hHb : HKb N K σ) (hAg : AGd N σ) (hhz : ∀ q a, q < K → η.2 1 q = some a → yz Y ≤ a) : GM Y l yX0_chainOf (ws_ yX0_chainOf cX0_chainOf 4 (some (FieldType.object "java/util/TreeSet"))) 7 161 [.ref h, .int pt] G n u 27 155 (pQ (fun r G' n' u' => some n = r ∧ ∃ τ q M, TMI (KH Y N σ) Y (n + 2) (some (n + 1)) I τ q M ∧ sub (TZ (n + 2) τ) G' ∧ G' n = some (.inr (47, [.ref (n + 2)])) ∧ G' (n + 1) = some (.inr (27, [.ref h])) ∧ (∀ a, TD (n + 2) τ a → n ≤ a) ∧ CHM σ I pt K M ∧ τ.1 8 0 = none ∧ FR noD n G G' ∧ n + 3 ≤ n')) noX := by
  refine GM.intro (own := RX0) rfl (by decide +kernel) (Nat.le_of_ble_eq_true rfl) ?_
  intro p e s m args below meth c R Q hC hr hnm hF hL hE
  have hE1 := hE.1
  have hE2 := hE.2.1
  have hnz : yz Y ≤ n := by have := hC.z; have := hC.n; omega
  show V Y p l e R s m args below meth c 4 n u G n u Q 0 [(0, .ref h), (1, .int pt)] []
  refine V.lts (fun hlt => ?_)
  have hl_h : h + 6 < n := hlt _ _ (hh _ _ (hM_j 6))
  have hIn := sub_none hI hlt
  obtain ⟨G_1, eG_1⟩ : ∃ G_, gU G n (.inr (47, [.null])) = G_ := ⟨_, rfl⟩
  refine V.lts (fun ltG_1 => ?_)
  have hs_2 : sub (hM Y h N σ η) G_1 := by rw [← eG_1]; exact sub_new hh ltG_1
  have hi_3 : sub I G_1 := by rw [← eG_1]; exact sub_new hI ltG_1
  have hf_4 : FR noD n G G_1 := by rw [← eG_1]; exact FR.put FR.refl (.inr (by omega))
  refine g_new hC kc_J35 q3107 q2478 q143 (fs := [.null]) rfl (G' := G_1) eG_1 (by omega) (by omega) dX0_chainOf_0 ?_
  have o_5 : G_1 n = some (.inr (47, [.null])) := by rw [← eG_1]; exact gU_s _ _ _
  refine g_dup hC dX0_chainOf_3 rfl ?_
  obtain ⟨G_6, eG_6⟩ : ∃ G_, gU G_1 (n + 1) (.inr (27, [.null])) = G_ := ⟨_, rfl⟩
  refine V.lts (fun ltG_6 => ?_)
  have o_7 : G_6 n = some (.inr (47, [.null])) := by rw [← eG_6]; exact (gU_n _ (Nat.ne_of_lt (ltG_6 _ _ o_5))).trans o_5
  have hs_8 : sub (hM Y h N σ η) G_6 := by rw [← eG_6]; exact sub_new hs_2 ltG_6
  have hi_9 : sub I G_6 := by rw [← eG_6]; exact sub_new hi_3 ltG_6
  have hf_10 : FR noD n G G_6 := by rw [← eG_6]; exact FR.put hf_4 (.inr (by omega))
  refine g_new hC kc_X28 q3108 q3109 q157 (fs := [.null]) rfl (G' := G_6) eG_6 (by omega) (by omega) dX0_chainOf_4 ?_
  have o_11 : G_6 (n + 1) = some (.inr (27, [.null])) := by rw [← eG_6]; exact gU_s _ _ _
  refine g_dup hC dX0_chainOf_7 rfl ?_
  refine g_aload_n hC dX0_chainOf_8 rfl 0 rfl ?_
  refine V.lts (fun lc_12 => ?_)
  refine g_callv0 hC (g_runI (ret := none) hC (met_X28_init (G := G_6) (n + 1) h o_11 (by omega)) (lw_meth q3112) q157 q3110 q3111 rfl md_X28_init dX0_chainOf_9 rfl ⟨by omega, by omega⟩ (by omega) (by omega) rfl (Nat.le_of_ble_eq_true rfl)) (fun G_13 n_13 u_13 hp_13 hn_13 hm_13 hu_13 => ?_)
  obtain ⟨ho_13, hf_13, rfl, rfl⟩ := hp_13
  have o_14 : G_13 n = some (.inr (47, [.null])) := (hf_13 _ (lc_12 _ _ o_7) (fun q => (gne_c o_7 o_11 (by decide)) q)).trans o_7
  have hs_15 : sub (hM Y h N σ η) G_13 := hf_13.subs hs_8 lc_12 (fun a q => by subst q; exact hM_none (by unfold hD; omega))
  have hi_16 : sub I G_13 := hf_13.subs hi_9 lc_12 (fun a q => by subst q; exact hIn _ (by omega))
  have hf_17 : FR noD n G G_13 := hf_10.trans hf_13 (by omega) (fun a_ q_ => by first | exact .inl q_ | exact .inl (.inl q_) | exact .inl (.inr q_) | (subst q_; first | exact .inr (by omega) | exact .inl rfl))
  refine V.lts (fun lc_18 => ?_)
  refine g_callv0 hC (g_runI (ret := none) hC (met_J35_init_3 (G := G_13) n (n + 1) (K := (KH Y N σ)) o_14 (by omega) hi_16 (hIn _ (by omega))) (lw_meth q3120) q143 q3118 q3119 rfl md_J35_init_3 dX0_chainOf_12 rfl ⟨by omega, by omega⟩ (by omega) (by omega) rfl (Nat.le_of_ble_eq_true rfl)) (fun G_19 n_19 u_19 hp_19 hn_19 hm_19 hu_19 => ?_)
  obtain ⟨τ_19, q_19, hT_19, hps_19, ho_19, hf_19, hD_19, h8_19, rfl, rfl⟩ := hp_19
  have o_20 : G_19 (n + 1) = some (.inr (27, [.ref h])) := (hf_19 _ (lc_18 _ _ ho_13) (fun q => (gne_c ho_13 o_14 (by decide)) q)).trans ho_13
  have hs_21 : sub (hM Y h N σ η) G_19 := hf_19.subs hs_15 lc_18 (fun a q => by subst q; exact hM_none (by unfold hD; omega))
  have hi_22 : sub I G_19 := hf_19.subs hi_16 lc_18 (fun a q => by subst q; exact hIn _ (by omega))
  have hf_23 : FR noD n G G_19 := hf_17.trans hf_19 (by omega) (fun a_ q_ => by first | exact .inl q_ | exact .inl (.inl q_) | exact .inl (.inr q_) | (subst q_; first | exact .inr (by omega) | exact .inl rfl))
  have hTn_24 : ∀ a, TD (n + 1 + 1) τ_19 a → noD a ∨ n ≤ a := fun a q => .inr (by have := hD_19 a q; omega)
  refine g_astore_n (L' := [(2, .ref n), (0, .ref h), (1, .int pt)]) hC dX0_chainOf_15 rfl (by decide) rfl ?_
  refine g_iconst (v := 0) hC dX0_chainOf_16 rfl ?_
  refine g_istore_n (L' := [(3, .int 0), (2, .ref n), (0, .ref h), (1, .int pt)]) hC dX0_chainOf_17 rfl (by decide) rfl ?_
  have hl_18 : ∀ (kf_ : Nat) (Gq : AH) (nq : Nat) (uq : Nat) (i : Nat) (τq : TS) (qq : TQ) (Mq : MP), (sub (hM Y h N σ η) Gq) → (sub I Gq) → (Gq n = some (.inr (47, [.ref (n + 1 + 1)]))) → (Gq (n + 1) = some (.inr (27, [.ref h]))) → (TMI (KH Y N σ) Y (n + 1 + 1) (some (n + 1)) I τq qq Mq) → (sub (TZ (n + 1 + 1) τq) Gq) → (∀ a, TD (n + 1 + 1) τq a → noD a ∨ n ≤ a) → (τq.1 8 0 = none) → (CHM σ I pt i Mq) → (FR noD n G Gq) → (i ≤ K) → (n + 3 ≤ nq ∧ nq ≤ n + 3 + i) → (uq ≤ u + 11 + 6 * i) → K - i < kf_ → V Y p l e R s m args below meth c 4 n u Gq nq uq Q 18 [(2, .ref n), (0, .ref h), (1, .int pt), (3, .int (nI i))] [] := by
    intro kf_
    induction kf_ with
    | zero => intro Gq nq uq i τq qq Mq jh jI js jc jT jp jt j8 jM jf ji jn ju hk_; exact absurd hk_ (Nat.not_lt_zero _)
    | succ kf_ ih_ =>
      intro Gq nq uq i τq qq Mq jh jI js jc jT jp jt j8 jM jf ji jn ju hk_
      refine V.lts (fun ltq => ?_)
      obtain ⟨jn1, jn2⟩ := jn
      refine g_iload_n hC dX0_chainOf_18 rfl 3 rfl ?_
      refine g_aload_n hC dX0_chainOf_19 rfl 1 rfl ?_
      refine g_get (v := .int (nI K)) hC kc_X2 (jh _ _ (hM_0 hN hK)) 1 (by decide) q256 rfl dX0_chainOf_20 ?_
      refine g_icmp_geN hC i K (by omega) (by omega) dX0_chainOf_23 (tgt := 72) (by decide) (fun c_23 => ?_) (fun c_23 => ?_)
      · refine g_aload_n hC dX0_chainOf_72 rfl 0 rfl ?_
        refine g_aret (v := some n) hC hr (by first | exact Or.inl ⟨_, rfl⟩ | exact Or.inr ⟨_, rfl⟩) ⟨_, rfl, ?_⟩ (by omega) (by omega) hE dX0_chainOf_73
        obtain rfl : K = i := by omega
        exact ⟨rfl, _, _, _, jT, jp, js, jc, fun a q => (jt a q).elim (fun e => e.elim) id, jM, j8, jf, by omega⟩
      · refine g_aload_n hC dX0_chainOf_26 rfl 1 rfl ?_
        refine g_get (v := .ref (h + 6)) hC kc_X2 (jh _ _ (hM_0 hN hK)) 9 (by decide) q281 rfl dX0_chainOf_27 ?_
        obtain ⟨a_i, hr_i, hi_i0⟩ := hhk i (by omega)
        obtain ⟨⟨p_i, hp_i, he_i⟩, hb1_i, hb2_i⟩ := hHb i (by omega)
        have hi_i := hi_i0
        rw [he_i] at hi_i
        have hz_i := hhz i a_i (by omega) hr_i
        refine g_iload_n hC dX0_chainOf_30 rfl 3 rfl ?_
        refine g_aald (t0 := 7) hC (jh _ _ (hM_j 6)) rfl (vin (by omega) (by omega)) (r := some a_i) (by rw [nI_clamp (by omega)]; exact hr_i) dX0_chainOf_31 ?_
        refine g_get (v := .int (hkF σ 1 i)) hC kc_X27 (jI _ _ hi_i) 2 (by decide) q3074 rfl dX0_chainOf_32 ?_
        refine g_iload_n hC dX0_chainOf_35 rfl 2 rfl ?_
        refine g_icmp_ne hC dX0_chainOf_36 (tgt := 66) (by decide) (fun c_36 => ?_) (fun c_36 => ?_)
        · have hno : inC σ pt i = false := by unfold inC; simp [c_36]
          refine g_iincN (L' := [(3, .int (nI (i + 1))), (2, .ref n), (0, .ref h), (1, .int pt)]) hC 1 i dX0_chainOf_66 (k := 3) rfl (by decide) (by decide) rfl ?_
          refine g_goto (tgt := 18) hC dX0_chainOf_69 (by decide) ?_
          refine V.sub [1, 2, 3, 0] rfl ?_
          exact ih_ Gq nq uq (i + 1) τq qq Mq (jh) (jI) (js) (jc) (jT) (jp) (jt) (j8) (jM.no hno) (jf) (by omega) (⟨by omega, by omega⟩) (by omega) (by omega)
        · refine g_aload_n hC dX0_chainOf_39 rfl 1 rfl ?_
          refine g_aload_n hC dX0_chainOf_40 rfl 1 rfl ?_
          refine g_get (v := .ref (h + 6)) hC kc_X2 (jh _ _ (hM_0 hN hK)) 9 (by decide) q281 rfl dX0_chainOf_41 ?_
          refine g_iload_n hC dX0_chainOf_44 rfl 3 rfl ?_
          refine g_aald (t0 := 7) hC (jh _ _ (hM_j 6)) rfl (vin (by omega) (by omega)) (r := some a_i) (by rw [nI_clamp (by omega)]; exact hr_i) dX0_chainOf_45 ?_
          refine g_get (v := .int (nI p_i)) hC kc_X27 (jI _ _ hi_i) 1 (by decide) q3072 rfl dX0_chainOf_46 ?_
          refine V.lts (fun lc_25 => ?_)
          refine g_calli0 hC (g_runV hC (met_X2_runs (G := Gq) h p_i (jh) (hN) (hK) (hN2) (by omega)) kc_X2 (jh _ _ (hM_0 hN hK)) (lw_V q1764 q1765 q1766 q83 q1767) rfl md_X2_runs dX0_chainOf_49 rfl ⟨by omega, by omega⟩ (by omega) (by omega) rfl (Nat.le_of_ble_eq_true rfl)) (fun r_26 G_26 n_26 u_26 hp_26 hn_26 hm_26 hu_26 => ?_)
          obtain ⟨rfl, rfl, rfl, rfl⟩ := hp_26
          refine g_if_eqB hC (decide (tl σ 0 p_i = 1)) dX0_chainOf_52 (tgt := 66) (by decide) (fun c_52 => ?_) (fun c_52 => ?_)
          · have hno : inC σ pt i = false := by unfold inC; rw [he_i, nI_clamp (by omega)]; simp [c_52]
            refine g_iincN (L' := [(3, .int (nI (i + 1))), (2, .ref n), (0, .ref h), (1, .int pt)]) hC 1 i dX0_chainOf_66 (k := 3) rfl (by decide) (by decide) rfl ?_
            refine g_goto (tgt := 18) hC dX0_chainOf_69 (by decide) ?_
            refine V.sub [1, 2, 3, 0] rfl ?_
            exact ih_ Gq nq uq (i + 1) τq qq Mq (jh) (jI) (js) (jc) (jT) (jp) (jt) (j8) (jM.no hno) (jf) (by omega) (⟨by omega, by omega⟩) (by omega) (by omega)
          · refine g_aload_n hC dX0_chainOf_55 rfl 0 rfl ?_
            refine g_aload_n hC dX0_chainOf_56 rfl 1 rfl ?_
            refine g_get (v := .ref (h + 6)) hC kc_X2 (jh _ _ (hM_0 hN hK)) 9 (by decide) q281 rfl dX0_chainOf_57 ?_
            refine g_iload_n hC dX0_chainOf_60 rfl 3 rfl ?_
            refine g_aald (t0 := 7) hC (jh _ _ (hM_j 6)) rfl (vin (by omega) (by omega)) (r := some a_i) (by rw [nI_clamp (by omega)]; exact hr_i) dX0_chainOf_61 ?_
            have hin : inC σ pt i = true := by unfold inC; rw [he_i, nI_clamp (by omega), c_36]; simp [c_52]
            have hnew := jM.new hHb hN2 hAg (by omega) hK2
            have hZb := rkH_b hHb hN2 hAg (q := i) (by omega) hK2
            have hkp : KPh N σ I a_i (rkH σ i) := ⟨i, p_i, hkF σ 1 i, hkF σ 2 i, hkF σ 3 i, hkF σ 4 i, by omega, hp_i, hi_i, by omega, hAg.1 p_i hp_i, by unfold rkH; rw [he_i, nI_clamp (by omega)]⟩
            refine V.lts (fun lc_27 => ?_)
            refine g_calli0 hC (g_runV hC (st_addH (G := Gq) jT jp jI (by omega) lc_27 n a_i js (rkH σ i) hkp hz_i hnew hZb.1 hZb.2 jc jh hN hK hN2) kc_J35 js (lw_V q3124 q2493 q2494 q143 q2495) rfl md_J35_add dX0_chainOf_62 rfl ⟨by omega, by omega⟩ (by omega) (by omega) rfl (Nat.le_of_ble_eq_true rfl)) (fun r_28 G_28 n_28 u_28 hp_28 hn_28 hm_28 hu_28 => ?_)
            obtain ⟨rfl, pv_28, τ_28, q_28, hT_28, hps_28, hf_28, hD_28, hj_28, rfl, rfl⟩ := hp_28
            have o_29 : G_28 n = some (.inr (47, [.ref (n + 1 + 1)])) := (hf_28 _ (lc_27 _ _ js) (TZ_out jT.2.2.2.1 jT.1.1 jp js (by decide) (by decide))).trans js
            have o_30 : G_28 (n + 1) = some (.inr (27, [.ref h])) := (hf_28 _ (lc_27 _ _ jc) (TZ_out jT.2.2.2.1 jT.1.1 jp jc (by decide) (by decide))).trans jc
            have hs_31 : sub (hM Y h N σ η) G_28 := hf_28.subs jh lc_27 (TZ_hM jT.2.2.2.1 jT.1.1 jp jh)
            have hi_32 : sub I G_28 := hf_28.subs jI lc_27 (fun a q => jT.2.2.2.2.2 a q)
            have hf_33 : FR noD n G G_28 := jf.trans hf_28 (by omega) (fun a_ q_ => jt a_ q_)
            have hTn_34 : ∀ a, TD (n + 1 + 1) τ_28 a → noD a ∨ n ≤ a := fun a q => (hD_28 a q).elim (jt a) (fun e => .inr (by omega))
            refine g_pop hC dX0_chainOf_65 rfl ?_
            refine g_iincN (L' := [(3, .int (nI (i + 1))), (2, .ref n), (0, .ref h), (1, .int pt)]) hC 1 i dX0_chainOf_66 (k := 3) rfl (by decide) (by decide) rfl ?_
            refine g_goto (tgt := 18) hC dX0_chainOf_69 (by decide) ?_
            refine V.sub [1, 2, 3, 0] rfl ?_
            exact ih_ G_28 (nq + 1) (uq + 6) (i + 1) τ_28 q_28 (mput (rkH σ i) a_i (some pv_28) Mq) (hs_31) (hi_32) (o_29) (o_30) (hT_28) (hps_28) (hTn_34) ((hj_28 8 (by decide)).trans j8) (jM.put hin hnew hi_i0) (hf_33) (by omega) (⟨by omega, by omega⟩) (by omega) (by omega)
  refine V.sub [1, 2, 3, 0] rfl ?_
  exact hl_18 (K - 0 + 1) G_19 (n + 1 + 1 + 1) (u + 1 + 1 + 9) 0 τ_19 q_19 ([]) (hs_21) (hi_22) (ho_19) (o_20) (hT_19) (hps_19) (hTn_24) (h8_19) (CHM_0) (hf_23) (by omega) (⟨by omega, by omega⟩) (by omega) (by omega)
