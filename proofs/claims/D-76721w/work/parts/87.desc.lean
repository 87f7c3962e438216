set_option maxRecDepth 100000
/-! COMPONENT, 20: iterators from the last to the first -/
theorem sn_REVERSE_ORDER : Cond.exactly (.static "java/util/Collections$ReverseComparator" "REVERSE_ORDER" "Ljava/util/Collections$ReverseComparator;") "java/util/Collections$ReverseComparator" ∈ flatC narrow_1 := by decide +kernel
theorem sn_INSTANCE : Cond.exactly (.static "java/util/Comparators$NaturalOrderComparator" "INSTANCE" "Ljava/util/Comparators$NaturalOrderComparator;") "java/util/Comparators$NaturalOrderComparator" ∈ flatC narrow_1 := by decide +kernel
theorem sn_assertionsDisabled : Cond.eq (.static "java/util/Collections$ReverseComparator2" "$assertionsDisabled" "Z") (.int (1 : Int32)) ∈ flatC narrow_1 := by decide +kernel
theorem nc_X28_J51 : Cond.not (.castable "PluginChains$ByPriority" "java/util/Collections$ReverseComparator2") ∈ flatC narrow_1 := by decide +kernel
theorem nc_J46_J1 : Cond.not (.castable "java/util/TreeMap$DescendingSubMap" "java/util/TreeMap") ∈ flatC narrow_1 := by decide +kernel
def KH (Y : YT) (N : Nat) (σ : MS) : AH → Nat → Int → Prop := fun J k x => KPh N σ J k x ∧ yz Y ≤ k
theorem KH_MO {Y : YT} {N : Nat} {σ : MS} : MO (KH Y N σ) := fun J G k x h hs => by
  obtain ⟨⟨q, pl, pt, pr, fu, k', h1, h2, h3, h4⟩, h5⟩ := h
  exact ⟨⟨q, pl, pt, pr, fu, k', h1, h2, hs _ _ h3, h4⟩, h5⟩
theorem st_addH {Y : YT} {l : Launch} {t n u : Nat} {τ : TS} {q : TQ} {M : MP} {G I : AH} {cm h N K : Nat} {σ : MS} {η : HV} (hT : TMI (KH Y N σ) Y t (some cm) I τ q M) (hs : sub (TZ t τ) G) (hJ : sub I G) (hz : yz Y ≤ n) (hlt : ∀ a e, G a = some e → a < n) (i k : Nat) (hi : G i = some (.inr (47, [.ref t]))) (X : Int) (hk : KPh N σ I k X) (hkz : yz Y ≤ k) (hX : ∀ e, e ∈ M → e.1 ≠ X) (h1 : ZL < X) (h2 : X < ZH) (h0 : G cm = some (.inr (27, [.ref h]))) (hh : sub (hM Y h N σ η) G) (hN : σ.1 0 0 = nI N) (hK : σ.1 4 0 = nI K) (hN2 : N ≤ 12) : GM Y l yJ35_add (ws_ yJ35_add cJ35_add 2 (some FieldType.boolean)) 6 140 [.ref i, .ref k] G n u 1 6 (pI (fun r G' n' u' => 1 = r ∧ ∃ pv τ' q', TMI (KH Y N σ) Y t (some cm) I τ' q' (mput X k (some pv) M) ∧ sub (TZ t τ') G' ∧ FR (TD t τ) n G G' ∧ (∀ a, TD t τ' a → TD t τ a ∨ a = n) ∧ (∀ j, 5 < j → τ'.1 j 0 = τ.1 j 0) ∧ n + 1 = n' ∧ u + 6 = u')) noX := by
  obtain ⟨hG, hKS⟩ := hT.g hs
  have h := met_J35_addH (l := l) (n := n) (u := u) (B := G) hT.1 i k X hT.2.1 hX h1 h2 hT.2.2.1 (by rw [hG]; exact h0) (by rw [hG]; exact hh) hN hK hN2 (by rw [hG]; exact hJ) hk (fun a k h1 h2 => (hT.2.2.2.2.1 a k h1 h2).1) hi (hT.ho hs hi (by decide) (by decide))
  rw [hG] at h
  refine h.weaken (Nat.le_refl _) (Nat.le_refl _) (fun v G' n' u' hp => ?_) (fun _ _ _ _ _ h => h)
  obtain ⟨r, e1, e2, pv, τ', q', e3, e4, e5, e6⟩ := hp
  obtain ⟨f1, f2, f3, f4⟩ := hT.add KH_MO hs hJ hz hlt ⟨hk, hkz⟩ e3 e4 e5
  exact ⟨r, e1, e2, pv, τ', q', f1, f2, f3, f4, e4.hd, e6⟩
set_option maxHeartbeats 1000000 in
theorem met_J51_init {Y : YT} {l : Launch} {n u : Nat} {G : AH} (i_ : Nat) (c_ : Nat)  (h1 : G i_ = some (.inr (56, [.null]))) (hz : yz Y ≤ i_) : GM Y l yJ51_init (ws_ yJ51_init cJ51_init 2 none) 1 24 [.ref i_, .ref c_] G n u 0 0 (pV (fun G' n' u' => G' i_ = some (.inr (56, [.ref c_])) ∧ FR (fun q_ => q_ = i_) n G G' ∧ n = n' ∧ u = u')) noX := by
  refine GM.intro (own := RJ51) rfl (by decide +kernel) (Nat.le_of_ble_eq_true rfl) ?_
  intro p e s m args below meth c R Q hC hr hnm hF hL hE
  have hE1 := hE.1
  have hE2 := hE.2.1
  have hnz : yz Y ≤ n := by have := hC.z; have := hC.n; omega
  show V Y p l e R s m args below meth c 2 n u G n u Q 0 [(0, .ref i_), (1, .ref c_)] []
  refine V.lts (fun hlt => ?_)
  have hl_i_ : i_ < n := hlt _ _ h1
  refine g_aload_n hC dJ51_init_0 rfl 0 rfl ?_
  refine V.lts (fun lc_1 => ?_)
  refine g_objInit hC q3235 q178 q179 dJ51_init_1 (by omega) (by first | (simp; omega) | (simp [Value.category]; omega)) ?_
  refine g_gets (v := .int 1) hC (hC.K.stI q3237 q167 sn_assertionsDisabled) q3236 dJ51_init_4 ?_
  refine g_if_neN hC 1 (by omega) dJ51_init_7 (tgt := 22) (by decide) (fun c_7 => ?_) (fun c_7 => ?_)
  · refine g_aload_n hC dJ51_init_22 rfl 0 rfl ?_
    refine g_aload_n hC dJ51_init_23 rfl 1 rfl ?_
    obtain ⟨G_2, eG_2⟩ : ∃ G_, gU G i_ (.inr (56, [.ref c_])) = G_ := ⟨_, rfl⟩
    have hf_3 : FR (fun q_ => q_ = i_) n G G_2 := by rw [← eG_2]; exact FR.put FR.refl (.inl rfl)
    refine g_putF hC hnm kc_J51 h1 0 (by decide) q3238 rfl rfl rfl rfl (by show 0 < 1; decide) rfl (by omega) (G' := G_2) eG_2 dJ51_init_24 ?_
    have o_4 : G_2 i_ = some (.inr (56, [.ref c_])) := by rw [← eG_2]; exact gU_s _ _ _
    refine g_vret hC hr ⟨rfl, ?_⟩ (by omega) (by omega) hE dJ51_init_27
    exact ⟨o_4, hf_3, rfl, rfl⟩
  · first | exact absurd c_7 (by decide) | exact absurd c_7 (by omega)
set_option maxHeartbeats 1000000 in
theorem met_J47_reverseOrder {Y : YT} {l : Launch} {n u : Nat} {G : AH} (c_ : Nat) {h : Nat} (h1 : G c_ = some (.inr (27, [.ref h]))) (hz : yz Y ≤ c_) : GM Y l yJ47_reverseOrder (ws_ yJ47_reverseOrder cJ47_reverseOrder 1 (some (FieldType.object "java/util/Comparator"))) 2 45 [.ref c_] G n u 1 1 (pQ (fun r G' n' u' => some n = r ∧ G' n = some (.inr (56, [.ref c_])) ∧ FR noD n G G' ∧ n + 1 = n' ∧ u + 1 = u')) noX := by
  refine GM.intro (own := RJ47) rfl (by decide +kernel) (Nat.le_of_ble_eq_true rfl) ?_
  intro p e s m args below meth c R Q hC hr hnm hF hL hE
  have hE1 := hE.1
  have hE2 := hE.2.1
  have hnz : yz Y ≤ n := by have := hC.z; have := hC.n; omega
  show V Y p l e R s m args below meth c 1 n u G n u Q 0 [(0, .ref c_)] []
  refine V.lts (fun hlt => ?_)
  have hl_c_ : c_ < n := hlt _ _ h1
  refine g_aload_n hC dJ47_reverseOrder_0 rfl 0 rfl ?_
  refine g_ifnonnull (tgt := 8) hC dJ47_reverseOrder_1 (by decide) ?_
  refine g_aload_n hC dJ47_reverseOrder_8 rfl 0 rfl ?_
  obtain ⟨saz_1, hZz_1, hltz_1⟩ := hC.K.stX q3227 q164 sn_REVERSE_ORDER
  refine g_gets (v := .ref saz_1) hC hZz_1 q3226 dJ47_reverseOrder_9 ?_
  refine g_acmp_ne (rx := some c_) (ry := some saz_1) hC dJ47_reverseOrder_12 (tgt := 19) (by decide) (fun c_12 => ?_) (fun c_12 => ?_)
  · refine g_aload_n hC dJ47_reverseOrder_19 rfl 0 rfl ?_
    obtain ⟨saz_2, hZz_2, hltz_2⟩ := hC.K.stX q3229 q166 sn_INSTANCE
    refine g_gets (v := .ref saz_2) hC hZz_2 q3228 dJ47_reverseOrder_20 ?_
    refine g_acmp_ne (rx := some c_) (ry := some saz_2) hC dJ47_reverseOrder_23 (tgt := 30) (by decide) (fun c_23 => ?_) (fun c_23 => ?_)
    · refine g_aload_n hC dJ47_reverseOrder_30 rfl 0 rfl ?_
      refine g_instNo hC kc_X28 h1 q3230 nc_X28_J51 dJ47_reverseOrder_31 ?_
      refine g_if_eqN hC 0 (by omega) dJ47_reverseOrder_34 (tgt := 45) (by decide) (fun c_34 => ?_) (fun c_34 => ?_)
      · obtain ⟨G_3, eG_3⟩ : ∃ G_, gU G n (.inr (56, [.null])) = G_ := ⟨_, rfl⟩
        refine V.lts (fun ltG_3 => ?_)
        have o_4 : G_3 c_ = some (.inr (27, [.ref h])) := by rw [← eG_3]; exact (gU_n _ (Nat.ne_of_lt (ltG_3 _ _ h1))).trans h1
        have hf_5 : FR noD n G G_3 := by rw [← eG_3]; exact FR.put FR.refl (.inr (by omega))
        refine g_new hC kc_J51 q3230 q3231 q167 (fs := [.null]) rfl (G' := G_3) eG_3 (by omega) (by omega) dJ47_reverseOrder_45 ?_
        have o_6 : G_3 n = some (.inr (56, [.null])) := by rw [← eG_3]; exact gU_s _ _ _
        refine g_dup hC dJ47_reverseOrder_48 rfl ?_
        refine g_aload_n hC dJ47_reverseOrder_49 rfl 0 rfl ?_
        refine V.lts (fun lc_7 => ?_)
        refine g_callv0 hC (g_runI (ret := none) hC (met_J51_init (G := G_3) n c_ o_6 (by omega)) (lw_meth q3234) q167 q3232 q3233 rfl md_J51_init dJ47_reverseOrder_50 rfl ⟨by omega, by omega⟩ (by omega) (by omega) rfl (Nat.le_of_ble_eq_true rfl)) (fun G_8 n_8 u_8 hp_8 hn_8 hm_8 hu_8 => ?_)
        obtain ⟨ho_8, hf_8, rfl, rfl⟩ := hp_8
        have o_9 : G_8 c_ = some (.inr (27, [.ref h])) := (hf_8 _ (lc_7 _ _ o_4) (fun q => (gne_c o_4 o_6 (by decide)) q)).trans o_4
        have hf_10 : FR noD n G G_8 := hf_5.trans hf_8 (by omega) (fun a_ q_ => by first | exact .inl q_ | exact .inl (.inl q_) | exact .inl (.inr q_) | (subst q_; first | exact .inr (by omega) | exact .inl rfl))
        refine g_aret (v := some n) hC hr (by first | exact Or.inl ⟨_, rfl⟩ | exact Or.inr ⟨_, rfl⟩) ⟨_, rfl, ?_⟩ (by omega) (by omega) hE dJ47_reverseOrder_53
        exact ⟨rfl, ho_8, hf_10, rfl, rfl⟩
      · first | exact absurd c_34 (by decide) | exact absurd c_34 (by omega)
    · exact absurd (Option.some.inj c_23) (Nat.ne_of_gt (Nat.lt_of_lt_of_le hltz_2 hz))
  · exact absurd (Option.some.inj c_12) (Nat.ne_of_gt (Nat.lt_of_lt_of_le hltz_1 hz))
