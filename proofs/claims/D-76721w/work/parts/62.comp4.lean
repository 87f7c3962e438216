set_option maxRecDepth 100000
/-! COMPONENT, 5: the best of those offered; provider -/
def abvF (s1 g1 s2 g2 : Int32) : Bool := decide (s2 < s1) || (decide (s1 = s2) && decide (g1 < g2))
def pvH (σ : MS) (p k : Nat) (f : Option Nat) (q : Nat) : Option Nat := if srvF σ q p k = true then (match f with
    | none => some q
    | some g => if abvF (strF σ q) (tl σ 7 q) (strF σ g) (tl σ 7 g) = true then some q else some g) else f
set_option maxHeartbeats 1000000 in
theorem met_X20_strength {Y : YT} {l : Launch} {n u : Nat} {G : AH} (a_ : Nat) {i1 s1 g1 : Int32} (h1 : G a_ = some (.inr (19, [.int i1, .int s1, .int g1]))) : GM Y l yX20_strength (ws_ yX20_strength cX20_strength 1 (some FieldType.int)) 0 0 [.ref a_] G n u 0 0 (pI (fun r G' n' u' => s1 = r ∧ G = G' ∧ n = n' ∧ u = u')) noX := by
  refine GM.intro (own := RX20) rfl (by decide +kernel) (Nat.le_of_ble_eq_true rfl) ?_
  intro p e s m args below meth c R Q hC hr hnm hF hL hE
  have hE1 := hE.1
  have hE2 := hE.2.1
  have hnz : yz Y ≤ n := by have := hC.z; have := hC.n; omega
  show V Y p l e R s m args below meth c 1 n u G n u Q 0 [(0, .ref a_)] []
  refine V.lts (fun hlt => ?_)
  have hl_a_ : a_ < n := hlt _ _ h1
  refine g_aload_n hC dX20_strength_0 rfl 0 rfl ?_
  refine g_get (v := .int s1) hC kc_X20 h1 1 (by decide) q1816 rfl dX20_strength_1 ?_
  refine g_iret hC hr rfl ⟨_, rfl, ?_⟩ (by omega) (by omega) hE dX20_strength_4
  exact ⟨rfl, rfl, rfl, rfl⟩
set_option maxHeartbeats 1000000 in
theorem met_X20_tie {Y : YT} {l : Launch} {n u : Nat} {G : AH} (a_ : Nat) {i1 s1 g1 : Int32} (h1 : G a_ = some (.inr (19, [.int i1, .int s1, .int g1]))) : GM Y l yX20_tie (ws_ yX20_tie cX20_tie 1 (some FieldType.int)) 0 0 [.ref a_] G n u 0 0 (pI (fun r G' n' u' => g1 = r ∧ G = G' ∧ n = n' ∧ u = u')) noX := by
  refine GM.intro (own := RX20) rfl (by decide +kernel) (Nat.le_of_ble_eq_true rfl) ?_
  intro p e s m args below meth c R Q hC hr hnm hF hL hE
  have hE1 := hE.1
  have hE2 := hE.2.1
  have hnz : yz Y ≤ n := by have := hC.z; have := hC.n; omega
  show V Y p l e R s m args below meth c 1 n u G n u Q 0 [(0, .ref a_)] []
  refine V.lts (fun hlt => ?_)
  have hl_a_ : a_ < n := hlt _ _ h1
  refine g_aload_n hC dX20_tie_0 rfl 0 rfl ?_
  refine g_get (v := .int g1) hC kc_X20 h1 2 (by decide) q1817 rfl dX20_tie_1 ?_
  refine g_iret hC hr rfl ⟨_, rfl, ?_⟩ (by omega) (by omega) hE dX20_tie_4
  exact ⟨rfl, rfl, rfl, rfl⟩
set_option maxHeartbeats 1000000 in
theorem met_X35_isAbove {Y : YT} {l : Launch} {n u : Nat} {G : AH} (a_ : Nat) (b_ : Nat) {i1 s1 g1 i2 s2 g2 : Int32} (h1 : G a_ = some (.inr (19, [.int i1, .int s1, .int g1]))) (h2 : G b_ = some (.inr (19, [.int i2, .int s2, .int g2]))) : GM Y l yX35_isAbove (ws_ yX35_isAbove cX35_isAbove 2 (some FieldType.boolean)) 1 20 [.ref a_, .ref b_] G n u 0 0 (pI (fun r G' n' u' => b2i (abvF s1 g1 s2 g2) = r ∧ G = G' ∧ n = n' ∧ u = u')) noX := by
  refine GM.intro (own := RX35) rfl (by decide +kernel) (Nat.le_of_ble_eq_true rfl) ?_
  intro p e s m args below meth c R Q hC hr hnm hF hL hE
  have hE1 := hE.1
  have hE2 := hE.2.1
  have hnz : yz Y ≤ n := by have := hC.z; have := hC.n; omega
  show V Y p l e R s m args below meth c 2 n u G n u Q 0 [(0, .ref a_), (1, .ref b_)] []
  refine V.lts (fun hlt => ?_)
  have hl_a_ : a_ < n := hlt _ _ h1
  have hl_b_ : b_ < n := hlt _ _ h2
  refine g_aload_n hC dX35_isAbove_0 rfl 0 rfl ?_
  refine V.lts (fun lc_1 => ?_)
  refine g_calli0 hC (g_runF (n := 0) hC (met_X20_strength (G := G) a_ h1) kc_X20 h1 (lw_F q1839 q1842 q1844 q128 q1846) q1841 q1840 q1845 q1843 q1833 (x := ⟨"PluginChains$Strong", "strength", "()I"⟩) ⟨by decide, by decide, by decide +kernel⟩ dX35_isAbove_1 rfl ⟨by omega, by omega⟩ (by omega) (by omega) rfl (Nat.le_of_ble_eq_true rfl)) (fun r_2 G_2 n_2 u_2 hp_2 hn_2 hm_2 hu_2 => ?_)
  obtain ⟨rfl, rfl, rfl, rfl⟩ := hp_2
  refine g_aload_n hC dX35_isAbove_6 rfl 1 rfl ?_
  refine V.lts (fun lc_3 => ?_)
  refine g_calli0 hC (g_runF (n := 0) hC (met_X20_strength (G := G) b_ h2) kc_X20 h2 (lw_F q1839 q1842 q1844 q128 q1846) q1841 q1840 q1845 q1843 q1833 (x := ⟨"PluginChains$Strong", "strength", "()I"⟩) ⟨by decide, by decide, by decide +kernel⟩ dX35_isAbove_7 rfl ⟨by omega, by omega⟩ (by omega) (by omega) rfl (Nat.le_of_ble_eq_true rfl)) (fun r_4 G_4 n_4 u_4 hp_4 hn_4 hm_4 hu_4 => ?_)
  obtain ⟨rfl, rfl, rfl, rfl⟩ := hp_4
  refine g_icmp_gt hC dX35_isAbove_12 (tgt := 45) (by decide) (fun c_12 => ?_) (fun c_12 => ?_)
  · refine g_iconst (v := 1) hC dX35_isAbove_45 rfl ?_
    refine g_goto (tgt := 50) hC dX35_isAbove_46 (by decide) ?_
    refine g_iret hC hr rfl ⟨_, rfl, ?_⟩ (by omega) (by omega) hE dX35_isAbove_50
    exact ⟨by unfold abvF b2i; grind, rfl, rfl, rfl⟩
  · refine g_aload_n hC dX35_isAbove_15 rfl 0 rfl ?_
    refine V.lts (fun lc_5 => ?_)
    refine g_calli0 hC (g_runF (n := 0) hC (met_X20_strength (G := G) a_ h1) kc_X20 h1 (lw_F q1839 q1842 q1844 q128 q1846) q1841 q1840 q1845 q1843 q1833 (x := ⟨"PluginChains$Strong", "strength", "()I"⟩) ⟨by decide, by decide, by decide +kernel⟩ dX35_isAbove_16 rfl ⟨by omega, by omega⟩ (by omega) (by omega) rfl (Nat.le_of_ble_eq_true rfl)) (fun r_6 G_6 n_6 u_6 hp_6 hn_6 hm_6 hu_6 => ?_)
    obtain ⟨rfl, rfl, rfl, rfl⟩ := hp_6
    refine g_aload_n hC dX35_isAbove_21 rfl 1 rfl ?_
    refine V.lts (fun lc_7 => ?_)
    refine g_calli0 hC (g_runF (n := 0) hC (met_X20_strength (G := G) b_ h2) kc_X20 h2 (lw_F q1839 q1842 q1844 q128 q1846) q1841 q1840 q1845 q1843 q1833 (x := ⟨"PluginChains$Strong", "strength", "()I"⟩) ⟨by decide, by decide, by decide +kernel⟩ dX35_isAbove_22 rfl ⟨by omega, by omega⟩ (by omega) (by omega) rfl (Nat.le_of_ble_eq_true rfl)) (fun r_8 G_8 n_8 u_8 hp_8 hn_8 hm_8 hu_8 => ?_)
    obtain ⟨rfl, rfl, rfl, rfl⟩ := hp_8
    refine g_icmp_ne hC dX35_isAbove_27 (tgt := 49) (by decide) (fun c_27 => ?_) (fun c_27 => ?_)
    · refine g_iconst (v := 0) hC dX35_isAbove_49 rfl ?_
      refine g_iret hC hr rfl ⟨_, rfl, ?_⟩ (by omega) (by omega) hE dX35_isAbove_50
      exact ⟨by unfold abvF b2i; grind, rfl, rfl, rfl⟩
    · refine g_aload_n hC dX35_isAbove_30 rfl 0 rfl ?_
      refine V.lts (fun lc_9 => ?_)
      refine g_calli0 hC (g_runF (n := 0) hC (met_X20_tie (G := G) a_ h1) kc_X20 h1 (lw_F q1848 q1851 q1853 q128 q1855) q1850 q1849 q1854 q1852 q1833 (x := ⟨"PluginChains$Strong", "tie", "()I"⟩) ⟨by decide, by decide, by decide +kernel⟩ dX35_isAbove_31 rfl ⟨by omega, by omega⟩ (by omega) (by omega) rfl (Nat.le_of_ble_eq_true rfl)) (fun r_10 G_10 n_10 u_10 hp_10 hn_10 hm_10 hu_10 => ?_)
      obtain ⟨rfl, rfl, rfl, rfl⟩ := hp_10
      refine g_aload_n hC dX35_isAbove_36 rfl 1 rfl ?_
      refine V.lts (fun lc_11 => ?_)
      refine g_calli0 hC (g_runF (n := 0) hC (met_X20_tie (G := G) b_ h2) kc_X20 h2 (lw_F q1848 q1851 q1853 q128 q1855) q1850 q1849 q1854 q1852 q1833 (x := ⟨"PluginChains$Strong", "tie", "()I"⟩) ⟨by decide, by decide, by decide +kernel⟩ dX35_isAbove_37 rfl ⟨by omega, by omega⟩ (by omega) (by omega) rfl (Nat.le_of_ble_eq_true rfl)) (fun r_12 G_12 n_12 u_12 hp_12 hn_12 hm_12 hu_12 => ?_)
      obtain ⟨rfl, rfl, rfl, rfl⟩ := hp_12
      refine g_icmp_ge hC dX35_isAbove_42 (tgt := 49) (by decide) (fun c_42 => ?_) (fun c_42 => ?_)
      · refine g_iconst (v := 0) hC dX35_isAbove_49 rfl ?_
        refine g_iret hC hr rfl ⟨_, rfl, ?_⟩ (by omega) (by omega) hE dX35_isAbove_50
        exact ⟨by unfold abvF b2i; grind, rfl, rfl, rfl⟩
      · refine g_iconst (v := 1) hC dX35_isAbove_45 rfl ?_
        refine g_goto (tgt := 50) hC dX35_isAbove_46 (by decide) ?_
        refine g_iret hC hr rfl ⟨_, rfl, ?_⟩ (by omega) (by omega) hE dX35_isAbove_50
        exact ⟨by unfold abvF b2i; grind, rfl, rfl, rfl⟩
set_option maxHeartbeats 1000000 in
theorem met_X19_offer0 {Y : YT} {l : Launch} {n u : Nat} {G : AH} (b_ : Nat) (a_ : Nat) {i1 s1 g1 : Int32} (hb : G b_ = some (.inr (18, [.null]))) (hz : yz Y ≤ b_) (h1 : G a_ = some (.inr (19, [.int i1, .int s1, .int g1]))) : GM Y l yX19_offer (ws_ yX19_offer cX19_offer 2 none) 0 0 [.ref b_, .ref a_] G n u 0 0 (pV (fun G' n' u' => G' b_ = some (.inr (18, [.ref a_])) ∧ FR (fun q_ => q_ = b_) n G G' ∧ n = n' ∧ u = u')) noX := by
  refine GM.intro (own := RX19) rfl (by decide +kernel) (Nat.le_of_ble_eq_true rfl) ?_
  intro p e s m args below meth c R Q hC hr hnm hF hL hE
  have hE1 := hE.1
  have hE2 := hE.2.1
  have hnz : yz Y ≤ n := by have := hC.z; have := hC.n; omega
  show V Y p l e R s m args below meth c 2 n u G n u Q 0 [(0, .ref b_), (1, .ref a_)] []
  refine V.lts (fun hlt => ?_)
  have hl_b_ : b_ < n := hlt _ _ hb
  have hl_a_ : a_ < n := hlt _ _ h1
  refine g_aload_n hC dX19_offer_0 rfl 0 rfl ?_
  refine g_aload_n hC dX19_offer_1 rfl 0 rfl ?_
  refine g_get (v := .null) hC kc_X19 hb 0 (by decide) q1793 rfl dX19_offer_2 ?_
  refine g_ifnullN (tgt := 21) hC dX19_offer_5 (by decide) ?_
  refine g_aload_n hC dX19_offer_21 rfl 1 rfl ?_
  refine g_goto (tgt := 29) hC dX19_offer_22 (by decide) ?_
  obtain ⟨G_1, eG_1⟩ : ∃ G_, gU G b_ (.inr (18, [.ref a_])) = G_ := ⟨_, rfl⟩
  have o_2 : G_1 a_ = some (.inr (19, [.int i1, .int s1, .int g1])) := by rw [← eG_1]; exact (gU_n _ (gne_c h1 hb (by decide))).trans h1
  have hf_3 : FR (fun q_ => q_ = b_) n G G_1 := by rw [← eG_1]; exact FR.put FR.refl (.inl rfl)
  refine g_put hC kc_X19 hb 0 (by decide) q1793 rfl rfl rfl (by show 0 < 1; decide) rfl (by omega) (G' := G_1) eG_1 dX19_offer_29 ?_
  have o_4 : G_1 b_ = some (.inr (18, [.ref a_])) := by rw [← eG_1]; exact gU_s _ _ _
  refine g_vret hC hr ⟨rfl, ?_⟩ (by omega) (by omega) hE dX19_offer_32
  exact ⟨o_4, hf_3, rfl, rfl⟩
set_option maxHeartbeats 1000000 in
theorem met_X19_offer1 {Y : YT} {l : Launch} {n u : Nat} {G : AH} (b_ : Nat) (a_ : Nat) {i1 s1 g1 i2 s2 g2 : Int32} {r_ : Nat} (hb : G b_ = some (.inr (18, [.ref r_]))) (hz : yz Y ≤ b_) (h1 : G a_ = some (.inr (19, [.int i1, .int s1, .int g1]))) (h2 : G r_ = some (.inr (19, [.int i2, .int s2, .int g2]))) : GM Y l yX19_offer (ws_ yX19_offer cX19_offer 2 none) 2 41 [.ref b_, .ref a_] G n u 0 0 (pV (fun G' n' u' => G' b_ = some (.inr (18, [.ref (if abvF s1 g1 s2 g2 = true then a_ else r_)])) ∧ FR (fun q_ => q_ = b_) n G G' ∧ n = n' ∧ u = u')) noX := by
  refine GM.intro (own := RX19) rfl (by decide +kernel) (Nat.le_of_ble_eq_true rfl) ?_
  intro p e s m args below meth c R Q hC hr hnm hF hL hE
  have hE1 := hE.1
  have hE2 := hE.2.1
  have hnz : yz Y ≤ n := by have := hC.z; have := hC.n; omega
  show V Y p l e R s m args below meth c 2 n u G n u Q 0 [(0, .ref b_), (1, .ref a_)] []
  refine V.lts (fun hlt => ?_)
  have hl_b_ : b_ < n := hlt _ _ hb
  have hl_a_ : a_ < n := hlt _ _ h1
  have hl_r_ : r_ < n := hlt _ _ h2
  refine g_aload_n hC dX19_offer_0 rfl 0 rfl ?_
  refine g_aload_n hC dX19_offer_1 rfl 0 rfl ?_
  refine g_get (v := .ref r_) hC kc_X19 hb 0 (by decide) q1793 rfl dX19_offer_2 ?_
  refine g_ifnull hC dX19_offer_5 ?_
  refine g_aload_n hC dX19_offer_8 rfl 1 rfl ?_
  refine g_aload_n hC dX19_offer_9 rfl 0 rfl ?_
  refine g_get (v := .ref r_) hC kc_X19 hb 0 (by decide) q1793 rfl dX19_offer_10 ?_
  refine V.lts (fun lc_1 => ?_)
  refine g_calli0 hC (g_runFD (n := 1) hC (met_X35_isAbove (G := G) a_ r_ h1 h2) kc_X20 h1 q1830 nw_above q1835 q4028 q1837 q1832 q1831 q1836 q1834 q1833 (x := ⟨"PluginChains$Strong", "isAbove", "(LPluginChains$Strong;)Z"⟩) ⟨by decide, by decide, by decide +kernel⟩ dX19_offer_13 rfl ⟨by omega, by omega⟩ (by omega) (by omega) rfl (Nat.le_of_ble_eq_true rfl)) (fun r_2 G_2 n_2 u_2 hp_2 hn_2 hm_2 hu_2 => ?_)
  obtain ⟨rfl, rfl, rfl, rfl⟩ := hp_2
  refine g_if_eqB hC (abvF s1 g1 s2 g2) dX19_offer_18 (tgt := 25) (by decide) (fun c_18 => ?_) (fun c_18 => ?_)
  · refine g_aload_n hC dX19_offer_25 rfl 0 rfl ?_
    refine g_get (v := .ref r_) hC kc_X19 hb 0 (by decide) q1793 rfl dX19_offer_26 ?_
    obtain ⟨G_3, eG_3⟩ : ∃ G_, gU G b_ (.inr (18, [.ref r_])) = G_ := ⟨_, rfl⟩
    have o_4 : G_3 a_ = some (.inr (19, [.int i1, .int s1, .int g1])) := by rw [← eG_3]; exact (gU_n _ (gne_c h1 hb (by decide))).trans h1
    have o_5 : G_3 r_ = some (.inr (19, [.int i2, .int s2, .int g2])) := by rw [← eG_3]; exact (gU_n _ (gne_c h2 hb (by decide))).trans h2
    have hf_6 : FR (fun q_ => q_ = b_) n G G_3 := by rw [← eG_3]; exact FR.put FR.refl (.inl rfl)
    refine g_put hC kc_X19 hb 0 (by decide) q1793 rfl rfl rfl (by show 0 < 1; decide) rfl (by omega) (G' := G_3) eG_3 dX19_offer_29 ?_
    have o_7 : G_3 b_ = some (.inr (18, [.ref r_])) := by rw [← eG_3]; exact gU_s _ _ _
    refine g_vret hC hr ⟨rfl, ?_⟩ (by omega) (by omega) hE dX19_offer_32
    refine ⟨?_, hf_6, rfl, rfl⟩
    first | (rw [if_pos (by assumption)]; exact o_7) | (rw [if_neg (by simp [*])]; exact o_7)
  · refine g_aload_n hC dX19_offer_21 rfl 1 rfl ?_
    refine g_goto (tgt := 29) hC dX19_offer_22 (by decide) ?_
    obtain ⟨G_8, eG_8⟩ : ∃ G_, gU G b_ (.inr (18, [.ref a_])) = G_ := ⟨_, rfl⟩
    have o_9 : G_8 a_ = some (.inr (19, [.int i1, .int s1, .int g1])) := by rw [← eG_8]; exact (gU_n _ (gne_c h1 hb (by decide))).trans h1
    have o_10 : G_8 r_ = some (.inr (19, [.int i2, .int s2, .int g2])) := by rw [← eG_8]; exact (gU_n _ (gne_c h2 hb (by decide))).trans h2
    have hf_11 : FR (fun q_ => q_ = b_) n G G_8 := by rw [← eG_8]; exact FR.put FR.refl (.inl rfl)
    refine g_put hC kc_X19 hb 0 (by decide) q1793 rfl rfl rfl (by show 0 < 1; decide) rfl (by omega) (G' := G_8) eG_8 dX19_offer_29 ?_
    have o_12 : G_8 b_ = some (.inr (18, [.ref a_])) := by rw [← eG_8]; exact gU_s _ _ _
    refine g_vret hC hr ⟨rfl, ?_⟩ (by omega) (by omega) hE dX19_offer_32
    refine ⟨?_, hf_11, rfl, rfl⟩
    first | (rw [if_pos (by assumption)]; exact o_12) | (rw [if_neg (by simp [*])]; exact o_12)
set_option maxHeartbeats 1000000 in
theorem met_X19_best0 {Y : YT} {l : Launch} {n u : Nat} {G : AH} (b_ : Nat)  (hb : G b_ = some (.inr (18, [.null]))) : GM Y l yX19_best (ws_ yX19_best cX19_best 1 (some (FieldType.object "PluginChains$Strong"))) 0 0 [.ref b_] G n u 0 0 (pQ (fun r G' n' u' => none = r ∧ G = G' ∧ n = n' ∧ u = u')) noX := by
  refine GM.intro (own := RX19) rfl (by decide +kernel) (Nat.le_of_ble_eq_true rfl) ?_
  intro p e s m args below meth c R Q hC hr hnm hF hL hE
  have hE1 := hE.1
  have hE2 := hE.2.1
  have hnz : yz Y ≤ n := by have := hC.z; have := hC.n; omega
  show V Y p l e R s m args below meth c 1 n u G n u Q 0 [(0, .ref b_)] []
  refine V.lts (fun hlt => ?_)
  have hl_b_ : b_ < n := hlt _ _ hb
  refine g_aload_n hC dX19_best_0 rfl 0 rfl ?_
  refine g_get (v := .null) hC kc_X19 hb 0 (by decide) q1793 rfl dX19_best_1 ?_
  refine g_aret (v := none) hC hr (by first | exact Or.inl ⟨_, rfl⟩ | exact Or.inr ⟨_, rfl⟩) ⟨_, rfl, ?_⟩ (by omega) (by omega) hE dX19_best_4
  exact ⟨rfl, rfl, rfl, rfl⟩
set_option maxHeartbeats 1000000 in
theorem met_X19_best1 {Y : YT} {l : Launch} {n u : Nat} {G : AH} (b_ : Nat) {r_ : Nat} (hb : G b_ = some (.inr (18, [.ref r_]))) : GM Y l yX19_best (ws_ yX19_best cX19_best 1 (some (FieldType.object "PluginChains$Strong"))) 0 0 [.ref b_] G n u 0 0 (pQ (fun r G' n' u' => (some r_) = r ∧ G = G' ∧ n = n' ∧ u = u')) noX := by
  refine GM.intro (own := RX19) rfl (by decide +kernel) (Nat.le_of_ble_eq_true rfl) ?_
  intro p e s m args below meth c R Q hC hr hnm hF hL hE
  have hE1 := hE.1
  have hE2 := hE.2.1
  have hnz : yz Y ≤ n := by have := hC.z; have := hC.n; omega
  show V Y p l e R s m args below meth c 1 n u G n u Q 0 [(0, .ref b_)] []
  refine V.lts (fun hlt => ?_)
  have hl_b_ : b_ < n := hlt _ _ hb
  refine g_aload_n hC dX19_best_0 rfl 0 rfl ?_
  refine g_get (v := .ref r_) hC kc_X19 hb 0 (by decide) q1793 rfl dX19_best_1 ?_
  refine g_aret (v := some r_) hC hr (by first | exact Or.inl ⟨_, rfl⟩ | exact Or.inr ⟨_, rfl⟩) ⟨_, rfl, ?_⟩ (by omega) (by omega) hE dX19_best_4
  exact ⟨rfl, rfl, rfl, rfl⟩
set_option maxHeartbeats 1000000 in
theorem met_X2_provider {Y : YT} {l : Launch} {n u : Nat} {G : AH} (h : Nat) (p_ : Nat) (k_ : Nat) {N K : Nat} {σ : MS} {η : HV} {I : AH} (hh : sub (hM Y h N σ η) G) (hN : σ.1 0 0 = nI N) (hK : σ.1 4 0 = nI K) (hN2 : N ≤ 12) (hI : sub I G) (hIh_h : ∀ a, hD h a → I a = none) (hpl : PLs Y N σ I (η.2 0)) (hi0 : p_ < N) (hk : k_ < 8) : GM Y l yX2_provider (ws_ yX2_provider cX2_provider 5 (some FieldType.int)) 4 81 [.ref h, .int (nI p_), .int (nI k_)] G n u 13 37 (pI (fun r G' n' u' => oI (foldN (pvH σ p_ k_) none N) = r ∧ FR noD n G G' ∧ n ≤ n' ∧ u ≤ u' ∧ n' ≤ n + 12 ∧ u' ≤ u + 34 ∧ (foldN (pvH σ p_ k_) none N = none → n' = n + 1 ∧ u' = u + 1))) noX := by
  refine GM.intro (own := RX2) rfl (by decide +kernel) (Nat.le_of_ble_eq_true rfl) ?_
  intro p e s m args below meth c R Q hC hr hnm hF hL hE
  have hE1 := hE.1
  have hE2 := hE.2.1
  have hnz : yz Y ≤ n := by have := hC.z; have := hC.n; omega
  show V Y p l e R s m args below meth c 5 n u G n u Q 0 [(0, .ref h), (1, .int (nI p_)), (2, .int (nI k_))] []
  refine V.lts (fun hlt => ?_)
  have hl_h : h + 6 < n := hlt _ _ (hh _ _ (hM_j 6))
  have hIn := sub_none hI hlt
  obtain ⟨G_1, eG_1⟩ : ∃ G_, gU G n (.inr (18, [.null])) = G_ := ⟨_, rfl⟩
  refine V.lts (fun ltG_1 => ?_)
  have hs_2 : sub (hM Y h N σ η) G_1 := by rw [← eG_1]; exact sub_new hh ltG_1
  have hi_3 : sub I G_1 := by rw [← eG_1]; exact sub_new hI ltG_1
  have hf_4 : FR noD n G G_1 := by rw [← eG_1]; exact FR.put FR.refl (.inr (by omega))
  refine g_new hC kc_X19 q1787 q1788 q127 (fs := [.null]) rfl (G' := G_1) eG_1 (by omega) (by omega) dX2_provider_0 ?_
  have o_5 : G_1 n = some (.inr (18, [.null])) := by rw [← eG_1]; exact gU_s _ _ _
  refine g_dup hC dX2_provider_3 rfl ?_
  refine V.lts (fun lc_6 => ?_)
  refine g_callv0 hC (g_runI (ret := none) hC (met_X19_init (G := G_1) n  o_5 (by omega)) (lw_meth q1791) q127 q1789 q1790 rfl md_X19_init dX2_provider_4 rfl ⟨by omega, by omega⟩ (by omega) (by omega) rfl (Nat.le_of_ble_eq_true rfl)) (fun G_7 n_7 u_7 hp_7 hn_7 hm_7 hu_7 => ?_)
  obtain ⟨ho_7, hf_7, rfl, rfl⟩ := hp_7
  have hs_8 : sub (hM Y h N σ η) G_7 := hf_7.subs hs_2 lc_6 (fun a q => by subst q; exact hM_none (by unfold hD; omega))
  have hi_9 : sub I G_7 := hf_7.subs hi_3 lc_6 (fun a q => by subst q; exact hIn _ (by omega))
  have hf_10 : FR noD n G G_7 := hf_4.trans hf_7 (by omega) (fun a_ q_ => by first | exact .inl q_ | exact .inl (.inl q_) | exact .inl (.inr q_) | (subst q_; first | exact .inr (by omega) | exact .inl rfl))
  refine g_astore_n (L' := [(3, .ref n), (0, .ref h), (1, .int (nI p_)), (2, .int (nI k_))]) hC dX2_provider_7 rfl (by decide) rfl ?_
  refine g_iconst (v := 0) hC dX2_provider_8 rfl ?_
  refine g_istore (L' := [(4, .int 0), (3, .ref n), (0, .ref h), (1, .int (nI p_)), (2, .int (nI k_))]) hC dX2_provider_9 (by decide) rfl ?_
  have hl_11 : ∀ (kf_ : Nat) (Gq : AH) (nq : Nat) (uq : Nat) (q : Nat) (o : Option Nat) (r : Nat), (Gq n = some (.inr (18, [va_rf (o.map fun _ => r)]))) → (∀ g, o = some g → g < q ∧ Gq r = some (.inr (19, [.int (nI g), .int (strF σ g), .int (tl σ 7 g)]))) → (sub (hM Y h N σ η) Gq) → (sub I Gq) → (FR noD n G Gq) → (n + 1 ≤ nq ∧ nq ≤ n + 1 + q ∧ (p_ < q → nq ≤ n + q) ∧ (o = none → nq = n + 1)) → (u ≤ uq ∧ uq ≤ u + 1 + 3 * q ∧ (p_ < q → uq + 2 ≤ u + 3 * q) ∧ (o = none → uq = u + 1)) → (q ≤ N) → (o = foldN (pvH σ p_ k_) none q) → N - q < kf_ → V Y p l e R s m args below meth c 5 n u Gq nq uq Q 11 [(3, .ref n), (0, .ref h), (1, .int (nI p_)), (2, .int (nI k_)), (4, .int (nI q))] [] := by
    intro kf_
    induction kf_ with
    | zero => intro Gq nq uq q o r jb jr jh jI jf jn ju jq jo hk_; exact absurd hk_ (Nat.not_lt_zero _)
    | succ kf_ ih_ =>
      intro Gq nq uq q o r jb jr jh jI jf jn ju jq jo hk_
      obtain ⟨jn1, jn2, jn3, jn4⟩ := jn
      obtain ⟨ju1, ju2, ju3, ju4⟩ := ju
      rcases o with _ | g
      · refine V.lts (fun ltq => ?_)
        refine g_iload hC dX2_provider_11 4 rfl ?_
        refine g_aload_n hC dX2_provider_13 rfl 1 rfl ?_
        refine g_get (v := .int (nI N)) hC kc_X2 (jh _ _ (hM_0 hN hK)) 0 (by decide) q251 rfl dX2_provider_14 ?_
        refine g_icmp_geN hC q N (by omega) (by omega) dX2_provider_17 (tgt := 67) (by decide) (fun c_17 => ?_) (fun c_17 => ?_)
        · refine g_aload_n hC dX2_provider_67 rfl 0 rfl ?_
          refine V.lts (fun lc_11 => ?_)
          refine g_callq0 hC (g_runV hC (met_X19_best0 (G := Gq) n jb) kc_X19 jb (lw_V q1856 q1857 q1858 q127 q1859) rfl md_X19_best dX2_provider_68 rfl ⟨by omega, by omega⟩ (by omega) (by omega) rfl (Nat.le_of_ble_eq_true rfl)) (fun r_12 G_12 n_12 u_12 hp_12 hn_12 hm_12 hu_12 => ?_)
          obtain ⟨rfl, rfl, rfl, rfl⟩ := hp_12
          refine g_castN hC dX2_provider_71 ?_
          refine g_astoreN (L' := [(4, .null), (3, .ref n), (0, .ref h), (1, .int (nI p_)), (2, .int (nI k_))]) hC dX2_provider_74 (by decide) rfl ?_
          refine g_aloadN hC dX2_provider_76 0 rfl ?_
          refine g_ifnonnullN hC dX2_provider_78 ?_
          refine g_iconst (v := (-1)) hC dX2_provider_81 rfl ?_
          refine g_goto (tgt := 90) hC dX2_provider_82 (by decide) ?_
          refine g_iret hC hr rfl ⟨_, rfl, ?_⟩ (by omega) (by omega) hE dX2_provider_90
          obtain rfl : q = N := by omega
          exact ⟨by rw [← jo]; rfl, jf, by omega, by omega, by omega, by omega, fun q9 => ⟨jn4 (jo.trans q9), ju4 (jo.trans q9)⟩⟩
        · obtain ⟨a_q, nm_q, kd_q, hr_q, hk_q, ht_q, hi_q, hnk_q⟩ := hpl q (by omega)
          refine g_aload_n hC dX2_provider_20 rfl 1 rfl ?_
          refine g_iload hC dX2_provider_21 4 rfl ?_
          refine g_iload_n hC dX2_provider_23 rfl 2 rfl ?_
          refine g_iload_n hC dX2_provider_24 rfl 3 rfl ?_
          refine V.lts (fun lc_13 => ?_)
          refine g_calli0 hC (g_runV hC (met_X2_serves (G := Gq) h q p_ k_ (jh) (hN) (hK) (hN2) (jI) (hIh_h) (hpl) (by omega) (by omega) (by omega)) kc_X2 (jh _ _ (hM_0 hN hK)) (lw_V q1797 q1799 qs17 q83 q1800) rfl md_X2_serves dX2_provider_25 rfl ⟨by omega, by omega⟩ (by omega) (by omega) rfl (Nat.le_of_ble_eq_true rfl)) (fun r_14 G_14 n_14 u_14 hp_14 hn_14 hm_14 hu_14 => ?_)
          obtain ⟨rfl, rfl, rfl, rfl⟩ := hp_14
          refine g_if_eqB hC (srvF σ q p_ k_) dX2_provider_28 (tgt := 61) (by decide) (fun c_28 => ?_) (fun c_28 => ?_)
          · refine g_iincN (L' := [(4, .int (nI (q + 1))), (3, .ref n), (0, .ref h), (1, .int (nI p_)), (2, .int (nI k_))]) hC 1 q dX2_provider_61 (k := 4) rfl (by decide) (by decide) rfl ?_
            refine g_goto (tgt := 11) hC dX2_provider_64 (by decide) ?_
            refine V.sub [1, 2, 3, 4, 0] rfl ?_
            exact ih_ Gq nq uq (q + 1) none r (jb) (fun g_ hg_ => nomatch hg_) (jh) (jI) (jf) (⟨by omega, by omega, by omega, fun e_ => by first | (cases e_; done) | (have := jn4 rfl; omega)⟩) (⟨by omega, by omega, by omega, fun e_ => by first | (cases e_; done) | (have := ju4 rfl; omega)⟩) (by omega) (by rw [foldN_sc, ← jo]; unfold pvH; rw [if_neg (by simp [c_28])]) (by omega)
          · have hqp : q ≠ p_ := fun e_ => by rw [e_] at c_28; simp [srvF] at c_28
            refine g_aload_n hC dX2_provider_31 rfl 0 rfl ?_
            obtain ⟨G_15, eG_15⟩ : ∃ G_, gU Gq nq (.inr (19, [.int 0, .int 0, .int 0])) = G_ := ⟨_, rfl⟩
            refine V.lts (fun ltG_15 => ?_)
            have o_16 : G_15 n = some (.inr (18, [.null])) := by rw [← eG_15]; exact (gU_n _ (Nat.ne_of_lt (ltG_15 _ _ jb))).trans jb
            have hs_17 : sub (hM Y h N σ η) G_15 := by rw [← eG_15]; exact sub_new jh ltG_15
            have hi_18 : sub I G_15 := by rw [← eG_15]; exact sub_new jI ltG_15
            have hf_19 : FR noD n G G_15 := by rw [← eG_15]; exact FR.put jf (.inr (by omega))
            refine g_new hC kc_X20 q1807 q1808 q128 (fs := [.int 0, .int 0, .int 0]) rfl (G' := G_15) eG_15 (by omega) (by omega) dX2_provider_32 ?_
            have o_20 : G_15 nq = some (.inr (19, [.int 0, .int 0, .int 0])) := by rw [← eG_15]; exact gU_s _ _ _
            refine g_dup hC dX2_provider_35 rfl ?_
            refine g_iload hC dX2_provider_36 4 rfl ?_
            refine g_aload_n hC dX2_provider_38 rfl 1 rfl ?_
            refine g_get (v := .ref (h + 1)) hC kc_X2 (hs_17 _ _ (hM_0 hN hK)) 4 (by decide) q262 rfl dX2_provider_39 ?_
            refine g_iload hC dX2_provider_42 4 rfl ?_
            refine g_aald (t0 := 6) hC (hs_17 _ _ (hM_j 1)) rfl (vin (by omega) (by omega)) (r := some a_q) (by rw [nI_clamp (by omega)]; exact hr_q) dX2_provider_44 ?_
            refine V.lts (fun lc_21 => ?_)
            refine g_calli0 hC (g_plStr hC hk_q (hi_18 _ _ hi_q) q1809 dX2_provider_45 ⟨by omega, by omega⟩ (by omega) (by omega) (Nat.le_of_ble_eq_true rfl)) (fun r_22 G_22 n_22 u_22 hp_22 hn_22 hm_22 hu_22 => ?_)
            obtain ⟨rfl, rfl, rfl, rfl⟩ := hp_22
            rw [strV_F hk_q ht_q]
            refine g_aload_n hC dX2_provider_48 rfl 1 rfl ?_
            refine g_get (v := .ref (h + 5)) hC kc_X2 (hs_17 _ _ (hM_0 hN hK)) 8 (by decide) q275 rfl dX2_provider_49 ?_
            refine g_iload hC dX2_provider_52 4 rfl ?_
            refine g_iald hC (hs_17 _ _ (hM_j 5)) (vin (by omega) (by omega)) dX2_provider_54 ?_
            rw [show (nI q).toNatClampNeg = q from nI_clamp (by omega)]
            rw [hA_in (by omega)]
            refine V.lts (fun lc_23 => ?_)
            refine g_callv0 hC (g_runI (ret := none) hC (met_X20_init (G := G_15) nq (nI q) (strF σ q) (tl σ 7 q) o_20 (by omega)) (lw_meth q1812) q128 q1810 q1811 rfl md_X20_init dX2_provider_55 rfl ⟨by omega, by omega⟩ (by omega) (by omega) rfl (Nat.le_of_ble_eq_true rfl)) (fun G_24 n_24 u_24 hp_24 hn_24 hm_24 hu_24 => ?_)
            obtain ⟨ho_24, hf_24, rfl, rfl⟩ := hp_24
            have o_25 : G_24 n = some (.inr (18, [.null])) := (hf_24 _ (lc_23 _ _ o_16) (fun q => (gne_c o_16 o_20 (by decide)) q)).trans o_16
            have hs_26 : sub (hM Y h N σ η) G_24 := hf_24.subs hs_17 lc_23 (fun a q => by subst q; exact hM_none (by unfold hD; omega))
            have hi_27 : sub I G_24 := hf_24.subs hi_18 lc_23 (fun a q => by subst q; exact hIn _ (by omega))
            have hf_28 : FR noD n G G_24 := hf_19.trans hf_24 (by omega) (fun a_ q_ => by first | exact .inl q_ | exact .inl (.inl q_) | exact .inl (.inr q_) | (subst q_; first | exact .inr (by omega) | exact .inl rfl))
            refine V.lts (fun lc_29 => ?_)
            refine g_callv0 hC (g_runV hC (met_X19_offer0 (G := G_24) n nq o_25 (by omega) ho_24) kc_X19 o_25 (lw_V q1825 q1826 q1827 q127 q1828) rfl md_X19_offer dX2_provider_58 rfl ⟨by omega, by omega⟩ (by omega) (by omega) rfl (Nat.le_of_ble_eq_true rfl)) (fun G_30 n_30 u_30 hp_30 hn_30 hm_30 hu_30 => ?_)
            obtain ⟨ho_30, hf_30, rfl, rfl⟩ := hp_30
            have o_31 : G_30 nq = some (.inr (19, [.int (nI q), .int (strF σ q), .int (tl σ 7 q)])) := (hf_30 _ (lc_29 _ _ ho_24) (fun q => (gne_c ho_24 o_25 (by decide)) q)).trans ho_24
            have hs_32 : sub (hM Y h N σ η) G_30 := hf_30.subs hs_26 lc_29 (fun a q => by subst q; exact hM_none (by unfold hD; omega))
            have hi_33 : sub I G_30 := hf_30.subs hi_27 lc_29 (fun a q => by subst q; exact hIn _ (by omega))
            have hf_34 : FR noD n G G_30 := hf_28.trans hf_30 (by omega) (fun a_ q_ => by first | exact .inl q_ | exact .inl (.inl q_) | exact .inl (.inr q_) | (subst q_; first | exact .inr (by omega) | exact .inl rfl))
            refine g_iincN (L' := [(4, .int (nI (q + 1))), (3, .ref n), (0, .ref h), (1, .int (nI p_)), (2, .int (nI k_))]) hC 1 q dX2_provider_61 (k := 4) rfl (by decide) (by decide) rfl ?_
            refine g_goto (tgt := 11) hC dX2_provider_64 (by decide) ?_
            refine V.sub [1, 2, 3, 4, 0] rfl ?_
            exact ih_ G_30 (nq + 1) (uq + 3) (q + 1) (some q) nq (ho_30) (fun g_ hg_ => by cases hg_; exact ⟨by omega, o_31⟩) (hs_32) (hi_33) (hf_34) (⟨by omega, by omega, by omega, fun e_ => by first | (cases e_; done) | (have := jn4 rfl; omega)⟩) (⟨by omega, by omega, by omega, fun e_ => by first | (cases e_; done) | (have := ju4 rfl; omega)⟩) (by omega) (by rw [foldN_sc, ← jo]; unfold pvH; rw [if_pos c_28]) (by omega)
      · refine V.lts (fun ltq => ?_)
        obtain ⟨jr0, jr1⟩ := jr g rfl
        have hrq := ltq _ _ jr1
        refine g_iload hC dX2_provider_11 4 rfl ?_
        refine g_aload_n hC dX2_provider_13 rfl 1 rfl ?_
        refine g_get (v := .int (nI N)) hC kc_X2 (jh _ _ (hM_0 hN hK)) 0 (by decide) q251 rfl dX2_provider_14 ?_
        refine g_icmp_geN hC q N (by omega) (by omega) dX2_provider_17 (tgt := 67) (by decide) (fun c_17 => ?_) (fun c_17 => ?_)
        · refine g_aload_n hC dX2_provider_67 rfl 0 rfl ?_
          refine V.lts (fun lc_35 => ?_)
          refine g_callq0 hC (g_runV hC (met_X19_best1 (G := Gq) n jb) kc_X19 jb (lw_V q1856 q1857 q1858 q127 q1859) rfl md_X19_best dX2_provider_68 rfl ⟨by omega, by omega⟩ (by omega) (by omega) rfl (Nat.le_of_ble_eq_true rfl)) (fun r_36 G_36 n_36 u_36 hp_36 hn_36 hm_36 hu_36 => ?_)
          obtain ⟨rfl, rfl, rfl, rfl⟩ := hp_36
          refine g_castS hC kc_X20 jr1 q1807 dX2_provider_71 ?_
          refine g_astore (L' := [(4, .ref r), (3, .ref n), (0, .ref h), (1, .int (nI p_)), (2, .int (nI k_))]) hC dX2_provider_74 (by decide) rfl ?_
          refine g_aload hC dX2_provider_76 0 rfl ?_
          refine g_ifnonnull (tgt := 85) hC dX2_provider_78 (by decide) ?_
          refine g_aload hC dX2_provider_85 0 rfl ?_
          refine g_get (v := .int (nI g)) hC kc_X20 jr1 0 (by decide) q1815 rfl dX2_provider_87 ?_
          refine g_iret hC hr rfl ⟨_, rfl, ?_⟩ (by omega) (by omega) hE dX2_provider_90
          obtain rfl : q = N := by omega
          exact ⟨by rw [← jo]; rfl, jf, by omega, by omega, by omega, by omega, fun q9 => ⟨jn4 (jo.trans q9), ju4 (jo.trans q9)⟩⟩
        · obtain ⟨a_q, nm_q, kd_q, hr_q, hk_q, ht_q, hi_q, hnk_q⟩ := hpl q (by omega)
          refine g_aload_n hC dX2_provider_20 rfl 1 rfl ?_
          refine g_iload hC dX2_provider_21 4 rfl ?_
          refine g_iload_n hC dX2_provider_23 rfl 2 rfl ?_
          refine g_iload_n hC dX2_provider_24 rfl 3 rfl ?_
          refine V.lts (fun lc_37 => ?_)
          refine g_calli0 hC (g_runV hC (met_X2_serves (G := Gq) h q p_ k_ (jh) (hN) (hK) (hN2) (jI) (hIh_h) (hpl) (by omega) (by omega) (by omega)) kc_X2 (jh _ _ (hM_0 hN hK)) (lw_V q1797 q1799 qs17 q83 q1800) rfl md_X2_serves dX2_provider_25 rfl ⟨by omega, by omega⟩ (by omega) (by omega) rfl (Nat.le_of_ble_eq_true rfl)) (fun r_38 G_38 n_38 u_38 hp_38 hn_38 hm_38 hu_38 => ?_)
          obtain ⟨rfl, rfl, rfl, rfl⟩ := hp_38
          refine g_if_eqB hC (srvF σ q p_ k_) dX2_provider_28 (tgt := 61) (by decide) (fun c_28 => ?_) (fun c_28 => ?_)
          · refine g_iincN (L' := [(4, .int (nI (q + 1))), (3, .ref n), (0, .ref h), (1, .int (nI p_)), (2, .int (nI k_))]) hC 1 q dX2_provider_61 (k := 4) rfl (by decide) (by decide) rfl ?_
            refine g_goto (tgt := 11) hC dX2_provider_64 (by decide) ?_
            refine V.sub [1, 2, 3, 4, 0] rfl ?_
            exact ih_ Gq nq uq (q + 1) (some g) r (jb) (fun g_ hg_ => by cases hg_; exact ⟨by omega, jr1⟩) (jh) (jI) (jf) (⟨by omega, by omega, by omega, fun e_ => by first | (cases e_; done) | (have := jn4 rfl; omega)⟩) (⟨by omega, by omega, by omega, fun e_ => by first | (cases e_; done) | (have := ju4 rfl; omega)⟩) (by omega) (by rw [foldN_sc, ← jo]; unfold pvH; rw [if_neg (by simp [c_28])]) (by omega)
          · have hqp : q ≠ p_ := fun e_ => by rw [e_] at c_28; simp [srvF] at c_28
            refine g_aload_n hC dX2_provider_31 rfl 0 rfl ?_
            obtain ⟨G_39, eG_39⟩ : ∃ G_, gU Gq nq (.inr (19, [.int 0, .int 0, .int 0])) = G_ := ⟨_, rfl⟩
            refine V.lts (fun ltG_39 => ?_)
            have o_40 : G_39 n = some (.inr (18, [.ref r])) := by rw [← eG_39]; exact (gU_n _ (Nat.ne_of_lt (ltG_39 _ _ jb))).trans jb
            have o_41 : G_39 r = some (.inr (19, [.int (nI g), .int (strF σ g), .int (tl σ 7 g)])) := by rw [← eG_39]; exact (gU_n _ (Nat.ne_of_lt (ltG_39 _ _ jr1))).trans jr1
            have hs_42 : sub (hM Y h N σ η) G_39 := by rw [← eG_39]; exact sub_new jh ltG_39
            have hi_43 : sub I G_39 := by rw [← eG_39]; exact sub_new jI ltG_39
            have hf_44 : FR noD n G G_39 := by rw [← eG_39]; exact FR.put jf (.inr (by omega))
            refine g_new hC kc_X20 q1807 q1808 q128 (fs := [.int 0, .int 0, .int 0]) rfl (G' := G_39) eG_39 (by omega) (by omega) dX2_provider_32 ?_
            have o_45 : G_39 nq = some (.inr (19, [.int 0, .int 0, .int 0])) := by rw [← eG_39]; exact gU_s _ _ _
            refine g_dup hC dX2_provider_35 rfl ?_
            refine g_iload hC dX2_provider_36 4 rfl ?_
            refine g_aload_n hC dX2_provider_38 rfl 1 rfl ?_
            refine g_get (v := .ref (h + 1)) hC kc_X2 (hs_42 _ _ (hM_0 hN hK)) 4 (by decide) q262 rfl dX2_provider_39 ?_
            refine g_iload hC dX2_provider_42 4 rfl ?_
            refine g_aald (t0 := 6) hC (hs_42 _ _ (hM_j 1)) rfl (vin (by omega) (by omega)) (r := some a_q) (by rw [nI_clamp (by omega)]; exact hr_q) dX2_provider_44 ?_
            refine V.lts (fun lc_46 => ?_)
            refine g_calli0 hC (g_plStr hC hk_q (hi_43 _ _ hi_q) q1809 dX2_provider_45 ⟨by omega, by omega⟩ (by omega) (by omega) (Nat.le_of_ble_eq_true rfl)) (fun r_47 G_47 n_47 u_47 hp_47 hn_47 hm_47 hu_47 => ?_)
            obtain ⟨rfl, rfl, rfl, rfl⟩ := hp_47
            rw [strV_F hk_q ht_q]
            refine g_aload_n hC dX2_provider_48 rfl 1 rfl ?_
            refine g_get (v := .ref (h + 5)) hC kc_X2 (hs_42 _ _ (hM_0 hN hK)) 8 (by decide) q275 rfl dX2_provider_49 ?_
            refine g_iload hC dX2_provider_52 4 rfl ?_
            refine g_iald hC (hs_42 _ _ (hM_j 5)) (vin (by omega) (by omega)) dX2_provider_54 ?_
            rw [show (nI q).toNatClampNeg = q from nI_clamp (by omega)]
            rw [hA_in (by omega)]
            refine V.lts (fun lc_48 => ?_)
            refine g_callv0 hC (g_runI (ret := none) hC (met_X20_init (G := G_39) nq (nI q) (strF σ q) (tl σ 7 q) o_45 (by omega)) (lw_meth q1812) q128 q1810 q1811 rfl md_X20_init dX2_provider_55 rfl ⟨by omega, by omega⟩ (by omega) (by omega) rfl (Nat.le_of_ble_eq_true rfl)) (fun G_49 n_49 u_49 hp_49 hn_49 hm_49 hu_49 => ?_)
            obtain ⟨ho_49, hf_49, rfl, rfl⟩ := hp_49
            have o_50 : G_49 n = some (.inr (18, [.ref r])) := (hf_49 _ (lc_48 _ _ o_40) (fun q => (gne_c o_40 o_45 (by decide)) q)).trans o_40
            have o_51 : G_49 r = some (.inr (19, [.int (nI g), .int (strF σ g), .int (tl σ 7 g)])) := (hf_49 _ (lc_48 _ _ o_41) (by omega)).trans o_41
            have hs_52 : sub (hM Y h N σ η) G_49 := hf_49.subs hs_42 lc_48 (fun a q => by subst q; exact hM_none (by unfold hD; omega))
            have hi_53 : sub I G_49 := hf_49.subs hi_43 lc_48 (fun a q => by subst q; exact hIn _ (by omega))
            have hf_54 : FR noD n G G_49 := hf_44.trans hf_49 (by omega) (fun a_ q_ => by first | exact .inl q_ | exact .inl (.inl q_) | exact .inl (.inr q_) | (subst q_; first | exact .inr (by omega) | exact .inl rfl))
            refine V.lts (fun lc_55 => ?_)
            refine g_callv0 hC (g_runV hC (met_X19_offer1 (G := G_49) n nq o_50 (by omega) ho_49 o_51) kc_X19 o_50 (lw_V q1825 q1826 q1827 q127 q1828) rfl md_X19_offer dX2_provider_58 rfl ⟨by omega, by omega⟩ (by omega) (by omega) rfl (Nat.le_of_ble_eq_true rfl)) (fun G_56 n_56 u_56 hp_56 hn_56 hm_56 hu_56 => ?_)
            obtain ⟨ho_56, hf_56, rfl, rfl⟩ := hp_56
            have o_57 : G_56 r = some (.inr (19, [.int (nI g), .int (strF σ g), .int (tl σ 7 g)])) := (hf_56 _ (lc_55 _ _ o_51) (fun q => (gne_c o_51 o_50 (by decide)) q)).trans o_51
            have o_58 : G_56 nq = some (.inr (19, [.int (nI q), .int (strF σ q), .int (tl σ 7 q)])) := (hf_56 _ (lc_55 _ _ ho_49) (fun q => (gne_c ho_49 o_50 (by decide)) q)).trans ho_49
            have hs_59 : sub (hM Y h N σ η) G_56 := hf_56.subs hs_52 lc_55 (fun a q => by subst q; exact hM_none (by unfold hD; omega))
            have hi_60 : sub I G_56 := hf_56.subs hi_53 lc_55 (fun a q => by subst q; exact hIn _ (by omega))
            have hf_61 : FR noD n G G_56 := hf_54.trans hf_56 (by omega) (fun a_ q_ => by first | exact .inl q_ | exact .inl (.inl q_) | exact .inl (.inr q_) | (subst q_; first | exact .inr (by omega) | exact .inl rfl))
            refine g_iincN (L' := [(4, .int (nI (q + 1))), (3, .ref n), (0, .ref h), (1, .int (nI p_)), (2, .int (nI k_))]) hC 1 q dX2_provider_61 (k := 4) rfl (by decide) (by decide) rfl ?_
            refine g_goto (tgt := 11) hC dX2_provider_64 (by decide) ?_
            refine V.sub [1, 2, 3, 4, 0] rfl ?_
            exact ih_ G_56 (nq + 1) (uq + 3) (q + 1) (some (if abvF (strF σ q) (tl σ 7 q) (strF σ g) (tl σ 7 g) = true then q else g)) (if abvF (strF σ q) (tl σ 7 q) (strF σ g) (tl σ 7 g) = true then nq else r) (ho_56) (fun g_ hg_ => by cases hg_; split; exact ⟨by omega, o_58⟩; exact ⟨by omega, o_57⟩) (hs_59) (hi_60) (hf_61) (⟨by omega, by omega, by omega, fun e_ => by first | (cases e_; done) | (have := jn4 rfl; omega)⟩) (⟨by omega, by omega, by omega, fun e_ => by first | (cases e_; done) | (have := ju4 rfl; omega)⟩) (by omega) (by rw [foldN_sc, ← jo]; unfold pvH; rw [if_pos c_28]; exact apply_ite some _ _ _) (by omega)
  refine V.sub [1, 2, 3, 4, 0] rfl ?_
  exact hl_11 (N - 0 + 1) G_7 (n + 1) (u + 1) 0 none n (ho_7) (fun g_ hg_ => nomatch hg_) (hs_8) (hi_9) (hf_10) (⟨by omega, by omega, by omega, fun _ => rfl⟩) (⟨by omega, by omega, by omega, fun _ => rfl⟩) (by omega) (rfl) (by omega)
