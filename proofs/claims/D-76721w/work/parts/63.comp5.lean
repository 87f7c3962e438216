set_option maxRecDepth 100000
/-! COMPONENT, 6: the log, draw, stop, lacks -/
/-- a log: the object and its array; g were told -/
def LGs (Y : YT) (G : AH) (lg ka : Nat) (f : Nat → Int32) (g : Nat) : Prop := G lg = some (.inr (1, [.ref ka, .int (nI g)])) ∧ G ka = some (.inl (yA Y 0, 40, .inl f))
set_option maxHeartbeats 1000000 in
theorem met_X1_add {Y : YT} {l : Launch} {n u : Nat} {G : AH} (lg : Nat) (x_ : Int32) {ka g : Nat} {f : Nat → Int32} (hl1 : G lg = some (.inr (1, [.ref ka, .int (nI g)]))) (hl2 : G ka = some (.inl (yA Y 0, 40, .inl f))) (hzl : yz Y ≤ lg) (hzk : yz Y ≤ ka) (hg : g < 100000000) : GM Y l yX1_add (ws_ yX1_add cX1_add 2 none) 0 0 [.ref lg, .int x_] G n u 0 0 (pV (fun G' n' u' => G' lg = some (.inr (1, [.ref ka, .int (nI (g + 1))])) ∧ G' ka = some (.inl (yA Y 0, 40, .inl (upd f (g % 40) x_))) ∧ FR (fun q_ => q_ = lg ∨ q_ = ka) n G G' ∧ n = n' ∧ u = u')) noX := by
  refine GM.intro (own := RX1) rfl (by decide +kernel) (Nat.le_of_ble_eq_true rfl) ?_
  intro p e s m args below meth c R Q hC hr hnm hF hL hE
  have hE1 := hE.1
  have hE2 := hE.2.1
  have hnz : yz Y ≤ n := by have := hC.z; have := hC.n; omega
  show V Y p l e R s m args below meth c 2 n u G n u Q 0 [(0, .ref lg), (1, .int x_)] []
  refine V.lts (fun hlt => ?_)
  have hl_lg : lg < n := hlt _ _ hl1
  have hl_ka : ka < n := hlt _ _ hl2
  refine g_aload_n hC dX1_add_0 rfl 0 rfl ?_
  refine g_get (v := .ref ka) hC kc_X1 hl1 0 (by decide) q190 rfl dX1_add_1 ?_
  refine g_aload_n hC dX1_add_4 rfl 0 rfl ?_
  refine g_get (v := .int (nI g)) hC kc_X1 hl1 1 (by decide) q191 rfl dX1_add_5 ?_
  refine g_bipush (v := 40) hC dX1_add_8 (by decide) ?_
  refine g_iremN hC g 40 (by omega) (by omega) (by omega) dX1_add_10 ?_
  refine g_iload_n hC dX1_add_11 rfl 1 rfl ?_
  obtain ⟨G_1, eG_1⟩ : ∃ G_, gU G ka (.inl (yA Y 0, 40, .inl (upd f (g % 40) x_))) = G_ := ⟨_, rfl⟩
  have o_2 : G_1 lg = some (.inr (1, [.ref ka, .int (nI g)])) := by rw [← eG_1]; exact (gU_n _ (gne_oa hl1 hl2)).trans hl1
  have hf_3 : FR (fun q_ => q_ = lg ∨ q_ = ka) n G G_1 := by rw [← eG_1]; exact FR.put FR.refl (.inl (.inr rfl))
  refine g_iast hC hl2 (vin (by omega) (by omega)) (by omega) (f' := (upd f (g % 40) x_)) (by rw [nI_clamp (by omega)]) (G' := G_1) eG_1 dX1_add_12 ?_
  have a_4 : G_1 ka = some (.inl (yA Y 0, 40, .inl (upd f (g % 40) x_))) := by rw [← eG_1]; exact gU_s _ _ _
  refine g_aload_n hC dX1_add_13 rfl 0 rfl ?_
  refine g_dup hC dX1_add_14 rfl ?_
  refine g_get (v := .int (nI g)) hC kc_X1 o_2 1 (by decide) q191 rfl dX1_add_15 ?_
  refine g_iconst (v := 1) hC dX1_add_18 rfl ?_
  refine g_iaddN hC g 1 dX1_add_19 ?_
  obtain ⟨G_5, eG_5⟩ : ∃ G_, gU G_1 lg (.inr (1, [.ref ka, .int (nI (g + 1))])) = G_ := ⟨_, rfl⟩
  have a_6 : G_5 ka = some (.inl (yA Y 0, 40, .inl (upd f (g % 40) x_))) := by rw [← eG_5]; exact (gU_n _ (gne_ao a_4 o_2)).trans a_4
  have hf_7 : FR (fun q_ => q_ = lg ∨ q_ = ka) n G G_5 := by rw [← eG_5]; exact FR.put hf_3 (.inl (.inl rfl))
  refine g_put hC kc_X1 o_2 1 (by decide) q191 rfl rfl rfl (by show 1 < 2; decide) rfl (by omega) (G' := G_5) eG_5 dX1_add_20 ?_
  have o_8 : G_5 lg = some (.inr (1, [.ref ka, .int (nI (g + 1))])) := by rw [← eG_5]; exact gU_s _ _ _
  refine g_vret hC hr ⟨rfl, ?_⟩ (by omega) (by omega) hE dX1_add_23
  exact ⟨o_8, a_6, hf_7, rfl, rfl⟩
set_option maxHeartbeats 1000000 in
theorem met_X2_stop {Y : YT} {l : Launch} {n u : Nat} {G : AH} (h : Nat) (q_ : Nat) (lg : Nat) {N K : Nat} {σ : MS} {η : HV} {ka g : Nat} {f : Nat → Int32} (hh : sub (hM Y h N σ η) G) (hN : σ.1 0 0 = nI N) (hK : σ.1 4 0 = nI K) (hN2 : N ≤ 12) (hzh : yz Y ≤ h) (hl1 : G lg = some (.inr (1, [.ref ka, .int (nI g)]))) (hl2 : G ka = some (.inl (yA Y 0, 40, .inl f))) (hzl : yz Y ≤ lg) (hzk : yz Y ≤ ka) (hg : g < 100000000) (hlh : ¬ hD h lg) (hkh : ¬ hD h ka) (hi0 : q_ < N) : GM Y l yX2_stop (ws_ yX2_stop cX2_stop 3 none) 1 21 [.ref h, .int (nI q_), .ref lg] G n u 0 0 (pV (fun G' n' u' => sub (hM Y h N (mu σ 1 q_ 0) η) G' ∧ G' lg = some (.inr (1, [.ref ka, .int (nI (g + 1))])) ∧ G' ka = some (.inl (yA Y 0, 40, .inl (upd f (g % 40) (nI (200 + q_))))) ∧ FR (fun q_ => hD h q_ ∨ q_ = lg ∨ q_ = ka) n G G' ∧ n = n' ∧ u = u')) noX := by
  refine GM.intro (own := RX2) rfl (by decide +kernel) (Nat.le_of_ble_eq_true rfl) ?_
  intro p e s m args below meth c R Q hC hr hnm hF hL hE
  have hE1 := hE.1
  have hE2 := hE.2.1
  have hnz : yz Y ≤ n := by have := hC.z; have := hC.n; omega
  show V Y p l e R s m args below meth c 3 n u G n u Q 0 [(0, .ref h), (1, .int (nI q_)), (2, .ref lg)] []
  refine V.lts (fun hlt => ?_)
  have hl_lg : lg < n := hlt _ _ hl1
  have hl_ka : ka < n := hlt _ _ hl2
  have hl_h : h + 6 < n := hlt _ _ (hh _ _ (hM_j 6))
  refine g_aload_n hC dX2_stop_0 rfl 0 rfl ?_
  refine g_get (v := .ref (h + 2)) hC kc_X2 (hh _ _ (hM_0 hN hK)) 5 (by decide) q265 rfl dX2_stop_1 ?_
  refine g_iload_n hC dX2_stop_4 rfl 1 rfl ?_
  refine g_iconst (v := 0) hC dX2_stop_5 rfl ?_
  obtain ⟨G_1, eG_1⟩ : ∃ G_, gU G (h + 2) (.inl (yA Y 0, 12, .inl (upd (hA N 0 σ η.1) q_ 0))) = G_ := ⟨_, rfl⟩
  have o_2 : G_1 lg = some (.inr (1, [.ref ka, .int (nI g)])) := by rw [← eG_1]; exact (gU_n _ (gne_oa hl1 (hh _ _ (hM_j 2)))).trans hl1
  have a_3 : G_1 ka = some (.inl (yA Y 0, 40, .inl f)) := by rw [← eG_1]; exact (gU_n _ (fun q => hkh ⟨by omega, by omega⟩)).trans hl2
  have hs_4 : sub (hM Y h N (mu σ 1 q_ 0) η) G_1 := by rw [← eG_1]; exact hM_w0 hh (by omega) (by omega) (by omega)
  have hf_5 : FR (fun q_ => hD h q_ ∨ q_ = lg ∨ q_ = ka) n G G_1 := by rw [← eG_1]; exact FR.put FR.refl (.inl (.inl ⟨by omega, by omega⟩))
  refine g_iast hC (hh _ _ (hM_j 2)) (vin (by omega) (by omega)) (by omega) (f' := upd (hA N 0 σ η.1) q_ 0) (by rw [nI_clamp (by omega)]) (G' := G_1) eG_1 dX2_stop_6 ?_
  refine g_aload_n hC dX2_stop_7 rfl 2 rfl ?_
  refine g_sipush (v := 200) hC dX2_stop_8 (by decide) ?_
  refine g_iload_n hC dX2_stop_11 rfl 1 rfl ?_
  refine g_iaddN hC 200 q_ dX2_stop_12 ?_
  refine V.lts (fun lc_6 => ?_)
  refine g_callv0 hC (g_runV hC (met_X1_add (G := G_1) lg (nI (200 + q_)) o_2 a_3 (by omega) (by omega) (by omega)) kc_X1 o_2 (lw_V q2444 q2437 q2438 q82 q2439) rfl md_X1_add dX2_stop_13 rfl ⟨by omega, by omega⟩ (by omega) (by omega) rfl (Nat.le_of_ble_eq_true rfl)) (fun G_7 n_7 u_7 hp_7 hn_7 hm_7 hu_7 => ?_)
  obtain ⟨hoa_7, hob_7, hf_7, rfl, rfl⟩ := hp_7
  have hs_8 : sub (hM Y h N (mu σ 1 q_ 0) η) G_7 := hf_7.subs hs_4 lc_6 (fun a q => (show _ from (fun q => q.elim (fun q => (fun q : a = _ => by subst q; exact (hM_none hlh)) q) (fun q => (fun q : a = _ => by subst q; exact (hM_none hkh)) q)) q))
  have hf_9 : FR (fun q_ => hD h q_ ∨ q_ = lg ∨ q_ = ka) n G G_7 := hf_5.trans hf_7 (by omega) (fun a_ q_ => .inl (.inr q_))
  refine g_vret hC hr ⟨rfl, ?_⟩ (by omega) (by omega) hE dX2_stop_16
  exact ⟨hs_8, hoa_7, hob_7, hf_9, rfl, rfl⟩
/-- what of the wanted nobody outside the waves serves -/
def lkF (N : Nat) (σ : MS) (wv : Nat → Int32) (p k : Nat) : Bool := needF σ p k && !(anyN (fun q => srvF σ q p k && decide (wv q = -1)) N)
def lkP (σ : MS) (wv : Nat → Int32) (p k q : Nat) : Bool := srvF σ q p k && decide (wv q = -1)
set_option maxHeartbeats 1000000 in
theorem met_X2_draw {Y : YT} {l : Launch} {n u : Nat} {G : AH} (h : Nat) (b_ : Nat) {N K : Nat} {σ : MS} {η : HV} (hh : sub (hM Y h N σ η) G) (hN : σ.1 0 0 = nI N) (hK : σ.1 4 0 = nI K) (hN2 : N ≤ 12) (hzh : yz Y ≤ h) (hb : 0 < b_) (hb2 : b_ < 1000) : GM Y l yX2_draw (ws_ yX2_draw cX2_draw 2 (some FieldType.int)) 0 0 [.ref h, .int (nI b_)] G n u 0 0 (pI (fun r G' n' u' => nI (dT (dsF (σ.1 3 0)) % b_) = r ∧ sub (hM Y h N (mu σ 3 0 (dsF (σ.1 3 0))) η) G' ∧ FR (hD h) n G G' ∧ n = n' ∧ u = u')) noX := by
  refine GM.intro (own := RX2) rfl (by decide +kernel) (Nat.le_of_ble_eq_true rfl) ?_
  intro p e s m args below meth c R Q hC hr hnm hF hL hE
  have hE1 := hE.1
  have hE2 := hE.2.1
  have hnz : yz Y ≤ n := by have := hC.z; have := hC.n; omega
  show V Y p l e R s m args below meth c 2 n u G n u Q 0 [(0, .ref h), (1, .int (nI b_))] []
  refine V.lts (fun hlt => ?_)
  have hl_h : h + 6 < n := hlt _ _ (hh _ _ (hM_j 6))
  refine g_aload_n hC dX2_draw_0 rfl 0 rfl ?_
  refine g_aload_n hC dX2_draw_1 rfl 0 rfl ?_
  refine g_get (v := .int (σ.1 3 0)) hC kc_X2 (hh _ _ (hM_0 hN hK)) 3 (by decide) q260 rfl dX2_draw_2 ?_
  refine g_ldc (v := 1103515245) hC q3483 dX2_draw_5 ?_
  refine g_imul hC dX2_draw_7 ?_
  refine g_sipush (v := 12345) hC dX2_draw_8 (by decide) ?_
  refine g_iadd hC dX2_draw_11 ?_
  obtain ⟨G_1, eG_1⟩ : ∃ G_, gU G h (.inr (2, [.int (nI N), .int (nI K), .int (σ.1 2 0), .int (((σ.1 3 0) * 1103515245) + 12345), .ref (h + 1), .ref (h + 2), .ref (h + 3), .ref (h + 4), .ref (h + 5), .ref (h + 6), .ref (h + 7)])) = G_ := ⟨_, rfl⟩
  have hs_2 : sub (hM Y h N (mu σ 3 0 (((σ.1 3 0) * 1103515245) + 12345)) η) G_1 := by rw [← eG_1]; exact hM_f3 hh (by rw [hN, hK])
  have hf_3 : FR (hD h) n G G_1 := by rw [← eG_1]; exact FR.put FR.refl (.inl ⟨by omega, by omega⟩)
  refine g_put hC kc_X2 (hh _ _ (hM_0 hN hK)) 3 (by decide) q260 rfl rfl rfl (by show 3 < 11; decide) rfl (by omega) (G' := G_1) eG_1 dX2_draw_12 ?_
  refine g_aload_n hC dX2_draw_15 rfl 0 rfl ?_
  refine g_get (v := .int (((σ.1 3 0) * 1103515245) + 12345)) hC kc_X2 (hs_2 _ _ (hM_0 ((mu_nk (by decide)).trans hN) ((mu_nk (by decide)).trans hK))) 3 (by decide) q260 rfl dX2_draw_16 ?_
  refine g_bipush (v := 16) hC dX2_draw_19 (by decide) ?_
  refine g_iushr (v := nI (dT (dsF (σ.1 3 0)))) hC dX2_draw_21 (ush16 _) ?_
  refine g_iload_n hC dX2_draw_22 rfl 1 rfl ?_
  have := dT_lt (dsF (σ.1 3 0))
  refine g_iremN hC (dT (dsF (σ.1 3 0))) b_ (by omega) (by omega) (by omega) dX2_draw_23 ?_
  refine g_iret hC hr rfl ⟨_, rfl, ?_⟩ (by omega) (by omega) hE dX2_draw_24
  exact ⟨rfl, hs_2, hf_3, rfl, rfl⟩
set_option maxHeartbeats 1000000 in
theorem met_X2_lacks {Y : YT} {l : Launch} {n u : Nat} {G : AH} (h : Nat) (p_ : Nat) (w_ : Nat) {N K : Nat} {σ : MS} {η : HV} {I : AH} {wv : Nat → Int32} (hh : sub (hM Y h N σ η) G) (hN : σ.1 0 0 = nI N) (hK : σ.1 4 0 = nI K) (hN2 : N ≤ 12) (hI : sub I G) (hIh_h : ∀ a, hD h a → I a = none) (hpl : PLs Y N σ I (η.2 0)) (hi0 : p_ < N) (hw : G w_ = some (.inl (yA Y 0, 12, .inl wv))) : GM Y l yX2_lacks (ws_ yX2_lacks cX2_lacks 6 (some FieldType.boolean)) 2 45 [.ref h, .int (nI p_), .ref w_] G n u 0 0 (pI (fun r G' n' u' => b2i (anyN (lkF N σ wv p_) 8) = r ∧ G = G' ∧ n = n' ∧ u = u')) noX := by
  refine GM.intro (own := RX2) rfl (by decide +kernel) (Nat.le_of_ble_eq_true rfl) ?_
  intro p e s m args below meth c R Q hC hr hnm hF hL hE
  have hE1 := hE.1
  have hE2 := hE.2.1
  have hnz : yz Y ≤ n := by have := hC.z; have := hC.n; omega
  show V Y p l e R s m args below meth c 6 n u G n u Q 0 [(0, .ref h), (1, .int (nI p_)), (2, .ref w_)] []
  refine V.lts (fun hlt => ?_)
  have hl_w_ : w_ < n := hlt _ _ hw
  have hl_h : h + 6 < n := hlt _ _ (hh _ _ (hM_j 6))
  have hIn := sub_none hI hlt
  obtain ⟨a_p_, nm_p_, kd_p_, hr_p_, hk_p_, ht_p_, hi_p_, hnk_p_⟩ := hpl p_ (by omega)
  refine g_iconst (v := 0) hC dX2_lacks_0 rfl ?_
  refine g_istore_n (L' := [(3, .int 0), (0, .ref h), (1, .int (nI p_)), (2, .ref w_)]) hC dX2_lacks_1 rfl (by decide) rfl ?_
  have hl_2 : ∀ (kf_ : Nat) (k : Nat), (k ≤ 8) → (anyN (lkF N σ wv p_) k = false) → 8 - k < kf_ → V Y p l e R s m args below meth c 6 n u G n u Q 2 [(3, .int (nI k)), (0, .ref h), (1, .int (nI p_)), (2, .ref w_)] [] := by
    intro kf_
    induction kf_ with
    | zero => intro k hio hn hk_; exact absurd hk_ (Nat.not_lt_zero _)
    | succ kf_ ih_o =>
      intro k hio hn hk_
      refine g_iload_n hC dX2_lacks_2 rfl 0 rfl ?_
      refine g_bipush (v := 8) hC dX2_lacks_3 (by decide) ?_
      refine g_icmp_geN hC k 8 (by omega) (by omega) dX2_lacks_5 (tgt := 93) (by decide) (fun c_5 => ?_) (fun c_5 => ?_)
      · refine g_iconst (v := 0) hC dX2_lacks_93 rfl ?_
        refine g_iret hC hr rfl ⟨_, rfl, ?_⟩ (by omega) (by omega) hE dX2_lacks_94
        exact ⟨by (obtain rfl : k = 8 := (by omega)); rw [hn]; rfl, rfl, rfl, rfl⟩
      · refine g_aload_n hC dX2_lacks_8 rfl 1 rfl ?_
        refine g_get (v := .ref (h + 1)) hC kc_X2 (hh _ _ (hM_0 hN hK)) 4 (by decide) q262 rfl dX2_lacks_9 ?_
        refine g_iload_n hC dX2_lacks_12 rfl 2 rfl ?_
        refine g_aald (t0 := 6) hC (hh _ _ (hM_j 1)) rfl (vin (by omega) (by omega)) (r := some a_p_) (by rw [nI_clamp (by omega)]; exact hr_p_) dX2_lacks_13 ?_
        refine g_getP (v := .int (tl σ 3 p_)) hC hk_p_ (hI _ _ hi_p_) 3 (by decide) q1428 rfl dX2_lacks_14 ?_
        refine g_iload_n hC dX2_lacks_17 rfl 0 rfl ?_
        refine V.lts (fun lc_1 => ?_)
        refine g_calli0 hC (g_runS hC (met_X0_has (G := G) (tl σ 3 p_) k  ) (lw_S q1802 q1781 q81 q1782) md_X0_has dX2_lacks_18 rfl ⟨by omega, by omega⟩ (by omega) (by omega) rfl (Nat.le_of_ble_eq_true rfl)) (fun r_2 G_2 n_2 u_2 hp_2 hn_2 hm_2 hu_2 => ?_)
        obtain ⟨rfl, rfl, rfl, rfl⟩ := hp_2
        have hj_29 : ∀ (fb : Bool), (fb = !(needF σ p_ k)) → V Y p l e R s m args below meth c 6 n u G n u Q 29 [(3, .int (nI k)), (0, .ref h), (1, .int (nI p_)), (2, .ref w_)] [.int (b2i fb)] := by
          intro fb hfb
          refine g_istore (L' := [(4, .int (b2i fb)), (3, .int (nI k)), (0, .ref h), (1, .int (nI p_)), (2, .ref w_)]) hC dX2_lacks_29 (by decide) rfl ?_
          refine g_iconst (v := 0) hC dX2_lacks_31 rfl ?_
          refine g_istore (L' := [(5, .int 0), (4, .int (b2i fb)), (3, .int (nI k)), (0, .ref h), (1, .int (nI p_)), (2, .ref w_)]) hC dX2_lacks_32 (by decide) rfl ?_
          have hl_34 : ∀ (kf_ : Nat) (q : Nat) (gb : Bool), (q ≤ N) → (gb = false → needF σ p_ k = true ∧ anyN (lkP σ wv p_ k) q = false) → (gb = true → lkF N σ wv p_ k = false) → N - q < kf_ → V Y p l e R s m args below meth c 6 n u G n u Q 34 [(3, .int (nI k)), (0, .ref h), (1, .int (nI p_)), (2, .ref w_), (4, .int (b2i gb)), (5, .int (nI q))] [] := by
            intro kf_
            induction kf_ with
            | zero => intro q gb hiq hf0 hf1 hk_; exact absurd hk_ (Nat.not_lt_zero _)
            | succ kf_ ih_i =>
              intro q gb hiq hf0 hf1 hk_
              refine g_iload hC dX2_lacks_34 5 rfl ?_
              refine g_aload_n hC dX2_lacks_36 rfl 1 rfl ?_
              refine g_get (v := .int (nI N)) hC kc_X2 (hh _ _ (hM_0 hN hK)) 0 (by decide) q251 rfl dX2_lacks_37 ?_
              refine g_icmp_geN hC q N (by omega) (by omega) dX2_lacks_40 (tgt := 80) (by decide) (fun c_40 => ?_) (fun c_40 => ?_)
              · refine g_iload hC dX2_lacks_80 4 rfl ?_
                refine g_if_neB hC gb dX2_lacks_82 (tgt := 87) (by decide) (fun c_82 => ?_) (fun c_82 => ?_)
                · refine g_iincN (L' := [(3, .int (nI (k + 1))), (0, .ref h), (1, .int (nI p_)), (2, .ref w_), (4, .int (b2i gb)), (5, .int (nI q))]) hC 1 k dX2_lacks_87 (k := 0) rfl (by decide) (by decide) rfl ?_
                  refine g_goto (tgt := 2) hC dX2_lacks_90 (by decide) ?_
                  refine V.sub [0, 1, 2, 3] rfl ?_
                  exact ih_o (k + 1) (by omega) (anyN_s hn (hf1 c_82)) (by omega)
                · refine g_iconst (v := 1) hC dX2_lacks_85 rfl ?_
                  refine g_iret hC hr rfl ⟨_, rfl, ?_⟩ (by omega) (by omega) hE dX2_lacks_86
                  exact ⟨by have h9 := hf0 c_82; (obtain rfl : q = N := (by omega)); rw [anyN_t (P := lkF q σ wv p_) (i := k) (by omega) (by unfold lkF; rw [h9.1, show anyN (fun q => srvF σ q p_ k && decide (wv q = -1)) q = false from h9.2]; rfl)]; rfl, rfl, rfl, rfl⟩
              · refine g_iload hC dX2_lacks_43 4 rfl ?_
                refine g_if_neB hC gb dX2_lacks_45 (tgt := 80) (by decide) (fun c_45 => ?_) (fun c_45 => ?_)
                · refine g_iload hC dX2_lacks_80 4 rfl ?_
                  refine g_if_neB hC gb dX2_lacks_82 (tgt := 87) (by decide) (fun c_82 => ?_) (fun c_82 => ?_)
                  · refine g_iincN (L' := [(3, .int (nI (k + 1))), (0, .ref h), (1, .int (nI p_)), (2, .ref w_), (4, .int (b2i gb)), (5, .int (nI q))]) hC 1 k dX2_lacks_87 (k := 0) rfl (by decide) (by decide) rfl ?_
                    refine g_goto (tgt := 2) hC dX2_lacks_90 (by decide) ?_
                    refine V.sub [0, 1, 2, 3] rfl ?_
                    exact ih_o (k + 1) (by omega) (anyN_s hn (hf1 c_82)) (by omega)
                  · exact Bool.noConfusion (c_45.symm.trans c_82)
                · refine g_aload_n hC dX2_lacks_48 rfl 1 rfl ?_
                  refine g_iload hC dX2_lacks_49 5 rfl ?_
                  refine g_iload_n hC dX2_lacks_51 rfl 2 rfl ?_
                  refine g_iload_n hC dX2_lacks_52 rfl 0 rfl ?_
                  refine V.lts (fun lc_3 => ?_)
                  refine g_calli0 hC (g_runV hC (met_X2_serves (G := G) h q p_ k (hh) (hN) (hK) (hN2) (hI) (hIh_h) (hpl) (by omega) (by omega) (by omega)) kc_X2 (hh _ _ (hM_0 hN hK)) (lw_V q1797 q1799 qs17 q83 q1800) rfl md_X2_serves dX2_lacks_53 rfl ⟨by omega, by omega⟩ (by omega) (by omega) rfl (Nat.le_of_ble_eq_true rfl)) (fun r_4 G_4 n_4 u_4 hp_4 hn_4 hm_4 hu_4 => ?_)
                  obtain ⟨rfl, rfl, rfl, rfl⟩ := hp_4
                  refine g_if_eqB hC (srvF σ q p_ k) dX2_lacks_56 (tgt := 71) (by decide) (fun c_56 => ?_) (fun c_56 => ?_)
                  · refine g_iconst (v := 0) hC dX2_lacks_71 rfl ?_
                    refine g_istore (L' := [(4, .int 0), (3, .int (nI k)), (0, .ref h), (1, .int (nI p_)), (2, .ref w_), (5, .int (nI q))]) hC dX2_lacks_72 (by decide) rfl ?_
                    refine g_iincN (L' := [(5, .int (nI (q + 1))), (4, .int 0), (3, .int (nI k)), (0, .ref h), (1, .int (nI p_)), (2, .ref w_)]) hC 1 q dX2_lacks_74 (k := 5) rfl (by decide) (by decide) rfl ?_
                    refine g_goto (tgt := 34) hC dX2_lacks_77 (by decide) ?_
                    refine V.sub [2, 3, 4, 5, 1, 0] rfl ?_
                    exact ih_i (q + 1) false (by omega) (fun _ => ⟨(hf0 c_45).1, anyN_s (hf0 c_45).2 (by unfold lkP; rw [c_56]; rfl)⟩) (fun e_ => by cases e_) (by omega)
                  · refine g_aload_n hC dX2_lacks_59 rfl 3 rfl ?_
                    refine g_iload hC dX2_lacks_60 5 rfl ?_
                    refine g_iald hC hw (vin (by omega) (by omega)) dX2_lacks_62 ?_
                    rw [show (nI q).toNatClampNeg = q from nI_clamp (by omega)]
                    refine g_iconst (v := (-1)) hC dX2_lacks_63 rfl ?_
                    refine g_icmp_ne hC dX2_lacks_64 (tgt := 71) (by decide) (fun c_64 => ?_) (fun c_64 => ?_)
                    · refine g_iconst (v := 0) hC dX2_lacks_71 rfl ?_
                      refine g_istore (L' := [(4, .int 0), (3, .int (nI k)), (0, .ref h), (1, .int (nI p_)), (2, .ref w_), (5, .int (nI q))]) hC dX2_lacks_72 (by decide) rfl ?_
                      refine g_iincN (L' := [(5, .int (nI (q + 1))), (4, .int 0), (3, .int (nI k)), (0, .ref h), (1, .int (nI p_)), (2, .ref w_)]) hC 1 q dX2_lacks_74 (k := 5) rfl (by decide) (by decide) rfl ?_
                      refine g_goto (tgt := 34) hC dX2_lacks_77 (by decide) ?_
                      refine V.sub [2, 3, 4, 5, 1, 0] rfl ?_
                      exact ih_i (q + 1) false (by omega) (fun _ => ⟨(hf0 c_45).1, anyN_s (hf0 c_45).2 (by unfold lkP; simp [c_64])⟩) (fun e_ => by cases e_) (by omega)
                    · refine g_iconst (v := 1) hC dX2_lacks_67 rfl ?_
                      refine g_goto (tgt := 72) hC dX2_lacks_68 (by decide) ?_
                      refine g_istore (L' := [(4, .int 1), (3, .int (nI k)), (0, .ref h), (1, .int (nI p_)), (2, .ref w_), (5, .int (nI q))]) hC dX2_lacks_72 (by decide) rfl ?_
                      refine g_iincN (L' := [(5, .int (nI (q + 1))), (4, .int 1), (3, .int (nI k)), (0, .ref h), (1, .int (nI p_)), (2, .ref w_)]) hC 1 q dX2_lacks_74 (k := 5) rfl (by decide) (by decide) rfl ?_
                      refine g_goto (tgt := 34) hC dX2_lacks_77 (by decide) ?_
                      refine V.sub [2, 3, 4, 5, 1, 0] rfl ?_
                      exact ih_i (q + 1) true (by omega) (fun e_ => by cases e_) (fun _ => by unfold lkF; rw [anyN_t (P := fun q => srvF σ q p_ k && decide (wv q = -1)) (i := q) (by omega) (by simp [c_56, c_64])]; simp) (by omega)
          refine V.sub [2, 3, 4, 5, 1, 0] rfl ?_
          exact hl_34 (N - 0 + 1) 0 fb (by omega) (fun e_ => ⟨by rw [hfb] at e_; simpa using e_, rfl⟩) (fun e_ => by rw [hfb] at e_; unfold lkF; simp at e_; simp [e_]) (by omega)
        refine g_if_neB hC (hasF (tl σ 3 p_) k) dX2_lacks_21 (tgt := 28) (by decide) (fun c_21 => ?_) (fun c_21 => ?_)
        · refine g_iconst (v := 0) hC dX2_lacks_28 rfl ?_
          exact hj_29 false (by rw [needF_has, c_21]; rfl)
        · refine g_iconst (v := 1) hC dX2_lacks_24 rfl ?_
          refine g_goto (tgt := 29) hC dX2_lacks_25 (by decide) ?_
          exact hj_29 true (by rw [needF_has, c_21]; rfl)
  exact hl_2 (8 - 0 + 1) 0 (by omega) (rfl) (by omega)
