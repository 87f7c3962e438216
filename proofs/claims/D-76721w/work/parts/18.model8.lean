set_option maxRecDepth 100000
/-! THE MODEL, 8: the walks of starts -/
theorem rtS_f {σ : MS} {p : Nat} (h : ¬ tl σ 5 p ≤ 0) : rtS σ p = (false, flG (lgG (mu (mu σ 1 (60 + p) (σ.1 1 (60 + p) - 1)) 1 p 2) (nI (300 + p))) (nI p) 5 (-1)) := by
  unfold rtS; rw [if_pos (Int32.not_le.mp h)]
theorem rtS_t {σ : MS} {p st : Nat} (h : tl σ 5 p ≤ 0) (h17 : σ.1 17 0 = nI st) (hs : st < 2 ^ 31) : rtS σ p = (true, lgG (mu (mu (mu (mu (mu σ 1 p 1) 1 (84 + p) (σ.1 2 0)) 2 0 (σ.1 2 0 + 1)) 18 st (nI p)) 17 0 (nI (st + 1))) (nI (100 + p))) := by
  unfold rtS; rw [if_neg (Int32.not_lt.mpr h), h17, nI_clamp hs, nI_1]
set_option maxHeartbeats 1000000 in
theorem met_X5_runs {Y : YT} {l : Launch} {m0 n u : Nat} {σ : MS} {B : AH} (hz : yz Y ≤ m0) (p_ : Nat) {st f g : Nat} (hp : p_ < 12) (h17 : σ.1 17 0 = nI st) (hst : st < 12) (h14 : σ.1 14 0 = nI f) (hf : f < 12) (h20 : σ.1 20 0 = nI g) (hg : g < 1999999999) : GM Y l yX5_runs (ws_ yX5_runs cX5_runs 2 (some FieldType.boolean)) 1 23 [.ref m0, .int (nI p_)] (mG Y m0 σ B) n u 0 0 (pI (fun r G' n' u' => b2i ((rtS σ p_).1) = r ∧ mG Y m0 ((rtS σ p_).2) B = G' ∧ n = n' ∧ u = u')) noX := by
  refine GM.intro (own := RX5) rfl (by decide +kernel) (Nat.le_of_ble_eq_true rfl) ?_
  intro p e s m args below meth c R Q hC hr hnm hF hL hE
  have hE1 := hE.1
  have hE2 := hE.2.1
  show V Y p l e R s m args below meth c 2 n u (mG Y m0 σ B) n u Q 0 [(0, .ref m0), (1, .int (nI p_))] []
  refine g_aload_n hC dX5_runs_0 rfl 0 rfl ?_
  refine g_iconst (v := 5) hC dX5_runs_1 rfl ?_
  refine g_iload_n hC dX5_runs_2 rfl 1 rfl ?_
  refine g_calli0 hC (g_runV hC (met_X5_of hz 5 p_ (by omega)) kc_X5 mG_o (lw_V q3680 q3682 qs41 q89 q3683) rfl md_X5_of dX5_runs_3 rfl ⟨by omega, by omega⟩ (by omega) (by omega) rfl (Nat.le_of_ble_eq_true rfl)) (fun r_1 G_1 n_1 u_1 hp_1 hn_1 hm_1 hu_1 => ?_)
  obtain ⟨rfl, rfl, rfl, rfl⟩ := hp_1
  refine g_if_le hC dX5_runs_6 (tgt := 46) (by decide) (fun c_6 => ?_) (fun c_6 => ?_)
  · refine g_aload_n hC dX5_runs_46 rfl 0 rfl ?_
    refine m_get (v := .ref (m0 + 1)) hC 1 (by decide) q3522 rfl dX5_runs_47 ?_
    refine g_iload_n hC dX5_runs_50 rfl 1 rfl ?_
    refine g_iconst (v := 1) hC dX5_runs_51 rfl ?_
    refine m_ast hC 1 p_ rfl (show p_ < 108 from by omega) (by omega) hz dX5_runs_52 ?_
    refine g_aload_n hC dX5_runs_53 rfl 0 rfl ?_
    refine m_get (v := .ref (m0 + 1)) hC 1 (by decide) q3522 rfl dX5_runs_54 ?_
    refine g_bipush (v := 84) hC dX5_runs_57 (by decide) ?_
    refine g_iload_n hC dX5_runs_59 rfl 1 rfl ?_
    refine g_iaddN hC 84 p_ dX5_runs_60 ?_
    refine g_aload_n hC dX5_runs_61 rfl 0 rfl ?_
    refine m_get (v := .int (σ.1 2 0)) hC 2 (by decide) q3523 (congrArg (fun z => some (Value.int z)) (mu_nk (by decide))) dX5_runs_62 ?_
    refine m_ast hC 1 (84 + p_) rfl (show 84 + p_ < 108 from by omega) (by omega) hz dX5_runs_65 ?_
    refine g_aload_n hC dX5_runs_66 rfl 0 rfl ?_
    refine g_dup hC dX5_runs_67 rfl ?_
    refine m_get (v := .int (σ.1 2 0)) hC 2 (by decide) q3523 (congrArg (fun z => some (Value.int z)) ((mu_nk (by decide)).trans (mu_nk (by decide)))) dX5_runs_68 ?_
    refine g_iconst (v := 1) hC dX5_runs_71 rfl ?_
    refine g_iadd hC dX5_runs_72 ?_
    refine m_put hC 2 (by decide) rfl (by decide) q3523 rfl rfl rfl hz dX5_runs_73 ?_
    refine g_aload_n hC dX5_runs_76 rfl 0 rfl ?_
    refine m_get (v := .ref (m0 + 8)) hC 18 (by decide) q3539 rfl dX5_runs_77 ?_
    refine g_aload_n hC dX5_runs_80 rfl 0 rfl ?_
    refine m_get (v := .int (nI st)) hC 17 (by decide) q3538 (congrArg (fun z => some (Value.int z)) ((mu_nk (by decide)).trans ((mu_nk (by decide)).trans ((mu_nk (by decide)).trans h17)))) dX5_runs_81 ?_
    refine g_iload_n hC dX5_runs_84 rfl 1 rfl ?_
    refine m_ast hC 18 st rfl (show st < 12 from by omega) (by omega) hz dX5_runs_85 ?_
    refine g_aload_n hC dX5_runs_86 rfl 0 rfl ?_
    refine g_dup hC dX5_runs_87 rfl ?_
    refine m_get (v := .int (nI st)) hC 17 (by decide) q3538 (congrArg (fun z => some (Value.int z)) ((mu_nk (by decide)).trans ((mu_nk (by decide)).trans ((mu_nk (by decide)).trans ((mu_nk (by decide)).trans h17))))) dX5_runs_88 ?_
    refine g_iconst (v := 1) hC dX5_runs_91 rfl ?_
    refine g_iaddN hC st 1 dX5_runs_92 ?_
    refine m_put hC 17 (by decide) rfl (by decide) q3538 rfl rfl rfl hz dX5_runs_93 ?_
    refine g_aload_n hC dX5_runs_96 rfl 0 rfl ?_
    refine g_bipush (v := 100) hC dX5_runs_97 (by decide) ?_
    refine g_iload_n hC dX5_runs_99 rfl 1 rfl ?_
    refine g_iaddN hC 100 p_ dX5_runs_100 ?_
    refine g_callv0 hC (g_runV hC (met_X5_logs hz (nI (100 + p_)) ((mu_nk (by decide)).trans ((mu_nk (by decide)).trans ((mu_nk (by decide)).trans ((mu_nk (by decide)).trans ((mu_nk (by decide)).trans h20))))) (by omega)) kc_X5 mG_o (lw_V q3823 q3825 qs65 q89 q3826) rfl md_X5_logs dX5_runs_101 rfl ⟨by omega, by omega⟩ (by omega) (by omega) rfl (Nat.le_of_ble_eq_true rfl)) (fun G_2 n_2 u_2 hp_2 hn_2 hm_2 hu_2 => ?_)
    obtain ⟨rfl, rfl, rfl⟩ := hp_2
    refine g_iconst (v := 1) hC dX5_runs_104 rfl ?_
    refine g_iret hC hr rfl ⟨_, rfl, ?_⟩ (by omega) (by omega) hE dX5_runs_105
    first
    | (rw [rtS_f c_6]; exact ⟨rfl, rfl, rfl, rfl⟩)
    | (rw [rtS_t c_6 h17 (by omega)]; exact ⟨rfl, rfl, rfl, rfl⟩)
  · refine g_aload_n hC dX5_runs_9 rfl 0 rfl ?_
    refine m_get (v := .ref (m0 + 1)) hC 1 (by decide) q3522 rfl dX5_runs_10 ?_
    refine g_bipush (v := 60) hC dX5_runs_13 (by decide) ?_
    refine g_iload_n hC dX5_runs_15 rfl 1 rfl ?_
    refine g_iaddN hC 60 p_ dX5_runs_16 ?_
    refine g_dup2_11 hC dX5_runs_17 rfl rfl ?_
    refine m_ald (v := σ.1 1 (60 + p_)) hC 1 (60 + p_) rfl (show 60 + p_ < 108 from by omega) (by omega) rfl dX5_runs_18 ?_
    refine g_iconst (v := 1) hC dX5_runs_19 rfl ?_
    refine g_isub hC dX5_runs_20 ?_
    refine m_ast hC 1 (60 + p_) rfl (show 60 + p_ < 108 from by omega) (by omega) hz dX5_runs_21 ?_
    refine g_aload_n hC dX5_runs_22 rfl 0 rfl ?_
    refine m_get (v := .ref (m0 + 1)) hC 1 (by decide) q3522 rfl dX5_runs_23 ?_
    refine g_iload_n hC dX5_runs_26 rfl 1 rfl ?_
    refine g_iconst (v := 2) hC dX5_runs_27 rfl ?_
    refine m_ast hC 1 p_ rfl (show p_ < 108 from by omega) (by omega) hz dX5_runs_28 ?_
    refine g_aload_n hC dX5_runs_29 rfl 0 rfl ?_
    refine g_sipush (v := 300) hC dX5_runs_30 (by decide) ?_
    refine g_iload_n hC dX5_runs_33 rfl 1 rfl ?_
    refine g_iaddN hC 300 p_ dX5_runs_34 ?_
    refine g_callv0 hC (g_runV hC (met_X5_logs hz (nI (300 + p_)) ((mu_nk (by decide)).trans ((mu_nk (by decide)).trans h20)) (by omega)) kc_X5 mG_o (lw_V q3823 q3825 qs65 q89 q3826) rfl md_X5_logs dX5_runs_35 rfl ⟨by omega, by omega⟩ (by omega) (by omega) rfl (Nat.le_of_ble_eq_true rfl)) (fun G_3 n_3 u_3 hp_3 hn_3 hm_3 hu_3 => ?_)
    obtain ⟨rfl, rfl, rfl⟩ := hp_3
    refine g_aload_n hC dX5_runs_38 rfl 0 rfl ?_
    refine g_iload_n hC dX5_runs_39 rfl 1 rfl ?_
    refine g_iconst (v := 5) hC dX5_runs_40 rfl ?_
    refine g_iconst (v := (-1)) hC dX5_runs_41 rfl ?_
    refine g_calli0 hC (g_runV hC (met_X5_fails hz (nI p_) 5 (-1) ((lgG_ne (by decide) (by decide)).trans ((mu_nk (by decide)).trans ((mu_nk (by decide)).trans h14))) (by omega)) kc_X5 mG_o (lw_V q3799 q3801 qs59 q89 q3802) rfl md_X5_fails dX5_runs_42 rfl ⟨by omega, by omega⟩ (by omega) (by omega) rfl (Nat.le_of_ble_eq_true rfl)) (fun r_4 G_4 n_4 u_4 hp_4 hn_4 hm_4 hu_4 => ?_)
    obtain ⟨rfl, rfl, rfl, rfl⟩ := hp_4
    refine g_iret hC hr (nar_b2i _) ⟨_, rfl, ?_⟩ (by omega) (by omega) hE dX5_runs_45
    first
    | (rw [rtS_f c_6]; exact ⟨rfl, rfl, rfl, rfl⟩)
    | (rw [rtS_t c_6 h17 (by omega)]; exact ⟨rfl, rfl, rfl, rfl⟩)
set_option maxHeartbeats 1000000 in
theorem met_X5_hasNeeds {Y : YT} {l : Launch} {m0 n u : Nat} {σ : MS} {B : AH} (hz : yz Y ≤ m0) (p_ : Nat) {N fu fS lS st f g : Nat} (hS : ∀ (z : MS) (q a b c : Nat), SI N fu z a b c → q < N → bt (z.1 16 0) q = false → GM Y l yX5_starts (ws_ yX5_starts cX5_starts 4 (some FieldType.boolean)) fS lS [.ref m0, .int (nI q)] (mG Y m0 z B) n u 0 0 (pI (fun r G' n' u' => b2i (startsF N fu z q).1 = r ∧ mG Y m0 (startsF N fu z q).2 B = G' ∧ n = n' ∧ u = u')) noX) (h0 : SI N fu σ st f g) (hff : f + fu < 12) (hp : p_ < N) : GM Y l yX5_hasNeeds (ws_ yX5_hasNeeds cX5_hasNeeds 4 (some FieldType.boolean)) (fS + 4) (lS + 150) [.ref m0, .int (nI p_)] (mG Y m0 σ B) n u 0 0 (pI (fun r G' n' u' => b2i ((ndF N (startsF N fu) p_ 8 0 σ).1) = r ∧ mG Y m0 ((ndF N (startsF N fu) p_ 8 0 σ).2) B = G' ∧ n = n' ∧ u = u')) noX := by
  refine GM.intro (own := RX5) rfl (by decide +kernel) (Nat.le_of_ble_eq_true rfl) ?_
  intro p e s m args below meth c R Q hC hr hnm hF hL hE
  have hE1 := hE.1
  have hE2 := hE.2.1
  show V Y p l e R s m args below meth c 4 n u (mG Y m0 σ B) n u Q 0 [(0, .ref m0), (1, .int (nI p_))] []
  have hN2 := h0.hN2
  refine g_iconst (v := 0) hC dX5_hasNeeds_0 rfl ?_
  refine g_istore_n (L' := [(2, .int 0), (0, .ref m0), (1, .int (nI p_))]) hC dX5_hasNeeds_1 rfl (by decide) rfl ?_
  have hl_2 : ∀ (kf_ : Nat) (z : MS) (k : Nat) (r : Nat) (a : Nat) (b : Nat), (SI N fu z a f b) → (ndF N (startsF N fu) p_ r k z = ndF N (startsF N fu) p_ 8 0 σ) → (k + r = 8) → r < kf_ → V Y p l e R s m args below meth c 4 n u (mG Y m0 z B) n u Q 2 [(2, .int (nI k)), (0, .ref m0), (1, .int (nI p_))] [] := by
    intro kf_
    induction kf_ with
    | zero => intro z k r a b h hfin hkr hk_; exact absurd hk_ (Nat.not_lt_zero _)
    | succ kf_ ih_o =>
      intro z k r a b h hfin hkr hk_
      refine g_iload_n hC dX5_hasNeeds_2 rfl 0 rfl ?_
      refine g_bipush (v := 8) hC dX5_hasNeeds_3 (by decide) ?_
      refine g_icmp_geN hC k 8 (by omega) (by omega) dX5_hasNeeds_5 (tgt := 91) (by decide) (fun c_5 => ?_) (fun c_5 => ?_)
      · obtain rfl : r = 0 := by omega
        obtain rfl : k = 8 := by omega
        refine g_iconst (v := 1) hC dX5_hasNeeds_91 rfl ?_
        refine g_iret hC hr rfl ⟨_, rfl, ?_⟩ (by omega) (by omega) hE dX5_hasNeeds_92
        first
        | (have h9 : ndF N (startsF N fu) p_ 8 0 σ = (true, z) := by rw [← hfin]; rfl
           rw [h9]; exact ⟨rfl, rfl, rfl, rfl⟩)
        | (rw [ndF, if_neg hcn, hf9] at hfin
           rw [← hfin]; exact ⟨rfl, rfl, rfl, rfl⟩)
        | (rw [ndF, if_neg hcn, hf9] at hfin
           simp only [hb9, if_true] at hfin
           rw [← hfin]; exact ⟨rfl, rfl, rfl, rfl⟩)
        | (rw [ndF, if_neg hcn, hf9] at hfin
           simp only [hb9, c_74, if_true, Bool.false_eq_true, if_false] at hfin
           rw [← hfin]; exact ⟨rfl, rfl, rfl, rfl⟩)
      · obtain ⟨r, rfl⟩ : ∃ j, r = j + 1 := ⟨r - 1, by omega⟩
        refine g_aload_n hC dX5_hasNeeds_8 rfl 1 rfl ?_
        refine g_iload_n hC dX5_hasNeeds_9 rfl 2 rfl ?_
        refine g_iload_n hC dX5_hasNeeds_10 rfl 0 rfl ?_
        refine g_calli0 hC (g_runV hC (met_X5_isNeeded hz p_ k (by omega)) kc_X5 mG_o (lw_V q3771 q3773 qs53 q89 q3774) rfl md_X5_isNeeded dX5_hasNeeds_11 rfl ⟨by omega, by omega⟩ (by omega) (by omega) rfl (Nat.le_of_ble_eq_true rfl)) (fun r_1 G_1 n_1 u_1 hp_1 hn_1 hm_1 hu_1 => ?_)
        obtain ⟨rfl, rfl, rfl, rfl⟩ := hp_1
        refine g_if_eqB hC (needF z  p_ k) dX5_hasNeeds_14 (tgt := 85) (by decide) (fun c_14 => ?_) (fun c_14 => ?_)
        · have hfin2 := hfin
          rw [ndF, if_pos (Or.inl c_14)] at hfin2
          refine g_iincN (L' := [(2, .int (nI (k + 1))), (0, .ref m0), (1, .int (nI p_))]) hC 1 k dX5_hasNeeds_85 (k := 0) rfl (by decide) (by decide) rfl ?_
          refine g_goto (tgt := 2) hC dX5_hasNeeds_88 (by decide) ?_
          exact ih_o z (k + 1) r a b (h) (hfin2) (by omega) (by omega)
        · refine g_aload_n hC dX5_hasNeeds_17 rfl 1 rfl ?_
          refine g_iload_n hC dX5_hasNeeds_18 rfl 2 rfl ?_
          refine g_iload_n hC dX5_hasNeeds_19 rfl 0 rfl ?_
          refine g_calli0 hC (g_runV hC (met_X5_isRun hz p_ k (h.hN) (h.hN2) (by omega)) kc_X5 mG_o (lw_V q3807 q3809 qs61 q89 q3810) rfl md_X5_isRun dX5_hasNeeds_20 rfl ⟨by omega, by omega⟩ (by omega) (by omega) rfl (Nat.le_of_ble_eq_true rfl)) (fun r_2 G_2 n_2 u_2 hp_2 hn_2 hm_2 hu_2 => ?_)
          obtain ⟨rfl, rfl, rfl, rfl⟩ := hp_2
          refine g_if_eqB hC (anyN (runP z p_ k) N) dX5_hasNeeds_23 (tgt := 29) (by decide) (fun c_23 => ?_) (fun c_23 => ?_)
          · have hcn : ¬ (needF z p_ k = false ∨ anyN (runP z p_ k) N = true) := by rw [c_14, c_23]; simp
            refine g_aload_n hC dX5_hasNeeds_29 rfl 1 rfl ?_
            refine g_iload_n hC dX5_hasNeeds_30 rfl 2 rfl ?_
            refine g_iload_n hC dX5_hasNeeds_31 rfl 0 rfl ?_
            refine g_calli0 hC (g_runV hC (met_X5_taken hz p_ k (h.hN) (h.hN2) (by omega) (h.hk)) kc_X5 mG_o (lw_V q3811 q3813 qs62 q89 q3814) rfl md_X5_taken dX5_hasNeeds_32 rfl ⟨by omega, by omega⟩ (by omega) (by omega) rfl (Nat.le_of_ble_eq_true rfl)) (fun r_3 G_3 n_3 u_3 hp_3 hn_3 hm_3 hu_3 => ?_)
            obtain ⟨rfl, rfl, rfl, rfl⟩ := hp_3
            refine g_istore_n (L' := [(3, .int (oI (foldN (tkS z p_ k) none N))), (2, .int (nI k)), (0, .ref m0), (1, .int (nI p_))]) hC dX5_hasNeeds_35 rfl (by decide) rfl ?_
            rcases hf9 : foldN (tkS z p_ k) none N with _ | q
            · refine g_iload_n hC dX5_hasNeeds_36 rfl 0 rfl ?_
              refine g_iconst (v := (-1)) hC dX5_hasNeeds_37 rfl ?_
              refine g_icmp_ne hC dX5_hasNeeds_38 (tgt := 49) (by decide) (fun c_38 => ?_) (fun c_38 => ?_)
              · exact absurd rfl c_38
              · refine g_aload_n hC dX5_hasNeeds_41 rfl 2 rfl ?_
                refine g_iload_n hC dX5_hasNeeds_42 rfl 3 rfl ?_
                refine g_iconst (v := 2) hC dX5_hasNeeds_43 rfl ?_
                refine g_iload_n hC dX5_hasNeeds_44 rfl 1 rfl ?_
                refine g_calli0 hC (g_runV hC (met_X5_fails hz (nI p_) 2 (nI k) (h.h14) (by omega)) kc_X5 mG_o (lw_V q3799 q3801 qs59 q89 q3802) rfl md_X5_fails dX5_hasNeeds_45 rfl ⟨by omega, by omega⟩ (by omega) (by omega) rfl (Nat.le_of_ble_eq_true rfl)) (fun r_4 G_4 n_4 u_4 hp_4 hn_4 hm_4 hu_4 => ?_)
                obtain ⟨rfl, rfl, rfl, rfl⟩ := hp_4
                refine g_iret hC hr (nar_b2i _) ⟨_, rfl, ?_⟩ (by omega) (by omega) hE dX5_hasNeeds_48
                first
                | (have h9 : ndF N (startsF N fu) p_ 8 0 σ = (true, z) := by rw [← hfin]; rfl
                   rw [h9]; exact ⟨rfl, rfl, rfl, rfl⟩)
                | (rw [ndF, if_neg hcn, hf9] at hfin
                   rw [← hfin]; exact ⟨rfl, rfl, rfl, rfl⟩)
                | (rw [ndF, if_neg hcn, hf9] at hfin
                   simp only [hb9, if_true] at hfin
                   rw [← hfin]; exact ⟨rfl, rfl, rfl, rfl⟩)
                | (rw [ndF, if_neg hcn, hf9] at hfin
                   simp only [hb9, c_74, if_true, Bool.false_eq_true, if_false] at hfin
                   rw [← hfin]; exact ⟨rfl, rfl, rfl, rfl⟩)
            · have hq := tkS_lt hf9
              refine g_iload_n hC dX5_hasNeeds_36 rfl 0 rfl ?_
              refine g_iconst (v := (-1)) hC dX5_hasNeeds_37 rfl ?_
              refine g_icmp_ne hC dX5_hasNeeds_38 (tgt := 49) (by decide) (fun c_38 => ?_) (fun c_38 => ?_)
              · refine g_aload_n hC dX5_hasNeeds_49 rfl 2 rfl ?_
                refine m_get (v := .int (z.1 16 0)) hC 16 (by decide) q3537 rfl dX5_hasNeeds_50 ?_
                refine g_iload_n hC dX5_hasNeeds_53 rfl 0 rfl ?_
                refine g_ishr hC dX5_hasNeeds_54 ?_
                refine g_iconst (v := 1) hC dX5_hasNeeds_55 rfl ?_
                refine g_iand hC dX5_hasNeeds_56 ?_
                refine g_iconst (v := 1) hC dX5_hasNeeds_57 rfl ?_
                refine g_icmp_ne hC dX5_hasNeeds_58 (tgt := 69) (by decide) (fun c_58 => ?_) (fun c_58 => ?_)
                · have hb9 : bt (z.1 16 0) q = false := by
                    cases e9 : bt (z.1 16 0) q with
                    | false => rfl
                    | true => exact absurd ((b_test (by omega)).mpr e9) c_58
                  refine g_aload_n hC dX5_hasNeeds_69 rfl 2 rfl ?_
                  refine g_iload_n hC dX5_hasNeeds_70 rfl 0 rfl ?_
                  refine g_calli0 hC (g_runV hC (hS z q a f b h hq hb9) kc_X5 mG_o (lw_V q3795 q3797 qs58 q89 q3798) rfl md_X5_starts dX5_hasNeeds_71 rfl ⟨by omega, by omega⟩ (by omega) (by omega) rfl (Nat.le_of_ble_eq_true rfl)) (fun r_5 G_5 n_5 u_5 hp_5 hn_5 hm_5 hu_5 => ?_)
                  obtain ⟨rfl, rfl, rfl, rfl⟩ := hp_5
                  obtain ⟨a1, f1, b1, R1, hno⟩ := starts_ok fu z q a f b h hq hb9
                  refine g_if_neB hC ((startsF N fu z q).1) dX5_hasNeeds_74 (tgt := 85) (by decide) (fun c_74 => ?_) (fun c_74 => ?_)
                  · rw [c_74] at R1
                    obtain rfl := (R1.yes rfl).1
                    have hfin2 := hfin
                    rw [ndF, if_neg hcn, hf9] at hfin2
                    simp only [hb9, c_74, if_true, Bool.false_eq_true, if_false] at hfin2
                    refine g_iincN (L' := [(2, .int (nI (k + 1))), (3, .int (nI q)), (0, .ref m0), (1, .int (nI p_))]) hC 1 k dX5_hasNeeds_85 (k := 1) rfl (by decide) (by decide) rfl ?_
                    refine g_goto (tgt := 2) hC dX5_hasNeeds_88 (by decide) ?_
                    refine V.sub [0, 2, 3] rfl ?_
                    exact ih_o ((startsF N fu z q).2) (k + 1) r a1 b1 (h.next R1) (hfin2) (by omega) (by omega)
                  · rw [c_74] at R1
                    have hfle := (R1.no rfl).1
                    refine g_aload_n hC dX5_hasNeeds_77 rfl 2 rfl ?_
                    refine g_iload_n hC dX5_hasNeeds_78 rfl 3 rfl ?_
                    refine g_iconst (v := 4) hC dX5_hasNeeds_79 rfl ?_
                    refine g_iload_n hC dX5_hasNeeds_80 rfl 1 rfl ?_
                    refine g_calli0 hC (g_runV hC (met_X5_fails hz (nI p_) 4 (nI k) (R1.h14) (by omega)) kc_X5 mG_o (lw_V q3799 q3801 qs59 q89 q3802) rfl md_X5_fails dX5_hasNeeds_81 rfl ⟨by omega, by omega⟩ (by omega) (by omega) rfl (Nat.le_of_ble_eq_true rfl)) (fun r_6 G_6 n_6 u_6 hp_6 hn_6 hm_6 hu_6 => ?_)
                    obtain ⟨rfl, rfl, rfl, rfl⟩ := hp_6
                    refine g_iret hC hr (nar_b2i _) ⟨_, rfl, ?_⟩ (by omega) (by omega) hE dX5_hasNeeds_84
                    first
                    | (have h9 : ndF N (startsF N fu) p_ 8 0 σ = (true, z) := by rw [← hfin]; rfl
                       rw [h9]; exact ⟨rfl, rfl, rfl, rfl⟩)
                    | (rw [ndF, if_neg hcn, hf9] at hfin
                       rw [← hfin]; exact ⟨rfl, rfl, rfl, rfl⟩)
                    | (rw [ndF, if_neg hcn, hf9] at hfin
                       simp only [hb9, if_true] at hfin
                       rw [← hfin]; exact ⟨rfl, rfl, rfl, rfl⟩)
                    | (rw [ndF, if_neg hcn, hf9] at hfin
                       simp only [hb9, c_74, if_true, Bool.false_eq_true, if_false] at hfin
                       rw [← hfin]; exact ⟨rfl, rfl, rfl, rfl⟩)
                · have hb9 : bt (z.1 16 0) q = true := (b_test (by omega)).mp c_58
                  refine g_aload_n hC dX5_hasNeeds_61 rfl 2 rfl ?_
                  refine g_iload_n hC dX5_hasNeeds_62 rfl 3 rfl ?_
                  refine g_iconst (v := 3) hC dX5_hasNeeds_63 rfl ?_
                  refine g_iload_n hC dX5_hasNeeds_64 rfl 1 rfl ?_
                  refine g_calli0 hC (g_runV hC (met_X5_fails hz (nI p_) 3 (nI k) (h.h14) (by omega)) kc_X5 mG_o (lw_V q3799 q3801 qs59 q89 q3802) rfl md_X5_fails dX5_hasNeeds_65 rfl ⟨by omega, by omega⟩ (by omega) (by omega) rfl (Nat.le_of_ble_eq_true rfl)) (fun r_7 G_7 n_7 u_7 hp_7 hn_7 hm_7 hu_7 => ?_)
                  obtain ⟨rfl, rfl, rfl, rfl⟩ := hp_7
                  refine g_iret hC hr (nar_b2i _) ⟨_, rfl, ?_⟩ (by omega) (by omega) hE dX5_hasNeeds_68
                  first
                  | (have h9 : ndF N (startsF N fu) p_ 8 0 σ = (true, z) := by rw [← hfin]; rfl
                     rw [h9]; exact ⟨rfl, rfl, rfl, rfl⟩)
                  | (rw [ndF, if_neg hcn, hf9] at hfin
                     rw [← hfin]; exact ⟨rfl, rfl, rfl, rfl⟩)
                  | (rw [ndF, if_neg hcn, hf9] at hfin
                     simp only [hb9, if_true] at hfin
                     rw [← hfin]; exact ⟨rfl, rfl, rfl, rfl⟩)
                  | (rw [ndF, if_neg hcn, hf9] at hfin
                     simp only [hb9, c_74, if_true, Bool.false_eq_true, if_false] at hfin
                     rw [← hfin]; exact ⟨rfl, rfl, rfl, rfl⟩)
              · first | exact absurd c_38 (nI_m1 (by omega)) | exact absurd (Classical.not_not.mp c_38) (nI_m1 (by omega))
          · have hfin2 := hfin
            rw [ndF, if_pos (Or.inr c_23)] at hfin2
            refine g_goto (tgt := 85) hC dX5_hasNeeds_26 (by decide) ?_
            refine g_iincN (L' := [(2, .int (nI (k + 1))), (0, .ref m0), (1, .int (nI p_))]) hC 1 k dX5_hasNeeds_85 (k := 0) rfl (by decide) (by decide) rfl ?_
            refine g_goto (tgt := 2) hC dX5_hasNeeds_88 (by decide) ?_
            exact ih_o z (k + 1) r a b (h) (hfin2) (by omega) (by omega)
  exact hl_2 (8 + 1) σ 0 8 st g (h0) (rfl) (rfl) (by omega)
theorem go_ok {N fu : Nat} {σ : MS} {p st f g : Nat} (h : SI N (fu + 1) σ st f g) (hp : p < N) (hb : bt (σ.1 16 0) p = false) (hid : tl σ 0 p = 0) : ∃ s2 f2 g2, SR N (fu + 1) p (bsy σ p) (goF N (startsF N fu) σ p).2 (goF N (startsF N fu) σ p).1 st f g s2 f2 g2 := by
  have hN2 := h.hN2
  have hf := h.hf
  have hB := h.busy1 hp hb
  obtain ⟨s1, f1, g1, R1⟩ := nd_ok (starts_ok fu) p 8 0 (bsy σ p) st f g hB (by omega)
  unfold goF
  split
  · next hT =>
    rw [hT] at R1
    obtain ⟨y1, y2, y3, y4⟩ := R1.yes rfl
    have R1p := R1.up (fv := fu + 1) (y := p) (Nat.le_refl _) (fun q h1 _ => by omega)
    have hz := hB.next (R1.tru (fv := fu))
    have hi : tl (ndF N (startsF N fu) p 8 0 (bsy σ p)).2 0 p = 0 := (y4 p hp (by omega) (by rw [bsy_bt (by omega) (by omega)]; simp)).trans ((tl_ne (by decide)).trans hid)
    obtain ⟨s2, f2, g2, R2⟩ := rt_ok hz hp hi
    exact ⟨s2, f2, g2, R1p.trans R2⟩
  · next hT =>
    have hT : (ndF N (startsF N fu) p 8 0 (bsy σ p)).1 = false := by simpa using hT
    rw [hT] at R1
    exact ⟨s1, f1, g1, R1.up (Nat.le_refl _) (fun q h1 _ => by omega)⟩
theorem bk1_ok {N fu x : Nat} {σ z : MS} {st c f g f' g' q : Nat} (hN : N ≤ 12) (hg : g' + 1 < 2 ^ 31) (r : SR N fu x σ z false st f g (st + (c + 1)) f' g') (hq : q < N) (eq : z.1 18 (st + c) = nI q) : bk1 z = lgG (mu (mu z 17 0 (nI (st + c))) 1 q 0) (nI (200 + q)) ∧ ∃ g2, g2 ≤ g' + 1 ∧ SR N fu x σ (bk1 z) false st f g (st + c) f' g2 := by
  obtain ⟨n1, n2⟩ := r.no rfl
  have hle := r.hst
  have e17 : z.1 17 0 - 1 = nI (st + c) := by rw [r.h17]; exact nI_pred (st + c)
  have eb : bk1 z = lgG (mu (mu z 17 0 (nI (st + c))) 1 q 0) (200 + nI q) := by
    unfold bk1
    rw [e17, nI_clamp (by omega), eq, nI_clamp (by omega)]
  obtain ⟨g1, e1, e2, e3⟩ := lgG_20 (z := mu (mu z 17 0 (nI (st + c))) 1 q 0) (x := 200 + nI q) (g := g') ((mu_nk (by decide)).trans ((mu_nk (by decide)).trans r.h20)) (by omega)
  refine ⟨by rw [eb, ← nI_add 200 q]; rfl, g1, by omega, ?_⟩
  rw [eb]
  refine ⟨fun k i a b c d e f g h => (lgG_ne g h).trans ((mu_nk a).trans ((mu_nk e).trans (r.fr k i a b c d e f g h))), lgG_2.trans r.f2, fun w q' a b c d => ?_, fun i hi => (lgG_ne (by decide) (by decide)).trans ((mu_nk (by decide)).trans ((mu_nk (by decide)).trans (r.en i hi))), by omega, (lgG_ne (by decide) (by decide)).trans ((mu_nk (by decide)).trans mu_hit), fun i hi => ?_, by omega, (lgG_ne (by decide) (by decide)).trans ((mu_nk (by decide)).trans ((mu_nk (by decide)).trans r.h14)), e1, fun q => (by cases q), fun _ => ⟨n1, by omega⟩⟩
  · rw [tl_lg, tl_mu (by omega), tl_ne (by decide)]; exact r.tw w q' a b c d
  · rw [lgG_ne (by decide) (by decide), mu_nk (by decide), mu_nk (by decide)]; exact r.hen i (by omega)
theorem idl_pos {z : MS} {N p : Nat} (hp : p < N) (h : tl z 0 p = 0) : 0 < idl z N := by
  have := idl_lt (z := z) (y := mu z 1 p 1) hp h (by rw [tl_0, if_pos rfl]; decide) (fun q _ e => by rw [tl_0, if_neg e])
  omega
set_option maxHeartbeats 1000000 in
theorem met_X5_starts_step {Y : YT} {l : Launch} {m0 n u : Nat} {σ : MS} {B : AH} (hz : yz Y ≤ m0) (p_ : Nat) {N fu fS lS st f g : Nat} (hS : ∀ (z : MS) (q a b c : Nat), SI N fu z a b c → q < N → bt (z.1 16 0) q = false → GM Y l yX5_starts (ws_ yX5_starts cX5_starts 4 (some FieldType.boolean)) fS lS [.ref m0, .int (nI q)] (mG Y m0 z B) n u 0 0 (pI (fun r G' n' u' => b2i (startsF N fu z q).1 = r ∧ mG Y m0 (startsF N fu z q).2 B = G' ∧ n = n' ∧ u = u')) noX) (h0 : SI N (fu + 1) σ st f g) (hp : p_ < N) (hb : bt (σ.1 16 0) p_ = false) : GM Y l yX5_starts (ws_ yX5_starts cX5_starts 4 (some FieldType.boolean)) (fS + 6) (lS + 200) [.ref m0, .int (nI p_)] (mG Y m0 σ B) n u 0 0 (pI (fun r G' n' u' => b2i ((startsF N (fu + 1) σ p_).1) = r ∧ mG Y m0 ((startsF N (fu + 1) σ p_).2) B = G' ∧ n = n' ∧ u = u')) noX := by
  refine GM.intro (own := RX5) rfl (by decide +kernel) (Nat.le_of_ble_eq_true rfl) ?_
  intro p e s m args below meth c R Q hC hr hnm hF hL hE
  have hE1 := hE.1
  have hE2 := hE.2.1
  show V Y p l e R s m args below meth c 4 n u (mG Y m0 σ B) n u Q 0 [(0, .ref m0), (1, .int (nI p_))] []
  have hN2 := h0.hN2
  have hf := h0.hf
  have hg := h0.hg
  have hst := h0.hst
  refine g_aload_n hC dX5_starts_0 rfl 0 rfl ?_
  refine g_iload_n hC dX5_starts_1 rfl 1 rfl ?_
  refine g_calli0 hC (g_runV hC (met_X5_state hz p_ (by omega)) kc_X5 mG_o (lw_V q3708 q3710 qs44 q89 q3711) rfl md_X5_state dX5_starts_2 rfl ⟨by omega, by omega⟩ (by omega) (by omega) rfl (Nat.le_of_ble_eq_true rfl)) (fun r_1 G_1 n_1 u_1 hp_1 hn_1 hm_1 hu_1 => ?_)
  obtain ⟨rfl, rfl, rfl, rfl⟩ := hp_1
  refine g_if_eq hC dX5_starts_5 (tgt := 16) (by decide) (fun c_5 => ?_) (fun c_5 => ?_)
  · have hid : tl σ 0 p_ = 0 := c_5
    refine g_aload_n hC dX5_starts_16 rfl 0 rfl ?_
    refine m_get (v := .int (nI st)) hC 17 (by decide) q3538 (congrArg (fun z => some (Value.int z)) h0.h17) dX5_starts_17 ?_
    refine g_istore_n (L' := [(2, .int (nI st)), (0, .ref m0), (1, .int (nI p_))]) hC dX5_starts_20 rfl (by decide) rfl ?_
    refine g_aload_n hC dX5_starts_21 rfl 1 rfl ?_
    refine g_dup hC dX5_starts_22 rfl ?_
    refine m_get (v := .int (σ.1 16 0)) hC 16 (by decide) q3537 rfl dX5_starts_23 ?_
    refine g_iconst (v := 1) hC dX5_starts_26 rfl ?_
    refine g_iload_n hC dX5_starts_27 rfl 2 rfl ?_
    refine g_ishl hC dX5_starts_28 ?_
    refine g_ior hC dX5_starts_29 ?_
    refine m_put hC 16 (by decide) rfl (by decide) q3537 rfl rfl rfl hz dX5_starts_30 ?_
    show V Y p l e R s m args below meth c 4 n u (mG Y m0 (bsy σ p_) B) n u Q 33 _ _
    have hB := h0.busy1 hp hb
    obtain ⟨s2, f2, g2, R2⟩ := go_ok h0 hp hb hid
    have R3 := R2.unb hN2 hp hb
    have hj_53 : ∀ (y : MS), (goF N (startsF N fu) σ p_ = (false, y)) → V Y p l e R s m args below meth c 4 n u (mG Y m0 y B) n u Q 53 [(2, .int (nI st)), (0, .ref m0), (1, .int (nI p_))] [] := by
      intro y hgo
      rw [hgo] at R3
      have hR3 : SR N (fu + 1) N σ (ubs y p_) false st f g (st + (s2 - st)) f2 g2 := by have := R3.le; rw [show st + (s2 - st) = s2 by omega]; exact R3
      have hs2 := R3.hst
      have hs3 := R3.le
      have hn9 := (R3.no rfl).2
      have hy17 : y.1 17 0 = nI s2 := (mu_nk (k := 16) (by decide)).symm.trans R3.h17
      refine g_iconst (v := 0) hC dX5_starts_53 rfl ?_
      refine g_istore_n (L' := [(3, .int 0), (2, .int (nI st)), (0, .ref m0), (1, .int (nI p_))]) hC dX5_starts_54 rfl (by decide) rfl ?_
      refine g_aload_n hC dX5_starts_55 rfl 2 rfl ?_
      refine g_dup hC dX5_starts_56 rfl ?_
      refine m_get (v := .int (y.1 16 0)) hC 16 (by decide) q3537 rfl dX5_starts_57 ?_
      refine g_iconst (v := 1) hC dX5_starts_60 rfl ?_
      refine g_iload_n hC dX5_starts_61 rfl 3 rfl ?_
      refine g_ishl hC dX5_starts_62 ?_
      refine g_iconst (v := (-1)) hC dX5_starts_63 rfl ?_
      refine g_ixor hC dX5_starts_64 ?_
      refine g_iand hC dX5_starts_65 ?_
      refine m_put hC 16 (by decide) rfl (by decide) q3537 rfl rfl rfl hz dX5_starts_66 ?_
      have hl_69 : ∀ (kf_ : Nat) (z : MS) (ct : Nat) (b : Nat), (bkF ct z = bkF (s2 - st) (ubs y p_)) → (SR N (fu + 1) N σ z false st f g (st + ct) f2 b) → (b + ct ≤ g + 100) → ct < kf_ → V Y p l e R s m args below meth c 4 n u (mG Y m0 z B) n u Q 69 [(3, .int 0), (2, .int (nI st)), (0, .ref m0)] [] := by
        intro kf_
        induction kf_ with
        | zero => intro z ct b hzf hR hbb hk_; exact absurd hk_ (Nat.not_lt_zero _)
        | succ kf_ ih_r =>
          intro z ct b hzf hR hbb hk_
          refine g_iload_n hC dX5_starts_69 rfl 0 rfl ?_
          refine g_if_neN hC 0 (by omega) dX5_starts_70 (tgt := 126) (by decide) (fun c_70 => ?_) (fun c_70 => ?_)
          · first | exact absurd c_70 (by decide) | exact absurd c_70 (by omega)
          · refine g_aload_n hC dX5_starts_73 rfl 2 rfl ?_
            refine m_get (v := .int (nI (st + ct))) hC 17 (by decide) q3538 (congrArg (fun z => some (Value.int z)) hR.h17) dX5_starts_74 ?_
            refine g_iload_n hC dX5_starts_77 rfl 1 rfl ?_
            refine g_icmp_leN hC (st + ct) st (by omega) (by omega) dX5_starts_78 (tgt := 126) (by decide) (fun c_78 => ?_) (fun c_78 => ?_)
            · obtain rfl : ct = 0 := by omega
              refine g_iload_n hC dX5_starts_126 rfl 0 rfl ?_
              refine g_iret hC hr rfl ⟨_, rfl, ?_⟩ (by omega) (by omega) hE dX5_starts_127
              first
              | (have h9 : startsF N (fu + 1) σ p_ = (false, flG σ (nI p_) 1 (-1)) := by unfold startsF; rw [if_pos c_5]
                 rw [h9]; exact ⟨rfl, rfl, rfl, rfl⟩)
              | (have h9 : startsF N (fu + 1) σ p_ = (true, ubs (rtS (ndF N (startsF N fu) p_ 8 0 (bsy σ p_)).2 p_).2 p_) := by unfold startsF; rw [if_neg (fun z => z hid), hgo]; rfl
                 rw [h9]; exact ⟨rfl, rfl, rfl, rfl⟩)
              | (have h9 : startsF N (fu + 1) σ p_ = (false, z) := by
                  unfold startsF; rw [if_neg (fun z => z hid), hgo]
                  simp only [Bool.false_eq_true, if_false]
                  rw [hy17, h0.h17, nI_clamp (by omega), nI_clamp (by omega), ← hzf]; rfl
                 rw [h9]; exact ⟨rfl, rfl, rfl, rfl⟩)
            · obtain ⟨ct, rfl⟩ : ∃ j, ct = j + 1 := ⟨ct - 1, by omega⟩
              have hR17 : z.1 17 0 = nI (st + ct + 1) := hR.h17
              have hRN := hR.hst
              obtain ⟨q, hq, eq⟩ := hR.hen (st + ct) (by omega)
              obtain ⟨hb1, b2, hb2, hB2⟩ := bk1_ok hN2 (by omega) hR hq eq
              refine g_aload_n hC dX5_starts_81 rfl 2 rfl ?_
              refine g_dup hC dX5_starts_82 rfl ?_
              refine m_get (v := .int (nI (st + ct + 1))) hC 17 (by decide) q3538 (congrArg (fun z => some (Value.int z)) hR17) dX5_starts_83 ?_
              refine g_iconst (v := 1) hC dX5_starts_86 rfl ?_
              refine g_isub1N hC (st + ct) dX5_starts_87 ?_
              refine m_put hC 17 (by decide) rfl (by decide) q3538 rfl rfl rfl hz dX5_starts_88 ?_
              refine g_aload_n hC dX5_starts_91 rfl 2 rfl ?_
              refine m_get (v := .ref (m0 + 1)) hC 1 (by decide) q3522 rfl dX5_starts_92 ?_
              refine g_aload_n hC dX5_starts_95 rfl 2 rfl ?_
              refine m_get (v := .ref (m0 + 8)) hC 18 (by decide) q3539 rfl dX5_starts_96 ?_
              refine g_aload_n hC dX5_starts_99 rfl 2 rfl ?_
              refine m_get (v := .int (nI (st + ct))) hC 17 (by decide) q3538 (congrArg (fun z => some (Value.int z)) mu_hit) dX5_starts_100 ?_
              refine m_ald (v := nI q) hC 18 (st + ct) rfl (show st + ct < 12 from by omega) (by omega) ((mu_nk (by decide)).trans eq) dX5_starts_103 ?_
              refine g_iconst (v := 0) hC dX5_starts_104 rfl ?_
              refine m_ast hC 1 q rfl (show q < 108 from by omega) (by omega) hz dX5_starts_105 ?_
              refine g_aload_n hC dX5_starts_106 rfl 2 rfl ?_
              refine g_sipush (v := 200) hC dX5_starts_107 (by decide) ?_
              refine g_aload_n hC dX5_starts_110 rfl 2 rfl ?_
              refine m_get (v := .ref (m0 + 8)) hC 18 (by decide) q3539 rfl dX5_starts_111 ?_
              refine g_aload_n hC dX5_starts_114 rfl 2 rfl ?_
              refine m_get (v := .int (nI (st + ct))) hC 17 (by decide) q3538 (congrArg (fun z => some (Value.int z)) ((mu_nk (by decide)).trans mu_hit)) dX5_starts_115 ?_
              refine m_ald (v := nI q) hC 18 (st + ct) rfl (show st + ct < 12 from by omega) (by omega) ((mu_nk (by decide)).trans ((mu_nk (by decide)).trans eq)) dX5_starts_118 ?_
              refine g_iaddN hC 200 q dX5_starts_119 ?_
              refine g_callv0 hC (g_runV hC (met_X5_logs hz (nI (200 + q)) ((mu_nk (by decide)).trans ((mu_nk (by decide)).trans hR.h20)) (by omega)) kc_X5 mG_o (lw_V q3823 q3825 qs65 q89 q3826) rfl md_X5_logs dX5_starts_120 rfl ⟨by omega, by omega⟩ (by omega) (by omega) rfl (Nat.le_of_ble_eq_true rfl)) (fun G_2 n_2 u_2 hp_2 hn_2 hm_2 hu_2 => ?_)
              obtain ⟨rfl, rfl, rfl⟩ := hp_2
              refine g_goto (tgt := 69) hC dX5_starts_123 (by decide) ?_
              have h_ := ih_r (bk1 z) ct b2 (hzf) (hB2) (by omega) (by omega)
              have e_0 : bk1 z = lgG (mu (mu z 17 0 (nI (st + ct))) 1 q 0) (nI (200 + q)) := by exact hb1
              rw [e_0] at h_
              exact h_
      refine V.sub [0, 1, 2] rfl ?_
      exact hl_69 ((s2 - st) + 1) (mu y 16 0 ((y.1 16 0) &&& ((1 <<< ((nI p_) &&& 31)) ^^^ (-1)))) (s2 - st) g2 (rfl) (hR3) (by omega) (by omega)
    refine g_aload_n hC dX5_starts_33 rfl 1 rfl ?_
    refine g_iload_n hC dX5_starts_34 rfl 2 rfl ?_
    refine g_calli0 hC (g_runV hC (met_X5_hasNeeds hz p_ (hS) (hB) (by omega) (hp)) kc_X5 mG_o (lw_V q3803 q3805 qs60 q89 q3806) rfl md_X5_hasNeeds dX5_starts_35 rfl ⟨by omega, by omega⟩ (by omega) (by omega) rfl (Nat.le_of_ble_eq_true rfl)) (fun r_3 G_3 n_3 u_3 hp_3 hn_3 hm_3 hu_3 => ?_)
    obtain ⟨rfl, rfl, rfl, rfl⟩ := hp_3
    obtain ⟨s1, f1, g1, R1⟩ := nd_ok (starts_ok fu) p_ 8 0 (bsy σ p_) st f g hB (by omega)
    refine g_if_eqB hC ((ndF N (startsF N fu) p_ 8 0 (bsy σ p_)).1) dX5_starts_38 (tgt := 53) (by decide) (fun c_38 => ?_) (fun c_38 => ?_)
    · exact hj_53 ((ndF N (startsF N fu) p_ 8 0 (bsy σ p_)).2) (by unfold goF; rw [if_neg (by rw [c_38]; simp)])
    · rw [c_38] at R1
      obtain ⟨y1, y2, y3, y4⟩ := R1.yes rfl
      have hi : tl (ndF N (startsF N fu) p_ 8 0 (bsy σ p_)).2 0 p_ = 0 := (y4 p_ hp (by omega) (by rw [bsy_bt (by omega) (by omega)]; simp)).trans ((tl_ne (by decide)).trans hid)
      have hi2 := idl_pos hp hi
      refine g_aload_n hC dX5_starts_41 rfl 1 rfl ?_
      refine g_iload_n hC dX5_starts_42 rfl 2 rfl ?_
      refine g_calli0 hC (g_runV hC (met_X5_runs hz p_ (by omega) (R1.h17) (by omega) (R1.h14) (by omega) (R1.h20) (by omega)) kc_X5 mG_o (lw_V q3819 q3821 qs64 q89 q3822) rfl md_X5_runs dX5_starts_43 rfl ⟨by omega, by omega⟩ (by omega) (by omega) rfl (Nat.le_of_ble_eq_true rfl)) (fun r_4 G_4 n_4 u_4 hp_4 hn_4 hm_4 hu_4 => ?_)
      obtain ⟨rfl, rfl, rfl, rfl⟩ := hp_4
      refine g_if_eqB hC ((rtS ((ndF N (startsF N fu) p_ 8 0 (bsy σ p_)).2) p_).1) dX5_starts_46 (tgt := 53) (by decide) (fun c_46 => ?_) (fun c_46 => ?_)
      · exact hj_53 ((rtS ((ndF N (startsF N fu) p_ 8 0 (bsy σ p_)).2) p_).2) (by unfold goF; rw [if_pos c_38]; rw [← c_46])
      · have hgo : goF N (startsF N fu) σ p_ = (true, (rtS (ndF N (startsF N fu) p_ 8 0 (bsy σ p_)).2 p_).2) := by unfold goF; rw [if_pos c_38]; rw [← c_46]
        refine g_iconst (v := 1) hC dX5_starts_49 rfl ?_
        refine g_goto (tgt := 54) hC dX5_starts_50 (by decide) ?_
        refine g_istore_n (L' := [(3, .int 1), (2, .int (nI st)), (0, .ref m0), (1, .int (nI p_))]) hC dX5_starts_54 rfl (by decide) rfl ?_
        refine g_aload_n hC dX5_starts_55 rfl 2 rfl ?_
        refine g_dup hC dX5_starts_56 rfl ?_
        refine m_get (v := .int (((rtS ((ndF N (startsF N fu) p_ 8 0 (bsy σ p_)).2) p_).2).1 16 0)) hC 16 (by decide) q3537 rfl dX5_starts_57 ?_
        refine g_iconst (v := 1) hC dX5_starts_60 rfl ?_
        refine g_iload_n hC dX5_starts_61 rfl 3 rfl ?_
        refine g_ishl hC dX5_starts_62 ?_
        refine g_iconst (v := (-1)) hC dX5_starts_63 rfl ?_
        refine g_ixor hC dX5_starts_64 ?_
        refine g_iand hC dX5_starts_65 ?_
        refine m_put hC 16 (by decide) rfl (by decide) q3537 rfl rfl rfl hz dX5_starts_66 ?_
        refine g_iload_n hC dX5_starts_69 rfl 0 rfl ?_
        refine g_if_neN hC 1 (by omega) dX5_starts_70 (tgt := 126) (by decide) (fun c_70 => ?_) (fun c_70 => ?_)
        · refine g_iload_n hC dX5_starts_126 rfl 0 rfl ?_
          refine g_iret hC hr rfl ⟨_, rfl, ?_⟩ (by omega) (by omega) hE dX5_starts_127
          first
          | (have h9 : startsF N (fu + 1) σ p_ = (false, flG σ (nI p_) 1 (-1)) := by unfold startsF; rw [if_pos c_5]
             rw [h9]; exact ⟨rfl, rfl, rfl, rfl⟩)
          | (have h9 : startsF N (fu + 1) σ p_ = (true, ubs (rtS (ndF N (startsF N fu) p_ 8 0 (bsy σ p_)).2 p_).2 p_) := by unfold startsF; rw [if_neg (fun z => z hid), hgo]; rfl
             rw [h9]; exact ⟨rfl, rfl, rfl, rfl⟩)
          | (have h9 : startsF N (fu + 1) σ p_ = (false, z) := by
              unfold startsF; rw [if_neg (fun z => z hid), hgo]
              simp only [Bool.false_eq_true, if_false]
              rw [hy17, h0.h17, nI_clamp (by omega), nI_clamp (by omega), ← hzf]; rfl
             rw [h9]; exact ⟨rfl, rfl, rfl, rfl⟩)
        · first | exact absurd c_70 (by decide) | exact absurd c_70 (by omega)
  · refine g_aload_n hC dX5_starts_8 rfl 0 rfl ?_
    refine g_iload_n hC dX5_starts_9 rfl 1 rfl ?_
    refine g_iconst (v := 1) hC dX5_starts_10 rfl ?_
    refine g_iconst (v := (-1)) hC dX5_starts_11 rfl ?_
    refine g_calli0 hC (g_runV hC (met_X5_fails hz (nI p_) 1 (-1) (h0.h14) (by omega)) kc_X5 mG_o (lw_V q3799 q3801 qs59 q89 q3802) rfl md_X5_fails dX5_starts_12 rfl ⟨by omega, by omega⟩ (by omega) (by omega) rfl (Nat.le_of_ble_eq_true rfl)) (fun r_5 G_5 n_5 u_5 hp_5 hn_5 hm_5 hu_5 => ?_)
    obtain ⟨rfl, rfl, rfl, rfl⟩ := hp_5
    refine g_iret hC hr (nar_b2i _) ⟨_, rfl, ?_⟩ (by omega) (by omega) hE dX5_starts_15
    first
    | (have h9 : startsF N (fu + 1) σ p_ = (false, flG σ (nI p_) 1 (-1)) := by unfold startsF; rw [if_pos c_5]
       rw [h9]; exact ⟨rfl, rfl, rfl, rfl⟩)
    | (have h9 : startsF N (fu + 1) σ p_ = (true, ubs (rtS (ndF N (startsF N fu) p_ 8 0 (bsy σ p_)).2 p_).2 p_) := by unfold startsF; rw [if_neg (fun z => z hid), hgo]; rfl
       rw [h9]; exact ⟨rfl, rfl, rfl, rfl⟩)
    | (have h9 : startsF N (fu + 1) σ p_ = (false, z) := by
        unfold startsF; rw [if_neg (fun z => z hid), hgo]
        simp only [Bool.false_eq_true, if_false]
        rw [hy17, h0.h17, nI_clamp (by omega), nI_clamp (by omega), ← hzf]; rfl
       rw [h9]; exact ⟨rfl, rfl, rfl, rfl⟩)
set_option maxHeartbeats 1000000 in
theorem met_X5_starts {Y : YT} {l : Launch} {m0 n u : Nat} {B : AH} (hz : yz Y ≤ m0) {N : Nat} : ∀ (fu : Nat) (z : MS) (q a b c : Nat), SI N fu z a b c → q < N → bt (z.1 16 0) q = false → GM Y l yX5_starts (ws_ yX5_starts cX5_starts 4 (some FieldType.boolean)) (6 * fu) (200 * fu) [.ref m0, .int (nI q)] (mG Y m0 z B) n u 0 0 (pI (fun r G' n' u' => b2i (startsF N fu z q).1 = r ∧ mG Y m0 (startsF N fu z q).2 B = G' ∧ n = n' ∧ u = u')) noX := by
  intro fu
  induction fu with
  | zero =>
    intro z q a b c h hq hb
    have h1 := h.hnb
    have : cntB (fun _ => false) N < cntB (fun q => !(bt (z.1 16 0) q)) N := cntB_lt N (fun q _ hh => by cases hh) ⟨q, hq, by simp [hb], rfl⟩
    omega
  | succ fu ih =>
    intro z q a b c h hq hb
    exact met_X5_starts_step hz q (fS := 6 * fu) (lS := 200 * fu) ih h hq hb
def bg0 (σ : MS) : MS := mu (mu (mu σ 16 0 0) 17 0 0) 14 0 0
def beginsF (N : Nat) (σ : MS) (p : Nat) : Bool × MS := startsF N 12 (bg0 σ) p
theorem bg0_ne {σ : MS} {k i : Nat} (h1 : k ≠ 16) (h2 : k ≠ 17) (h3 : k ≠ 14) : (bg0 σ).1 k i = σ.1 k i := (mu_nk h3).trans ((mu_nk h2).trans (mu_nk h1))
theorem bg0_SI {N g : Nat} {σ : MS} (hN : σ.1 0 0 = nI N) (hN2 : N ≤ 12) (hk : ∀ q, q < N → ∃ w, 0 < w ∧ w < 531441 ∧ tl σ 6 q = nI w) (h20 : σ.1 20 0 = nI g) (hg : g < 1900000000) : SI N 12 (bg0 σ) 0 0 g :=
  ⟨(bg0_ne (by decide) (by decide) (by decide)).trans hN, hN2, fun q hq => by
    obtain ⟨w, a, b, c⟩ := hk q hq
    exact ⟨w, a, b, (bg0_ne (by decide) (by decide) (by decide)).trans c⟩, (mu_nk (by decide)).trans mu_hit, by have := cntB_n (fun q => decide (tl (bg0 σ) 0 q = 0)) N; unfold idl; omega, fun i hi => absurd hi (Nat.not_lt_zero _), mu_hit, Nat.le_refl _, (bg0_ne (by decide) (by decide) (by decide)).trans h20, by omega, by have := cntB_n (fun q => !(bt ((bg0 σ).1 16 0) q)) N; omega⟩
theorem bg0_b {σ : MS} {p : Nat} : bt ((bg0 σ).1 16 0) p = false := by
  rw [show (bg0 σ).1 16 0 = 0 from (mu_nk (by decide)).trans ((mu_nk (by decide)).trans mu_hit)]; exact b_0 p
/-- what a beginning keeps -/
theorem begins_ok {N p g : Nat} {σ : MS} (hN : σ.1 0 0 = nI N) (hN2 : N ≤ 12) (hk : ∀ q, q < N → ∃ w, 0 < w ∧ w < 531441 ∧ tl σ 6 q = nI w) (h20 : σ.1 20 0 = nI g) (hg : g < 1900000000) (hp : p < N) : ∃ st f g', SR N 12 N (bg0 σ) (beginsF N σ p).2 (beginsF N σ p).1 0 0 g st f g' ∧ f ≤ 12 ∧ g' ≤ g + 25 ∧ st ≤ N := by
  obtain ⟨st, f, g', R, hno⟩ := starts_ok 12 (bg0 σ) p 0 0 g (bg0_SI hN hN2 hk h20 hg) hp bg0_b
  refine ⟨st, f, g', R, ?_, ?_, R.hst⟩
  · cases e : (startsF N 12 (bg0 σ) p).1 with
    | true => have := (R.yes e).1; omega
    | false => have := (R.no e).1; omega
  · have := R.hst
    cases e : (startsF N 12 (bg0 σ) p).1 with
    | true => have := (R.yes e).2.2.1; omega
    | false => have := (R.no e).2; omega
set_option maxHeartbeats 1000000 in
theorem met_X5_begins {Y : YT} {l : Launch} {m0 n u : Nat} {σ : MS} {B : AH} (hz : yz Y ≤ m0) (p_ : Nat) {N g : Nat} (hN : σ.1 0 0 = nI N) (hN2 : N ≤ 12) (hk : ∀ q, q < N → ∃ w, 0 < w ∧ w < 531441 ∧ tl σ 6 q = nI w) (h20 : σ.1 20 0 = nI g) (hg : g < 1900000000) (hp : p_ < N) : GM Y l yX5_begins (ws_ yX5_begins cX5_begins 2 (some FieldType.boolean)) 73 2423 [.ref m0, .int (nI p_)] (mG Y m0 σ B) n u 0 0 (pI (fun r G' n' u' => b2i ((beginsF N σ p_).1) = r ∧ mG Y m0 ((beginsF N σ p_).2) B = G' ∧ n = n' ∧ u = u')) noX := by
  refine GM.intro (own := RX5) rfl (by decide +kernel) (Nat.le_of_ble_eq_true rfl) ?_
  intro p e s m args below meth c R Q hC hr hnm hF hL hE
  have hE1 := hE.1
  have hE2 := hE.2.1
  show V Y p l e R s m args below meth c 2 n u (mG Y m0 σ B) n u Q 0 [(0, .ref m0), (1, .int (nI p_))] []
  refine g_aload_n hC dX5_begins_0 rfl 0 rfl ?_
  refine g_iconst (v := 0) hC dX5_begins_1 rfl ?_
  refine m_put hC 16 (by decide) rfl (by decide) q3537 rfl rfl rfl hz dX5_begins_2 ?_
  refine g_aload_n hC dX5_begins_5 rfl 0 rfl ?_
  refine g_iconst (v := 0) hC dX5_begins_6 rfl ?_
  refine m_put hC 17 (by decide) rfl (by decide) q3538 rfl rfl rfl hz dX5_begins_7 ?_
  refine g_aload_n hC dX5_begins_10 rfl 0 rfl ?_
  refine g_iconst (v := 0) hC dX5_begins_11 rfl ?_
  refine m_put hC 14 (by decide) rfl (by decide) q3535 rfl rfl rfl hz dX5_begins_12 ?_
  refine g_aload_n hC dX5_begins_15 rfl 0 rfl ?_
  refine g_iload_n hC dX5_begins_16 rfl 1 rfl ?_
  refine g_calli0 hC (g_runV hC (met_X5_starts hz 12 _ p_ 0 0 g (bg0_SI hN hN2 hk h20 hg) hp bg0_b) kc_X5 mG_o (lw_V q3795 q3797 qs58 q89 q3798) rfl md_X5_starts dX5_begins_17 rfl ⟨by omega, by omega⟩ (by omega) (by omega) rfl (Nat.le_of_ble_eq_true rfl)) (fun r_1 G_1 n_1 u_1 hp_1 hn_1 hm_1 hu_1 => ?_)
  obtain ⟨rfl, rfl, rfl, rfl⟩ := hp_1
  refine g_iret hC hr (nar_b2i _) ⟨_, rfl, ?_⟩ (by omega) (by omega) hE dX5_begins_20
  exact ⟨rfl, rfl, rfl, rfl⟩
