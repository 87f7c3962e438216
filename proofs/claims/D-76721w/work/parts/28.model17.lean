set_option maxRecDepth 100000
/-! THE MODEL, 17: item, read -/
def itH (t : Nat → Int32) (N nm b : Nat) (σ : MS) : Bool × MS :=
  if nm = 0 then (false, at_ σ b) else if dgK t b 4 = true then if t (b + 1) = 32 then if dgK t (b + 1 + 1) 9 = true then mkI t N 161 (b + 1 + 1 + 1) (npF (at_ σ (b + 1 + 1 + 1)) N (t b - 48) (t (b + 1 + 1) - 48) 0 0 0 (nI nm)) else (false, at_ σ (b + 1 + 1)) else (false, at_ σ (b + 1)) else (false, at_ σ b)
def itF (t : Nat → Int32) (N a : Nat) (σ : MS) : Bool × MS :=
  if t a = 112 then if t (a + 1) = 108 then if t (a + 1 + 1) = 117 then if t (a + 1 + 1 + 1) = 103 then
    if N = 12 then (false, at_ σ a) else
    if t (a + 1 + 1 + 1 + 1) = 32 then itH t N (nmP t (a + 1 + 1 + 1 + 1 + 1) (hsF N σ)).1 (nmP t (a + 1 + 1 + 1 + 1 + 1) (hsF N σ)).2 σ
    else (false, at_ σ (a + 1 + 1 + 1 + 1)) else (false, at_ σ (a + 1 + 1 + 1)) else (false, at_ σ (a + 1 + 1)) else (false, at_ σ (a + 1)) else (false, at_ σ a)
theorem RD.np {σ : MS} {j L a N : Nat} {t : Nat → Int32} {k r ne of fa na : Int32} (h : RD σ j L a t) : RD (npF σ N k r ne of fa na) j L a t := by
  unfold npF
  repeat refine RD.put ?_ (by decide) (by decide) (by decide)
  exact h
abbrev RK (N : Nat) (σ z : MS) : Prop :=
  (∀ k i, k ≠ 0 → k ≠ 1 → k ≠ 11 → z.1 k i = σ.1 k i) ∧
  (z.2 = σ.2) ∧
  (∀ w q, q < N → tl z w q = tl σ w q)
theorem RK.fr {N : Nat} {σ z : MS} (h : RK N σ z) : ∀ k i, k ≠ 0 → k ≠ 1 → k ≠ 11 → z.1 k i = σ.1 k i := h.1
theorem RK.f2 {N : Nat} {σ z : MS} (h : RK N σ z) : z.2 = σ.2 := h.2.1
theorem RK.tw {N : Nat} {σ z : MS} (h : RK N σ z) : ∀ w q, q < N → tl z w q = tl σ w q := h.2.2
theorem mk_ok {j L N : Nat} {t : Nat → Int32} (hN : N < 12) : ∀ (f b : Nat) (y : MS), RD y j L b t → (∃ b', RD (mkI t N f b y).2 j L b' t) ∧ RK N y (mkI t N f b y).2 ∧ (mkI t N f b y).2.1 0 0 = y.1 0 0 := by
  intro f
  induction f with
  | zero => intro b y h; exact ⟨⟨b, h⟩, ⟨fun _ _ _ _ _ => rfl, rfl, fun _ _ _ => rfl⟩, rfl⟩
  | succ f ih =>
    intro b y h
    have put : ∀ (b' i : Nat) (v : Int32) (z : MS), RK N y z → z.1 0 0 = y.1 0 0 → RD z j L b' t → i = 36 + N ∨ i = 48 + N ∨ i = 60 + N → (∃ b2, RD (mkI t N f b' (mu z 1 i v)).2 j L b2 t) ∧ RK N y (mkI t N f b' (mu z 1 i v)).2 ∧ (mkI t N f b' (mu z 1 i v)).2.1 0 0 = y.1 0 0 := by
      intro b' i v z K e hz hi
      obtain ⟨h1, h2, h3⟩ := ih b' _ (hz.put (k := 1) (i := i) (x := v) (by decide) (by decide) (by decide))
      refine ⟨h1, ⟨fun k i' a1 a2 a3 => (h2.fr k i' a1 a2 a3).trans ((mu_nk a2).trans (K.fr k i' a1 a2 a3)), h2.f2.trans K.f2, fun w q hq => (h2.tw w q hq).trans ((mu_ni ?_).trans (K.tw w q hq))⟩, h3.trans ((mu_nk (by decide)).trans e)⟩
      omega
    have ra : ∀ b', RK N y (at_ y b') := fun b' => ⟨fun k i _ _ a3 => mu_nk a3, rfl, fun _ _ _ => mu_nk (by decide)⟩
    unfold mkI
    split
    · rename_i h1
      have hb := h.lt (by rw [h1]; decide)
      split
      · exact ⟨⟨b, h⟩, ⟨fun _ _ _ _ _ => rfl, rfl, fun _ _ _ => rfl⟩, rfl⟩
      · exact put (b + 1) _ _ _ (ra _) (mu_nk (by decide)) (h.mv hb) (by omega)
    · split
      · rename_i h1 h2
        have hb := h.lt (by rcases h2 with h2 | h2 <;> rw [h2] <;> decide)
        split
        · rename_i h3
          have hb2 := (h.mv hb).lt (dgK_ne h3)
          refine put (b + 1 + 1) _ _ _ (at_at.symm ▸ ra _) (at_at.symm ▸ mu_nk (by decide)) ((h.mv hb).mv hb2) ?_
          split <;> omega
        · exact ⟨⟨b + 1, h.mv hb⟩, ra _, mu_nk (by decide)⟩
      · exact ⟨⟨b, h⟩, ⟨fun _ _ _ _ _ => rfl, rfl, fun _ _ _ => rfl⟩, rfl⟩
theorem np_RK {N : Nat} {σ : MS} {k r ne of fa na : Int32} (hN : N < 12) : RK N σ (npF σ N k r ne of fa na) := by
  refine ⟨fun k i a1 a2 a3 => ?_, rfl, fun w q hq => ?_⟩
  · unfold npF
    rw [mu_nk a1, mu_nk a2, mu_nk a2, mu_nk a2, mu_nk a2, mu_nk a2, mu_nk a2, mu_nk a2, mu_nk a2, mu_nk a2]
  · unfold npF
    rw [show ∀ z x, tl (mu z 0 0 x) w q = tl z w q from fun z x => mu_nk (by decide)]
    rw [tl_mu (by omega), tl_mu (by omega), tl_mu (by omega), tl_mu (by omega), tl_mu (by omega), tl_mu (by omega), tl_mu (by omega), tl_mu (by omega), tl_mu (by omega)]
theorem np_0 {N : Nat} {σ : MS} {k r ne of fa na : Int32} : (npF σ N k r ne of fa na).1 0 0 = nI (N + 1) := mu_hit
abbrev IT (N j L : Nat) (t : Nat → Int32) (σ z : MS) (r : Bool) : Prop :=
  (∃ b, RD z j L b t) ∧
  (RK N σ z) ∧
  (∃ n, z.1 0 0 = nI n ∧ n ≤ 12 ∧ N ≤ n ∧ (r = true → n = N + 1))
theorem IT.pos {N j L : Nat} {t : Nat → Int32} {σ z : MS} {r : Bool} (h : IT N j L t σ z r) : ∃ b, RD z j L b t := h.1
theorem IT.keep {N j L : Nat} {t : Nat → Int32} {σ z : MS} {r : Bool} (h : IT N j L t σ z r) : RK N σ z := h.2.1
theorem IT.num {N j L : Nat} {t : Nat → Int32} {σ z : MS} {r : Bool} (h : IT N j L t σ z r) : ∃ n, z.1 0 0 = nI n ∧ n ≤ 12 ∧ N ≤ n ∧ (r = true → n = N + 1) := h.2.2
theorem IT.no {N j L a b : Nat} {t : Nat → Int32} {σ : MS} (h : RD σ j L a t) (hN : σ.1 0 0 = nI N) (hN2 : N ≤ 12) (hb : b ≤ L) : IT N j L t σ (at_ σ b) false :=
  ⟨⟨b, h.mv hb⟩, ⟨fun k i _ _ a3 => mu_nk a3, rfl, fun _ _ _ => mu_nk (by decide)⟩, N, (mu_nk (by decide)).trans hN, hN2, Nat.le_refl _, fun q => Bool.noConfusion q⟩
theorem it_ok {N j L a : Nat} {t : Nat → Int32} {σ : MS} (h : RD σ j L a t) (hN : σ.1 0 0 = nI N) (hN2 : N ≤ 12) : IT N j L t σ (itF t N a σ).2 (itF t N a σ).1 := by
  unfold itF
  split
  case isFalse => exact IT.no h hN hN2 h.ha
  rename_i k0
  have l0 := h.lt (by rw [k0]; decide)
  split
  case isFalse => exact IT.no h hN hN2 l0
  rename_i k1
  have l1 := (h.mv l0).lt (by rw [k1]; decide)
  split
  case isFalse => exact IT.no h hN hN2 l1
  rename_i k2
  have l2 := (h.mv l1).lt (by rw [k2]; decide)
  split
  case isFalse => exact IT.no h hN hN2 l2
  rename_i k3
  have l3 := (h.mv l2).lt (by rw [k3]; decide)
  split
  · exact IT.no h hN hN2 h.ha
  rename_i kN
  split
  case isFalse => exact IT.no h hN hN2 l3
  rename_i k4
  have l4 := (h.mv l3).lt (by rw [k4]; decide)
  have lb := nmP_le (has := hsF N σ) (h.mv l4)
  generalize (nmP t (a + 1 + 1 + 1 + 1 + 1) (hsF N σ)).2 = b at lb ⊢
  generalize (nmP t (a + 1 + 1 + 1 + 1 + 1) (hsF N σ)).1 = nm
  unfold itH
  split
  · exact IT.no h hN hN2 lb
  split
  case isFalse => exact IT.no h hN hN2 lb
  rename_i k5
  have l5 := (h.mv lb).lt (dgK_ne k5)
  split
  case isFalse => exact IT.no h hN hN2 l5
  rename_i k6
  have l6 := (h.mv l5).lt (by rw [k6]; decide)
  split
  case isFalse => exact IT.no h hN hN2 l6
  rename_i k7
  have l7 := (h.mv l6).lt (dgK_ne k7)
  obtain ⟨h1, h2, h3⟩ := mk_ok (N := N) (by omega) 161 (b + 1 + 1 + 1) _ (RD.np (N := N) (k := t b - 48) (r := t (b + 1 + 1) - 48) (ne := 0) (of := 0) (fa := 0) (na := nI nm) (h.mv l7))
  have h4 := np_RK (N := N) (σ := at_ σ (b + 1 + 1 + 1)) (k := t b - 48) (r := t (b + 1 + 1) - 48) (ne := 0) (of := 0) (fa := 0) (na := nI nm) (by omega)
  exact ⟨h1, ⟨fun k i a1 a2 a3 => (h2.fr k i a1 a2 a3).trans ((h4.fr k i a1 a2 a3).trans (mu_nk a3)), h2.f2.trans h4.f2, fun w q hq => (h2.tw w q hq).trans ((h4.tw w q hq).trans (mu_nk (by decide)))⟩, N + 1, h3.trans np_0, by omega, by omega, fun _ => rfl⟩
set_option maxHeartbeats 4000000 in
theorem met_X5_item {Y : YT} {l : Launch} {m0 n u : Nat} {σ : MS} {B : AH} (hz : yz Y ≤ m0)  {N : Nat} {j L a : Nat} {t : Nat → Int32} (hN : σ.1 0 0 = nI N) (hN2 : N ≤ 12) (hrd : RD σ j L a t) : GM Y l yX5_item (ws_ yX5_item cX5_item 5 (some FieldType.boolean)) 3 67 [.ref m0] (mG Y m0 σ B) n u 0 0 (pI (fun r G' n' u' => b2i ((itF t N a σ).1) = r ∧ mG Y m0 ((itF t N a σ).2) B = G' ∧ n = n' ∧ u = u')) noX := by
  refine GM.intro (own := RX5) rfl (by decide +kernel) (Nat.le_of_ble_eq_true rfl) ?_
  intro p e s m args below meth c R Q hC hr hnm hF hL hE
  have hE1 := hE.1
  have hE2 := hE.2.1
  show V Y p l e R s m args below meth c 5 n u (mG Y m0 σ B) n u Q 0 [(0, .ref m0)] []
  have hj := hrd.hj
  have hL := hrd.hL
  have ha := hrd.ha
  have hr_0 : RD (at_ σ a) j L a t := hrd.mv ha
  refine g_aload_n hC dX5_item_0 rfl 0 rfl ?_
  refine m_get (v := .int (nI a)) hC 11 (by decide) q3532 (congrArg (fun z => some (Value.int z)) hrd.h11) dX5_item_1 ?_
  rw [← hrd.eq]
  refine g_istore_n (L' := [(1, .int (nI a)), (0, .ref m0)]) hC dX5_item_4 rfl (by decide) rfl ?_
  refine g_aload_n hC dX5_item_5 rfl 1 rfl ?_
  refine g_bipush (v := 112) hC dX5_item_6 (by decide) ?_
  refine g_calli0 hC (g_runV hC (met_X5_is hz 112 (hr_0) (by decide)) kc_X5 mG_o (lw_V q3724 q3726 qs47 q89 q3727) rfl md_X5_is dX5_item_8 rfl ⟨by omega, by omega⟩ (by omega) (by omega) rfl (Nat.le_of_ble_eq_true rfl)) (fun r_1 G_1 n_1 u_1 hp_1 hn_1 hm_1 hu_1 => ?_)
  obtain ⟨rfl, rfl, rfl, rfl⟩ := hp_1
  by_cases k_0 : t (a) = 112
  · have hl_0 := hr_0.lt (by rw [k_0]; decide)
    have hr_1 := hr_0.nx hl_0
    rw [decide_eq_true k_0, if_pos k_0, at_at]
    refine g_if_eqN hC 1 (by omega) dX5_item_11 (tgt := 41) (by decide) (fun c_11 => ?_) (fun c_11 => ?_)
    · first | exact absurd c_11 (by decide) | exact absurd c_11 (by omega)
    · refine g_aload_n hC dX5_item_14 rfl 1 rfl ?_
      refine g_bipush (v := 108) hC dX5_item_15 (by decide) ?_
      refine g_calli0 hC (g_runV hC (met_X5_is hz 108 (hr_1) (by decide)) kc_X5 mG_o (lw_V q3724 q3726 qs47 q89 q3727) rfl md_X5_is dX5_item_17 rfl ⟨by omega, by omega⟩ (by omega) (by omega) rfl (Nat.le_of_ble_eq_true rfl)) (fun r_2 G_2 n_2 u_2 hp_2 hn_2 hm_2 hu_2 => ?_)
      obtain ⟨rfl, rfl, rfl, rfl⟩ := hp_2
      by_cases k_1 : t (a + 1) = 108
      · have hl_1 := hr_1.lt (by rw [k_1]; decide)
        have hr_2 := hr_1.nx hl_1
        rw [decide_eq_true k_1, if_pos k_1, at_at]
        refine g_if_eqN hC 1 (by omega) dX5_item_20 (tgt := 41) (by decide) (fun c_20 => ?_) (fun c_20 => ?_)
        · first | exact absurd c_20 (by decide) | exact absurd c_20 (by omega)
        · refine g_aload_n hC dX5_item_23 rfl 1 rfl ?_
          refine g_bipush (v := 117) hC dX5_item_24 (by decide) ?_
          refine g_calli0 hC (g_runV hC (met_X5_is hz 117 (hr_2) (by decide)) kc_X5 mG_o (lw_V q3724 q3726 qs47 q89 q3727) rfl md_X5_is dX5_item_26 rfl ⟨by omega, by omega⟩ (by omega) (by omega) rfl (Nat.le_of_ble_eq_true rfl)) (fun r_3 G_3 n_3 u_3 hp_3 hn_3 hm_3 hu_3 => ?_)
          obtain ⟨rfl, rfl, rfl, rfl⟩ := hp_3
          by_cases k_2 : t (a + 1 + 1) = 117
          · have hl_2 := hr_2.lt (by rw [k_2]; decide)
            have hr_3 := hr_2.nx hl_2
            rw [decide_eq_true k_2, if_pos k_2, at_at]
            refine g_if_eqN hC 1 (by omega) dX5_item_29 (tgt := 41) (by decide) (fun c_29 => ?_) (fun c_29 => ?_)
            · first | exact absurd c_29 (by decide) | exact absurd c_29 (by omega)
            · refine g_aload_n hC dX5_item_32 rfl 1 rfl ?_
              refine g_bipush (v := 103) hC dX5_item_33 (by decide) ?_
              refine g_calli0 hC (g_runV hC (met_X5_is hz 103 (hr_3) (by decide)) kc_X5 mG_o (lw_V q3724 q3726 qs47 q89 q3727) rfl md_X5_is dX5_item_35 rfl ⟨by omega, by omega⟩ (by omega) (by omega) rfl (Nat.le_of_ble_eq_true rfl)) (fun r_4 G_4 n_4 u_4 hp_4 hn_4 hm_4 hu_4 => ?_)
              obtain ⟨rfl, rfl, rfl, rfl⟩ := hp_4
              by_cases k_3 : t (a + 1 + 1 + 1) = 103
              · have hl_3 := hr_3.lt (by rw [k_3]; decide)
                have hr_4 := hr_3.nx hl_3
                rw [decide_eq_true k_3, if_pos k_3, at_at]
                refine g_if_neN hC 1 (by omega) dX5_item_38 (tgt := 43) (by decide) (fun c_38 => ?_) (fun c_38 => ?_)
                · refine g_aload_n hC dX5_item_43 rfl 1 rfl ?_
                  refine m_get (v := .int (nI N)) hC 0 (by decide) q3521 (congrArg (fun z => some (Value.int z)) ((mu_nk (by decide)).trans hN)) dX5_item_44 ?_
                  refine g_bipush (v := 12) hC dX5_item_47 (by decide) ?_
                  refine g_icmp_neN hC N 12 (by omega) (by omega) dX5_item_49 (tgt := 59) (by decide) (fun c_49 => ?_) (fun c_49 => ?_)
                  · refine g_aload_n hC dX5_item_59 rfl 1 rfl ?_
                    refine g_bipush (v := 32) hC dX5_item_60 (by decide) ?_
                    refine g_calli0 hC (g_runV hC (met_X5_is hz 32 (hr_4) (by decide)) kc_X5 mG_o (lw_V q3724 q3726 qs47 q89 q3727) rfl md_X5_is dX5_item_62 rfl ⟨by omega, by omega⟩ (by omega) (by omega) rfl (Nat.le_of_ble_eq_true rfl)) (fun r_5 G_5 n_5 u_5 hp_5 hn_5 hm_5 hu_5 => ?_)
                    obtain ⟨rfl, rfl, rfl, rfl⟩ := hp_5
                    by_cases k_4 : t (a + 1 + 1 + 1 + 1) = 32
                    · have hl_4 := hr_4.lt (by rw [k_4]; decide)
                      have hr_5 := hr_4.nx hl_4
                      rw [decide_eq_true k_4, if_pos k_4, at_at]
                      refine g_if_neN hC 1 (by omega) dX5_item_65 (tgt := 70) (by decide) (fun c_65 => ?_) (fun c_65 => ?_)
                      · refine g_aload_n hC dX5_item_70 rfl 1 rfl ?_
                        refine g_calli0 hC (g_runV hC (met_X5_name hz  ((mu_nk (by decide)).trans hN) (hN2) (hr_5)) kc_X5 mG_o (lw_V q3732 q3734 qs49 q89 q3735) rfl md_X5_name dX5_item_71 rfl ⟨by omega, by omega⟩ (by omega) (by omega) rfl (Nat.le_of_ble_eq_true rfl)) (fun r_6 G_6 n_6 u_6 hp_6 hn_6 hm_6 hu_6 => ?_)
                        obtain ⟨rfl, rfl, rfl, rfl⟩ := hp_6
                        rw [hsF_at, at_at]
                        have hb := nmP_le (has := hsF N σ) hr_5
                        obtain ⟨nm, h_nm1⟩ : ∃ x, (nmP t (a + 1 + 1 + 1 + 1 + 1) (hsF N σ)).1 = x := ⟨_, rfl⟩
                        obtain ⟨b, h_nm2⟩ : ∃ x, (nmP t (a + 1 + 1 + 1 + 1 + 1) (hsF N σ)).2 = x := ⟨_, rfl⟩
                        have hnmb := nmP_lt t (a + 1 + 1 + 1 + 1 + 1) (hsF N σ)
                        rw [h_nm1] at hnmb
                        rw [h_nm2] at hb
                        rw [h_nm1, h_nm2]
                        have hr_5 : RD (at_ σ b) j L b t := hrd.mv hb
                        refine g_istore_n (L' := [(2, .int (nI nm)), (1, .int (nI a)), (0, .ref m0)]) hC dX5_item_74 rfl (by decide) rfl ?_
                        refine g_iload_n hC dX5_item_75 rfl 0 rfl ?_
                        refine g_if_neN hC nm (by omega) dX5_item_76 (tgt := 81) (by decide) (fun c_76 => ?_) (fun c_76 => ?_)
                        · refine g_aload_n hC dX5_item_81 rfl 2 rfl ?_
                          refine g_iconst (v := 4) hC dX5_item_82 rfl ?_
                          refine g_calli0 hC (g_runV hC (met_X5_digit hz 4 (hr_5)) kc_X5 mG_o (lw_V q3736 q3738 qs50 q89 q3739) rfl md_X5_digit dX5_item_83 rfl ⟨by omega, by omega⟩ (by omega) (by omega) rfl (Nat.le_of_ble_eq_true rfl)) (fun r_7 G_7 n_7 u_7 hp_7 hn_7 hm_7 hu_7 => ?_)
                          obtain ⟨rfl, rfl, rfl, rfl⟩ := hp_7
                          by_cases k_5 : dgK t (b) 4 = true
                          · have hl_5 := hr_5.lt (dgK_ne k_5)
                            have hr_6 := hr_5.nx hl_5
                            rw [if_pos k_5, if_pos k_5, at_at]
                            refine g_istore_n (L' := [(3, .int (t (b) - 48)), (2, .int (nI nm)), (1, .int (nI a)), (0, .ref m0)]) hC dX5_item_86 rfl (by decide) rfl ?_
                            refine g_iload_n hC dX5_item_87 rfl 0 rfl ?_
                            refine g_iconst (v := (-1)) hC dX5_item_88 rfl ?_
                            refine g_icmp_eq hC dX5_item_89 (tgt := 101) (by decide) (fun c_89 => ?_) (fun c_89 => ?_)
                            · exact absurd c_89 (dg_ne (dgK_wi k_5))
                            · refine g_aload_n hC dX5_item_92 rfl 3 rfl ?_
                              refine g_bipush (v := 32) hC dX5_item_93 (by decide) ?_
                              refine g_calli0 hC (g_runV hC (met_X5_is hz 32 (hr_6) (by decide)) kc_X5 mG_o (lw_V q3724 q3726 qs47 q89 q3727) rfl md_X5_is dX5_item_95 rfl ⟨by omega, by omega⟩ (by omega) (by omega) rfl (Nat.le_of_ble_eq_true rfl)) (fun r_8 G_8 n_8 u_8 hp_8 hn_8 hm_8 hu_8 => ?_)
                              obtain ⟨rfl, rfl, rfl, rfl⟩ := hp_8
                              by_cases k_6 : t (b + 1) = 32
                              · have hl_6 := hr_6.lt (by rw [k_6]; decide)
                                have hr_7 := hr_6.nx hl_6
                                rw [decide_eq_true k_6, if_pos k_6, at_at]
                                refine g_if_neN hC 1 (by omega) dX5_item_98 (tgt := 103) (by decide) (fun c_98 => ?_) (fun c_98 => ?_)
                                · refine g_aload_n hC dX5_item_103 rfl 3 rfl ?_
                                  refine g_bipush (v := 9) hC dX5_item_104 (by decide) ?_
                                  refine g_calli0 hC (g_runV hC (met_X5_digit hz 9 (hr_7)) kc_X5 mG_o (lw_V q3736 q3738 qs50 q89 q3739) rfl md_X5_digit dX5_item_106 rfl ⟨by omega, by omega⟩ (by omega) (by omega) rfl (Nat.le_of_ble_eq_true rfl)) (fun r_9 G_9 n_9 u_9 hp_9 hn_9 hm_9 hu_9 => ?_)
                                  obtain ⟨rfl, rfl, rfl, rfl⟩ := hp_9
                                  by_cases k_7 : dgK t (b + 1 + 1) 9 = true
                                  · have hl_7 := hr_7.lt (dgK_ne k_7)
                                    have hr_8 := hr_7.nx hl_7
                                    rw [if_pos k_7, if_pos k_7, at_at]
                                    refine g_istore (L' := [(4, .int (t (b + 1 + 1) - 48)), (3, .int (t (b) - 48)), (2, .int (nI nm)), (1, .int (nI a)), (0, .ref m0)]) hC dX5_item_109 (by decide) rfl ?_
                                    refine g_iload hC dX5_item_111 0 rfl ?_
                                    refine g_iconst (v := (-1)) hC dX5_item_113 rfl ?_
                                    refine g_icmp_eq hC dX5_item_114 (tgt := 139) (by decide) (fun c_114 => ?_) (fun c_114 => ?_)
                                    · exact absurd c_114 (dg_ne (dgK_wi k_7))
                                    · refine g_aload_n hC dX5_item_117 rfl 4 rfl ?_
                                      refine g_aload_n hC dX5_item_118 rfl 4 rfl ?_
                                      refine g_iload_n hC dX5_item_119 rfl 1 rfl ?_
                                      refine g_iload hC dX5_item_120 0 rfl ?_
                                      refine g_iconst (v := 0) hC dX5_item_122 rfl ?_
                                      refine g_iconst (v := 0) hC dX5_item_123 rfl ?_
                                      refine g_iconst (v := 0) hC dX5_item_124 rfl ?_
                                      refine g_iload_n hC dX5_item_125 rfl 2 rfl ?_
                                      refine g_calli0 hC (g_runV hC (met_X5_newPlug hz (t (b) - 48) (t (b + 1 + 1) - 48) 0 0 0 (nI nm) ((mu_nk (by decide)).trans hN) (by omega)) kc_X5 mG_o (lw_V q3712 q3714 qs45 q89 q3715) rfl md_X5_newPlug dX5_item_126 rfl ⟨by omega, by omega⟩ (by omega) (by omega) rfl (Nat.le_of_ble_eq_true rfl)) (fun r_10 G_10 n_10 u_10 hp_10 hn_10 hm_10 hu_10 => ?_)
                                      obtain ⟨rfl, rfl, rfl, rfl⟩ := hp_10
                                      refine g_calli0 hC (g_runV hC (met_X5_marks hz N (hr_8.np) (by omega)) kc_X5 mG_o (lw_V q3740 q3742 qs51 q89 q3743) rfl md_X5_marks dX5_item_129 rfl ⟨by omega, by omega⟩ (by omega) (by omega) rfl (Nat.le_of_ble_eq_true rfl)) (fun r_11 G_11 n_11 u_11 hp_11 hn_11 hm_11 hu_11 => ?_)
                                      obtain ⟨rfl, rfl, rfl, rfl⟩ := hp_11
                                      obtain ⟨mr, h_m1⟩ : ∃ x, (mkI t N 161 (b + 1 + 1 + 1) (npF (at_ σ (b + 1 + 1 + 1)) N (t b - 48) (t (b + 1 + 1) - 48) 0 0 0 (nI nm))).1 = x := ⟨_, rfl⟩
                                      obtain ⟨mz, h_m2⟩ : ∃ x, (mkI t N 161 (b + 1 + 1 + 1) (npF (at_ σ (b + 1 + 1 + 1)) N (t b - 48) (t (b + 1 + 1) - 48) 0 0 0 (nI nm))).2 = x := ⟨_, rfl⟩
                                      rw [h_m1, h_m2]
                                      refine g_if_eqB hC mr dX5_item_132 (tgt := 139) (by decide) (fun c_132 => ?_) (fun c_132 => ?_)
                                      · refine g_iconst (v := 0) hC dX5_item_139 rfl ?_
                                        refine g_iret hC hr rfl ⟨_, rfl, ?_⟩ (by omega) (by omega) hE dX5_item_140
                                        have h9 : itF t N a σ = mkI t N 161 (b + 1 + 1 + 1) (npF (at_ σ (b + 1 + 1 + 1)) N (t b - 48) (t (b + 1 + 1) - 48) 0 0 0 (nI nm)) := by rw [itF, if_pos k_0, if_pos k_1, if_pos k_2, if_pos k_3, if_neg c_49, if_pos k_4, h_nm1, h_nm2, itH, if_neg c_76, if_pos k_5, if_pos k_6, if_pos k_7]
                                        exact ⟨by rw [h9, h_m1, c_132]; rfl, by rw [h9, h_m2], rfl, rfl⟩
                                      · refine g_iconst (v := 1) hC dX5_item_135 rfl ?_
                                        refine g_goto (tgt := 140) hC dX5_item_136 (by decide) ?_
                                        refine g_iret hC hr rfl ⟨_, rfl, ?_⟩ (by omega) (by omega) hE dX5_item_140
                                        have h9 : itF t N a σ = mkI t N 161 (b + 1 + 1 + 1) (npF (at_ σ (b + 1 + 1 + 1)) N (t b - 48) (t (b + 1 + 1) - 48) 0 0 0 (nI nm)) := by rw [itF, if_pos k_0, if_pos k_1, if_pos k_2, if_pos k_3, if_neg c_49, if_pos k_4, h_nm1, h_nm2, itH, if_neg c_76, if_pos k_5, if_pos k_6, if_pos k_7]
                                        exact ⟨by rw [h9, h_m1, c_132]; rfl, by rw [h9, h_m2], rfl, rfl⟩
                                  · rw [if_neg k_7, if_neg k_7]
                                    refine g_istore (L' := [(4, .int (-1)), (3, .int (t (b) - 48)), (2, .int (nI nm)), (1, .int (nI a)), (0, .ref m0)]) hC dX5_item_109 (by decide) rfl ?_
                                    refine g_iload hC dX5_item_111 0 rfl ?_
                                    refine g_iconst (v := (-1)) hC dX5_item_113 rfl ?_
                                    refine g_icmp_eq hC dX5_item_114 (tgt := 139) (by decide) (fun c_114 => ?_) (fun c_114 => ?_)
                                    · refine g_iconst (v := 0) hC dX5_item_139 rfl ?_
                                      refine g_iret hC hr rfl ⟨_, rfl, ?_⟩ (by omega) (by omega) hE dX5_item_140
                                      have h9 : itF t N a σ = (false, (at_ σ (b + 1 + 1))) := by rw [itF, if_pos k_0, if_pos k_1, if_pos k_2, if_pos k_3, if_neg c_49, if_pos k_4, h_nm1, h_nm2, itH, if_neg c_76, if_pos k_5, if_pos k_6, if_neg k_7]
                                      exact ⟨by rw [h9]; rfl, by rw [h9], rfl, rfl⟩
                                    · exact absurd rfl c_114
                                · first | exact absurd c_98 (by decide) | exact absurd c_98 (by omega)
                              · rw [decide_eq_false k_6, if_neg k_6]
                                refine g_if_neN hC 0 (by omega) dX5_item_98 (tgt := 103) (by decide) (fun c_98 => ?_) (fun c_98 => ?_)
                                · first | exact absurd c_98 (by decide) | exact absurd c_98 (by omega)
                                · refine g_iconst (v := 0) hC dX5_item_101 rfl ?_
                                  refine g_iret hC hr rfl ⟨_, rfl, ?_⟩ (by omega) (by omega) hE dX5_item_102
                                  have h9 : itF t N a σ = (false, (at_ σ (b + 1))) := by rw [itF, if_pos k_0, if_pos k_1, if_pos k_2, if_pos k_3, if_neg c_49, if_pos k_4, h_nm1, h_nm2, itH, if_neg c_76, if_pos k_5, if_neg k_6]
                                  exact ⟨by rw [h9]; rfl, by rw [h9], rfl, rfl⟩
                          · rw [if_neg k_5, if_neg k_5]
                            refine g_istore_n (L' := [(3, .int (-1)), (2, .int (nI nm)), (1, .int (nI a)), (0, .ref m0)]) hC dX5_item_86 rfl (by decide) rfl ?_
                            refine g_iload_n hC dX5_item_87 rfl 0 rfl ?_
                            refine g_iconst (v := (-1)) hC dX5_item_88 rfl ?_
                            refine g_icmp_eq hC dX5_item_89 (tgt := 101) (by decide) (fun c_89 => ?_) (fun c_89 => ?_)
                            · refine g_iconst (v := 0) hC dX5_item_101 rfl ?_
                              refine g_iret hC hr rfl ⟨_, rfl, ?_⟩ (by omega) (by omega) hE dX5_item_102
                              have h9 : itF t N a σ = (false, (at_ σ b)) := by rw [itF, if_pos k_0, if_pos k_1, if_pos k_2, if_pos k_3, if_neg c_49, if_pos k_4, h_nm1, h_nm2, itH, if_neg c_76, if_neg k_5]
                              exact ⟨by rw [h9]; rfl, by rw [h9], rfl, rfl⟩
                            · exact absurd rfl c_89
                        · refine g_iconst (v := 0) hC dX5_item_79 rfl ?_
                          refine g_iret hC hr rfl ⟨_, rfl, ?_⟩ (by omega) (by omega) hE dX5_item_80
                          have h9 : itF t N a σ = (false, (at_ σ b)) := by rw [itF, if_pos k_0, if_pos k_1, if_pos k_2, if_pos k_3, if_neg c_49, if_pos k_4, h_nm1, h_nm2, itH, if_pos c_76]
                          exact ⟨by rw [h9]; rfl, by rw [h9], rfl, rfl⟩
                      · first | exact absurd c_65 (by decide) | exact absurd c_65 (by omega)
                    · rw [decide_eq_false k_4, if_neg k_4]
                      refine g_if_neN hC 0 (by omega) dX5_item_65 (tgt := 70) (by decide) (fun c_65 => ?_) (fun c_65 => ?_)
                      · first | exact absurd c_65 (by decide) | exact absurd c_65 (by omega)
                      · refine g_iconst (v := 0) hC dX5_item_68 rfl ?_
                        refine g_iret hC hr rfl ⟨_, rfl, ?_⟩ (by omega) (by omega) hE dX5_item_69
                        have h9 : itF t N a σ = (false, (at_ σ (a + 1 + 1 + 1 + 1))) := by rw [itF, if_pos k_0, if_pos k_1, if_pos k_2, if_pos k_3, if_neg c_49, if_neg k_4]
                        exact ⟨by rw [h9]; rfl, by rw [h9], rfl, rfl⟩
                  · refine g_aload_n hC dX5_item_52 rfl 1 rfl ?_
                    refine g_iload_n hC dX5_item_53 rfl 0 rfl ?_
                    refine m_put hC 11 (by decide) rfl (by decide) q3532 rfl rfl rfl hz dX5_item_54 ?_
                    rw [show mu (at_ σ (a + 1 + 1 + 1 + 1)) 11 0 (nI a) = at_ σ a from mu_mu]
                    refine g_iconst (v := 0) hC dX5_item_57 rfl ?_
                    refine g_iret hC hr rfl ⟨_, rfl, ?_⟩ (by omega) (by omega) hE dX5_item_58
                    have h9 : itF t N a σ = (false, (at_ σ a)) := by rw [itF, if_pos k_0, if_pos k_1, if_pos k_2, if_pos k_3, if_pos c_49]
                    exact ⟨by rw [h9]; rfl, by rw [h9], rfl, rfl⟩
                · first | exact absurd c_38 (by decide) | exact absurd c_38 (by omega)
              · rw [decide_eq_false k_3, if_neg k_3]
                refine g_if_neN hC 0 (by omega) dX5_item_38 (tgt := 43) (by decide) (fun c_38 => ?_) (fun c_38 => ?_)
                · first | exact absurd c_38 (by decide) | exact absurd c_38 (by omega)
                · refine g_iconst (v := 0) hC dX5_item_41 rfl ?_
                  refine g_iret hC hr rfl ⟨_, rfl, ?_⟩ (by omega) (by omega) hE dX5_item_42
                  have h9 : itF t N a σ = (false, (at_ σ (a + 1 + 1 + 1))) := by rw [itF, if_pos k_0, if_pos k_1, if_pos k_2, if_neg k_3]
                  exact ⟨by rw [h9]; rfl, by rw [h9], rfl, rfl⟩
          · rw [decide_eq_false k_2, if_neg k_2]
            refine g_if_eqN hC 0 (by omega) dX5_item_29 (tgt := 41) (by decide) (fun c_29 => ?_) (fun c_29 => ?_)
            · refine g_iconst (v := 0) hC dX5_item_41 rfl ?_
              refine g_iret hC hr rfl ⟨_, rfl, ?_⟩ (by omega) (by omega) hE dX5_item_42
              have h9 : itF t N a σ = (false, (at_ σ (a + 1 + 1))) := by rw [itF, if_pos k_0, if_pos k_1, if_neg k_2]
              exact ⟨by rw [h9]; rfl, by rw [h9], rfl, rfl⟩
            · first | exact absurd c_29 (by decide) | exact absurd c_29 (by omega)
      · rw [decide_eq_false k_1, if_neg k_1]
        refine g_if_eqN hC 0 (by omega) dX5_item_20 (tgt := 41) (by decide) (fun c_20 => ?_) (fun c_20 => ?_)
        · refine g_iconst (v := 0) hC dX5_item_41 rfl ?_
          refine g_iret hC hr rfl ⟨_, rfl, ?_⟩ (by omega) (by omega) hE dX5_item_42
          have h9 : itF t N a σ = (false, (at_ σ (a + 1))) := by rw [itF, if_pos k_0, if_neg k_1]
          exact ⟨by rw [h9]; rfl, by rw [h9], rfl, rfl⟩
        · first | exact absurd c_20 (by decide) | exact absurd c_20 (by omega)
  · rw [decide_eq_false k_0, if_neg k_0]
    refine g_if_eqN hC 0 (by omega) dX5_item_11 (tgt := 41) (by decide) (fun c_11 => ?_) (fun c_11 => ?_)
    · refine g_iconst (v := 0) hC dX5_item_41 rfl ?_
      refine g_iret hC hr rfl ⟨_, rfl, ?_⟩ (by omega) (by omega) hE dX5_item_42
      have h9 : itF t N a σ = (false, (at_ σ a)) := by rw [itF, if_neg k_0]
      exact ⟨by rw [h9]; rfl, by rw [h9], rfl, rfl⟩
    · first | exact absurd c_11 (by decide) | exact absurd c_11 (by omega)
def rdI (t : Nat → Int32) : Nat → Bool → MS → Bool × MS
  | 0, so, y => (so, y)
  | f + 1, so, y => if so = true ∧ t (y.1 11 0).toNatClampNeg = 59 then rdI t f (itF t (y.1 0 0).toNatClampNeg ((y.1 11 0).toNatClampNeg + 1) (at_ y ((y.1 11 0).toNatClampNeg + 1))).1 (itF t (y.1 0 0).toNatClampNeg ((y.1 11 0).toNatClampNeg + 1) (at_ y ((y.1 11 0).toNatClampNeg + 1))).2 else (so, y)
theorem rdI_x {t : Nat → Int32} {f : Nat} {so : Bool} {y : MS} (h : ¬ (so = true ∧ t (y.1 11 0).toNatClampNeg = 59)) : rdI t f so y = (so, y) := by
  cases f with
  | zero => rfl
  | succ f => rw [rdI, if_neg h]
def rd0 (σ : MS) (j : Nat) : MS := mu (mu σ 10 0 (nI j)) 11 0 0
def rdR (σ : MS) (N j L : Nat) : Bool × MS := rdI (txF σ.2 j L) 12 (itF (txF σ.2 j L) N 0 (rd0 σ j)).1 (itF (txF σ.2 j L) N 0 (rd0 σ j)).2
def rdE (r : Bool × MS) (N L : Nat) : Int32 × MS :=
  if (r.1 && decide (r.2.1 11 0 = nI L)) = true then (r.2.1 0 0 - nI N, mu r.2 9 0 (-1)) else (-6, mNo (mu (mu r.2 9 0 (r.2.1 11 0)) 0 0 (nI N)) 6)
def readF (σ : MS) (N : Nat) (s : Int32) : Int32 × MS :=
  if ¬ nrc σ s = 0 then (-(nI (nrc σ s)), mNo σ (nrc σ s)) else rdE (rdR σ N s.toNatClampNeg (σ.1 7 s.toNatClampNeg).toNatClampNeg) N (σ.1 7 s.toNatClampNeg).toNatClampNeg
set_option maxHeartbeats 4000000 in
theorem met_X5_read {Y : YT} {l : Launch} {m0 n u : Nat} {σ : MS} {B : AH} (hz : yz Y ≤ m0) (s_ : Int32) {N : Nat} (hN : σ.1 0 0 = nI N) (hN2 : N ≤ 12) (hl : ∀ j, j < 8 → ∃ t, t ≤ 160 ∧ σ.1 7 j = nI t) : GM Y l yX5_read (ws_ yX5_read cX5_read 5 (some FieldType.int)) 4 91 [.ref m0, .int s_] (mG Y m0 σ B) n u 0 0 (pI (fun r G' n' u' => (readF σ N s_).1 = r ∧ mG Y m0 ((readF σ N s_).2) B = G' ∧ n = n' ∧ u = u')) noX := by
  refine GM.intro (own := RX5) rfl (by decide +kernel) (Nat.le_of_ble_eq_true rfl) ?_
  intro p e s m args below meth c R Q hC hr hnm hF hL hE
  have hE1 := hE.1
  have hE2 := hE.2.1
  show V Y p l e R s m args below meth c 5 n u (mG Y m0 σ B) n u Q 0 [(0, .ref m0), (1, .int s_)] []
  refine g_aload_n hC dX5_read_0 rfl 0 rfl ?_
  refine g_iload_n hC dX5_read_1 rfl 1 rfl ?_
  refine g_calli0 hC (g_runV hC (met_X5_noRow hz s_ ) kc_X5 mG_o (lw_V q3648 q3650 qs38 q89 q3651) rfl md_X5_noRow dX5_read_2 rfl ⟨by omega, by omega⟩ (by omega) (by omega) rfl (Nat.le_of_ble_eq_true rfl)) (fun r_1 G_1 n_1 u_1 hp_1 hn_1 hm_1 hu_1 => ?_)
  obtain ⟨rfl, rfl, rfl, rfl⟩ := hp_1
  refine g_istore_n (L' := [(2, .int (-(nI (nrc σ  s_)))), (0, .ref m0), (1, .int s_)]) hC dX5_read_5 rfl (by decide) rfl ?_
  refine g_iload_n hC dX5_read_6 rfl 0 rfl ?_
  refine g_if_ge hC dX5_read_7 (tgt := 16) (by decide) (fun c_7 => ?_) (fun c_7 => ?_)
  · have c7 := (m_ge (nrc_le σ s_)).mp c_7
    obtain ⟨j, hj, rfl, hn0, hrw⟩ := nrc_0 c7
    have cl_j : (nI j).toNatClampNeg = j := nI_clamp (by omega)
    obtain ⟨L, hL, et⟩ := hl j hj
    obtain ⟨t, ht⟩ : ∃ t, txF σ.2 j L = t := ⟨_, rfl⟩
    refine g_aload_n hC dX5_read_16 rfl 1 rfl ?_
    refine m_get (v := .int (nI N)) hC 0 (by decide) q3521 (congrArg (fun z => some (Value.int z)) hN) dX5_read_17 ?_
    refine g_istore_n (L' := [(3, .int (nI N)), (2, .int (-(nI (nrc σ  (nI j))))), (0, .ref m0), (1, .int (nI j))]) hC dX5_read_20 rfl (by decide) rfl ?_
    refine g_aload_n hC dX5_read_21 rfl 2 rfl ?_
    refine g_iload_n hC dX5_read_22 rfl 3 rfl ?_
    refine m_put hC 10 (by decide) rfl (by decide) q3531 rfl rfl rfl hz dX5_read_23 ?_
    refine g_aload_n hC dX5_read_26 rfl 2 rfl ?_
    refine g_iconst (v := 0) hC dX5_read_27 rfl ?_
    refine m_put hC 11 (by decide) rfl (by decide) q3532 rfl rfl rfl hz dX5_read_28 ?_
    obtain ⟨y0, ey0⟩ : ∃ y, rd0 σ j = y := ⟨_, rfl⟩
    have hr0 : RD y0 j L 0 t := by rw [← ey0]; exact ⟨(mu_nk (by decide)).trans mu_hit, (mu_nk (by decide)).trans ((mu_nk (by decide)).trans et), mu_hit, hj, hL, Nat.zero_le _, ht⟩
    have hN0 : y0.1 0 0 = nI N := by rw [← ey0]; exact (mu_nk (by decide)).trans ((mu_nk (by decide)).trans hN)
    show V Y p l e R s m args below meth c 5 n u (mG Y m0 (rd0 σ j) B) n u Q 31 _ _
    rw [ey0]
    refine g_aload_n hC dX5_read_31 rfl 2 rfl ?_
    refine g_calli0 hC (g_runV hC (met_X5_item hz  (hN0) (hN2) (hr0)) kc_X5 mG_o (lw_V q3720 q3722 qs46 q89 q3723) rfl md_X5_item dX5_read_32 rfl ⟨by omega, by omega⟩ (by omega) (by omega) rfl (Nat.le_of_ble_eq_true rfl)) (fun r_2 G_2 n_2 u_2 hp_2 hn_2 hm_2 hu_2 => ?_)
    obtain ⟨rfl, rfl, rfl, rfl⟩ := hp_2
    have T1 := it_ok hr0 hN0 hN2
    obtain ⟨so0, e_so0⟩ : ∃ x, (itF t N 0 y0).1 = x := ⟨_, rfl⟩
    obtain ⟨y1, e_y1⟩ : ∃ x, (itF t N 0 y0).2 = x := ⟨_, rfl⟩
    rw [e_so0, e_y1] at T1 ⊢
    obtain ⟨b1, hr1⟩ := T1.pos
    obtain ⟨k1, hk1, hk1b, hk1c, hk1d⟩ := T1.num
    refine g_istore (L' := [(4, .int (b2i so0)), (3, .int (nI N)), (2, .int (-(nI (nrc σ  (nI j))))), (0, .ref m0), (1, .int (nI j))]) hC dX5_read_35 (by decide) rfl ?_
    have hl_37 : ∀ (kf_ : Nat) (so : Bool) (y : MS) (b : Nat) (k : Nat) (f : Nat), (RD y j L b t) → (y.1 0 0 = nI k) → (k ≤ 12) → (N ≤ k) → (so = true → 13 ≤ k + f) → (rdI t f so y = rdI t 12 so0 y1) → f < kf_ → V Y p l e R s m args below meth c 5 n u (mG Y m0 y B) n u Q 37 [(4, .int (b2i so)), (3, .int (nI N)), (0, .ref m0), (1, .int (nI j))] [] := by
      intro kf_
      induction kf_ with
      | zero => intro so y b k f hry hyn hk12 hkN hkf hfin hk_; exact absurd hk_ (Nat.not_lt_zero _)
      | succ kf_ ih_ =>
        intro so y b k f hry hyn hk12 hkN hkf hfin hk_
        refine g_iload hC dX5_read_37 0 rfl ?_
        have hbL := hry.ha
        have hj_60 : (rdI t 12 so0 y1 = (so, y)) → V Y p l e R s m args below meth c 5 n u (mG Y m0 y B) n u Q 60 [(4, .int (b2i so)), (3, .int (nI N)), (0, .ref m0), (1, .int (nI j))] [] := by
          intro hx
          have hj_83 : ∀ (ok : Bool), ((so && decide (b = L)) = ok) → V Y p l e R s m args below meth c 5 n u (mG Y m0 y B) n u Q 83 [(4, .int (b2i so)), (3, .int (nI N)), (0, .ref m0), (1, .int (nI j))] [.int (b2i ok)] := by
            intro ok hok
            refine g_istore (L' := [(4, .int (b2i ok)), (3, .int (nI N)), (0, .ref m0), (1, .int (nI j))]) hC dX5_read_83 (by decide) rfl ?_
            refine g_aload_n hC dX5_read_85 rfl 2 rfl ?_
            refine g_iload hC dX5_read_86 0 rfl ?_
            refine g_if_eqB hC ok dX5_read_88 (tgt := 95) (by decide) (fun c_88 => ?_) (fun c_88 => ?_)
            · refine g_aload_n hC dX5_read_95 rfl 2 rfl ?_
              refine m_get (v := .int (nI b)) hC 11 (by decide) q3532 (congrArg (fun z => some (Value.int z)) hry.h11) dX5_read_96 ?_
              refine m_put hC 9 (by decide) rfl (by decide) q3530 rfl rfl rfl hz dX5_read_99 ?_
              refine g_iload hC dX5_read_102 0 rfl ?_
              refine g_if_eqB hC ok dX5_read_104 (tgt := 114) (by decide) (fun c_104 => ?_) (fun c_104 => ?_)
              · refine g_aload_n hC dX5_read_114 rfl 2 rfl ?_
                refine g_iload_n hC dX5_read_115 rfl 1 rfl ?_
                refine m_put hC 0 (by decide) rfl (by decide) q3521 rfl rfl rfl hz dX5_read_116 ?_
                refine g_aload_n hC dX5_read_119 rfl 2 rfl ?_
                refine g_bipush (v := (-6)) hC dX5_read_120 (by decide) ?_
                refine g_calli0 hC (g_runV hC (met_X5_no hz 6 (by omega)) kc_X5 mG_o (lw_V q3640 q3642 qs37 q89 q3643) rfl md_X5_no dX5_read_122 rfl ⟨by omega, by omega⟩ (by omega) (by omega) rfl (Nat.le_of_ble_eq_true rfl)) (fun r_3 G_3 n_3 u_3 hp_3 hn_3 hm_3 hu_3 => ?_)
                obtain ⟨rfl, rfl, rfl, rfl⟩ := hp_3
                refine g_iret hC hr rfl ⟨_, rfl, ?_⟩ (by omega) (by omega) hE dX5_read_125
                have h9 : readF σ N (nI j) = (-6, mNo (mu (mu y 9 0 (nI b)) 0 0 (nI N)) 6) := by
                  unfold readF; rw [if_neg (fun q => q c7), cl_j, et, nI_clamp (by omega)]
                  unfold rdR; rw [ht, ey0, e_so0, e_y1, hx]
                  have hok2 : ¬ ((so, y).1 && decide ((so, y).2.1 11 0 = nI L)) = true := by
                    have h7 : (y.1 11 0 = nI L) = (b = L) := by rw [hry.h11]; exact propext (nI_eq (by omega) (by omega))
                    show ¬ (so && decide (y.1 11 0 = nI L)) = true
                    simp only [h7]; rw [hok, c_88]; decide
                  unfold rdE
                  rw [if_neg hok2, hry.h11]
                exact ⟨by rw [h9]; rfl, by rw [h9], rfl, rfl⟩
              · exact Bool.noConfusion (c_88.symm.trans c_104)
            · refine g_iconst (v := (-1)) hC dX5_read_91 rfl ?_
              refine g_goto (tgt := 99) hC dX5_read_92 (by decide) ?_
              refine m_put hC 9 (by decide) rfl (by decide) q3530 rfl rfl rfl hz dX5_read_99 ?_
              refine g_iload hC dX5_read_102 0 rfl ?_
              refine g_if_eqB hC ok dX5_read_104 (tgt := 114) (by decide) (fun c_104 => ?_) (fun c_104 => ?_)
              · exact Bool.noConfusion (c_88.symm.trans c_104)
              · refine g_aload_n hC dX5_read_107 rfl 2 rfl ?_
                refine m_get (v := .int (nI k)) hC 0 (by decide) q3521 (congrArg (fun z => some (Value.int z)) ((mu_nk (by decide)).trans hyn)) dX5_read_108 ?_
                refine g_iload_n hC dX5_read_111 rfl 1 rfl ?_
                refine g_isubN hC k N (by omega) dX5_read_112 ?_
                refine g_iret hC hr rfl ⟨_, rfl, ?_⟩ (by omega) (by omega) hE dX5_read_113
                have h9 : readF σ N (nI j) = (nI (k - N), mu y 9 0 (-1)) := by
                  unfold readF; rw [if_neg (fun q => q c7), cl_j, et, nI_clamp (by omega)]
                  unfold rdR; rw [ht, ey0, e_so0, e_y1, hx]
                  have hok2 : ((so, y).1 && decide ((so, y).2.1 11 0 = nI L)) = true := by
                    have h7 : (y.1 11 0 = nI L) = (b = L) := by rw [hry.h11]; exact propext (nI_eq (by omega) (by omega))
                    show (so && decide (y.1 11 0 = nI L)) = true
                    simp only [h7]; rw [hok, c_88]
                  unfold rdE
                  rw [if_pos hok2, hyn, nI_sub hkN]
                exact ⟨by rw [h9], by rw [h9], rfl, rfl⟩
          refine g_iload hC dX5_read_60 0 rfl ?_
          refine g_if_eqB hC so dX5_read_62 (tgt := 82) (by decide) (fun c_62 => ?_) (fun c_62 => ?_)
          · refine g_iconst (v := 0) hC dX5_read_82 rfl ?_
            exact hj_83 false (by rw [c_62]; rfl)
          · refine g_aload_n hC dX5_read_65 rfl 2 rfl ?_
            refine m_get (v := .int (nI b)) hC 11 (by decide) q3532 (congrArg (fun z => some (Value.int z)) hry.h11) dX5_read_66 ?_
            refine g_aload_n hC dX5_read_69 rfl 2 rfl ?_
            refine m_get (v := .ref (m0 + 4)) hC 7 (by decide) q3528 rfl dX5_read_70 ?_
            refine g_iload_n hC dX5_read_73 rfl 3 rfl ?_
            refine m_ald (v := nI L) hC 7 j rfl (show j < 8 from by omega) (by omega) hry.h7 dX5_read_74 ?_
            refine g_icmp_neN hC b L (by omega) (by omega) dX5_read_75 (tgt := 82) (by decide) (fun c_75 => ?_) (fun c_75 => ?_)
            · refine g_iconst (v := 0) hC dX5_read_82 rfl ?_
              exact hj_83 false (by rw [decide_eq_false c_75, Bool.and_false])
            · refine g_iconst (v := 1) hC dX5_read_78 rfl ?_
              refine g_goto (tgt := 83) hC dX5_read_79 (by decide) ?_
              exact hj_83 true (by rw [c_62, decide_eq_true c_75]; rfl)
        refine g_if_eqB hC so dX5_read_39 (tgt := 60) (by decide) (fun c_39 => ?_) (fun c_39 => ?_)
        · exact hj_60 (by rw [← hfin]; exact rdI_x (fun q => Bool.noConfusion (c_39.symm.trans q.1)))
        · refine g_aload_n hC dX5_read_42 rfl 2 rfl ?_
          refine g_bipush (v := 59) hC dX5_read_43 (by decide) ?_
          refine g_calli0 hC (g_runV hC (met_X5_is hz 59 (hry) (by decide)) kc_X5 mG_o (lw_V q3724 q3726 qs47 q89 q3727) rfl md_X5_is dX5_read_45 rfl ⟨by omega, by omega⟩ (by omega) (by omega) rfl (Nat.le_of_ble_eq_true rfl)) (fun r_4 G_4 n_4 u_4 hp_4 hn_4 hm_4 hu_4 => ?_)
          obtain ⟨rfl, rfl, rfl, rfl⟩ := hp_4
          by_cases k_0 : t b = 59
          · obtain ⟨f, rfl⟩ : ∃ d, f = d + 1 := ⟨f - 1, by have := hkf c_39; omega⟩
            have hl_0 := hry.lt (by rw [k_0]; decide)
            rw [decide_eq_true k_0, if_pos k_0]
            refine g_if_eqN hC 1 (by omega) dX5_read_48 (tgt := 60) (by decide) (fun c_48 => ?_) (fun c_48 => ?_)
            · first | exact absurd c_48 (by decide) | exact absurd c_48 (by omega)
            · refine g_aload_n hC dX5_read_51 rfl 2 rfl ?_
              refine g_calli0 hC (g_runV hC (met_X5_item hz  ((mu_nk (by decide)).trans hyn) (hk12) (hry.mv hl_0)) kc_X5 mG_o (lw_V q3720 q3722 qs46 q89 q3723) rfl md_X5_item dX5_read_52 rfl ⟨by omega, by omega⟩ (by omega) (by omega) rfl (Nat.le_of_ble_eq_true rfl)) (fun r_5 G_5 n_5 u_5 hp_5 hn_5 hm_5 hu_5 => ?_)
              obtain ⟨rfl, rfl, rfl, rfl⟩ := hp_5
              have T2 := it_ok (hry.mv hl_0) ((mu_nk (by decide)).trans hyn) hk12
              obtain ⟨so2, e_so2⟩ : ∃ x, (itF t k (b + 1) (at_ y (b + 1))).1 = x := ⟨_, rfl⟩
              obtain ⟨y2, e_y2⟩ : ∃ x, (itF t k (b + 1) (at_ y (b + 1))).2 = x := ⟨_, rfl⟩
              rw [e_so2, e_y2] at T2 ⊢
              obtain ⟨b2, hr2⟩ := T2.pos
              obtain ⟨k2, hk2, hk2b, hk2c, hk2d⟩ := T2.num
              refine g_istore (L' := [(4, .int (b2i so2)), (3, .int (nI N)), (0, .ref m0), (1, .int (nI j))]) hC dX5_read_55 (by decide) rfl ?_
              refine g_goto (tgt := 37) hC dX5_read_57 (by decide) ?_
              exact ih_ so2 y2 b2 k2 f (hr2) (hk2) (hk2b) (by omega) (fun q => by have := hk2d q; have := hkf c_39; omega) (by rw [← hfin, rdI, hry.h11, hyn, nI_clamp (by omega), nI_clamp (by omega), if_pos ⟨c_39, k_0⟩, e_so2, e_y2]) (by omega)
          · rw [decide_eq_false k_0, if_neg k_0]
            refine g_if_eqN hC 0 (by omega) dX5_read_48 (tgt := 60) (by decide) (fun c_48 => ?_) (fun c_48 => ?_)
            · exact hj_60 (by rw [← hfin]; exact rdI_x (fun q => k_0 (by have h8 := q.2; rw [hry.h11, nI_clamp (by have := hry.ha; omega)] at h8; exact h8)))
            · first | exact absurd c_48 (by decide) | exact absurd c_48 (by omega)
    refine V.sub [0, 1, 3, 4] rfl ?_
    exact hl_37 (12 + 1) so0 y1 b1 k1 12 (hr1) (hk1) (hk1b) (hk1c) (fun q => by have := hk1d q; omega) (rfl) (by omega)
  · have c7 : ¬ nrc σ s_ = 0 := fun q => c_7 ((m_ge (nrc_le σ s_)).mpr q)
    refine g_aload_n hC dX5_read_10 rfl 1 rfl ?_
    refine g_iload_n hC dX5_read_11 rfl 0 rfl ?_
    refine g_calli0 hC (g_runV hC (met_X5_no hz (nrc σ  s_) (by have := nrc_le σ s_; omega)) kc_X5 mG_o (lw_V q3640 q3642 qs37 q89 q3643) rfl md_X5_no dX5_read_12 rfl ⟨by omega, by omega⟩ (by omega) (by omega) rfl (Nat.le_of_ble_eq_true rfl)) (fun r_6 G_6 n_6 u_6 hp_6 hn_6 hm_6 hu_6 => ?_)
    obtain ⟨rfl, rfl, rfl, rfl⟩ := hp_6
    refine g_iret hC hr rfl ⟨_, rfl, ?_⟩ (by omega) (by omega) hE dX5_read_15
    have h9 : readF σ N s_ = (-(nI (nrc σ  s_)), mNo σ (nrc σ  s_)) := by unfold readF; rw [if_pos c7]
    exact ⟨by rw [h9], by rw [h9], rfl, rfl⟩
