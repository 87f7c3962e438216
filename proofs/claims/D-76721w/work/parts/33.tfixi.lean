set_option maxRecDepth 100000
/-! TREE MAPS, 5: the mending behind an insertion -/
theorem TW.up {τ : TS} {q : TQ} {LO HI : Int} (h : TW τ q LO HI) {a g : Nat} (ha : τ.2.2.2 a = true) (e : τ.1 4 a = some g) : q.2.1 g ≤ q.2.1 a ∧ q.2.2 a ≤ q.2.2 g ∧ q.2.2 a - q.2.1 a < q.2.2 g - q.2.1 g := by
  obtain ⟨h1, h2⟩ := h.hp a g ha e
  have h3 := h.h0 g h1
  rcases h2 with h2 | h2
  · have := h.hl g a h1 h2; omega
  · have := h.hr g a h1 h2; omega
theorem TK.T {Y : YT} {t : Nat} {τ z : TS} (h : TK τ z) (hT : TQ_ Y t τ) : TQ_ Y t z := by unfold TQ_; rw [h.k2]; exact hT
/-- what stands behind the mending -/
def FI (τ : TS) (q : TQ) (LO HI : Int) (τ' : TS) (q' : TQ) : Prop := TW τ' q' LO HI ∧ q'.1 = q.1 ∧ TK τ τ' ∧ ∀ r, τ'.1 5 0 = some r → τ'.2.1 r = true
set_option maxHeartbeats 4000000 in
theorem met_J1_fixAfterInsertion {Y : YT} {l : Launch} {t n u : Nat} {τ : TS} {B : AH} (hT : TQ_ Y t τ) (x_ : Nat) {q : TQ} {LO HI : Int} (hW0 : TW τ q LO HI) (hx0 : τ.2.2.2 x_ = true) (hrt0 : ∀ r_, τ.1 5 0 = some r_ → r_ ≠ x_ → τ.2.1 r_ = true) : GM Y l yJ1_fixAfterInsertion (ws_ yJ1_fixAfterInsertion cJ1_fixAfterInsertion 3 none) 1 22 [.ref t, .ref x_] (tG t τ B) n u 0 0 (pV (fun G' n' u' => ∃ τ' q', FI τ q LO HI τ' q' ∧ tG t τ' B = G' ∧ n = n' ∧ u = u')) noX := by
  refine GM.intro (own := RJ1) rfl (by decide +kernel) (Nat.le_of_ble_eq_true rfl) ?_
  intro p e s m args below meth c R Q hC hr hnm hF hL hE
  have hE1 := hE.1
  have hE2 := hE.2.1
  show V Y p l e R s m args below meth c 3 n u (tG t τ B) n u Q 0 [(0, .ref t), (1, .ref x_)] []
  refine g_aload_n hC dJ1_fixAfterInsertion_0 rfl 1 rfl ?_
  refine g_iconst (v := 0) hC dJ1_fixAfterInsertion_1 rfl ?_
  refine t_putC (τ := τ) hC hT false hx0 q1546 dJ1_fixAfterInsertion_2 ?_
  have hl_5 : ∀ (kf_ : Nat) (z : TS) (q2 : TQ) (x : Nat) (dn : Bool), (TW z q2 LO HI) → (q2.1 = q.1) → (TK τ z) → (z.2.2.2 x = true) → (∀ r_, z.1 5 0 = some r_ → r_ ≠ x → z.2.1 r_ = true) → (dn = true → ∀ r_, z.1 4 x = some r_ → z.2.1 r_ = true) → (if dn = true then 0 else ((HI - LO) - (q2.2.2 x - q2.2.1 x)).toNat + 1) < kf_ → V Y p l e R s m args below meth c 3 n u (tG t z B) n u Q 5 [(1, .ref x), (0, .ref t)] [] := by
    intro kf_
    induction kf_ with
    | zero => intro z q2 x dn hW hq hK hx hrt hdn hk_; exact absurd hk_ (Nat.not_lt_zero _)
    | succ kf_ ih_ =>
      intro z q2 x dn hW hq hK hx hrt hdn hk_
      have hTz := hK.T hT
      refine g_aload_n hC dJ1_fixAfterInsertion_5 rfl 0 rfl ?_
      refine g_ifnull hC dJ1_fixAfterInsertion_6 ?_
      refine g_aload_n hC dJ1_fixAfterInsertion_9 rfl 0 rfl ?_
      refine g_aload_n hC dJ1_fixAfterInsertion_10 rfl 1 rfl ?_
      refine t_getH (v := va_rf (z.1 5 0)) hC 3 (by decide) q222 (congrArg (fun z => some (va_rf z)) rfl) dJ1_fixAfterInsertion_11 ?_
      refine g_acmp_eq (rx := some x) (ry := z.1 5 0) hC dJ1_fixAfterInsertion_14 (tgt := 258) (by decide) (fun c_14 => ?_) (fun c_14 => ?_)
      · have hroot : z.1 5 0 = some x := c_14.symm
        refine g_aload_n hC dJ1_fixAfterInsertion_258 rfl 1 rfl ?_
        refine t_getH (v := .ref x) hC 3 (by decide) q222 (congrArg (fun z => some (va_rf z)) hroot) dJ1_fixAfterInsertion_259 ?_
        refine g_iconst (v := 1) hC dJ1_fixAfterInsertion_262 rfl ?_
        refine t_putC (τ := z) hC hTz true hx q1546 dJ1_fixAfterInsertion_263 ?_
        refine g_vret hC hr ⟨rfl, ?_⟩ (by omega) (by omega) hE dJ1_fixAfterInsertion_266
        exact ⟨(tc z x true), q2, ⟨hW, hq, hK.c, fun r_ e_ => by have e2 : some r_ = some x := (show z.1 5 0 = some r_ from e_).symm.trans hroot; cases e2; exact tc_hit⟩, rfl, rfl, rfl⟩
      · refine g_aload_n hC dJ1_fixAfterInsertion_17 rfl 0 rfl ?_
        refine t_getN (τ := z) (v := va_rf (z.1 4 x)) hC hTz 4 (by decide) hx q1544 (congrArg (fun z => some (va_rf z)) rfl) dJ1_fixAfterInsertion_18 ?_
        rcases h21 : z.1 4 x with _ | g
        · exact absurd (hW.hn x hx h21).symm c_14
        have hgg := hW.hp x g hx h21
        have hSg := hgg.1
        refine t_getN (τ := z) (v := .int (b2i (z.2.1 g))) hC hTz 5 (by decide) hSg q1546 (congrArg (fun z => some (Value.int (b2i z))) rfl) dJ1_fixAfterInsertion_21 ?_
        refine g_if_neB hC (z.2.1 g) dJ1_fixAfterInsertion_24 (tgt := 258) (by decide) (fun c_24 => ?_) (fun c_24 => ?_)
        · refine g_aload_n hC dJ1_fixAfterInsertion_258 rfl 1 rfl ?_
          refine t_getH (v := va_rf (z.1 5 0)) hC 3 (by decide) q222 (congrArg (fun z => some (va_rf z)) rfl) dJ1_fixAfterInsertion_259 ?_
          rcases h262 : z.1 5 0 with _ | rt
          · (obtain ⟨r9, e9⟩ := hW.root' hx; rw [h262] at e9; cases e9)
          have hSrt := (hW.ht rt h262).1
          refine g_iconst (v := 1) hC dJ1_fixAfterInsertion_262 rfl ?_
          refine t_putC (τ := z) hC hTz true hSrt q1546 dJ1_fixAfterInsertion_263 ?_
          refine g_vret hC hr ⟨rfl, ?_⟩ (by omega) (by omega) hE dJ1_fixAfterInsertion_266
          exact ⟨(tc z rt true), q2, ⟨hW, hq, hK.c, fun r_ e_ => by have e2 : some r_ = some rt := (show z.1 5 0 = some r_ from e_).symm.trans h262; cases e2; exact tc_hit⟩, rfl, rfl, rfl⟩
        · have hdn2 : dn = false := by
            cases dn with
            | false => rfl
            | true => exact absurd (hdn rfl g h21) (by rw [c_24]; decide)
          have hrb : ∀ r_, z.1 5 0 = some r_ → z.2.1 r_ = true := fun r_ e_ => hrt r_ e_ (fun e2 => c_14 (by rw [e_, e2]))
          have hk2 : ((HI - LO) - (q2.2.2 x - q2.2.1 x)).toNat + 1 < kf_ + 1 := by rw [hdn2] at hk_; exact hk_
          rcases h24 : z.1 4 g with _ | k_
          · exact absurd (hrb g (hW.hn g hSg h24)) (by rw [c_24]; decide)
          have hkk := hW.hp g k_ hSg h24
          have hSk := hkk.1
          have hxg : x ≠ g := fun e_ => by have := hW.up hx h21; rw [e_] at this; omega
          have hkx : k_ ≠ x := fun e_ => by have j1 := hW.up hx h21; have j2 := hW.up hSg h24; rw [e_] at j2; omega
          refine g_aload_n hC dJ1_fixAfterInsertion_27 rfl 0 rfl ?_
          refine g_callq0 hC (g_runS hC (met_J1_parentOf (τ := z) hTz (some x) (v := some g) h21 (fun _ y => by cases y; exact hx)) (lw_S q1568 q1569 q85 q1570) md_J1_parentOf dJ1_fixAfterInsertion_28 rfl ⟨by omega, by omega⟩ (by omega) (by omega) rfl (Nat.le_of_ble_eq_true rfl)) (fun r_1 G_1 n_1 u_1 hp_1 hn_1 hm_1 hu_1 => ?_)
          obtain ⟨rfl, rfl, rfl, rfl⟩ := hp_1
          refine g_aload_n hC dJ1_fixAfterInsertion_31 rfl 0 rfl ?_
          refine g_callq0 hC (g_runS hC (met_J1_parentOf (τ := z) hTz (some x) (v := some g) h21 (fun _ y => by cases y; exact hx)) (lw_S q1568 q1569 q85 q1570) md_J1_parentOf dJ1_fixAfterInsertion_32 rfl ⟨by omega, by omega⟩ (by omega) (by omega) rfl (Nat.le_of_ble_eq_true rfl)) (fun r_2 G_2 n_2 u_2 hp_2 hn_2 hm_2 hu_2 => ?_)
          obtain ⟨rfl, rfl, rfl, rfl⟩ := hp_2
          refine g_callq0 hC (g_runS hC (met_J1_parentOf (τ := z) hTz (some g) (v := some k_) h24 (fun _ y => by cases y; exact hSg)) (lw_S q1568 q1569 q85 q1570) md_J1_parentOf dJ1_fixAfterInsertion_35 rfl ⟨by omega, by omega⟩ (by omega) (by omega) rfl (Nat.le_of_ble_eq_true rfl)) (fun r_3 G_3 n_3 u_3 hp_3 hn_3 hm_3 hu_3 => ?_)
          obtain ⟨rfl, rfl, rfl, rfl⟩ := hp_3
          refine g_callq0 hC (g_runS hC (met_J1_leftOf (τ := z) hTz (some k_) (v := z.1 2 k_) rfl (fun _ y => by cases y; exact hSk)) (lw_S q1571 q1572 q85 q1573) md_J1_leftOf dJ1_fixAfterInsertion_38 rfl ⟨by omega, by omega⟩ (by omega) (by omega) rfl (Nat.le_of_ble_eq_true rfl)) (fun r_4 G_4 n_4 u_4 hp_4 hn_4 hm_4 hu_4 => ?_)
          obtain ⟨rfl, rfl, rfl, rfl⟩ := hp_4
          refine g_acmp_ne (rx := some g) (ry := z.1 2 k_) hC dJ1_fixAfterInsertion_41 (tgt := 151) (by decide) (fun c_41 => ?_) (fun c_41 => ?_)
          · have hkl : z.1 3 k_ = some g := hkk.2.resolve_left (fun y => c_41 y.symm)
            have hj_225 : ∀ (w1 : TS) (q3 : TQ) (x2 : Nat) (g2 : Nat), (TW w1 q3 LO HI) → (q3.1 = q.1) → (TK τ w1) → (w1.2.2.2 x2 = true) → (w1.2.2.2 g2 = true) → (w1.2.2.2 k_ = true) → (w1.2 = z.2) → (w1.1 4 x2 = some g2) → (w1.1 4 g2 = some k_) → (w1.1 3 k_ = some g2) → (w1.1 3 g2 = some x2) → (w1.1 5 0 = z.1 5 0) → V Y p l e R s m args below meth c 3 n u (tG t w1 B) n u Q 225 [(1, .ref x2), (0, .ref t)] [] := by
              intro w1 q3 x2 g2 hW2 hq2 hK2 hx2 hg2 hk3 hs2 hp2 hp3 hl2 hl3 hr5
              have hTw := hK2.T hT
              refine g_aload_n hC dJ1_fixAfterInsertion_225 rfl 0 rfl ?_
              refine g_callq0 hC (g_runS hC (met_J1_parentOf (τ := w1) hTw (some x2) (v := some g2) hp2 (fun _ y => by cases y; exact hx2)) (lw_S q1568 q1569 q85 q1570) md_J1_parentOf dJ1_fixAfterInsertion_226 rfl ⟨by omega, by omega⟩ (by omega) (by omega) rfl (Nat.le_of_ble_eq_true rfl)) (fun r_5 G_5 n_5 u_5 hp_5 hn_5 hm_5 hu_5 => ?_)
              obtain ⟨rfl, rfl, rfl, rfl⟩ := hp_5
              refine g_iconst (v := 1) hC dJ1_fixAfterInsertion_229 rfl ?_
              refine g_callv0 hC (g_runS hC (met_J1_setColor (τ := w1) hTw (some g2) true (τ2 := (tc w1 g2 true)) rfl (fun _ y => by cases y; exact hg2)) (lw_S q1580 q1581 q85 q1582) md_J1_setColor dJ1_fixAfterInsertion_230 rfl ⟨by omega, by omega⟩ (by omega) (by omega) rfl (Nat.le_of_ble_eq_true rfl)) (fun G_6 n_6 u_6 hp_6 hn_6 hm_6 hu_6 => ?_)
              obtain ⟨rfl, rfl, rfl⟩ := hp_6
              refine g_aload_n hC dJ1_fixAfterInsertion_233 rfl 0 rfl ?_
              refine g_callq0 hC (g_runS hC (met_J1_parentOf (τ := (tc w1 g2 true)) hTw (some x2) (v := some g2) (Eq.trans rfl hp2) (fun _ y => by cases y; exact hx2)) (lw_S q1568 q1569 q85 q1570) md_J1_parentOf dJ1_fixAfterInsertion_234 rfl ⟨by omega, by omega⟩ (by omega) (by omega) rfl (Nat.le_of_ble_eq_true rfl)) (fun r_7 G_7 n_7 u_7 hp_7 hn_7 hm_7 hu_7 => ?_)
              obtain ⟨rfl, rfl, rfl, rfl⟩ := hp_7
              refine g_callq0 hC (g_runS hC (met_J1_parentOf (τ := (tc w1 g2 true)) hTw (some g2) (v := some k_) (Eq.trans rfl hp3) (fun _ y => by cases y; exact hg2)) (lw_S q1568 q1569 q85 q1570) md_J1_parentOf dJ1_fixAfterInsertion_237 rfl ⟨by omega, by omega⟩ (by omega) (by omega) rfl (Nat.le_of_ble_eq_true rfl)) (fun r_8 G_8 n_8 u_8 hp_8 hn_8 hm_8 hu_8 => ?_)
              obtain ⟨rfl, rfl, rfl, rfl⟩ := hp_8
              refine g_iconst (v := 0) hC dJ1_fixAfterInsertion_240 rfl ?_
              refine g_callv0 hC (g_runS hC (met_J1_setColor (τ := (tc w1 g2 true)) hTw (some k_) false (τ2 := (tc (tc w1 g2 true) k_ false)) rfl (fun _ y => by cases y; exact hk3)) (lw_S q1580 q1581 q85 q1582) md_J1_setColor dJ1_fixAfterInsertion_241 rfl ⟨by omega, by omega⟩ (by omega) (by omega) rfl (Nat.le_of_ble_eq_true rfl)) (fun G_9 n_9 u_9 hp_9 hn_9 hm_9 hu_9 => ?_)
              obtain ⟨rfl, rfl, rfl⟩ := hp_9
              refine g_aload_n hC dJ1_fixAfterInsertion_244 rfl 1 rfl ?_
              refine g_aload_n hC dJ1_fixAfterInsertion_245 rfl 0 rfl ?_
              refine g_callq0 hC (g_runS hC (met_J1_parentOf (τ := (tc (tc w1 g2 true) k_ false)) hTw (some x2) (v := some g2) (Eq.trans rfl (Eq.trans rfl hp2)) (fun _ y => by cases y; exact hx2)) (lw_S q1568 q1569 q85 q1570) md_J1_parentOf dJ1_fixAfterInsertion_246 rfl ⟨by omega, by omega⟩ (by omega) (by omega) rfl (Nat.le_of_ble_eq_true rfl)) (fun r_10 G_10 n_10 u_10 hp_10 hn_10 hm_10 hu_10 => ?_)
              obtain ⟨rfl, rfl, rfl, rfl⟩ := hp_10
              refine g_callq0 hC (g_runS hC (met_J1_parentOf (τ := (tc (tc w1 g2 true) k_ false)) hTw (some g2) (v := some k_) (Eq.trans rfl (Eq.trans rfl hp3)) (fun _ y => by cases y; exact hg2)) (lw_S q1568 q1569 q85 q1570) md_J1_parentOf dJ1_fixAfterInsertion_249 rfl ⟨by omega, by omega⟩ (by omega) (by omega) rfl (Nat.le_of_ble_eq_true rfl)) (fun r_11 G_11 n_11 u_11 hp_11 hn_11 hm_11 hu_11 => ?_)
              obtain ⟨rfl, rfl, rfl, rfl⟩ := hp_11
              refine g_callv0 hC (g_runV hC (met_J1_rotateLeft (τ := (tc (tc w1 g2 true) k_ false)) hTw k_ (r_ := g2) hW2 hk3 hl2) kc_J1 tG_h (lw_V q1583 q1585 qs8 q85 q1586) rfl md_J1_rotateLeft dJ1_fixAfterInsertion_252 rfl ⟨by omega, by omega⟩ (by omega) (by omega) rfl (Nat.le_of_ble_eq_true rfl)) (fun G_12 n_12 u_12 hp_12 hn_12 hm_12 hu_12 => ?_)
              obtain ⟨rfl, rfl, rfl⟩ := hp_12
              refine g_goto (tgt := 5) hC dJ1_fixAfterInsertion_255 (by decide) ?_
              exact ih_ (rotL (tc (tc w1 g2 true) k_ false) k_ g2) (qL q3 k_ g2) x2 true (rotL_ok (τ := (tc (tc w1 g2 true) k_ false)) hW2 hk3 hl2) (hq2) (hK2.c.c.trans (rotL_K (τ := (tc (tc w1 g2 true) k_ false)) hW2 hk3 hl2).1) (by rw [(rotL_K (τ := (tc (tc w1 g2 true) k_ false)) hW2 hk3 hl2).2]; exact hx2) (fun r_ e_ _ => by rw [(rotL_K (τ := (tc (tc w1 g2 true) k_ false)) hW2 hk3 hl2).2]; have e2 : some r_ = if w1.1 4 k_ = none then some g2 else w1.1 5 0 := e_.symm.trans (rotL_5 (τ := (tc (tc w1 g2 true) k_ false)) hW2 hk3 hl2); have a1 := hW2.ht r_; have a2 := hrb r_; have a3 : w1.2.1 r_ = z.2.1 r_ := (by rw [hs2]); show (if r_ = k_ then false else if r_ = g2 then true else w1.2.1 r_) = true; have hgk : g2 ≠ k_ := (fun e_ => by have := hW2.up hg2 hp3; rw [e_] at this; omega); grind) (fun _ r_ e_ => by rw [(rotL_K (τ := (tc (tc w1 g2 true) k_ false)) hW2 hk3 hl2).2]; have e2 : some r_ = if x2 = k_ then some g2 else if x2 = g2 then w1.1 4 k_ else if w1.1 2 g2 = some x2 then some k_ else w1.1 4 x2 := e_.symm.trans (rotL_P (τ := (tc (tc w1 g2 true) k_ false)) hW2 hk3 hl2 x2 hx2); show (if r_ = k_ then false else if r_ = g2 then true else w1.2.1 r_) = true; have a1 := hW2.hl g2 x2 hg2; have a2 := hW2.hr g2 x2 hg2 hl3; have a3 := hW2.h0 x2 hx2; have a4 := hW2.h0 g2 hg2; have b1 := hW2.up hg2 hp3; have b2 := hW2.up hx2 hp2; grind) (by show 0 < kf_; omega)
            refine g_aload_n hC dJ1_fixAfterInsertion_151 rfl 0 rfl ?_
            refine g_callq0 hC (g_runS hC (met_J1_parentOf (τ := z) hTz (some x) (v := some g) h21 (fun _ y => by cases y; exact hx)) (lw_S q1568 q1569 q85 q1570) md_J1_parentOf dJ1_fixAfterInsertion_152 rfl ⟨by omega, by omega⟩ (by omega) (by omega) rfl (Nat.le_of_ble_eq_true rfl)) (fun r_13 G_13 n_13 u_13 hp_13 hn_13 hm_13 hu_13 => ?_)
            obtain ⟨rfl, rfl, rfl, rfl⟩ := hp_13
            refine g_callq0 hC (g_runS hC (met_J1_parentOf (τ := z) hTz (some g) (v := some k_) h24 (fun _ y => by cases y; exact hSg)) (lw_S q1568 q1569 q85 q1570) md_J1_parentOf dJ1_fixAfterInsertion_155 rfl ⟨by omega, by omega⟩ (by omega) (by omega) rfl (Nat.le_of_ble_eq_true rfl)) (fun r_14 G_14 n_14 u_14 hp_14 hn_14 hm_14 hu_14 => ?_)
            obtain ⟨rfl, rfl, rfl, rfl⟩ := hp_14
            refine g_callq0 hC (g_runS hC (met_J1_leftOf (τ := z) hTz (some k_) (v := z.1 2 k_) rfl (fun _ y => by cases y; exact hSk)) (lw_S q1571 q1572 q85 q1573) md_J1_leftOf dJ1_fixAfterInsertion_158 rfl ⟨by omega, by omega⟩ (by omega) (by omega) rfl (Nat.le_of_ble_eq_true rfl)) (fun r_15 G_15 n_15 u_15 hp_15 hn_15 hm_15 hu_15 => ?_)
            obtain ⟨rfl, rfl, rfl, rfl⟩ := hp_15
            rcases h54 : z.1 2 k_ with _ | y_
            · refine g_astore_nN (L' := [(2, .null), (1, .ref x), (0, .ref t)]) hC dJ1_fixAfterInsertion_161 rfl (by decide) rfl ?_
              refine g_aload_nN hC dJ1_fixAfterInsertion_162 rfl 0 rfl ?_
              refine g_calli0 hC (g_runS hC (met_J1_colorOf (τ := z) hTz (none) (v := true) rfl (fun _ y => nomatch y)) (lw_S q1577 q1578 q85 q1579) md_J1_colorOf dJ1_fixAfterInsertion_163 rfl ⟨by omega, by omega⟩ (by omega) (by omega) rfl (Nat.le_of_ble_eq_true rfl)) (fun r_16 G_16 n_16 u_16 hp_16 hn_16 hm_16 hu_16 => ?_)
              obtain ⟨rfl, rfl, rfl, rfl⟩ := hp_16
              refine g_if_neB hC true dJ1_fixAfterInsertion_166 (tgt := 204) (by decide) (fun c_166 => ?_) (fun c_166 => ?_)
              · refine g_aload_n hC dJ1_fixAfterInsertion_204 rfl 1 rfl ?_
                refine g_aload_n hC dJ1_fixAfterInsertion_205 rfl 1 rfl ?_
                refine g_callq0 hC (g_runS hC (met_J1_parentOf (τ := z) hTz (some x) (v := some g) h21 (fun _ y => by cases y; exact hx)) (lw_S q1568 q1569 q85 q1570) md_J1_parentOf dJ1_fixAfterInsertion_206 rfl ⟨by omega, by omega⟩ (by omega) (by omega) rfl (Nat.le_of_ble_eq_true rfl)) (fun r_17 G_17 n_17 u_17 hp_17 hn_17 hm_17 hu_17 => ?_)
                obtain ⟨rfl, rfl, rfl, rfl⟩ := hp_17
                refine g_callq0 hC (g_runS hC (met_J1_leftOf (τ := z) hTz (some g) (v := z.1 2 g) rfl (fun _ y => by cases y; exact hSg)) (lw_S q1571 q1572 q85 q1573) md_J1_leftOf dJ1_fixAfterInsertion_209 rfl ⟨by omega, by omega⟩ (by omega) (by omega) rfl (Nat.le_of_ble_eq_true rfl)) (fun r_18 G_18 n_18 u_18 hp_18 hn_18 hm_18 hu_18 => ?_)
                obtain ⟨rfl, rfl, rfl, rfl⟩ := hp_18
                refine g_acmp_ne (rx := some x) (ry := z.1 2 g) hC dJ1_fixAfterInsertion_212 (tgt := 225) (by decide) (fun c_212 => ?_) (fun c_212 => ?_)
                · refine V.sub [1, 2] rfl ?_
                  exact hj_225 z q2 x g (hW) (hq) (hK) (hx) (hSg) (hSk) (rfl) (h21) (h24) (hkl) (hgg.2.resolve_left (fun y => c_212 y.symm)) (rfl)
                · have hgr : z.1 2 g = some x := c_212.symm
                  refine g_aload_n hC dJ1_fixAfterInsertion_215 rfl 1 rfl ?_
                  refine g_callq0 hC (g_runS hC (met_J1_parentOf (τ := z) hTz (some x) (v := some g) h21 (fun _ y => by cases y; exact hx)) (lw_S q1568 q1569 q85 q1570) md_J1_parentOf dJ1_fixAfterInsertion_216 rfl ⟨by omega, by omega⟩ (by omega) (by omega) rfl (Nat.le_of_ble_eq_true rfl)) (fun r_19 G_19 n_19 u_19 hp_19 hn_19 hm_19 hu_19 => ?_)
                  obtain ⟨rfl, rfl, rfl, rfl⟩ := hp_19
                  refine g_astore_n (L' := [(1, .ref g), (2, .null), (0, .ref t)]) hC dJ1_fixAfterInsertion_219 rfl (by decide) rfl ?_
                  refine g_aload_n hC dJ1_fixAfterInsertion_220 rfl 2 rfl ?_
                  refine g_aload_n hC dJ1_fixAfterInsertion_221 rfl 0 rfl ?_
                  refine g_callv0 hC (g_runV hC (met_J1_rotateRight (τ := z) hTz g (r_ := x) hW hSg hgr) kc_J1 tG_h (lw_V q1587 q1589 qs9 q85 q1590) rfl md_J1_rotateRight dJ1_fixAfterInsertion_222 rfl ⟨by omega, by omega⟩ (by omega) (by omega) rfl (Nat.le_of_ble_eq_true rfl)) (fun G_20 n_20 u_20 hp_20 hn_20 hm_20 hu_20 => ?_)
                  obtain ⟨rfl, rfl, rfl⟩ := hp_20
                  refine V.sub [0, 2] rfl ?_
                  exact hj_225 (rotR z g x) (qR q2 g x) g x (rotR_ok hW hSg hgr) (hq) (hK.trans (rotR_K hW hSg hgr).1) (by rw [(rotR_K hW hSg hgr).2]; exact hSg) (by rw [(rotR_K hW hSg hgr).2]; exact hx) (by rw [(rotR_K hW hSg hgr).2]; exact hSk) ((rotR_K hW hSg hgr).2) (by rw [rotR_P hW hSg hgr g hSg, if_pos rfl]) (by rw [rotR_P hW hSg hgr x hx, if_neg hxg, if_pos rfl]; exact h24) (by rw [rotR_o hW hSg hgr k_ hSk, if_neg hkx, if_pos hkl]) (by rw [rotR_o hW hSg hgr x hx, if_pos rfl]) (by rw [rotR_5 hW hSg hgr, if_neg (by rw [h24]; exact fun y => nomatch y)])
              · exact Bool.noConfusion c_166
            · have hSy := (hW.hl k_ y_ hSk h54).1
              refine g_astore_n (L' := [(2, .ref y_), (1, .ref x), (0, .ref t)]) hC dJ1_fixAfterInsertion_161 rfl (by decide) rfl ?_
              refine g_aload_n hC dJ1_fixAfterInsertion_162 rfl 0 rfl ?_
              refine g_calli0 hC (g_runS hC (met_J1_colorOf (τ := z) hTz (some y_) (v := z.2.1 y_) rfl (fun _ y => by cases y; exact hSy)) (lw_S q1577 q1578 q85 q1579) md_J1_colorOf dJ1_fixAfterInsertion_163 rfl ⟨by omega, by omega⟩ (by omega) (by omega) rfl (Nat.le_of_ble_eq_true rfl)) (fun r_21 G_21 n_21 u_21 hp_21 hn_21 hm_21 hu_21 => ?_)
              obtain ⟨rfl, rfl, rfl, rfl⟩ := hp_21
              refine g_if_neB hC (z.2.1 y_) dJ1_fixAfterInsertion_166 (tgt := 204) (by decide) (fun c_166 => ?_) (fun c_166 => ?_)
              · refine g_aload_n hC dJ1_fixAfterInsertion_204 rfl 1 rfl ?_
                refine g_aload_n hC dJ1_fixAfterInsertion_205 rfl 1 rfl ?_
                refine g_callq0 hC (g_runS hC (met_J1_parentOf (τ := z) hTz (some x) (v := some g) h21 (fun _ y => by cases y; exact hx)) (lw_S q1568 q1569 q85 q1570) md_J1_parentOf dJ1_fixAfterInsertion_206 rfl ⟨by omega, by omega⟩ (by omega) (by omega) rfl (Nat.le_of_ble_eq_true rfl)) (fun r_22 G_22 n_22 u_22 hp_22 hn_22 hm_22 hu_22 => ?_)
                obtain ⟨rfl, rfl, rfl, rfl⟩ := hp_22
                refine g_callq0 hC (g_runS hC (met_J1_leftOf (τ := z) hTz (some g) (v := z.1 2 g) rfl (fun _ y => by cases y; exact hSg)) (lw_S q1571 q1572 q85 q1573) md_J1_leftOf dJ1_fixAfterInsertion_209 rfl ⟨by omega, by omega⟩ (by omega) (by omega) rfl (Nat.le_of_ble_eq_true rfl)) (fun r_23 G_23 n_23 u_23 hp_23 hn_23 hm_23 hu_23 => ?_)
                obtain ⟨rfl, rfl, rfl, rfl⟩ := hp_23
                refine g_acmp_ne (rx := some x) (ry := z.1 2 g) hC dJ1_fixAfterInsertion_212 (tgt := 225) (by decide) (fun c_212 => ?_) (fun c_212 => ?_)
                · refine V.sub [1, 2] rfl ?_
                  exact hj_225 z q2 x g (hW) (hq) (hK) (hx) (hSg) (hSk) (rfl) (h21) (h24) (hkl) (hgg.2.resolve_left (fun y => c_212 y.symm)) (rfl)
                · have hgr : z.1 2 g = some x := c_212.symm
                  refine g_aload_n hC dJ1_fixAfterInsertion_215 rfl 1 rfl ?_
                  refine g_callq0 hC (g_runS hC (met_J1_parentOf (τ := z) hTz (some x) (v := some g) h21 (fun _ y => by cases y; exact hx)) (lw_S q1568 q1569 q85 q1570) md_J1_parentOf dJ1_fixAfterInsertion_216 rfl ⟨by omega, by omega⟩ (by omega) (by omega) rfl (Nat.le_of_ble_eq_true rfl)) (fun r_24 G_24 n_24 u_24 hp_24 hn_24 hm_24 hu_24 => ?_)
                  obtain ⟨rfl, rfl, rfl, rfl⟩ := hp_24
                  refine g_astore_n (L' := [(1, .ref g), (2, .ref y_), (0, .ref t)]) hC dJ1_fixAfterInsertion_219 rfl (by decide) rfl ?_
                  refine g_aload_n hC dJ1_fixAfterInsertion_220 rfl 2 rfl ?_
                  refine g_aload_n hC dJ1_fixAfterInsertion_221 rfl 0 rfl ?_
                  refine g_callv0 hC (g_runV hC (met_J1_rotateRight (τ := z) hTz g (r_ := x) hW hSg hgr) kc_J1 tG_h (lw_V q1587 q1589 qs9 q85 q1590) rfl md_J1_rotateRight dJ1_fixAfterInsertion_222 rfl ⟨by omega, by omega⟩ (by omega) (by omega) rfl (Nat.le_of_ble_eq_true rfl)) (fun G_25 n_25 u_25 hp_25 hn_25 hm_25 hu_25 => ?_)
                  obtain ⟨rfl, rfl, rfl⟩ := hp_25
                  refine V.sub [0, 2] rfl ?_
                  exact hj_225 (rotR z g x) (qR q2 g x) g x (rotR_ok hW hSg hgr) (hq) (hK.trans (rotR_K hW hSg hgr).1) (by rw [(rotR_K hW hSg hgr).2]; exact hSg) (by rw [(rotR_K hW hSg hgr).2]; exact hx) (by rw [(rotR_K hW hSg hgr).2]; exact hSk) ((rotR_K hW hSg hgr).2) (by rw [rotR_P hW hSg hgr g hSg, if_pos rfl]) (by rw [rotR_P hW hSg hgr x hx, if_neg hxg, if_pos rfl]; exact h24) (by rw [rotR_o hW hSg hgr k_ hSk, if_neg hkx, if_pos hkl]) (by rw [rotR_o hW hSg hgr x hx, if_pos rfl]) (by rw [rotR_5 hW hSg hgr, if_neg (by rw [h24]; exact fun y => nomatch y)])
              · refine g_aload_n hC dJ1_fixAfterInsertion_169 rfl 1 rfl ?_
                refine g_callq0 hC (g_runS hC (met_J1_parentOf (τ := z) hTz (some x) (v := some g) h21 (fun _ y => by cases y; exact hx)) (lw_S q1568 q1569 q85 q1570) md_J1_parentOf dJ1_fixAfterInsertion_170 rfl ⟨by omega, by omega⟩ (by omega) (by omega) rfl (Nat.le_of_ble_eq_true rfl)) (fun r_26 G_26 n_26 u_26 hp_26 hn_26 hm_26 hu_26 => ?_)
                obtain ⟨rfl, rfl, rfl, rfl⟩ := hp_26
                refine g_iconst (v := 1) hC dJ1_fixAfterInsertion_173 rfl ?_
                refine g_callv0 hC (g_runS hC (met_J1_setColor (τ := z) hTz (some g) true (τ2 := (tc z g true)) rfl (fun _ y => by cases y; exact hSg)) (lw_S q1580 q1581 q85 q1582) md_J1_setColor dJ1_fixAfterInsertion_174 rfl ⟨by omega, by omega⟩ (by omega) (by omega) rfl (Nat.le_of_ble_eq_true rfl)) (fun G_27 n_27 u_27 hp_27 hn_27 hm_27 hu_27 => ?_)
                obtain ⟨rfl, rfl, rfl⟩ := hp_27
                refine g_aload_n hC dJ1_fixAfterInsertion_177 rfl 0 rfl ?_
                refine g_iconst (v := 1) hC dJ1_fixAfterInsertion_178 rfl ?_
                refine g_callv0 hC (g_runS hC (met_J1_setColor (τ := (tc z g true)) hTz (some y_) true (τ2 := (tc (tc z g true) y_ true)) rfl (fun _ y => by cases y; exact hSy)) (lw_S q1580 q1581 q85 q1582) md_J1_setColor dJ1_fixAfterInsertion_179 rfl ⟨by omega, by omega⟩ (by omega) (by omega) rfl (Nat.le_of_ble_eq_true rfl)) (fun G_28 n_28 u_28 hp_28 hn_28 hm_28 hu_28 => ?_)
                obtain ⟨rfl, rfl, rfl⟩ := hp_28
                refine g_aload_n hC dJ1_fixAfterInsertion_182 rfl 1 rfl ?_
                refine g_callq0 hC (g_runS hC (met_J1_parentOf (τ := (tc (tc z g true) y_ true)) hTz (some x) (v := some g) (Eq.trans rfl (Eq.trans rfl h21)) (fun _ y => by cases y; exact hx)) (lw_S q1568 q1569 q85 q1570) md_J1_parentOf dJ1_fixAfterInsertion_183 rfl ⟨by omega, by omega⟩ (by omega) (by omega) rfl (Nat.le_of_ble_eq_true rfl)) (fun r_29 G_29 n_29 u_29 hp_29 hn_29 hm_29 hu_29 => ?_)
                obtain ⟨rfl, rfl, rfl, rfl⟩ := hp_29
                refine g_callq0 hC (g_runS hC (met_J1_parentOf (τ := (tc (tc z g true) y_ true)) hTz (some g) (v := some k_) (Eq.trans rfl (Eq.trans rfl h24)) (fun _ y => by cases y; exact hSg)) (lw_S q1568 q1569 q85 q1570) md_J1_parentOf dJ1_fixAfterInsertion_186 rfl ⟨by omega, by omega⟩ (by omega) (by omega) rfl (Nat.le_of_ble_eq_true rfl)) (fun r_30 G_30 n_30 u_30 hp_30 hn_30 hm_30 hu_30 => ?_)
                obtain ⟨rfl, rfl, rfl, rfl⟩ := hp_30
                refine g_iconst (v := 0) hC dJ1_fixAfterInsertion_189 rfl ?_
                refine g_callv0 hC (g_runS hC (met_J1_setColor (τ := (tc (tc z g true) y_ true)) hTz (some k_) false (τ2 := (tc (tc (tc z g true) y_ true) k_ false)) rfl (fun _ y => by cases y; exact hSk)) (lw_S q1580 q1581 q85 q1582) md_J1_setColor dJ1_fixAfterInsertion_190 rfl ⟨by omega, by omega⟩ (by omega) (by omega) rfl (Nat.le_of_ble_eq_true rfl)) (fun G_31 n_31 u_31 hp_31 hn_31 hm_31 hu_31 => ?_)
                obtain ⟨rfl, rfl, rfl⟩ := hp_31
                refine g_aload_n hC dJ1_fixAfterInsertion_193 rfl 1 rfl ?_
                refine g_callq0 hC (g_runS hC (met_J1_parentOf (τ := (tc (tc (tc z g true) y_ true) k_ false)) hTz (some x) (v := some g) (Eq.trans rfl (Eq.trans rfl (Eq.trans rfl h21))) (fun _ y => by cases y; exact hx)) (lw_S q1568 q1569 q85 q1570) md_J1_parentOf dJ1_fixAfterInsertion_194 rfl ⟨by omega, by omega⟩ (by omega) (by omega) rfl (Nat.le_of_ble_eq_true rfl)) (fun r_32 G_32 n_32 u_32 hp_32 hn_32 hm_32 hu_32 => ?_)
                obtain ⟨rfl, rfl, rfl, rfl⟩ := hp_32
                refine g_callq0 hC (g_runS hC (met_J1_parentOf (τ := (tc (tc (tc z g true) y_ true) k_ false)) hTz (some g) (v := some k_) (Eq.trans rfl (Eq.trans rfl (Eq.trans rfl h24))) (fun _ y => by cases y; exact hSg)) (lw_S q1568 q1569 q85 q1570) md_J1_parentOf dJ1_fixAfterInsertion_197 rfl ⟨by omega, by omega⟩ (by omega) (by omega) rfl (Nat.le_of_ble_eq_true rfl)) (fun r_33 G_33 n_33 u_33 hp_33 hn_33 hm_33 hu_33 => ?_)
                obtain ⟨rfl, rfl, rfl, rfl⟩ := hp_33
                refine g_astore_n (L' := [(1, .ref k_), (2, .ref y_), (0, .ref t)]) hC dJ1_fixAfterInsertion_200 rfl (by decide) rfl ?_
                refine g_goto (tgt := 255) hC dJ1_fixAfterInsertion_201 (by decide) ?_
                refine g_goto (tgt := 5) hC dJ1_fixAfterInsertion_255 (by decide) ?_
                refine V.sub [0, 2] rfl ?_
                exact ih_ (tc (tc (tc z g true) y_ true) k_ false) q2 k_ false (hW) (hq) (hK.c.c.c) (hSk) (fun r_ e_ hne => by have h8 := hrb r_ e_; simp only [tc]; grind) (fun e_ => Bool.noConfusion e_) (by have j1 := hW.up hx h21; have j2 := hW.up hSg h24; have j3 := hW.h0 k_ hSk; show ((HI - LO) - (q2.2.2 k_ - q2.2.1 k_)).toNat + 1 < kf_; omega)
          · have hkl : z.1 2 k_ = some g := c_41.symm
            have hj_118 : ∀ (w1 : TS) (q3 : TQ) (x2 : Nat) (g2 : Nat), (TW w1 q3 LO HI) → (q3.1 = q.1) → (TK τ w1) → (w1.2.2.2 x2 = true) → (w1.2.2.2 g2 = true) → (w1.2.2.2 k_ = true) → (w1.2 = z.2) → (w1.1 4 x2 = some g2) → (w1.1 4 g2 = some k_) → (w1.1 2 k_ = some g2) → (w1.1 2 g2 = some x2) → (w1.1 5 0 = z.1 5 0) → V Y p l e R s m args below meth c 3 n u (tG t w1 B) n u Q 118 [(1, .ref x2), (0, .ref t)] [] := by
              intro w1 q3 x2 g2 hW2 hq2 hK2 hx2 hg2 hk3 hs2 hp2 hp3 hl2 hl3 hr5
              have hTw := hK2.T hT
              refine g_aload_n hC dJ1_fixAfterInsertion_118 rfl 0 rfl ?_
              refine g_callq0 hC (g_runS hC (met_J1_parentOf (τ := w1) hTw (some x2) (v := some g2) hp2 (fun _ y => by cases y; exact hx2)) (lw_S q1568 q1569 q85 q1570) md_J1_parentOf dJ1_fixAfterInsertion_119 rfl ⟨by omega, by omega⟩ (by omega) (by omega) rfl (Nat.le_of_ble_eq_true rfl)) (fun r_34 G_34 n_34 u_34 hp_34 hn_34 hm_34 hu_34 => ?_)
              obtain ⟨rfl, rfl, rfl, rfl⟩ := hp_34
              refine g_iconst (v := 1) hC dJ1_fixAfterInsertion_122 rfl ?_
              refine g_callv0 hC (g_runS hC (met_J1_setColor (τ := w1) hTw (some g2) true (τ2 := (tc w1 g2 true)) rfl (fun _ y => by cases y; exact hg2)) (lw_S q1580 q1581 q85 q1582) md_J1_setColor dJ1_fixAfterInsertion_123 rfl ⟨by omega, by omega⟩ (by omega) (by omega) rfl (Nat.le_of_ble_eq_true rfl)) (fun G_35 n_35 u_35 hp_35 hn_35 hm_35 hu_35 => ?_)
              obtain ⟨rfl, rfl, rfl⟩ := hp_35
              refine g_aload_n hC dJ1_fixAfterInsertion_126 rfl 0 rfl ?_
              refine g_callq0 hC (g_runS hC (met_J1_parentOf (τ := (tc w1 g2 true)) hTw (some x2) (v := some g2) (Eq.trans rfl hp2) (fun _ y => by cases y; exact hx2)) (lw_S q1568 q1569 q85 q1570) md_J1_parentOf dJ1_fixAfterInsertion_127 rfl ⟨by omega, by omega⟩ (by omega) (by omega) rfl (Nat.le_of_ble_eq_true rfl)) (fun r_36 G_36 n_36 u_36 hp_36 hn_36 hm_36 hu_36 => ?_)
              obtain ⟨rfl, rfl, rfl, rfl⟩ := hp_36
              refine g_callq0 hC (g_runS hC (met_J1_parentOf (τ := (tc w1 g2 true)) hTw (some g2) (v := some k_) (Eq.trans rfl hp3) (fun _ y => by cases y; exact hg2)) (lw_S q1568 q1569 q85 q1570) md_J1_parentOf dJ1_fixAfterInsertion_130 rfl ⟨by omega, by omega⟩ (by omega) (by omega) rfl (Nat.le_of_ble_eq_true rfl)) (fun r_37 G_37 n_37 u_37 hp_37 hn_37 hm_37 hu_37 => ?_)
              obtain ⟨rfl, rfl, rfl, rfl⟩ := hp_37
              refine g_iconst (v := 0) hC dJ1_fixAfterInsertion_133 rfl ?_
              refine g_callv0 hC (g_runS hC (met_J1_setColor (τ := (tc w1 g2 true)) hTw (some k_) false (τ2 := (tc (tc w1 g2 true) k_ false)) rfl (fun _ y => by cases y; exact hk3)) (lw_S q1580 q1581 q85 q1582) md_J1_setColor dJ1_fixAfterInsertion_134 rfl ⟨by omega, by omega⟩ (by omega) (by omega) rfl (Nat.le_of_ble_eq_true rfl)) (fun G_38 n_38 u_38 hp_38 hn_38 hm_38 hu_38 => ?_)
              obtain ⟨rfl, rfl, rfl⟩ := hp_38
              refine g_aload_n hC dJ1_fixAfterInsertion_137 rfl 1 rfl ?_
              refine g_aload_n hC dJ1_fixAfterInsertion_138 rfl 0 rfl ?_
              refine g_callq0 hC (g_runS hC (met_J1_parentOf (τ := (tc (tc w1 g2 true) k_ false)) hTw (some x2) (v := some g2) (Eq.trans rfl (Eq.trans rfl hp2)) (fun _ y => by cases y; exact hx2)) (lw_S q1568 q1569 q85 q1570) md_J1_parentOf dJ1_fixAfterInsertion_139 rfl ⟨by omega, by omega⟩ (by omega) (by omega) rfl (Nat.le_of_ble_eq_true rfl)) (fun r_39 G_39 n_39 u_39 hp_39 hn_39 hm_39 hu_39 => ?_)
              obtain ⟨rfl, rfl, rfl, rfl⟩ := hp_39
              refine g_callq0 hC (g_runS hC (met_J1_parentOf (τ := (tc (tc w1 g2 true) k_ false)) hTw (some g2) (v := some k_) (Eq.trans rfl (Eq.trans rfl hp3)) (fun _ y => by cases y; exact hg2)) (lw_S q1568 q1569 q85 q1570) md_J1_parentOf dJ1_fixAfterInsertion_142 rfl ⟨by omega, by omega⟩ (by omega) (by omega) rfl (Nat.le_of_ble_eq_true rfl)) (fun r_40 G_40 n_40 u_40 hp_40 hn_40 hm_40 hu_40 => ?_)
              obtain ⟨rfl, rfl, rfl, rfl⟩ := hp_40
              refine g_callv0 hC (g_runV hC (met_J1_rotateRight (τ := (tc (tc w1 g2 true) k_ false)) hTw k_ (r_ := g2) hW2 hk3 hl2) kc_J1 tG_h (lw_V q1587 q1589 qs9 q85 q1590) rfl md_J1_rotateRight dJ1_fixAfterInsertion_145 rfl ⟨by omega, by omega⟩ (by omega) (by omega) rfl (Nat.le_of_ble_eq_true rfl)) (fun G_41 n_41 u_41 hp_41 hn_41 hm_41 hu_41 => ?_)
              obtain ⟨rfl, rfl, rfl⟩ := hp_41
              refine g_goto (tgt := 5) hC dJ1_fixAfterInsertion_148 (by decide) ?_
              exact ih_ (rotR (tc (tc w1 g2 true) k_ false) k_ g2) (qR q3 k_ g2) x2 true (rotR_ok (τ := (tc (tc w1 g2 true) k_ false)) hW2 hk3 hl2) (hq2) (hK2.c.c.trans (rotR_K (τ := (tc (tc w1 g2 true) k_ false)) hW2 hk3 hl2).1) (by rw [(rotR_K (τ := (tc (tc w1 g2 true) k_ false)) hW2 hk3 hl2).2]; exact hx2) (fun r_ e_ _ => by rw [(rotR_K (τ := (tc (tc w1 g2 true) k_ false)) hW2 hk3 hl2).2]; have e2 : some r_ = if w1.1 4 k_ = none then some g2 else w1.1 5 0 := e_.symm.trans (rotR_5 (τ := (tc (tc w1 g2 true) k_ false)) hW2 hk3 hl2); have a1 := hW2.ht r_; have a2 := hrb r_; have a3 : w1.2.1 r_ = z.2.1 r_ := (by rw [hs2]); show (if r_ = k_ then false else if r_ = g2 then true else w1.2.1 r_) = true; have hgk : g2 ≠ k_ := (fun e_ => by have := hW2.up hg2 hp3; rw [e_] at this; omega); grind) (fun _ r_ e_ => by rw [(rotR_K (τ := (tc (tc w1 g2 true) k_ false)) hW2 hk3 hl2).2]; have e2 : some r_ = if x2 = k_ then some g2 else if x2 = g2 then w1.1 4 k_ else if w1.1 3 g2 = some x2 then some k_ else w1.1 4 x2 := e_.symm.trans (rotR_P (τ := (tc (tc w1 g2 true) k_ false)) hW2 hk3 hl2 x2 hx2); show (if r_ = k_ then false else if r_ = g2 then true else w1.2.1 r_) = true; have a1 := hW2.hr g2 x2 hg2; have a2 := hW2.hl g2 x2 hg2 hl3; have a3 := hW2.h0 x2 hx2; have a4 := hW2.h0 g2 hg2; have b1 := hW2.up hg2 hp3; have b2 := hW2.up hx2 hp2; grind) (by show 0 < kf_; omega)
            refine g_aload_n hC dJ1_fixAfterInsertion_44 rfl 0 rfl ?_
            refine g_callq0 hC (g_runS hC (met_J1_parentOf (τ := z) hTz (some x) (v := some g) h21 (fun _ y => by cases y; exact hx)) (lw_S q1568 q1569 q85 q1570) md_J1_parentOf dJ1_fixAfterInsertion_45 rfl ⟨by omega, by omega⟩ (by omega) (by omega) rfl (Nat.le_of_ble_eq_true rfl)) (fun r_42 G_42 n_42 u_42 hp_42 hn_42 hm_42 hu_42 => ?_)
            obtain ⟨rfl, rfl, rfl, rfl⟩ := hp_42
            refine g_callq0 hC (g_runS hC (met_J1_parentOf (τ := z) hTz (some g) (v := some k_) h24 (fun _ y => by cases y; exact hSg)) (lw_S q1568 q1569 q85 q1570) md_J1_parentOf dJ1_fixAfterInsertion_48 rfl ⟨by omega, by omega⟩ (by omega) (by omega) rfl (Nat.le_of_ble_eq_true rfl)) (fun r_43 G_43 n_43 u_43 hp_43 hn_43 hm_43 hu_43 => ?_)
            obtain ⟨rfl, rfl, rfl, rfl⟩ := hp_43
            refine g_callq0 hC (g_runS hC (met_J1_rightOf (τ := z) hTz (some k_) (v := z.1 3 k_) rfl (fun _ y => by cases y; exact hSk)) (lw_S q1574 q1575 q85 q1576) md_J1_rightOf dJ1_fixAfterInsertion_51 rfl ⟨by omega, by omega⟩ (by omega) (by omega) rfl (Nat.le_of_ble_eq_true rfl)) (fun r_44 G_44 n_44 u_44 hp_44 hn_44 hm_44 hu_44 => ?_)
            obtain ⟨rfl, rfl, rfl, rfl⟩ := hp_44
            rcases h54 : z.1 3 k_ with _ | y_
            · refine g_astore_nN (L' := [(2, .null), (1, .ref x), (0, .ref t)]) hC dJ1_fixAfterInsertion_54 rfl (by decide) rfl ?_
              refine g_aload_nN hC dJ1_fixAfterInsertion_55 rfl 0 rfl ?_
              refine g_calli0 hC (g_runS hC (met_J1_colorOf (τ := z) hTz (none) (v := true) rfl (fun _ y => nomatch y)) (lw_S q1577 q1578 q85 q1579) md_J1_colorOf dJ1_fixAfterInsertion_56 rfl ⟨by omega, by omega⟩ (by omega) (by omega) rfl (Nat.le_of_ble_eq_true rfl)) (fun r_45 G_45 n_45 u_45 hp_45 hn_45 hm_45 hu_45 => ?_)
              obtain ⟨rfl, rfl, rfl, rfl⟩ := hp_45
              refine g_if_neB hC true dJ1_fixAfterInsertion_59 (tgt := 97) (by decide) (fun c_59 => ?_) (fun c_59 => ?_)
              · refine g_aload_n hC dJ1_fixAfterInsertion_97 rfl 1 rfl ?_
                refine g_aload_n hC dJ1_fixAfterInsertion_98 rfl 1 rfl ?_
                refine g_callq0 hC (g_runS hC (met_J1_parentOf (τ := z) hTz (some x) (v := some g) h21 (fun _ y => by cases y; exact hx)) (lw_S q1568 q1569 q85 q1570) md_J1_parentOf dJ1_fixAfterInsertion_99 rfl ⟨by omega, by omega⟩ (by omega) (by omega) rfl (Nat.le_of_ble_eq_true rfl)) (fun r_46 G_46 n_46 u_46 hp_46 hn_46 hm_46 hu_46 => ?_)
                obtain ⟨rfl, rfl, rfl, rfl⟩ := hp_46
                refine g_callq0 hC (g_runS hC (met_J1_rightOf (τ := z) hTz (some g) (v := z.1 3 g) rfl (fun _ y => by cases y; exact hSg)) (lw_S q1574 q1575 q85 q1576) md_J1_rightOf dJ1_fixAfterInsertion_102 rfl ⟨by omega, by omega⟩ (by omega) (by omega) rfl (Nat.le_of_ble_eq_true rfl)) (fun r_47 G_47 n_47 u_47 hp_47 hn_47 hm_47 hu_47 => ?_)
                obtain ⟨rfl, rfl, rfl, rfl⟩ := hp_47
                refine g_acmp_ne (rx := some x) (ry := z.1 3 g) hC dJ1_fixAfterInsertion_105 (tgt := 118) (by decide) (fun c_105 => ?_) (fun c_105 => ?_)
                · refine V.sub [1, 2] rfl ?_
                  exact hj_118 z q2 x g (hW) (hq) (hK) (hx) (hSg) (hSk) (rfl) (h21) (h24) (hkl) (hgg.2.resolve_right (fun y => c_105 y.symm)) (rfl)
                · have hgr : z.1 3 g = some x := c_105.symm
                  refine g_aload_n hC dJ1_fixAfterInsertion_108 rfl 1 rfl ?_
                  refine g_callq0 hC (g_runS hC (met_J1_parentOf (τ := z) hTz (some x) (v := some g) h21 (fun _ y => by cases y; exact hx)) (lw_S q1568 q1569 q85 q1570) md_J1_parentOf dJ1_fixAfterInsertion_109 rfl ⟨by omega, by omega⟩ (by omega) (by omega) rfl (Nat.le_of_ble_eq_true rfl)) (fun r_48 G_48 n_48 u_48 hp_48 hn_48 hm_48 hu_48 => ?_)
                  obtain ⟨rfl, rfl, rfl, rfl⟩ := hp_48
                  refine g_astore_n (L' := [(1, .ref g), (2, .null), (0, .ref t)]) hC dJ1_fixAfterInsertion_112 rfl (by decide) rfl ?_
                  refine g_aload_n hC dJ1_fixAfterInsertion_113 rfl 2 rfl ?_
                  refine g_aload_n hC dJ1_fixAfterInsertion_114 rfl 0 rfl ?_
                  refine g_callv0 hC (g_runV hC (met_J1_rotateLeft (τ := z) hTz g (r_ := x) hW hSg hgr) kc_J1 tG_h (lw_V q1583 q1585 qs8 q85 q1586) rfl md_J1_rotateLeft dJ1_fixAfterInsertion_115 rfl ⟨by omega, by omega⟩ (by omega) (by omega) rfl (Nat.le_of_ble_eq_true rfl)) (fun G_49 n_49 u_49 hp_49 hn_49 hm_49 hu_49 => ?_)
                  obtain ⟨rfl, rfl, rfl⟩ := hp_49
                  refine V.sub [0, 2] rfl ?_
                  exact hj_118 (rotL z g x) (qL q2 g x) g x (rotL_ok hW hSg hgr) (hq) (hK.trans (rotL_K hW hSg hgr).1) (by rw [(rotL_K hW hSg hgr).2]; exact hSg) (by rw [(rotL_K hW hSg hgr).2]; exact hx) (by rw [(rotL_K hW hSg hgr).2]; exact hSk) ((rotL_K hW hSg hgr).2) (by rw [rotL_P hW hSg hgr g hSg, if_pos rfl]) (by rw [rotL_P hW hSg hgr x hx, if_neg hxg, if_pos rfl]; exact h24) (by rw [rotL_o hW hSg hgr k_ hSk, if_neg hkx, if_pos hkl]) (by rw [rotL_o hW hSg hgr x hx, if_pos rfl]) (by rw [rotL_5 hW hSg hgr, if_neg (by rw [h24]; exact fun y => nomatch y)])
              · exact Bool.noConfusion c_59
            · have hSy := (hW.hr k_ y_ hSk h54).1
              refine g_astore_n (L' := [(2, .ref y_), (1, .ref x), (0, .ref t)]) hC dJ1_fixAfterInsertion_54 rfl (by decide) rfl ?_
              refine g_aload_n hC dJ1_fixAfterInsertion_55 rfl 0 rfl ?_
              refine g_calli0 hC (g_runS hC (met_J1_colorOf (τ := z) hTz (some y_) (v := z.2.1 y_) rfl (fun _ y => by cases y; exact hSy)) (lw_S q1577 q1578 q85 q1579) md_J1_colorOf dJ1_fixAfterInsertion_56 rfl ⟨by omega, by omega⟩ (by omega) (by omega) rfl (Nat.le_of_ble_eq_true rfl)) (fun r_50 G_50 n_50 u_50 hp_50 hn_50 hm_50 hu_50 => ?_)
              obtain ⟨rfl, rfl, rfl, rfl⟩ := hp_50
              refine g_if_neB hC (z.2.1 y_) dJ1_fixAfterInsertion_59 (tgt := 97) (by decide) (fun c_59 => ?_) (fun c_59 => ?_)
              · refine g_aload_n hC dJ1_fixAfterInsertion_97 rfl 1 rfl ?_
                refine g_aload_n hC dJ1_fixAfterInsertion_98 rfl 1 rfl ?_
                refine g_callq0 hC (g_runS hC (met_J1_parentOf (τ := z) hTz (some x) (v := some g) h21 (fun _ y => by cases y; exact hx)) (lw_S q1568 q1569 q85 q1570) md_J1_parentOf dJ1_fixAfterInsertion_99 rfl ⟨by omega, by omega⟩ (by omega) (by omega) rfl (Nat.le_of_ble_eq_true rfl)) (fun r_51 G_51 n_51 u_51 hp_51 hn_51 hm_51 hu_51 => ?_)
                obtain ⟨rfl, rfl, rfl, rfl⟩ := hp_51
                refine g_callq0 hC (g_runS hC (met_J1_rightOf (τ := z) hTz (some g) (v := z.1 3 g) rfl (fun _ y => by cases y; exact hSg)) (lw_S q1574 q1575 q85 q1576) md_J1_rightOf dJ1_fixAfterInsertion_102 rfl ⟨by omega, by omega⟩ (by omega) (by omega) rfl (Nat.le_of_ble_eq_true rfl)) (fun r_52 G_52 n_52 u_52 hp_52 hn_52 hm_52 hu_52 => ?_)
                obtain ⟨rfl, rfl, rfl, rfl⟩ := hp_52
                refine g_acmp_ne (rx := some x) (ry := z.1 3 g) hC dJ1_fixAfterInsertion_105 (tgt := 118) (by decide) (fun c_105 => ?_) (fun c_105 => ?_)
                · refine V.sub [1, 2] rfl ?_
                  exact hj_118 z q2 x g (hW) (hq) (hK) (hx) (hSg) (hSk) (rfl) (h21) (h24) (hkl) (hgg.2.resolve_right (fun y => c_105 y.symm)) (rfl)
                · have hgr : z.1 3 g = some x := c_105.symm
                  refine g_aload_n hC dJ1_fixAfterInsertion_108 rfl 1 rfl ?_
                  refine g_callq0 hC (g_runS hC (met_J1_parentOf (τ := z) hTz (some x) (v := some g) h21 (fun _ y => by cases y; exact hx)) (lw_S q1568 q1569 q85 q1570) md_J1_parentOf dJ1_fixAfterInsertion_109 rfl ⟨by omega, by omega⟩ (by omega) (by omega) rfl (Nat.le_of_ble_eq_true rfl)) (fun r_53 G_53 n_53 u_53 hp_53 hn_53 hm_53 hu_53 => ?_)
                  obtain ⟨rfl, rfl, rfl, rfl⟩ := hp_53
                  refine g_astore_n (L' := [(1, .ref g), (2, .ref y_), (0, .ref t)]) hC dJ1_fixAfterInsertion_112 rfl (by decide) rfl ?_
                  refine g_aload_n hC dJ1_fixAfterInsertion_113 rfl 2 rfl ?_
                  refine g_aload_n hC dJ1_fixAfterInsertion_114 rfl 0 rfl ?_
                  refine g_callv0 hC (g_runV hC (met_J1_rotateLeft (τ := z) hTz g (r_ := x) hW hSg hgr) kc_J1 tG_h (lw_V q1583 q1585 qs8 q85 q1586) rfl md_J1_rotateLeft dJ1_fixAfterInsertion_115 rfl ⟨by omega, by omega⟩ (by omega) (by omega) rfl (Nat.le_of_ble_eq_true rfl)) (fun G_54 n_54 u_54 hp_54 hn_54 hm_54 hu_54 => ?_)
                  obtain ⟨rfl, rfl, rfl⟩ := hp_54
                  refine V.sub [0, 2] rfl ?_
                  exact hj_118 (rotL z g x) (qL q2 g x) g x (rotL_ok hW hSg hgr) (hq) (hK.trans (rotL_K hW hSg hgr).1) (by rw [(rotL_K hW hSg hgr).2]; exact hSg) (by rw [(rotL_K hW hSg hgr).2]; exact hx) (by rw [(rotL_K hW hSg hgr).2]; exact hSk) ((rotL_K hW hSg hgr).2) (by rw [rotL_P hW hSg hgr g hSg, if_pos rfl]) (by rw [rotL_P hW hSg hgr x hx, if_neg hxg, if_pos rfl]; exact h24) (by rw [rotL_o hW hSg hgr k_ hSk, if_neg hkx, if_pos hkl]) (by rw [rotL_o hW hSg hgr x hx, if_pos rfl]) (by rw [rotL_5 hW hSg hgr, if_neg (by rw [h24]; exact fun y => nomatch y)])
              · refine g_aload_n hC dJ1_fixAfterInsertion_62 rfl 1 rfl ?_
                refine g_callq0 hC (g_runS hC (met_J1_parentOf (τ := z) hTz (some x) (v := some g) h21 (fun _ y => by cases y; exact hx)) (lw_S q1568 q1569 q85 q1570) md_J1_parentOf dJ1_fixAfterInsertion_63 rfl ⟨by omega, by omega⟩ (by omega) (by omega) rfl (Nat.le_of_ble_eq_true rfl)) (fun r_55 G_55 n_55 u_55 hp_55 hn_55 hm_55 hu_55 => ?_)
                obtain ⟨rfl, rfl, rfl, rfl⟩ := hp_55
                refine g_iconst (v := 1) hC dJ1_fixAfterInsertion_66 rfl ?_
                refine g_callv0 hC (g_runS hC (met_J1_setColor (τ := z) hTz (some g) true (τ2 := (tc z g true)) rfl (fun _ y => by cases y; exact hSg)) (lw_S q1580 q1581 q85 q1582) md_J1_setColor dJ1_fixAfterInsertion_67 rfl ⟨by omega, by omega⟩ (by omega) (by omega) rfl (Nat.le_of_ble_eq_true rfl)) (fun G_56 n_56 u_56 hp_56 hn_56 hm_56 hu_56 => ?_)
                obtain ⟨rfl, rfl, rfl⟩ := hp_56
                refine g_aload_n hC dJ1_fixAfterInsertion_70 rfl 0 rfl ?_
                refine g_iconst (v := 1) hC dJ1_fixAfterInsertion_71 rfl ?_
                refine g_callv0 hC (g_runS hC (met_J1_setColor (τ := (tc z g true)) hTz (some y_) true (τ2 := (tc (tc z g true) y_ true)) rfl (fun _ y => by cases y; exact hSy)) (lw_S q1580 q1581 q85 q1582) md_J1_setColor dJ1_fixAfterInsertion_72 rfl ⟨by omega, by omega⟩ (by omega) (by omega) rfl (Nat.le_of_ble_eq_true rfl)) (fun G_57 n_57 u_57 hp_57 hn_57 hm_57 hu_57 => ?_)
                obtain ⟨rfl, rfl, rfl⟩ := hp_57
                refine g_aload_n hC dJ1_fixAfterInsertion_75 rfl 1 rfl ?_
                refine g_callq0 hC (g_runS hC (met_J1_parentOf (τ := (tc (tc z g true) y_ true)) hTz (some x) (v := some g) (Eq.trans rfl (Eq.trans rfl h21)) (fun _ y => by cases y; exact hx)) (lw_S q1568 q1569 q85 q1570) md_J1_parentOf dJ1_fixAfterInsertion_76 rfl ⟨by omega, by omega⟩ (by omega) (by omega) rfl (Nat.le_of_ble_eq_true rfl)) (fun r_58 G_58 n_58 u_58 hp_58 hn_58 hm_58 hu_58 => ?_)
                obtain ⟨rfl, rfl, rfl, rfl⟩ := hp_58
                refine g_callq0 hC (g_runS hC (met_J1_parentOf (τ := (tc (tc z g true) y_ true)) hTz (some g) (v := some k_) (Eq.trans rfl (Eq.trans rfl h24)) (fun _ y => by cases y; exact hSg)) (lw_S q1568 q1569 q85 q1570) md_J1_parentOf dJ1_fixAfterInsertion_79 rfl ⟨by omega, by omega⟩ (by omega) (by omega) rfl (Nat.le_of_ble_eq_true rfl)) (fun r_59 G_59 n_59 u_59 hp_59 hn_59 hm_59 hu_59 => ?_)
                obtain ⟨rfl, rfl, rfl, rfl⟩ := hp_59
                refine g_iconst (v := 0) hC dJ1_fixAfterInsertion_82 rfl ?_
                refine g_callv0 hC (g_runS hC (met_J1_setColor (τ := (tc (tc z g true) y_ true)) hTz (some k_) false (τ2 := (tc (tc (tc z g true) y_ true) k_ false)) rfl (fun _ y => by cases y; exact hSk)) (lw_S q1580 q1581 q85 q1582) md_J1_setColor dJ1_fixAfterInsertion_83 rfl ⟨by omega, by omega⟩ (by omega) (by omega) rfl (Nat.le_of_ble_eq_true rfl)) (fun G_60 n_60 u_60 hp_60 hn_60 hm_60 hu_60 => ?_)
                obtain ⟨rfl, rfl, rfl⟩ := hp_60
                refine g_aload_n hC dJ1_fixAfterInsertion_86 rfl 1 rfl ?_
                refine g_callq0 hC (g_runS hC (met_J1_parentOf (τ := (tc (tc (tc z g true) y_ true) k_ false)) hTz (some x) (v := some g) (Eq.trans rfl (Eq.trans rfl (Eq.trans rfl h21))) (fun _ y => by cases y; exact hx)) (lw_S q1568 q1569 q85 q1570) md_J1_parentOf dJ1_fixAfterInsertion_87 rfl ⟨by omega, by omega⟩ (by omega) (by omega) rfl (Nat.le_of_ble_eq_true rfl)) (fun r_61 G_61 n_61 u_61 hp_61 hn_61 hm_61 hu_61 => ?_)
                obtain ⟨rfl, rfl, rfl, rfl⟩ := hp_61
                refine g_callq0 hC (g_runS hC (met_J1_parentOf (τ := (tc (tc (tc z g true) y_ true) k_ false)) hTz (some g) (v := some k_) (Eq.trans rfl (Eq.trans rfl (Eq.trans rfl h24))) (fun _ y => by cases y; exact hSg)) (lw_S q1568 q1569 q85 q1570) md_J1_parentOf dJ1_fixAfterInsertion_90 rfl ⟨by omega, by omega⟩ (by omega) (by omega) rfl (Nat.le_of_ble_eq_true rfl)) (fun r_62 G_62 n_62 u_62 hp_62 hn_62 hm_62 hu_62 => ?_)
                obtain ⟨rfl, rfl, rfl, rfl⟩ := hp_62
                refine g_astore_n (L' := [(1, .ref k_), (2, .ref y_), (0, .ref t)]) hC dJ1_fixAfterInsertion_93 rfl (by decide) rfl ?_
                refine g_goto (tgt := 148) hC dJ1_fixAfterInsertion_94 (by decide) ?_
                refine g_goto (tgt := 5) hC dJ1_fixAfterInsertion_148 (by decide) ?_
                refine V.sub [0, 2] rfl ?_
                exact ih_ (tc (tc (tc z g true) y_ true) k_ false) q2 k_ false (hW) (hq) (hK.c.c.c) (hSk) (fun r_ e_ hne => by have h8 := hrb r_ e_; simp only [tc]; grind) (fun e_ => Bool.noConfusion e_) (by have j1 := hW.up hx h21; have j2 := hW.up hSg h24; have j3 := hW.h0 k_ hSk; show ((HI - LO) - (q2.2.2 k_ - q2.2.1 k_)).toNat + 1 < kf_; omega)
  refine V.sub [1, 0] rfl ?_
  exact hl_5 ((if false = true then 0 else ((HI - LO) - (q.2.2 x_ - q.2.1 x_)).toNat + 1) + 1) (tc τ x_ false) q x_ false (hW0) (rfl) (TK.refl.c) (hx0) (fun r_ e_ hne => by have h8 := hrt0 r_ e_ hne; simp only [tc]; rw [if_neg hne]; exact h8) (fun e_ => Bool.noConfusion e_) (by omega)
