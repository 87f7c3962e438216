set_option maxRecDepth 100000
/-! TREE MAPS, 6: the mending behind a deletion -/
theorem b2i_1 {b : Bool} : b2i b = 1 ↔ b = true := by cases b <;> decide
/-- what stands behind the mending -/
def FD (τ : TS) (q : TQ) (LO HI : Int) (x : Nat) (lf : Bool) (τ' : TS) (q' : TQ) : Prop := TW τ' q' LO HI ∧ q'.1 = q.1 ∧ TK τ τ' ∧ (∀ r, τ'.1 5 0 = some r → τ'.2.1 r = true) ∧ (lf = true → τ'.1 2 x = none ∧ τ'.1 3 x = none)
set_option maxHeartbeats 8000000 in
theorem met_J1_fixAfterDeletion {Y : YT} {l : Launch} {t n u : Nat} {τ : TS} {B : AH} (hT : TQ_ Y t τ) (x_ : Nat) {q : TQ} {LO HI : Int} {lf : Bool} (hW0 : TW τ q LO HI) (hx0 : τ.2.2.2 x_ = true) (hrb0 : ∀ r_, τ.1 5 0 = some r_ → r_ ≠ x_ → τ.2.1 r_ = true) (hlf0 : lf = true → τ.1 2 x_ = none ∧ τ.1 3 x_ = none) : GM Y l yJ1_fixAfterDeletion (ws_ yJ1_fixAfterDeletion cJ1_fixAfterDeletion 3 none) 1 22 [.ref t, .ref x_] (tG t τ B) n u 0 0 (pV (fun G' n' u' => ∃ τ' q', FD τ q LO HI x_ lf τ' q' ∧ tG t τ' B = G' ∧ n = n' ∧ u = u')) noX := by
  refine GM.intro (own := RJ1) rfl (by decide +kernel) (Nat.le_of_ble_eq_true rfl) ?_
  intro p e s m args below meth c R Q hC hr hnm hF hL hE
  have hE1 := hE.1
  have hE2 := hE.2.1
  show V Y p l e R s m args below meth c 3 n u (tG t τ B) n u Q 0 [(0, .ref t), (1, .ref x_)] []
  have hl_0 : ∀ (kf_ : Nat) (z : TS) (q2 : TQ) (x : Nat) (dn : Bool), (TW z q2 LO HI) → (q2.1 = q.1) → (TK τ z) → (z.2.2.2 x = true) → (∀ r_, z.1 5 0 = some r_ → r_ ≠ x → z.2.1 r_ = true) → (lf = true → z.1 2 x_ = none ∧ z.1 3 x_ = none) → (dn = false → lf = true → q2.2.1 x ≤ q2.2.1 x_ ∧ q2.2.2 x_ ≤ q2.2.2 x) → (dn = true → z.1 5 0 = some x ∨ z.2.1 x = false) → (if dn = true then 0 else ((HI - LO) - (q2.2.2 x - q2.2.1 x)).toNat + 1) < kf_ → V Y p l e R s m args below meth c 3 n u (tG t z B) n u Q 0 [(1, .ref x), (0, .ref t)] [] := by
    intro kf_
    induction kf_ with
    | zero => intro z q2 x dn hW hq hK hx hrb9 hlf hin hdn hk_; exact absurd hk_ (Nat.not_lt_zero _)
    | succ kf_ ih_ =>
      intro z q2 x dn hW hq hK hx hrb9 hlf hin hdn hk_
      have hTz := hK.T hT
      have hxz : z.2.2.2 x_ = true := by rw [hK.k2]; exact hx0
      refine g_aload_n hC dJ1_fixAfterDeletion_0 rfl 0 rfl ?_
      refine g_aload_n hC dJ1_fixAfterDeletion_1 rfl 1 rfl ?_
      refine t_getH (v := va_rf (z.1 5 0)) hC 3 (by decide) q222 (congrArg (fun z => some (va_rf z)) rfl) dJ1_fixAfterDeletion_2 ?_
      refine g_acmp_eq (rx := some x) (ry := z.1 5 0) hC dJ1_fixAfterDeletion_5 (tgt := 345) (by decide) (fun c_5 => ?_) (fun c_5 => ?_)
      · refine g_aload_n hC dJ1_fixAfterDeletion_345 rfl 0 rfl ?_
        refine g_iconst (v := 1) hC dJ1_fixAfterDeletion_346 rfl ?_
        refine g_callv0 hC (g_runS hC (met_J1_setColor (τ := z) hTz (some x) true (τ2 := (tc z x true)) rfl (fun _ y => by cases y; exact hx)) (lw_S q1580 q1581 q85 q1582) md_J1_setColor dJ1_fixAfterDeletion_347 rfl ⟨by omega, by omega⟩ (by omega) (by omega) rfl (Nat.le_of_ble_eq_true rfl)) (fun G_1 n_1 u_1 hp_1 hn_1 hm_1 hu_1 => ?_)
        obtain ⟨rfl, rfl, rfl⟩ := hp_1
        refine g_vret hC hr ⟨rfl, ?_⟩ (by omega) (by omega) hE dJ1_fixAfterDeletion_350
        exact ⟨(tc z x true), q2, ⟨hW, hq, hK.c, fun r_ e_ => by have a1 := hrb9 r_ e_; simp only [tc]; grind, hlf⟩, rfl, rfl, rfl⟩
      · refine g_aload_n hC dJ1_fixAfterDeletion_8 rfl 0 rfl ?_
        refine g_calli0 hC (g_runS hC (met_J1_colorOf (τ := z) hTz (some x) (v := z.2.1 x) rfl (fun _ y => by cases y; exact hx)) (lw_S q1577 q1578 q85 q1579) md_J1_colorOf dJ1_fixAfterDeletion_9 rfl ⟨by omega, by omega⟩ (by omega) (by omega) rfl (Nat.le_of_ble_eq_true rfl)) (fun r_2 G_2 n_2 u_2 hp_2 hn_2 hm_2 hu_2 => ?_)
        obtain ⟨rfl, rfl, rfl, rfl⟩ := hp_2
        refine g_iconst (v := 1) hC dJ1_fixAfterDeletion_12 rfl ?_
        refine g_icmp_ne hC dJ1_fixAfterDeletion_13 (tgt := 345) (by decide) (fun c_13 => ?_) (fun c_13 => ?_)
        · refine g_aload_n hC dJ1_fixAfterDeletion_345 rfl 0 rfl ?_
          refine g_iconst (v := 1) hC dJ1_fixAfterDeletion_346 rfl ?_
          refine g_callv0 hC (g_runS hC (met_J1_setColor (τ := z) hTz (some x) true (τ2 := (tc z x true)) rfl (fun _ y => by cases y; exact hx)) (lw_S q1580 q1581 q85 q1582) md_J1_setColor dJ1_fixAfterDeletion_347 rfl ⟨by omega, by omega⟩ (by omega) (by omega) rfl (Nat.le_of_ble_eq_true rfl)) (fun G_3 n_3 u_3 hp_3 hn_3 hm_3 hu_3 => ?_)
          obtain ⟨rfl, rfl, rfl⟩ := hp_3
          refine g_vret hC hr ⟨rfl, ?_⟩ (by omega) (by omega) hE dJ1_fixAfterDeletion_350
          exact ⟨(tc z x true), q2, ⟨hW, hq, hK.c, fun r_ e_ => by have a1 := hrb9 r_ e_; simp only [tc]; grind, hlf⟩, rfl, rfl, rfl⟩
        · have hdn2 : dn = false := by
            cases dn with
            | false => rfl
            | true =>
              rcases hdn rfl with e_ | e_
              · exact absurd e_.symm c_5
              · rw [e_] at c_13; exact absurd c_13 (by decide)
          have hk2 : ((HI - LO) - (q2.2.2 x - q2.2.1 x)).toNat + 1 < kf_ + 1 := by rw [hdn2] at hk_; exact hk_
          have hin2 := hin hdn2
          have hrb : ∀ r_, z.1 5 0 = some r_ → z.2.1 r_ = true := fun r_ e_ => hrb9 r_ e_ (fun e2 => c_5 (by rw [e_, e2]))
          refine g_aload_n hC dJ1_fixAfterDeletion_16 rfl 0 rfl ?_
          refine g_aload_n hC dJ1_fixAfterDeletion_17 rfl 0 rfl ?_
          refine g_callq0 hC (g_runS hC (met_J1_parentOf (τ := z) hTz (some x) (v := z.1 4 x) rfl (fun _ y => by cases y; exact hx)) (lw_S q1568 q1569 q85 q1570) md_J1_parentOf dJ1_fixAfterDeletion_18 rfl ⟨by omega, by omega⟩ (by omega) (by omega) rfl (Nat.le_of_ble_eq_true rfl)) (fun r_4 G_4 n_4 u_4 hp_4 hn_4 hm_4 hu_4 => ?_)
          obtain ⟨rfl, rfl, rfl, rfl⟩ := hp_4
          rcases h21 : z.1 4 x with _ | g
          · exact absurd (hW.hn x hx h21).symm c_5
          have hgg := hW.hp x g hx h21
          have hSg := hgg.1
          refine g_callq0 hC (g_runS hC (met_J1_leftOf (τ := z) hTz (some g) (v := z.1 2 g) rfl (fun _ y => by cases y; exact hSg)) (lw_S q1571 q1572 q85 q1573) md_J1_leftOf dJ1_fixAfterDeletion_21 rfl ⟨by omega, by omega⟩ (by omega) (by omega) rfl (Nat.le_of_ble_eq_true rfl)) (fun r_5 G_5 n_5 u_5 hp_5 hn_5 hm_5 hu_5 => ?_)
          obtain ⟨rfl, rfl, rfl, rfl⟩ := hp_5
          refine g_acmp_ne (rx := some x) (ry := z.1 2 g) hC dJ1_fixAfterDeletion_24 (tgt := 186) (by decide) (fun c_24 => ?_) (fun c_24 => ?_)
          · have hkl : z.1 3 g = some x := hgg.2.resolve_left (fun y => c_24 y.symm)
            have hj_230 : ∀ (w1 : TS) (q3 : TQ) (yo : Option Nat) (rd : Bool), (TW w1 q3 LO HI) → (q3.1 = q.1) → (TK τ w1) → (w1.1 4 x = some g) → (w1.1 3 g = some x) → (w1.1 2 g = yo) → (∀ r_, w1.1 5 0 = some r_ → w1.2.1 r_ = true) → (lf = true → w1.1 2 x_ = none ∧ w1.1 3 x_ = none) → (lf = true → q3.2.1 x ≤ q3.2.1 x_ ∧ q3.2.2 x_ ≤ q3.2.2 x) → (rd = false → w1 = z ∧ q3 = q2) → (rd = true → w1.2.1 g = false) → V Y p l e R s m args below meth c 3 n u (tG t w1 B) n u Q 230 [(2, va_rf yo), (1, .ref x), (0, .ref t)] [] := by
              intro w1 q3 yo rd hW2 hq2 hK2 hp2 hl2 hy2 hrb2 hlf2 hin2b hrd0 hrd1
              have hTw := hK2.T hT
              have hx2 : w1.2.2.2 x = true := by rw [hK2.k2, ← hK.k2]; exact hx
              have hg2 : w1.2.2.2 g = true := by rw [hK2.k2, ← hK.k2]; exact hSg
              have hx_2 : w1.2.2.2 x_ = true := by rw [hK2.k2]; exact hx0
              have hj_302 : ∀ (w2 : TS) (q4 : TQ) (y2 : Nat), (TW w2 q4 LO HI) → (q4.1 = q.1) → (TK τ w2) → (w2.1 4 x = some g) → (w2.1 2 g = some y2) → (w2.1 3 g = some x) → (∀ r_, w2.1 5 0 = some r_ → w2.2.1 r_ = true) → (lf = true → w2.1 2 x_ = none ∧ w2.1 3 x_ = none) → (lf = true → q4.2.1 x ≤ q4.2.1 x_ ∧ q4.2.2 x_ ≤ q4.2.2 x) → V Y p l e R s m args below meth c 3 n u (tG t w2 B) n u Q 302 [(2, .ref y2), (1, .ref x), (0, .ref t)] [] := by
                intro w2 q4 y2 hW3 hq3 hK3 hp3 hy3 hl3 hrb3 hlf3 hin3
                have hTw2 := hK3.T hT
                have hx3 : w2.2.2.2 x = true := by rw [hK3.k2, ← hK.k2]; exact hx
                have hg3 : w2.2.2.2 g = true := by rw [hK3.k2, ← hK.k2]; exact hSg
                have hx_3 : w2.2.2.2 x_ = true := by rw [hK3.k2]; exact hx0
                have hSy3 := (hW3.hl g y2 hg3 hy3).1
                refine g_aload_n hC dJ1_fixAfterDeletion_302 rfl 0 rfl ?_
                refine g_aload_n hC dJ1_fixAfterDeletion_303 rfl 1 rfl ?_
                refine g_callq0 hC (g_runS hC (met_J1_parentOf (τ := w2) hTw2 (some x) (v := some g) hp3 (fun _ y => by cases y; exact hx3)) (lw_S q1568 q1569 q85 q1570) md_J1_parentOf dJ1_fixAfterDeletion_304 rfl ⟨by omega, by omega⟩ (by omega) (by omega) rfl (Nat.le_of_ble_eq_true rfl)) (fun r_6 G_6 n_6 u_6 hp_6 hn_6 hm_6 hu_6 => ?_)
                obtain ⟨rfl, rfl, rfl, rfl⟩ := hp_6
                refine g_calli0 hC (g_runS hC (met_J1_colorOf (τ := w2) hTw2 (some g) (v := w2.2.1 g) rfl (fun _ y => by cases y; exact hg3)) (lw_S q1577 q1578 q85 q1579) md_J1_colorOf dJ1_fixAfterDeletion_307 rfl ⟨by omega, by omega⟩ (by omega) (by omega) rfl (Nat.le_of_ble_eq_true rfl)) (fun r_7 G_7 n_7 u_7 hp_7 hn_7 hm_7 hu_7 => ?_)
                obtain ⟨rfl, rfl, rfl, rfl⟩ := hp_7
                refine g_callv0 hC (g_runS hC (met_J1_setColor (τ := w2) hTw2 (some y2) (w2.2.1 g) (τ2 := (tc w2 y2 (w2.2.1 g))) rfl (fun _ y => by cases y; exact hSy3)) (lw_S q1580 q1581 q85 q1582) md_J1_setColor dJ1_fixAfterDeletion_310 rfl ⟨by omega, by omega⟩ (by omega) (by omega) rfl (Nat.le_of_ble_eq_true rfl)) (fun G_8 n_8 u_8 hp_8 hn_8 hm_8 hu_8 => ?_)
                obtain ⟨rfl, rfl, rfl⟩ := hp_8
                refine g_aload_n hC dJ1_fixAfterDeletion_313 rfl 1 rfl ?_
                refine g_callq0 hC (g_runS hC (met_J1_parentOf (τ := (tc w2 y2 (w2.2.1 g))) hTw2 (some x) (v := some g) (Eq.trans rfl hp3) (fun _ y => by cases y; exact hx3)) (lw_S q1568 q1569 q85 q1570) md_J1_parentOf dJ1_fixAfterDeletion_314 rfl ⟨by omega, by omega⟩ (by omega) (by omega) rfl (Nat.le_of_ble_eq_true rfl)) (fun r_9 G_9 n_9 u_9 hp_9 hn_9 hm_9 hu_9 => ?_)
                obtain ⟨rfl, rfl, rfl, rfl⟩ := hp_9
                refine g_iconst (v := 1) hC dJ1_fixAfterDeletion_317 rfl ?_
                refine g_callv0 hC (g_runS hC (met_J1_setColor (τ := (tc w2 y2 (w2.2.1 g))) hTw2 (some g) true (τ2 := (tc (tc w2 y2 (w2.2.1 g)) g true)) rfl (fun _ y => by cases y; exact hg3)) (lw_S q1580 q1581 q85 q1582) md_J1_setColor dJ1_fixAfterDeletion_318 rfl ⟨by omega, by omega⟩ (by omega) (by omega) rfl (Nat.le_of_ble_eq_true rfl)) (fun G_10 n_10 u_10 hp_10 hn_10 hm_10 hu_10 => ?_)
                obtain ⟨rfl, rfl, rfl⟩ := hp_10
                refine g_aload_n hC dJ1_fixAfterDeletion_321 rfl 0 rfl ?_
                refine g_callq0 hC (g_runS hC (met_J1_leftOf (τ := (tc (tc w2 y2 (w2.2.1 g)) g true)) hTw2 (some y2) (v := w2.1 2 y2) rfl (fun _ y => by cases y; exact hSy3)) (lw_S q1571 q1572 q85 q1573) md_J1_leftOf dJ1_fixAfterDeletion_322 rfl ⟨by omega, by omega⟩ (by omega) (by omega) rfl (Nat.le_of_ble_eq_true rfl)) (fun r_11 G_11 n_11 u_11 hp_11 hn_11 hm_11 hu_11 => ?_)
                obtain ⟨rfl, rfl, rfl, rfl⟩ := hp_11
                rcases h166 : w2.1 2 y2 with _ | b_
                · refine g_iconst (v := 1) hC dJ1_fixAfterDeletion_325 rfl ?_
                  refine g_callv0 hC (g_runS hC (met_J1_setColor (τ := (tc (tc w2 y2 (w2.2.1 g)) g true)) hTw2 (none) true (τ2 := (tc (tc w2 y2 (w2.2.1 g)) g true)) rfl (fun _ y => nomatch y)) (lw_S q1580 q1581 q85 q1582) md_J1_setColor dJ1_fixAfterDeletion_326 rfl ⟨by omega, by omega⟩ (by omega) (by omega) rfl (Nat.le_of_ble_eq_true rfl)) (fun G_12 n_12 u_12 hp_12 hn_12 hm_12 hu_12 => ?_)
                  obtain ⟨rfl, rfl, rfl⟩ := hp_12
                  refine g_aload_n hC dJ1_fixAfterDeletion_329 rfl 2 rfl ?_
                  refine g_aload_n hC dJ1_fixAfterDeletion_330 rfl 1 rfl ?_
                  refine g_callq0 hC (g_runS hC (met_J1_parentOf (τ := (tc (tc w2 y2 (w2.2.1 g)) g true)) hTw2 (some x) (v := some g) (Eq.trans rfl (Eq.trans rfl hp3)) (fun _ y => by cases y; exact hx3)) (lw_S q1568 q1569 q85 q1570) md_J1_parentOf dJ1_fixAfterDeletion_331 rfl ⟨by omega, by omega⟩ (by omega) (by omega) rfl (Nat.le_of_ble_eq_true rfl)) (fun r_13 G_13 n_13 u_13 hp_13 hn_13 hm_13 hu_13 => ?_)
                  obtain ⟨rfl, rfl, rfl, rfl⟩ := hp_13
                  refine g_callv0 hC (g_runV hC (met_J1_rotateRight (τ := (tc (tc w2 y2 (w2.2.1 g)) g true)) hTw2 g (r_ := y2) hW3 hg3 hy3) kc_J1 tG_h (lw_V q1587 q1589 qs9 q85 q1590) rfl md_J1_rotateRight dJ1_fixAfterDeletion_334 rfl ⟨by omega, by omega⟩ (by omega) (by omega) rfl (Nat.le_of_ble_eq_true rfl)) (fun G_14 n_14 u_14 hp_14 hn_14 hm_14 hu_14 => ?_)
                  obtain ⟨rfl, rfl, rfl⟩ := hp_14
                  obtain ⟨z3, hz3⟩ : ∃ z3, rotR (tc (tc w2 y2 (w2.2.1 g)) g true) g y2 = z3 := ⟨_, rfl⟩
                  have hW5 := rotR_ok (τ := (tc (tc w2 y2 (w2.2.1 g)) g true)) hW3 hg3 hy3
                  have hK5 := (show TK τ (tc (tc w2 y2 (w2.2.1 g)) g true) from hK3.c.c).trans (rotR_K (τ := (tc (tc w2 y2 (w2.2.1 g)) g true)) hW3 hg3 hy3).1
                  have hs5 := (rotR_K (τ := (tc (tc w2 y2 (w2.2.1 g)) g true)) hW3 hg3 hy3).2
                  have h55 := rotR_5 (τ := (tc (tc w2 y2 (w2.2.1 g)) g true)) hW3 hg3 hy3
                  have hlo5 := rotR_o (τ := (tc (tc w2 y2 (w2.2.1 g)) g true)) hW3 hg3 hy3 x_ hx_3
                  have hlk5 := rotR_k (τ := (tc (tc w2 y2 (w2.2.1 g)) g true)) hW3 hg3 hy3 x_ hx_3
                  rw [hz3] at hW5 hK5 hs5 h55 hlo5 hlk5 ⊢
                  have hrb5 : ∀ r_, z3.1 5 0 = some r_ → z3.2.1 r_ = true := fun r_ e_ => by
                    have a0 : some r_ = if w2.1 4 g = none then some y2 else w2.1 5 0 := e_.symm.trans h55
                    have a1 := hrb3 r_
                    have a2 := hW3.ht r_
                    have a3 := hW3.hn g hg3
                    have a4 := hrb3 g
                    have a5 := hW3.hl g y2 hg3 hy3
                    rw [hs5]
                    show (if r_ = g then true else if r_ = y2 then w2.2.1 g else w2.2.1 r_) = true
                    grind
                  have hlf5 : lf = true → z3.1 2 x_ = none ∧ z3.1 3 x_ = none := fun e_ => by
                    have a1 := hin3 e_
                    have a2 := hW3.h0 x_ hx_3
                    have a3 := hlf3 e_
                    have v1 := hW3.up hx3 hp3
                    have v2 := hW3.hl g y2 hg3 hy3
                    have v3 := hW3.hr g x hg3 hl3
                    have v4 := hW3.h0 g hg3
                    have c1 : x_ ≠ g := fun e2 => by rw [e2] at a1 a2; omega
                    have c2 : x_ ≠ y2 := fun e2 => by rw [e2] at a1 a2; omega
                    have b1 : z3.1 3 x_ = if x_ = y2 then some g else if w2.1 3 x_ = some g then some y2 else w2.1 3 x_ := hlo5
                    have b2 : z3.1 2 x_ = if x_ = g then w2.1 3 y2 else if w2.1 2 x_ = some g then some y2 else w2.1 2 x_ := hlk5
                    grind
                  have hTz3 := hK5.T hT
                  refine g_aload_n hC dJ1_fixAfterDeletion_337 rfl 2 rfl ?_
                  refine t_getH (v := va_rf (z3.1 5 0)) hC 3 (by decide) q222 (congrArg (fun z => some (va_rf z)) rfl) dJ1_fixAfterDeletion_338 ?_
                  rcases h182 : z3.1 5 0 with _ | rt
                  · (obtain ⟨r9, e9⟩ := hW5.root' (a := x) (by rw [hK5.k2, ← hK.k2]; exact hx); rw [h182] at e9; cases e9)
                  refine g_astore_n (L' := [(1, .ref rt), (2, .ref y2), (0, .ref t)]) hC dJ1_fixAfterDeletion_341 rfl (by decide) rfl ?_
                  refine g_goto (tgt := 0) hC dJ1_fixAfterDeletion_342 (by decide) ?_
                  refine V.sub [0, 2] rfl ?_
                  exact ih_ z3 (qR q4 g y2) rt true (hW5) (hq3) (hK5) ((hW5.ht rt h182).1) (fun r_ e_ _ => hrb5 r_ e_) (hlf5) (fun e_ => Bool.noConfusion e_) (fun _ => Or.inl h182) (by show 0 < kf_; omega)
                · have hSb := (hW3.hl y2 b_ hSy3 h166).1
                  refine g_iconst (v := 1) hC dJ1_fixAfterDeletion_325 rfl ?_
                  refine g_callv0 hC (g_runS hC (met_J1_setColor (τ := (tc (tc w2 y2 (w2.2.1 g)) g true)) hTw2 (some b_) true (τ2 := (tc (tc (tc w2 y2 (w2.2.1 g)) g true) b_ true)) rfl (fun _ y => by cases y; exact hSb)) (lw_S q1580 q1581 q85 q1582) md_J1_setColor dJ1_fixAfterDeletion_326 rfl ⟨by omega, by omega⟩ (by omega) (by omega) rfl (Nat.le_of_ble_eq_true rfl)) (fun G_15 n_15 u_15 hp_15 hn_15 hm_15 hu_15 => ?_)
                  obtain ⟨rfl, rfl, rfl⟩ := hp_15
                  refine g_aload_n hC dJ1_fixAfterDeletion_329 rfl 2 rfl ?_
                  refine g_aload_n hC dJ1_fixAfterDeletion_330 rfl 1 rfl ?_
                  refine g_callq0 hC (g_runS hC (met_J1_parentOf (τ := (tc (tc (tc w2 y2 (w2.2.1 g)) g true) b_ true)) hTw2 (some x) (v := some g) (Eq.trans rfl (Eq.trans rfl (Eq.trans rfl hp3))) (fun _ y => by cases y; exact hx3)) (lw_S q1568 q1569 q85 q1570) md_J1_parentOf dJ1_fixAfterDeletion_331 rfl ⟨by omega, by omega⟩ (by omega) (by omega) rfl (Nat.le_of_ble_eq_true rfl)) (fun r_16 G_16 n_16 u_16 hp_16 hn_16 hm_16 hu_16 => ?_)
                  obtain ⟨rfl, rfl, rfl, rfl⟩ := hp_16
                  refine g_callv0 hC (g_runV hC (met_J1_rotateRight (τ := (tc (tc (tc w2 y2 (w2.2.1 g)) g true) b_ true)) hTw2 g (r_ := y2) hW3 hg3 hy3) kc_J1 tG_h (lw_V q1587 q1589 qs9 q85 q1590) rfl md_J1_rotateRight dJ1_fixAfterDeletion_334 rfl ⟨by omega, by omega⟩ (by omega) (by omega) rfl (Nat.le_of_ble_eq_true rfl)) (fun G_17 n_17 u_17 hp_17 hn_17 hm_17 hu_17 => ?_)
                  obtain ⟨rfl, rfl, rfl⟩ := hp_17
                  obtain ⟨z3, hz3⟩ : ∃ z3, rotR (tc (tc (tc w2 y2 (w2.2.1 g)) g true) b_ true) g y2 = z3 := ⟨_, rfl⟩
                  have hW5 := rotR_ok (τ := (tc (tc (tc w2 y2 (w2.2.1 g)) g true) b_ true)) hW3 hg3 hy3
                  have hK5 := (show TK τ (tc (tc (tc w2 y2 (w2.2.1 g)) g true) b_ true) from hK3.c.c.c).trans (rotR_K (τ := (tc (tc (tc w2 y2 (w2.2.1 g)) g true) b_ true)) hW3 hg3 hy3).1
                  have hs5 := (rotR_K (τ := (tc (tc (tc w2 y2 (w2.2.1 g)) g true) b_ true)) hW3 hg3 hy3).2
                  have h55 := rotR_5 (τ := (tc (tc (tc w2 y2 (w2.2.1 g)) g true) b_ true)) hW3 hg3 hy3
                  have hlo5 := rotR_o (τ := (tc (tc (tc w2 y2 (w2.2.1 g)) g true) b_ true)) hW3 hg3 hy3 x_ hx_3
                  have hlk5 := rotR_k (τ := (tc (tc (tc w2 y2 (w2.2.1 g)) g true) b_ true)) hW3 hg3 hy3 x_ hx_3
                  rw [hz3] at hW5 hK5 hs5 h55 hlo5 hlk5 ⊢
                  have hrb5 : ∀ r_, z3.1 5 0 = some r_ → z3.2.1 r_ = true := fun r_ e_ => by
                    have a0 : some r_ = if w2.1 4 g = none then some y2 else w2.1 5 0 := e_.symm.trans h55
                    have a1 := hrb3 r_
                    have a2 := hW3.ht r_
                    have a3 := hW3.hn g hg3
                    have a4 := hrb3 g
                    have a5 := hW3.hl g y2 hg3 hy3
                    rw [hs5]
                    show (if r_ = b_ then true else if r_ = g then true else if r_ = y2 then w2.2.1 g else w2.2.1 r_) = true
                    grind
                  have hlf5 : lf = true → z3.1 2 x_ = none ∧ z3.1 3 x_ = none := fun e_ => by
                    have a1 := hin3 e_
                    have a2 := hW3.h0 x_ hx_3
                    have a3 := hlf3 e_
                    have v1 := hW3.up hx3 hp3
                    have v2 := hW3.hl g y2 hg3 hy3
                    have v3 := hW3.hr g x hg3 hl3
                    have v4 := hW3.h0 g hg3
                    have c1 : x_ ≠ g := fun e2 => by rw [e2] at a1 a2; omega
                    have c2 : x_ ≠ y2 := fun e2 => by rw [e2] at a1 a2; omega
                    have b1 : z3.1 3 x_ = if x_ = y2 then some g else if w2.1 3 x_ = some g then some y2 else w2.1 3 x_ := hlo5
                    have b2 : z3.1 2 x_ = if x_ = g then w2.1 3 y2 else if w2.1 2 x_ = some g then some y2 else w2.1 2 x_ := hlk5
                    grind
                  have hTz3 := hK5.T hT
                  refine g_aload_n hC dJ1_fixAfterDeletion_337 rfl 2 rfl ?_
                  refine t_getH (v := va_rf (z3.1 5 0)) hC 3 (by decide) q222 (congrArg (fun z => some (va_rf z)) rfl) dJ1_fixAfterDeletion_338 ?_
                  rcases h182 : z3.1 5 0 with _ | rt
                  · (obtain ⟨r9, e9⟩ := hW5.root' (a := x) (by rw [hK5.k2, ← hK.k2]; exact hx); rw [h182] at e9; cases e9)
                  refine g_astore_n (L' := [(1, .ref rt), (2, .ref y2), (0, .ref t)]) hC dJ1_fixAfterDeletion_341 rfl (by decide) rfl ?_
                  refine g_goto (tgt := 0) hC dJ1_fixAfterDeletion_342 (by decide) ?_
                  refine V.sub [0, 2] rfl ?_
                  exact ih_ z3 (qR q4 g y2) rt true (hW5) (hq3) (hK5) ((hW5.ht rt h182).1) (fun r_ e_ _ => hrb5 r_ e_) (hlf5) (fun e_ => Bool.noConfusion e_) (fun _ => Or.inl h182) (by show 0 < kf_; omega)
              have hj_265 : ∀ (y : Nat), (yo = some y) → (¬ (cO w1 (w1.1 3 y) = true ∧ cO w1 (w1.1 2 y) = true)) → V Y p l e R s m args below meth c 3 n u (tG t w1 B) n u Q 265 [(2, .ref y), (1, .ref x), (0, .ref t)] [] := by
                intro y hyo hnb
                have hry : w1.1 2 g = some y := hy2.trans hyo
                have hSy2 := (hW2.hl g y hg2 hry).1
                refine g_aload_n hC dJ1_fixAfterDeletion_265 rfl 0 rfl ?_
                refine g_callq0 hC (g_runS hC (met_J1_leftOf (τ := w1) hTw (some y) (v := w1.1 2 y) rfl (fun _ y => by cases y; exact hSy2)) (lw_S q1571 q1572 q85 q1573) md_J1_leftOf dJ1_fixAfterDeletion_266 rfl ⟨by omega, by omega⟩ (by omega) (by omega) rfl (Nat.le_of_ble_eq_true rfl)) (fun r_18 G_18 n_18 u_18 hp_18 hn_18 hm_18 hu_18 => ?_)
                obtain ⟨rfl, rfl, rfl, rfl⟩ := hp_18
                refine g_calli0 hC (g_runS hC (met_J1_colorOf (τ := w1) hTw (w1.1 2 y) (v := cO w1 (w1.1 2 y)) rfl (fun a_ e_ => (hW2.hl y a_ hSy2 e_).1)) (lw_S q1577 q1578 q85 q1579) md_J1_colorOf dJ1_fixAfterDeletion_269 rfl ⟨by omega, by omega⟩ (by omega) (by omega) rfl (Nat.le_of_ble_eq_true rfl)) (fun r_19 G_19 n_19 u_19 hp_19 hn_19 hm_19 hu_19 => ?_)
                obtain ⟨rfl, rfl, rfl, rfl⟩ := hp_19
                refine g_iconst (v := 1) hC dJ1_fixAfterDeletion_272 rfl ?_
                refine g_icmp_ne hC dJ1_fixAfterDeletion_273 (tgt := 302) (by decide) (fun c_273 => ?_) (fun c_273 => ?_)
                · exact hj_302 w1 q3 y (hW2) (hq2) (hK2) (hp2) (hry) (hl2) (hrb2) (hlf2) (hin2b)
                · refine g_aload_n hC dJ1_fixAfterDeletion_276 rfl 0 rfl ?_
                  refine g_callq0 hC (g_runS hC (met_J1_rightOf (τ := w1) hTw (some y) (v := w1.1 3 y) rfl (fun _ y => by cases y; exact hSy2)) (lw_S q1574 q1575 q85 q1576) md_J1_rightOf dJ1_fixAfterDeletion_277 rfl ⟨by omega, by omega⟩ (by omega) (by omega) rfl (Nat.le_of_ble_eq_true rfl)) (fun r_20 G_20 n_20 u_20 hp_20 hn_20 hm_20 hu_20 => ?_)
                  obtain ⟨rfl, rfl, rfl, rfl⟩ := hp_20
                  rcases h121 : w1.1 3 y with _ | a_
                  · exact absurd ⟨by rw [h121]; rfl, b2i_1.mp c_273⟩ hnb
                  have hSa := (hW2.hr y a_ hSy2 h121).1
                  refine g_iconst (v := 1) hC dJ1_fixAfterDeletion_280 rfl ?_
                  refine g_callv0 hC (g_runS hC (met_J1_setColor (τ := w1) hTw (some a_) true (τ2 := (tc w1 a_ true)) rfl (fun _ y => by cases y; exact hSa)) (lw_S q1580 q1581 q85 q1582) md_J1_setColor dJ1_fixAfterDeletion_281 rfl ⟨by omega, by omega⟩ (by omega) (by omega) rfl (Nat.le_of_ble_eq_true rfl)) (fun G_21 n_21 u_21 hp_21 hn_21 hm_21 hu_21 => ?_)
                  obtain ⟨rfl, rfl, rfl⟩ := hp_21
                  refine g_aload_n hC dJ1_fixAfterDeletion_284 rfl 0 rfl ?_
                  refine g_iconst (v := 0) hC dJ1_fixAfterDeletion_285 rfl ?_
                  refine g_callv0 hC (g_runS hC (met_J1_setColor (τ := (tc w1 a_ true)) hTw (some y) false (τ2 := (tc (tc w1 a_ true) y false)) rfl (fun _ y => by cases y; exact hSy2)) (lw_S q1580 q1581 q85 q1582) md_J1_setColor dJ1_fixAfterDeletion_286 rfl ⟨by omega, by omega⟩ (by omega) (by omega) rfl (Nat.le_of_ble_eq_true rfl)) (fun G_22 n_22 u_22 hp_22 hn_22 hm_22 hu_22 => ?_)
                  obtain ⟨rfl, rfl, rfl⟩ := hp_22
                  refine g_aload_n hC dJ1_fixAfterDeletion_289 rfl 2 rfl ?_
                  refine g_aload_n hC dJ1_fixAfterDeletion_290 rfl 0 rfl ?_
                  refine g_callv0 hC (g_runV hC (met_J1_rotateLeft (τ := (tc (tc w1 a_ true) y false)) hTw y (r_ := a_) hW2 hSy2 h121) kc_J1 tG_h (lw_V q1583 q1585 qs8 q85 q1586) rfl md_J1_rotateLeft dJ1_fixAfterDeletion_291 rfl ⟨by omega, by omega⟩ (by omega) (by omega) rfl (Nat.le_of_ble_eq_true rfl)) (fun G_23 n_23 u_23 hp_23 hn_23 hm_23 hu_23 => ?_)
                  obtain ⟨rfl, rfl, rfl⟩ := hp_23
                  obtain ⟨z2, hz2⟩ : ∃ z2, rotL (tc (tc w1 a_ true) y false) y a_ = z2 := ⟨_, rfl⟩
                  have u1 := hW2.up hx2 hp2
                  have u2 := hW2.hl g y hg2 hry
                  have u3 := hW2.hr g x hg2 hl2
                  have u4 := hW2.h0 g hg2
                  have u5 := hW2.h0 y hSy2
                  have u6 := hW2.h0 x hx2
                  have u7 := hW2.hr y a_ hSy2 h121
                  have u8 := hW2.h0 a_ hSa
                  have hxy : x ≠ y := fun e_ => by rw [← e_] at u2; omega
                  have hyg : g ≠ y := fun e_ => by rw [← e_] at u2; omega
                  have hag : g ≠ a_ := fun e_ => by rw [← e_] at u7; omega
                  have hax : x ≠ a_ := fun e_ => by rw [← e_] at u7; omega
                  have hW4 := rotL_ok (τ := (tc (tc w1 a_ true) y false)) hW2 hSy2 h121
                  have hK4 := hK2.c.c.trans (rotL_K (τ := (tc (tc w1 a_ true) y false)) hW2 hSy2 h121).1
                  have hs4 := (rotL_K (τ := (tc (tc w1 a_ true) y false)) hW2 hSy2 h121).2
                  have hP4 := rotL_P (τ := (tc (tc w1 a_ true) y false)) hW2 hSy2 h121 x hx2
                  have hY4 := rotL_o (τ := (tc (tc w1 a_ true) y false)) hW2 hSy2 h121 g hg2
                  have hL4 := rotL_k (τ := (tc (tc w1 a_ true) y false)) hW2 hSy2 h121 g hg2
                  have h54 := rotL_5 (τ := (tc (tc w1 a_ true) y false)) hW2 hSy2 h121
                  have hlo4 := rotL_o (τ := (tc (tc w1 a_ true) y false)) hW2 hSy2 h121 x_ hx_2
                  have hlk4 := rotL_k (τ := (tc (tc w1 a_ true) y false)) hW2 hSy2 h121 x_ hx_2
                  have u9 := hW2.hl a_ x hSa
                  rw [hz2] at hW4 hK4 hs4 hP4 hY4 hL4 h54 hlo4 hlk4 ⊢
                  rw [if_neg hxy, if_neg hax, if_neg (show ¬ (tc (tc w1 a_ true) y false).1 2 a_ = some x from fun e_ => by have e2 := (u9 e_).2.1; rw [hp2] at e2; cases e2; exact hag rfl)] at hP4
                  replace hP4 : z2.1 4 x = some g := hP4.trans hp2
                  rw [if_neg hag, if_pos (show (tc (tc w1 a_ true) y false).1 2 g = some y from hry)] at hY4
                  rw [if_neg hyg, if_neg (show ¬ (tc (tc w1 a_ true) y false).1 3 g = some y from fun e_ => by have e2 : w1.1 3 g = some y := e_; rw [hl2] at e2; cases e2; exact hxy rfl)] at hL4
                  replace hL4 : z2.1 3 g = some x := hL4.trans hl2
                  have hrb4 : ∀ r_, z2.1 5 0 = some r_ → z2.2.1 r_ = true := fun r_ e_ => by
                    have a0 : some r_ = if w1.1 4 y = none then some a_ else w1.1 5 0 := e_.symm.trans h54
                    have a1 := hrb2 r_
                    have a2 := hW2.ht r_
                    rw [hs4]
                    show (if r_ = y then false else if r_ = a_ then true else w1.2.1 r_) = true
                    grind
                  have hx0y : lf = true → x_ ≠ a_ ∧ x_ ≠ y := fun e_ => by
                    have a1 := hin2b e_
                    have a2 := hW2.h0 x_ hx_2
                    exact ⟨fun e2 => by rw [e2] at a1 a2; omega, fun e2 => by rw [e2] at a1 a2; omega⟩
                  have hlf4 : lf = true → z2.1 2 x_ = none ∧ z2.1 3 x_ = none := fun e_ => by
                    have a1 := hx0y e_
                    have a2 := hlf2 e_
                    have b1 : z2.1 2 x_ = if x_ = a_ then some y else if w1.1 2 x_ = some y then some a_ else w1.1 2 x_ := hlo4
                    have b2 : z2.1 3 x_ = if x_ = y then w1.1 2 a_ else if w1.1 3 x_ = some y then some a_ else w1.1 3 x_ := hlk4
                    grind
                  have hin4 : lf = true → (qL q3 y a_).2.1 x ≤ (qL q3 y a_).2.1 x_ ∧ (qL q3 y a_).2.2 x_ ≤ (qL q3 y a_).2.2 x := fun e_ => by
                    have a1 := hx0y e_
                    have a2 := hin2b e_
                    simp only [qL]
                    grind
                  have hTz2 := hK4.T hT
                  refine g_aload_n hC dJ1_fixAfterDeletion_294 rfl 1 rfl ?_
                  refine g_callq0 hC (g_runS hC (met_J1_parentOf (τ := z2) hTz2 (some x) (v := some g) hP4 (fun _ y => by cases y; exact (by rw [hK4.k2, ← hK2.k2]; exact hx2))) (lw_S q1568 q1569 q85 q1570) md_J1_parentOf dJ1_fixAfterDeletion_295 rfl ⟨by omega, by omega⟩ (by omega) (by omega) rfl (Nat.le_of_ble_eq_true rfl)) (fun r_24 G_24 n_24 u_24 hp_24 hn_24 hm_24 hu_24 => ?_)
                  obtain ⟨rfl, rfl, rfl, rfl⟩ := hp_24
                  refine g_callq0 hC (g_runS hC (met_J1_leftOf (τ := z2) hTz2 (some g) (v := some a_) hY4 (fun _ y => by cases y; exact (by rw [hK4.k2, ← hK2.k2]; exact hg2))) (lw_S q1571 q1572 q85 q1573) md_J1_leftOf dJ1_fixAfterDeletion_298 rfl ⟨by omega, by omega⟩ (by omega) (by omega) rfl (Nat.le_of_ble_eq_true rfl)) (fun r_25 G_25 n_25 u_25 hp_25 hn_25 hm_25 hu_25 => ?_)
                  obtain ⟨rfl, rfl, rfl, rfl⟩ := hp_25
                  refine g_astore_n (L' := [(2, .ref a_), (1, .ref x), (0, .ref t)]) hC dJ1_fixAfterDeletion_301 rfl (by decide) rfl ?_
                  exact hj_302 z2 (qL q3 y a_) a_ (hW4) (hq2) (hK4) (hP4) (hY4) (hL4) (hrb4) (hlf4) (hin4)
              rcases yo with _ | y
              · have hTw := hK2.T hT
                have hx2 : w1.2.2.2 x = true := by rw [hK2.k2, ← hK.k2]; exact hx
                have hg2 : w1.2.2.2 g = true := by rw [hK2.k2, ← hK.k2]; exact hSg
                have hx_2 : w1.2.2.2 x_ = true := by rw [hK2.k2]; exact hx0
                refine g_aload_nN hC dJ1_fixAfterDeletion_230 rfl 0 rfl ?_
                refine g_callq0 hC (g_runS hC (met_J1_rightOf (τ := w1) hTw (none) (v := none) rfl (fun _ y => nomatch y)) (lw_S q1574 q1575 q85 q1576) md_J1_rightOf dJ1_fixAfterDeletion_231 rfl ⟨by omega, by omega⟩ (by omega) (by omega) rfl (Nat.le_of_ble_eq_true rfl)) (fun r_26 G_26 n_26 u_26 hp_26 hn_26 hm_26 hu_26 => ?_)
                obtain ⟨rfl, rfl, rfl, rfl⟩ := hp_26
                refine g_calli0 hC (g_runS hC (met_J1_colorOf (τ := w1) hTw (none) (v := true) rfl (fun _ y => nomatch y)) (lw_S q1577 q1578 q85 q1579) md_J1_colorOf dJ1_fixAfterDeletion_234 rfl ⟨by omega, by omega⟩ (by omega) (by omega) rfl (Nat.le_of_ble_eq_true rfl)) (fun r_27 G_27 n_27 u_27 hp_27 hn_27 hm_27 hu_27 => ?_)
                obtain ⟨rfl, rfl, rfl, rfl⟩ := hp_27
                refine g_iconst (v := 1) hC dJ1_fixAfterDeletion_237 rfl ?_
                refine g_icmp_ne hC dJ1_fixAfterDeletion_238 (tgt := 265) (by decide) (fun c_238 => ?_) (fun c_238 => ?_)
                · exact absurd c_238 (by decide)
                · refine g_aload_nN hC dJ1_fixAfterDeletion_241 rfl 0 rfl ?_
                  refine g_callq0 hC (g_runS hC (met_J1_leftOf (τ := w1) hTw (none) (v := none) rfl (fun _ y => nomatch y)) (lw_S q1571 q1572 q85 q1573) md_J1_leftOf dJ1_fixAfterDeletion_242 rfl ⟨by omega, by omega⟩ (by omega) (by omega) rfl (Nat.le_of_ble_eq_true rfl)) (fun r_28 G_28 n_28 u_28 hp_28 hn_28 hm_28 hu_28 => ?_)
                  obtain ⟨rfl, rfl, rfl, rfl⟩ := hp_28
                  refine g_calli0 hC (g_runS hC (met_J1_colorOf (τ := w1) hTw (none) (v := true) rfl (fun _ y => nomatch y)) (lw_S q1577 q1578 q85 q1579) md_J1_colorOf dJ1_fixAfterDeletion_245 rfl ⟨by omega, by omega⟩ (by omega) (by omega) rfl (Nat.le_of_ble_eq_true rfl)) (fun r_29 G_29 n_29 u_29 hp_29 hn_29 hm_29 hu_29 => ?_)
                  obtain ⟨rfl, rfl, rfl, rfl⟩ := hp_29
                  refine g_iconst (v := 1) hC dJ1_fixAfterDeletion_248 rfl ?_
                  refine g_icmp_ne hC dJ1_fixAfterDeletion_249 (tgt := 265) (by decide) (fun c_249 => ?_) (fun c_249 => ?_)
                  · exact absurd c_249 (by decide)
                  · refine g_aload_nN hC dJ1_fixAfterDeletion_252 rfl 0 rfl ?_
                    refine g_iconst (v := 0) hC dJ1_fixAfterDeletion_253 rfl ?_
                    refine g_callv0 hC (g_runS hC (met_J1_setColor (τ := w1) hTw (none) false (τ2 := w1) rfl (fun _ y => nomatch y)) (lw_S q1580 q1581 q85 q1582) md_J1_setColor dJ1_fixAfterDeletion_254 rfl ⟨by omega, by omega⟩ (by omega) (by omega) rfl (Nat.le_of_ble_eq_true rfl)) (fun G_30 n_30 u_30 hp_30 hn_30 hm_30 hu_30 => ?_)
                    obtain ⟨rfl, rfl, rfl⟩ := hp_30
                    refine g_aload_n hC dJ1_fixAfterDeletion_257 rfl 1 rfl ?_
                    refine g_callq0 hC (g_runS hC (met_J1_parentOf (τ := w1) hTw (some x) (v := some g) hp2 (fun _ y => by cases y; exact hx2)) (lw_S q1568 q1569 q85 q1570) md_J1_parentOf dJ1_fixAfterDeletion_258 rfl ⟨by omega, by omega⟩ (by omega) (by omega) rfl (Nat.le_of_ble_eq_true rfl)) (fun r_31 G_31 n_31 u_31 hp_31 hn_31 hm_31 hu_31 => ?_)
                    obtain ⟨rfl, rfl, rfl, rfl⟩ := hp_31
                    refine g_astore_n (L' := [(1, .ref g), (2, .null), (0, .ref t)]) hC dJ1_fixAfterDeletion_261 rfl (by decide) rfl ?_
                    refine g_goto (tgt := 342) hC dJ1_fixAfterDeletion_262 (by decide) ?_
                    refine g_goto (tgt := 0) hC dJ1_fixAfterDeletion_342 (by decide) ?_
                    refine V.sub [0, 2] rfl ?_
                    exact ih_ w1 q3 g rd (hW2) (hq2) (hK2) (hg2) (fun r_ e_ _ => hrb2 r_ e_) (hlf2) (fun _ e_ => by have := hin2b e_; have := hW2.up hx2 hp2; omega) (fun e_ => Or.inr (hrd1 e_)) (by (cases rd with | true => (show 0 < kf_; omega) | false => (obtain ⟨e1, e2⟩ := hrd0 rfl; subst e1; subst e2; have j := hW.up hx h21; have j2 := hW.h0 g hSg; show ((HI - LO) - (q3.2.2 g - q3.2.1 g)).toNat + 1 < kf_; omega)))
              · have hSy2 := (hW2.hl g y hg2 hy2).1
                have hTw := hK2.T hT
                have hx2 : w1.2.2.2 x = true := by rw [hK2.k2, ← hK.k2]; exact hx
                have hg2 : w1.2.2.2 g = true := by rw [hK2.k2, ← hK.k2]; exact hSg
                have hx_2 : w1.2.2.2 x_ = true := by rw [hK2.k2]; exact hx0
                refine g_aload_n hC dJ1_fixAfterDeletion_230 rfl 0 rfl ?_
                refine g_callq0 hC (g_runS hC (met_J1_rightOf (τ := w1) hTw (some y) (v := w1.1 3 y) rfl (fun _ y => by cases y; exact hSy2)) (lw_S q1574 q1575 q85 q1576) md_J1_rightOf dJ1_fixAfterDeletion_231 rfl ⟨by omega, by omega⟩ (by omega) (by omega) rfl (Nat.le_of_ble_eq_true rfl)) (fun r_32 G_32 n_32 u_32 hp_32 hn_32 hm_32 hu_32 => ?_)
                obtain ⟨rfl, rfl, rfl, rfl⟩ := hp_32
                refine g_calli0 hC (g_runS hC (met_J1_colorOf (τ := w1) hTw (w1.1 3 y) (v := cO w1 (w1.1 3 y)) rfl (fun a_ e_ => (hW2.hr y a_ hSy2 e_).1)) (lw_S q1577 q1578 q85 q1579) md_J1_colorOf dJ1_fixAfterDeletion_234 rfl ⟨by omega, by omega⟩ (by omega) (by omega) rfl (Nat.le_of_ble_eq_true rfl)) (fun r_33 G_33 n_33 u_33 hp_33 hn_33 hm_33 hu_33 => ?_)
                obtain ⟨rfl, rfl, rfl, rfl⟩ := hp_33
                refine g_iconst (v := 1) hC dJ1_fixAfterDeletion_237 rfl ?_
                refine g_icmp_ne hC dJ1_fixAfterDeletion_238 (tgt := 265) (by decide) (fun c_238 => ?_) (fun c_238 => ?_)
                · exact hj_265 y (rfl) (fun q_ => c_238 (by rw [q_.1]; rfl))
                · refine g_aload_n hC dJ1_fixAfterDeletion_241 rfl 0 rfl ?_
                  refine g_callq0 hC (g_runS hC (met_J1_leftOf (τ := w1) hTw (some y) (v := w1.1 2 y) rfl (fun _ y => by cases y; exact hSy2)) (lw_S q1571 q1572 q85 q1573) md_J1_leftOf dJ1_fixAfterDeletion_242 rfl ⟨by omega, by omega⟩ (by omega) (by omega) rfl (Nat.le_of_ble_eq_true rfl)) (fun r_34 G_34 n_34 u_34 hp_34 hn_34 hm_34 hu_34 => ?_)
                  obtain ⟨rfl, rfl, rfl, rfl⟩ := hp_34
                  refine g_calli0 hC (g_runS hC (met_J1_colorOf (τ := w1) hTw (w1.1 2 y) (v := cO w1 (w1.1 2 y)) rfl (fun a_ e_ => (hW2.hl y a_ hSy2 e_).1)) (lw_S q1577 q1578 q85 q1579) md_J1_colorOf dJ1_fixAfterDeletion_245 rfl ⟨by omega, by omega⟩ (by omega) (by omega) rfl (Nat.le_of_ble_eq_true rfl)) (fun r_35 G_35 n_35 u_35 hp_35 hn_35 hm_35 hu_35 => ?_)
                  obtain ⟨rfl, rfl, rfl, rfl⟩ := hp_35
                  refine g_iconst (v := 1) hC dJ1_fixAfterDeletion_248 rfl ?_
                  refine g_icmp_ne hC dJ1_fixAfterDeletion_249 (tgt := 265) (by decide) (fun c_249 => ?_) (fun c_249 => ?_)
                  · exact hj_265 y (rfl) (fun q_ => c_249 (by rw [q_.2]; rfl))
                  · refine g_aload_n hC dJ1_fixAfterDeletion_252 rfl 0 rfl ?_
                    refine g_iconst (v := 0) hC dJ1_fixAfterDeletion_253 rfl ?_
                    refine g_callv0 hC (g_runS hC (met_J1_setColor (τ := w1) hTw (some y) false (τ2 := (tc w1 y false)) rfl (fun _ y => by cases y; exact hSy2)) (lw_S q1580 q1581 q85 q1582) md_J1_setColor dJ1_fixAfterDeletion_254 rfl ⟨by omega, by omega⟩ (by omega) (by omega) rfl (Nat.le_of_ble_eq_true rfl)) (fun G_36 n_36 u_36 hp_36 hn_36 hm_36 hu_36 => ?_)
                    obtain ⟨rfl, rfl, rfl⟩ := hp_36
                    refine g_aload_n hC dJ1_fixAfterDeletion_257 rfl 1 rfl ?_
                    refine g_callq0 hC (g_runS hC (met_J1_parentOf (τ := (tc w1 y false)) hTw (some x) (v := some g) (Eq.trans rfl hp2) (fun _ y => by cases y; exact hx2)) (lw_S q1568 q1569 q85 q1570) md_J1_parentOf dJ1_fixAfterDeletion_258 rfl ⟨by omega, by omega⟩ (by omega) (by omega) rfl (Nat.le_of_ble_eq_true rfl)) (fun r_37 G_37 n_37 u_37 hp_37 hn_37 hm_37 hu_37 => ?_)
                    obtain ⟨rfl, rfl, rfl, rfl⟩ := hp_37
                    refine g_astore_n (L' := [(1, .ref g), (2, .ref y), (0, .ref t)]) hC dJ1_fixAfterDeletion_261 rfl (by decide) rfl ?_
                    refine g_goto (tgt := 342) hC dJ1_fixAfterDeletion_262 (by decide) ?_
                    refine g_goto (tgt := 0) hC dJ1_fixAfterDeletion_342 (by decide) ?_
                    refine V.sub [0, 2] rfl ?_
                    exact ih_ (tc w1 y false) q3 g rd (hW2) (hq2) (hK2.c) (hg2) (fun r_ e_ _ => by have a1 := hrb2 r_ e_; have a2 := hW2.ht r_ e_; simp only [tc]; grind) (hlf2) (fun _ e_ => by have := hin2b e_; have := hW2.up hx2 hp2; omega) (fun e_ => Or.inr (by have a1 := hrd1 e_; simp only [tc]; grind)) (by (cases rd with | true => (show 0 < kf_; omega) | false => (obtain ⟨e1, e2⟩ := hrd0 rfl; subst e1; subst e2; have j := hW.up hx h21; have j2 := hW.h0 g hSg; show ((HI - LO) - (q3.2.2 g - q3.2.1 g)).toNat + 1 < kf_; omega)))
            refine g_aload_n hC dJ1_fixAfterDeletion_186 rfl 0 rfl ?_
            refine g_callq0 hC (g_runS hC (met_J1_parentOf (τ := z) hTz (some x) (v := some g) h21 (fun _ y => by cases y; exact hx)) (lw_S q1568 q1569 q85 q1570) md_J1_parentOf dJ1_fixAfterDeletion_187 rfl ⟨by omega, by omega⟩ (by omega) (by omega) rfl (Nat.le_of_ble_eq_true rfl)) (fun r_38 G_38 n_38 u_38 hp_38 hn_38 hm_38 hu_38 => ?_)
            obtain ⟨rfl, rfl, rfl, rfl⟩ := hp_38
            refine g_callq0 hC (g_runS hC (met_J1_leftOf (τ := z) hTz (some g) (v := z.1 2 g) rfl (fun _ y => by cases y; exact hSg)) (lw_S q1571 q1572 q85 q1573) md_J1_leftOf dJ1_fixAfterDeletion_190 rfl ⟨by omega, by omega⟩ (by omega) (by omega) rfl (Nat.le_of_ble_eq_true rfl)) (fun r_39 G_39 n_39 u_39 hp_39 hn_39 hm_39 hu_39 => ?_)
            obtain ⟨rfl, rfl, rfl, rfl⟩ := hp_39
            rcases h34 : z.1 2 g with _ | y
            · refine g_astore_nN (L' := [(2, .null), (1, .ref x), (0, .ref t)]) hC dJ1_fixAfterDeletion_193 rfl (by decide) rfl ?_
              refine g_aload_nN hC dJ1_fixAfterDeletion_194 rfl 0 rfl ?_
              refine g_calli0 hC (g_runS hC (met_J1_colorOf (τ := z) hTz (none) (v := true) rfl (fun _ y => nomatch y)) (lw_S q1577 q1578 q85 q1579) md_J1_colorOf dJ1_fixAfterDeletion_195 rfl ⟨by omega, by omega⟩ (by omega) (by omega) rfl (Nat.le_of_ble_eq_true rfl)) (fun r_40 G_40 n_40 u_40 hp_40 hn_40 hm_40 hu_40 => ?_)
              obtain ⟨rfl, rfl, rfl, rfl⟩ := hp_40
              refine g_if_neB hC true dJ1_fixAfterDeletion_198 (tgt := 230) (by decide) (fun c_198 => ?_) (fun c_198 => ?_)
              · exact hj_230 z q2 none false (hW) (hq) (hK) (h21) (hkl) (h34) (hrb) (hlf) (hin2) (fun _ => ⟨rfl, rfl⟩) (fun e_ => Bool.noConfusion e_)
              · exact Bool.noConfusion c_198
            · have hSy := (hW.hl g y hSg h34).1
              refine g_astore_n (L' := [(2, .ref y), (1, .ref x), (0, .ref t)]) hC dJ1_fixAfterDeletion_193 rfl (by decide) rfl ?_
              refine g_aload_n hC dJ1_fixAfterDeletion_194 rfl 0 rfl ?_
              refine g_calli0 hC (g_runS hC (met_J1_colorOf (τ := z) hTz (some y) (v := z.2.1 y) rfl (fun _ y => by cases y; exact hSy)) (lw_S q1577 q1578 q85 q1579) md_J1_colorOf dJ1_fixAfterDeletion_195 rfl ⟨by omega, by omega⟩ (by omega) (by omega) rfl (Nat.le_of_ble_eq_true rfl)) (fun r_41 G_41 n_41 u_41 hp_41 hn_41 hm_41 hu_41 => ?_)
              obtain ⟨rfl, rfl, rfl, rfl⟩ := hp_41
              refine g_if_neB hC (z.2.1 y) dJ1_fixAfterDeletion_198 (tgt := 230) (by decide) (fun c_198 => ?_) (fun c_198 => ?_)
              · exact hj_230 z q2 (some y) false (hW) (hq) (hK) (h21) (hkl) (h34) (hrb) (hlf) (hin2) (fun _ => ⟨rfl, rfl⟩) (fun e_ => Bool.noConfusion e_)
              · refine g_aload_n hC dJ1_fixAfterDeletion_201 rfl 0 rfl ?_
                refine g_iconst (v := 1) hC dJ1_fixAfterDeletion_202 rfl ?_
                refine g_callv0 hC (g_runS hC (met_J1_setColor (τ := z) hTz (some y) true (τ2 := (tc z y true)) rfl (fun _ y => by cases y; exact hSy)) (lw_S q1580 q1581 q85 q1582) md_J1_setColor dJ1_fixAfterDeletion_203 rfl ⟨by omega, by omega⟩ (by omega) (by omega) rfl (Nat.le_of_ble_eq_true rfl)) (fun G_42 n_42 u_42 hp_42 hn_42 hm_42 hu_42 => ?_)
                obtain ⟨rfl, rfl, rfl⟩ := hp_42
                refine g_aload_n hC dJ1_fixAfterDeletion_206 rfl 1 rfl ?_
                refine g_callq0 hC (g_runS hC (met_J1_parentOf (τ := (tc z y true)) hTz (some x) (v := some g) (Eq.trans rfl h21) (fun _ y => by cases y; exact hx)) (lw_S q1568 q1569 q85 q1570) md_J1_parentOf dJ1_fixAfterDeletion_207 rfl ⟨by omega, by omega⟩ (by omega) (by omega) rfl (Nat.le_of_ble_eq_true rfl)) (fun r_43 G_43 n_43 u_43 hp_43 hn_43 hm_43 hu_43 => ?_)
                obtain ⟨rfl, rfl, rfl, rfl⟩ := hp_43
                refine g_iconst (v := 0) hC dJ1_fixAfterDeletion_210 rfl ?_
                refine g_callv0 hC (g_runS hC (met_J1_setColor (τ := (tc z y true)) hTz (some g) false (τ2 := (tc (tc z y true) g false)) rfl (fun _ y => by cases y; exact hSg)) (lw_S q1580 q1581 q85 q1582) md_J1_setColor dJ1_fixAfterDeletion_211 rfl ⟨by omega, by omega⟩ (by omega) (by omega) rfl (Nat.le_of_ble_eq_true rfl)) (fun G_44 n_44 u_44 hp_44 hn_44 hm_44 hu_44 => ?_)
                obtain ⟨rfl, rfl, rfl⟩ := hp_44
                refine g_aload_n hC dJ1_fixAfterDeletion_214 rfl 2 rfl ?_
                refine g_aload_n hC dJ1_fixAfterDeletion_215 rfl 1 rfl ?_
                refine g_callq0 hC (g_runS hC (met_J1_parentOf (τ := (tc (tc z y true) g false)) hTz (some x) (v := some g) (Eq.trans rfl (Eq.trans rfl h21)) (fun _ y => by cases y; exact hx)) (lw_S q1568 q1569 q85 q1570) md_J1_parentOf dJ1_fixAfterDeletion_216 rfl ⟨by omega, by omega⟩ (by omega) (by omega) rfl (Nat.le_of_ble_eq_true rfl)) (fun r_45 G_45 n_45 u_45 hp_45 hn_45 hm_45 hu_45 => ?_)
                obtain ⟨rfl, rfl, rfl, rfl⟩ := hp_45
                refine g_callv0 hC (g_runV hC (met_J1_rotateRight (τ := (tc (tc z y true) g false)) hTz g (r_ := y) hW hSg h34) kc_J1 tG_h (lw_V q1587 q1589 qs9 q85 q1590) rfl md_J1_rotateRight dJ1_fixAfterDeletion_219 rfl ⟨by omega, by omega⟩ (by omega) (by omega) rfl (Nat.le_of_ble_eq_true rfl)) (fun G_46 n_46 u_46 hp_46 hn_46 hm_46 hu_46 => ?_)
                obtain ⟨rfl, rfl, rfl⟩ := hp_46
                obtain ⟨z1, hz1⟩ : ∃ z1, rotR (tc (tc z y true) g false) g y = z1 := ⟨_, rfl⟩
                have u1 := hW.up hx h21
                have u2 := hW.hl g y hSg h34
                have u3 := hW.hr g x hSg hkl
                have u4 := hW.h0 g hSg
                have u5 := hW.h0 y hSy
                have u6 := hW.h0 x hx
                have u7 := hW.hr y x hSy
                have hxg : x ≠ g := fun e_ => by rw [e_] at u1; omega
                have hyg : g ≠ y := fun e_ => by rw [← e_] at u2; omega
                have hxy : x ≠ y := fun e_ => by rw [← e_] at u2; omega
                have hW1 := rotR_ok (τ := (tc (tc z y true) g false)) hW hSg h34
                have hK1 := hK.c.c.trans (rotR_K (τ := (tc (tc z y true) g false)) hW hSg h34).1
                have hs1 := (rotR_K (τ := (tc (tc z y true) g false)) hW hSg h34).2
                have hP1 := rotR_P (τ := (tc (tc z y true) g false)) hW hSg h34 x hx
                have hL1 := rotR_o (τ := (tc (tc z y true) g false)) hW hSg h34 g hSg
                have hR1 := rotR_k (τ := (tc (tc z y true) g false)) hW hSg h34 g hSg
                have h51 := rotR_5 (τ := (tc (tc z y true) g false)) hW hSg h34
                have hlo1 := rotR_o (τ := (tc (tc z y true) g false)) hW hSg h34 x_ hxz
                have hlk1 := rotR_k (τ := (tc (tc z y true) g false)) hW hSg h34 x_ hxz
                rw [hz1] at hW1 hK1 hs1 hP1 hL1 hR1 h51 hlo1 hlk1 ⊢
                rw [if_neg hxg, if_neg hxy, if_neg (show ¬ (tc (tc z y true) g false).1 3 y = some x from fun e_ => by have e2 := (u7 e_).2.1; rw [h21] at e2; cases e2; exact hyg rfl)] at hP1
                replace hP1 : z1.1 4 x = some g := hP1.trans h21
                rw [if_neg hyg, if_neg (show ¬ (tc (tc z y true) g false).1 3 g = some g from fun e_ => by have e2 : z.1 3 g = some g := e_; rw [hkl] at e2; cases e2; exact hxg rfl)] at hL1
                replace hL1 : z1.1 3 g = some x := hL1.trans hkl
                rw [if_pos rfl] at hR1
                replace hR1 : z1.1 2 g = z.1 3 y := hR1
                have hc1 : z1.2.1 g = false := by rw [hs1]; simp [tc]
                have hrb1 : ∀ r_, z1.1 5 0 = some r_ → z1.2.1 r_ = true := fun r_ e_ => by
                  have a0 : some r_ = if z.1 4 g = none then some y else z.1 5 0 := e_.symm.trans h51
                  have a1 := hrb r_
                  have a2 := hW.ht r_
                  rw [hs1]
                  show (if r_ = g then false else if r_ = y then true else z.2.1 r_) = true
                  grind
                have hx0y : lf = true → x_ ≠ g ∧ x_ ≠ y := fun e_ => by
                  have a1 := hin2 e_
                  have a2 := hW.h0 x_ hxz
                  exact ⟨fun e2 => by rw [e2] at a1 a2; omega, fun e2 => by rw [e2] at a1 a2; omega⟩
                have hlf1 : lf = true → z1.1 2 x_ = none ∧ z1.1 3 x_ = none := fun e_ => by
                  have a1 := hx0y e_
                  have a2 := hlf e_
                  have b1 : z1.1 3 x_ = if x_ = y then some g else if z.1 3 x_ = some g then some y else z.1 3 x_ := hlo1
                  have b2 : z1.1 2 x_ = if x_ = g then z.1 3 y else if z.1 2 x_ = some g then some y else z.1 2 x_ := hlk1
                  grind
                have hin1 : lf = true → (qR q2 g y).2.1 x ≤ (qR q2 g y).2.1 x_ ∧ (qR q2 g y).2.2 x_ ≤ (qR q2 g y).2.2 x := fun e_ => by
                  have a1 := hx0y e_
                  have a2 := hin2 e_
                  simp only [qR]
                  grind
                have hTz1 := hK1.T hT
                refine g_aload_n hC dJ1_fixAfterDeletion_222 rfl 1 rfl ?_
                refine g_callq0 hC (g_runS hC (met_J1_parentOf (τ := z1) hTz1 (some x) (v := some g) hP1 (fun _ y => by cases y; exact (by rw [hK1.k2, ← hK.k2]; exact hx))) (lw_S q1568 q1569 q85 q1570) md_J1_parentOf dJ1_fixAfterDeletion_223 rfl ⟨by omega, by omega⟩ (by omega) (by omega) rfl (Nat.le_of_ble_eq_true rfl)) (fun r_47 G_47 n_47 u_47 hp_47 hn_47 hm_47 hu_47 => ?_)
                obtain ⟨rfl, rfl, rfl, rfl⟩ := hp_47
                refine g_callq0 hC (g_runS hC (met_J1_leftOf (τ := z1) hTz1 (some g) (v := z.1 3 y) hR1 (fun _ y => by cases y; exact (by rw [hK1.k2, ← hK.k2]; exact hSg))) (lw_S q1571 q1572 q85 q1573) md_J1_leftOf dJ1_fixAfterDeletion_226 rfl ⟨by omega, by omega⟩ (by omega) (by omega) rfl (Nat.le_of_ble_eq_true rfl)) (fun r_48 G_48 n_48 u_48 hp_48 hn_48 hm_48 hu_48 => ?_)
                obtain ⟨rfl, rfl, rfl, rfl⟩ := hp_48
                refine g_qastore_n (L' := [(2, va_rf (z.1 3 y)), (1, .ref x), (0, .ref t)]) hC dJ1_fixAfterDeletion_229 rfl (by decide) rfl ?_
                exact hj_230 z1 (qR q2 g y) (z.1 3 y) true (hW1) (hq) (hK1) (hP1) (hL1) (hR1) (hrb1) (hlf1) (hin1) (fun e_ => Bool.noConfusion e_) (fun _ => hc1)
          · have hkl : z.1 2 g = some x := c_24.symm
            have hj_71 : ∀ (w1 : TS) (q3 : TQ) (yo : Option Nat) (rd : Bool), (TW w1 q3 LO HI) → (q3.1 = q.1) → (TK τ w1) → (w1.1 4 x = some g) → (w1.1 2 g = some x) → (w1.1 3 g = yo) → (∀ r_, w1.1 5 0 = some r_ → w1.2.1 r_ = true) → (lf = true → w1.1 2 x_ = none ∧ w1.1 3 x_ = none) → (lf = true → q3.2.1 x ≤ q3.2.1 x_ ∧ q3.2.2 x_ ≤ q3.2.2 x) → (rd = false → w1 = z ∧ q3 = q2) → (rd = true → w1.2.1 g = false) → V Y p l e R s m args below meth c 3 n u (tG t w1 B) n u Q 71 [(2, va_rf yo), (1, .ref x), (0, .ref t)] [] := by
              intro w1 q3 yo rd hW2 hq2 hK2 hp2 hl2 hy2 hrb2 hlf2 hin2b hrd0 hrd1
              have hTw := hK2.T hT
              have hx2 : w1.2.2.2 x = true := by rw [hK2.k2, ← hK.k2]; exact hx
              have hg2 : w1.2.2.2 g = true := by rw [hK2.k2, ← hK.k2]; exact hSg
              have hx_2 : w1.2.2.2 x_ = true := by rw [hK2.k2]; exact hx0
              have hj_143 : ∀ (w2 : TS) (q4 : TQ) (y2 : Nat), (TW w2 q4 LO HI) → (q4.1 = q.1) → (TK τ w2) → (w2.1 4 x = some g) → (w2.1 3 g = some y2) → (w2.1 2 g = some x) → (∀ r_, w2.1 5 0 = some r_ → w2.2.1 r_ = true) → (lf = true → w2.1 2 x_ = none ∧ w2.1 3 x_ = none) → (lf = true → q4.2.1 x ≤ q4.2.1 x_ ∧ q4.2.2 x_ ≤ q4.2.2 x) → V Y p l e R s m args below meth c 3 n u (tG t w2 B) n u Q 143 [(2, .ref y2), (1, .ref x), (0, .ref t)] [] := by
                intro w2 q4 y2 hW3 hq3 hK3 hp3 hy3 hl3 hrb3 hlf3 hin3
                have hTw2 := hK3.T hT
                have hx3 : w2.2.2.2 x = true := by rw [hK3.k2, ← hK.k2]; exact hx
                have hg3 : w2.2.2.2 g = true := by rw [hK3.k2, ← hK.k2]; exact hSg
                have hx_3 : w2.2.2.2 x_ = true := by rw [hK3.k2]; exact hx0
                have hSy3 := (hW3.hr g y2 hg3 hy3).1
                refine g_aload_n hC dJ1_fixAfterDeletion_143 rfl 0 rfl ?_
                refine g_aload_n hC dJ1_fixAfterDeletion_144 rfl 1 rfl ?_
                refine g_callq0 hC (g_runS hC (met_J1_parentOf (τ := w2) hTw2 (some x) (v := some g) hp3 (fun _ y => by cases y; exact hx3)) (lw_S q1568 q1569 q85 q1570) md_J1_parentOf dJ1_fixAfterDeletion_145 rfl ⟨by omega, by omega⟩ (by omega) (by omega) rfl (Nat.le_of_ble_eq_true rfl)) (fun r_49 G_49 n_49 u_49 hp_49 hn_49 hm_49 hu_49 => ?_)
                obtain ⟨rfl, rfl, rfl, rfl⟩ := hp_49
                refine g_calli0 hC (g_runS hC (met_J1_colorOf (τ := w2) hTw2 (some g) (v := w2.2.1 g) rfl (fun _ y => by cases y; exact hg3)) (lw_S q1577 q1578 q85 q1579) md_J1_colorOf dJ1_fixAfterDeletion_148 rfl ⟨by omega, by omega⟩ (by omega) (by omega) rfl (Nat.le_of_ble_eq_true rfl)) (fun r_50 G_50 n_50 u_50 hp_50 hn_50 hm_50 hu_50 => ?_)
                obtain ⟨rfl, rfl, rfl, rfl⟩ := hp_50
                refine g_callv0 hC (g_runS hC (met_J1_setColor (τ := w2) hTw2 (some y2) (w2.2.1 g) (τ2 := (tc w2 y2 (w2.2.1 g))) rfl (fun _ y => by cases y; exact hSy3)) (lw_S q1580 q1581 q85 q1582) md_J1_setColor dJ1_fixAfterDeletion_151 rfl ⟨by omega, by omega⟩ (by omega) (by omega) rfl (Nat.le_of_ble_eq_true rfl)) (fun G_51 n_51 u_51 hp_51 hn_51 hm_51 hu_51 => ?_)
                obtain ⟨rfl, rfl, rfl⟩ := hp_51
                refine g_aload_n hC dJ1_fixAfterDeletion_154 rfl 1 rfl ?_
                refine g_callq0 hC (g_runS hC (met_J1_parentOf (τ := (tc w2 y2 (w2.2.1 g))) hTw2 (some x) (v := some g) (Eq.trans rfl hp3) (fun _ y => by cases y; exact hx3)) (lw_S q1568 q1569 q85 q1570) md_J1_parentOf dJ1_fixAfterDeletion_155 rfl ⟨by omega, by omega⟩ (by omega) (by omega) rfl (Nat.le_of_ble_eq_true rfl)) (fun r_52 G_52 n_52 u_52 hp_52 hn_52 hm_52 hu_52 => ?_)
                obtain ⟨rfl, rfl, rfl, rfl⟩ := hp_52
                refine g_iconst (v := 1) hC dJ1_fixAfterDeletion_158 rfl ?_
                refine g_callv0 hC (g_runS hC (met_J1_setColor (τ := (tc w2 y2 (w2.2.1 g))) hTw2 (some g) true (τ2 := (tc (tc w2 y2 (w2.2.1 g)) g true)) rfl (fun _ y => by cases y; exact hg3)) (lw_S q1580 q1581 q85 q1582) md_J1_setColor dJ1_fixAfterDeletion_159 rfl ⟨by omega, by omega⟩ (by omega) (by omega) rfl (Nat.le_of_ble_eq_true rfl)) (fun G_53 n_53 u_53 hp_53 hn_53 hm_53 hu_53 => ?_)
                obtain ⟨rfl, rfl, rfl⟩ := hp_53
                refine g_aload_n hC dJ1_fixAfterDeletion_162 rfl 0 rfl ?_
                refine g_callq0 hC (g_runS hC (met_J1_rightOf (τ := (tc (tc w2 y2 (w2.2.1 g)) g true)) hTw2 (some y2) (v := w2.1 3 y2) rfl (fun _ y => by cases y; exact hSy3)) (lw_S q1574 q1575 q85 q1576) md_J1_rightOf dJ1_fixAfterDeletion_163 rfl ⟨by omega, by omega⟩ (by omega) (by omega) rfl (Nat.le_of_ble_eq_true rfl)) (fun r_54 G_54 n_54 u_54 hp_54 hn_54 hm_54 hu_54 => ?_)
                obtain ⟨rfl, rfl, rfl, rfl⟩ := hp_54
                rcases h166 : w2.1 3 y2 with _ | b_
                · refine g_iconst (v := 1) hC dJ1_fixAfterDeletion_166 rfl ?_
                  refine g_callv0 hC (g_runS hC (met_J1_setColor (τ := (tc (tc w2 y2 (w2.2.1 g)) g true)) hTw2 (none) true (τ2 := (tc (tc w2 y2 (w2.2.1 g)) g true)) rfl (fun _ y => nomatch y)) (lw_S q1580 q1581 q85 q1582) md_J1_setColor dJ1_fixAfterDeletion_167 rfl ⟨by omega, by omega⟩ (by omega) (by omega) rfl (Nat.le_of_ble_eq_true rfl)) (fun G_55 n_55 u_55 hp_55 hn_55 hm_55 hu_55 => ?_)
                  obtain ⟨rfl, rfl, rfl⟩ := hp_55
                  refine g_aload_n hC dJ1_fixAfterDeletion_170 rfl 2 rfl ?_
                  refine g_aload_n hC dJ1_fixAfterDeletion_171 rfl 1 rfl ?_
                  refine g_callq0 hC (g_runS hC (met_J1_parentOf (τ := (tc (tc w2 y2 (w2.2.1 g)) g true)) hTw2 (some x) (v := some g) (Eq.trans rfl (Eq.trans rfl hp3)) (fun _ y => by cases y; exact hx3)) (lw_S q1568 q1569 q85 q1570) md_J1_parentOf dJ1_fixAfterDeletion_172 rfl ⟨by omega, by omega⟩ (by omega) (by omega) rfl (Nat.le_of_ble_eq_true rfl)) (fun r_56 G_56 n_56 u_56 hp_56 hn_56 hm_56 hu_56 => ?_)
                  obtain ⟨rfl, rfl, rfl, rfl⟩ := hp_56
                  refine g_callv0 hC (g_runV hC (met_J1_rotateLeft (τ := (tc (tc w2 y2 (w2.2.1 g)) g true)) hTw2 g (r_ := y2) hW3 hg3 hy3) kc_J1 tG_h (lw_V q1583 q1585 qs8 q85 q1586) rfl md_J1_rotateLeft dJ1_fixAfterDeletion_175 rfl ⟨by omega, by omega⟩ (by omega) (by omega) rfl (Nat.le_of_ble_eq_true rfl)) (fun G_57 n_57 u_57 hp_57 hn_57 hm_57 hu_57 => ?_)
                  obtain ⟨rfl, rfl, rfl⟩ := hp_57
                  obtain ⟨z3, hz3⟩ : ∃ z3, rotL (tc (tc w2 y2 (w2.2.1 g)) g true) g y2 = z3 := ⟨_, rfl⟩
                  have hW5 := rotL_ok (τ := (tc (tc w2 y2 (w2.2.1 g)) g true)) hW3 hg3 hy3
                  have hK5 := (show TK τ (tc (tc w2 y2 (w2.2.1 g)) g true) from hK3.c.c).trans (rotL_K (τ := (tc (tc w2 y2 (w2.2.1 g)) g true)) hW3 hg3 hy3).1
                  have hs5 := (rotL_K (τ := (tc (tc w2 y2 (w2.2.1 g)) g true)) hW3 hg3 hy3).2
                  have h55 := rotL_5 (τ := (tc (tc w2 y2 (w2.2.1 g)) g true)) hW3 hg3 hy3
                  have hlo5 := rotL_o (τ := (tc (tc w2 y2 (w2.2.1 g)) g true)) hW3 hg3 hy3 x_ hx_3
                  have hlk5 := rotL_k (τ := (tc (tc w2 y2 (w2.2.1 g)) g true)) hW3 hg3 hy3 x_ hx_3
                  rw [hz3] at hW5 hK5 hs5 h55 hlo5 hlk5 ⊢
                  have hrb5 : ∀ r_, z3.1 5 0 = some r_ → z3.2.1 r_ = true := fun r_ e_ => by
                    have a0 : some r_ = if w2.1 4 g = none then some y2 else w2.1 5 0 := e_.symm.trans h55
                    have a1 := hrb3 r_
                    have a2 := hW3.ht r_
                    have a3 := hW3.hn g hg3
                    have a4 := hrb3 g
                    have a5 := hW3.hr g y2 hg3 hy3
                    rw [hs5]
                    show (if r_ = g then true else if r_ = y2 then w2.2.1 g else w2.2.1 r_) = true
                    grind
                  have hlf5 : lf = true → z3.1 2 x_ = none ∧ z3.1 3 x_ = none := fun e_ => by
                    have a1 := hin3 e_
                    have a2 := hW3.h0 x_ hx_3
                    have a3 := hlf3 e_
                    have v1 := hW3.up hx3 hp3
                    have v2 := hW3.hr g y2 hg3 hy3
                    have v3 := hW3.hl g x hg3 hl3
                    have v4 := hW3.h0 g hg3
                    have c1 : x_ ≠ g := fun e2 => by rw [e2] at a1 a2; omega
                    have c2 : x_ ≠ y2 := fun e2 => by rw [e2] at a1 a2; omega
                    have b1 : z3.1 2 x_ = if x_ = y2 then some g else if w2.1 2 x_ = some g then some y2 else w2.1 2 x_ := hlo5
                    have b2 : z3.1 3 x_ = if x_ = g then w2.1 2 y2 else if w2.1 3 x_ = some g then some y2 else w2.1 3 x_ := hlk5
                    grind
                  have hTz3 := hK5.T hT
                  refine g_aload_n hC dJ1_fixAfterDeletion_178 rfl 2 rfl ?_
                  refine t_getH (v := va_rf (z3.1 5 0)) hC 3 (by decide) q222 (congrArg (fun z => some (va_rf z)) rfl) dJ1_fixAfterDeletion_179 ?_
                  rcases h182 : z3.1 5 0 with _ | rt
                  · (obtain ⟨r9, e9⟩ := hW5.root' (a := x) (by rw [hK5.k2, ← hK.k2]; exact hx); rw [h182] at e9; cases e9)
                  refine g_astore_n (L' := [(1, .ref rt), (2, .ref y2), (0, .ref t)]) hC dJ1_fixAfterDeletion_182 rfl (by decide) rfl ?_
                  refine g_goto (tgt := 0) hC dJ1_fixAfterDeletion_183 (by decide) ?_
                  refine V.sub [0, 2] rfl ?_
                  exact ih_ z3 (qL q4 g y2) rt true (hW5) (hq3) (hK5) ((hW5.ht rt h182).1) (fun r_ e_ _ => hrb5 r_ e_) (hlf5) (fun e_ => Bool.noConfusion e_) (fun _ => Or.inl h182) (by show 0 < kf_; omega)
                · have hSb := (hW3.hr y2 b_ hSy3 h166).1
                  refine g_iconst (v := 1) hC dJ1_fixAfterDeletion_166 rfl ?_
                  refine g_callv0 hC (g_runS hC (met_J1_setColor (τ := (tc (tc w2 y2 (w2.2.1 g)) g true)) hTw2 (some b_) true (τ2 := (tc (tc (tc w2 y2 (w2.2.1 g)) g true) b_ true)) rfl (fun _ y => by cases y; exact hSb)) (lw_S q1580 q1581 q85 q1582) md_J1_setColor dJ1_fixAfterDeletion_167 rfl ⟨by omega, by omega⟩ (by omega) (by omega) rfl (Nat.le_of_ble_eq_true rfl)) (fun G_58 n_58 u_58 hp_58 hn_58 hm_58 hu_58 => ?_)
                  obtain ⟨rfl, rfl, rfl⟩ := hp_58
                  refine g_aload_n hC dJ1_fixAfterDeletion_170 rfl 2 rfl ?_
                  refine g_aload_n hC dJ1_fixAfterDeletion_171 rfl 1 rfl ?_
                  refine g_callq0 hC (g_runS hC (met_J1_parentOf (τ := (tc (tc (tc w2 y2 (w2.2.1 g)) g true) b_ true)) hTw2 (some x) (v := some g) (Eq.trans rfl (Eq.trans rfl (Eq.trans rfl hp3))) (fun _ y => by cases y; exact hx3)) (lw_S q1568 q1569 q85 q1570) md_J1_parentOf dJ1_fixAfterDeletion_172 rfl ⟨by omega, by omega⟩ (by omega) (by omega) rfl (Nat.le_of_ble_eq_true rfl)) (fun r_59 G_59 n_59 u_59 hp_59 hn_59 hm_59 hu_59 => ?_)
                  obtain ⟨rfl, rfl, rfl, rfl⟩ := hp_59
                  refine g_callv0 hC (g_runV hC (met_J1_rotateLeft (τ := (tc (tc (tc w2 y2 (w2.2.1 g)) g true) b_ true)) hTw2 g (r_ := y2) hW3 hg3 hy3) kc_J1 tG_h (lw_V q1583 q1585 qs8 q85 q1586) rfl md_J1_rotateLeft dJ1_fixAfterDeletion_175 rfl ⟨by omega, by omega⟩ (by omega) (by omega) rfl (Nat.le_of_ble_eq_true rfl)) (fun G_60 n_60 u_60 hp_60 hn_60 hm_60 hu_60 => ?_)
                  obtain ⟨rfl, rfl, rfl⟩ := hp_60
                  obtain ⟨z3, hz3⟩ : ∃ z3, rotL (tc (tc (tc w2 y2 (w2.2.1 g)) g true) b_ true) g y2 = z3 := ⟨_, rfl⟩
                  have hW5 := rotL_ok (τ := (tc (tc (tc w2 y2 (w2.2.1 g)) g true) b_ true)) hW3 hg3 hy3
                  have hK5 := (show TK τ (tc (tc (tc w2 y2 (w2.2.1 g)) g true) b_ true) from hK3.c.c.c).trans (rotL_K (τ := (tc (tc (tc w2 y2 (w2.2.1 g)) g true) b_ true)) hW3 hg3 hy3).1
                  have hs5 := (rotL_K (τ := (tc (tc (tc w2 y2 (w2.2.1 g)) g true) b_ true)) hW3 hg3 hy3).2
                  have h55 := rotL_5 (τ := (tc (tc (tc w2 y2 (w2.2.1 g)) g true) b_ true)) hW3 hg3 hy3
                  have hlo5 := rotL_o (τ := (tc (tc (tc w2 y2 (w2.2.1 g)) g true) b_ true)) hW3 hg3 hy3 x_ hx_3
                  have hlk5 := rotL_k (τ := (tc (tc (tc w2 y2 (w2.2.1 g)) g true) b_ true)) hW3 hg3 hy3 x_ hx_3
                  rw [hz3] at hW5 hK5 hs5 h55 hlo5 hlk5 ⊢
                  have hrb5 : ∀ r_, z3.1 5 0 = some r_ → z3.2.1 r_ = true := fun r_ e_ => by
                    have a0 : some r_ = if w2.1 4 g = none then some y2 else w2.1 5 0 := e_.symm.trans h55
                    have a1 := hrb3 r_
                    have a2 := hW3.ht r_
                    have a3 := hW3.hn g hg3
                    have a4 := hrb3 g
                    have a5 := hW3.hr g y2 hg3 hy3
                    rw [hs5]
                    show (if r_ = b_ then true else if r_ = g then true else if r_ = y2 then w2.2.1 g else w2.2.1 r_) = true
                    grind
                  have hlf5 : lf = true → z3.1 2 x_ = none ∧ z3.1 3 x_ = none := fun e_ => by
                    have a1 := hin3 e_
                    have a2 := hW3.h0 x_ hx_3
                    have a3 := hlf3 e_
                    have v1 := hW3.up hx3 hp3
                    have v2 := hW3.hr g y2 hg3 hy3
                    have v3 := hW3.hl g x hg3 hl3
                    have v4 := hW3.h0 g hg3
                    have c1 : x_ ≠ g := fun e2 => by rw [e2] at a1 a2; omega
                    have c2 : x_ ≠ y2 := fun e2 => by rw [e2] at a1 a2; omega
                    have b1 : z3.1 2 x_ = if x_ = y2 then some g else if w2.1 2 x_ = some g then some y2 else w2.1 2 x_ := hlo5
                    have b2 : z3.1 3 x_ = if x_ = g then w2.1 2 y2 else if w2.1 3 x_ = some g then some y2 else w2.1 3 x_ := hlk5
                    grind
                  have hTz3 := hK5.T hT
                  refine g_aload_n hC dJ1_fixAfterDeletion_178 rfl 2 rfl ?_
                  refine t_getH (v := va_rf (z3.1 5 0)) hC 3 (by decide) q222 (congrArg (fun z => some (va_rf z)) rfl) dJ1_fixAfterDeletion_179 ?_
                  rcases h182 : z3.1 5 0 with _ | rt
                  · (obtain ⟨r9, e9⟩ := hW5.root' (a := x) (by rw [hK5.k2, ← hK.k2]; exact hx); rw [h182] at e9; cases e9)
                  refine g_astore_n (L' := [(1, .ref rt), (2, .ref y2), (0, .ref t)]) hC dJ1_fixAfterDeletion_182 rfl (by decide) rfl ?_
                  refine g_goto (tgt := 0) hC dJ1_fixAfterDeletion_183 (by decide) ?_
                  refine V.sub [0, 2] rfl ?_
                  exact ih_ z3 (qL q4 g y2) rt true (hW5) (hq3) (hK5) ((hW5.ht rt h182).1) (fun r_ e_ _ => hrb5 r_ e_) (hlf5) (fun e_ => Bool.noConfusion e_) (fun _ => Or.inl h182) (by show 0 < kf_; omega)
              have hj_106 : ∀ (y : Nat), (yo = some y) → (¬ (cO w1 (w1.1 2 y) = true ∧ cO w1 (w1.1 3 y) = true)) → V Y p l e R s m args below meth c 3 n u (tG t w1 B) n u Q 106 [(2, .ref y), (1, .ref x), (0, .ref t)] [] := by
                intro y hyo hnb
                have hry : w1.1 3 g = some y := hy2.trans hyo
                have hSy2 := (hW2.hr g y hg2 hry).1
                refine g_aload_n hC dJ1_fixAfterDeletion_106 rfl 0 rfl ?_
                refine g_callq0 hC (g_runS hC (met_J1_rightOf (τ := w1) hTw (some y) (v := w1.1 3 y) rfl (fun _ y => by cases y; exact hSy2)) (lw_S q1574 q1575 q85 q1576) md_J1_rightOf dJ1_fixAfterDeletion_107 rfl ⟨by omega, by omega⟩ (by omega) (by omega) rfl (Nat.le_of_ble_eq_true rfl)) (fun r_61 G_61 n_61 u_61 hp_61 hn_61 hm_61 hu_61 => ?_)
                obtain ⟨rfl, rfl, rfl, rfl⟩ := hp_61
                refine g_calli0 hC (g_runS hC (met_J1_colorOf (τ := w1) hTw (w1.1 3 y) (v := cO w1 (w1.1 3 y)) rfl (fun a_ e_ => (hW2.hr y a_ hSy2 e_).1)) (lw_S q1577 q1578 q85 q1579) md_J1_colorOf dJ1_fixAfterDeletion_110 rfl ⟨by omega, by omega⟩ (by omega) (by omega) rfl (Nat.le_of_ble_eq_true rfl)) (fun r_62 G_62 n_62 u_62 hp_62 hn_62 hm_62 hu_62 => ?_)
                obtain ⟨rfl, rfl, rfl, rfl⟩ := hp_62
                refine g_iconst (v := 1) hC dJ1_fixAfterDeletion_113 rfl ?_
                refine g_icmp_ne hC dJ1_fixAfterDeletion_114 (tgt := 143) (by decide) (fun c_114 => ?_) (fun c_114 => ?_)
                · exact hj_143 w1 q3 y (hW2) (hq2) (hK2) (hp2) (hry) (hl2) (hrb2) (hlf2) (hin2b)
                · refine g_aload_n hC dJ1_fixAfterDeletion_117 rfl 0 rfl ?_
                  refine g_callq0 hC (g_runS hC (met_J1_leftOf (τ := w1) hTw (some y) (v := w1.1 2 y) rfl (fun _ y => by cases y; exact hSy2)) (lw_S q1571 q1572 q85 q1573) md_J1_leftOf dJ1_fixAfterDeletion_118 rfl ⟨by omega, by omega⟩ (by omega) (by omega) rfl (Nat.le_of_ble_eq_true rfl)) (fun r_63 G_63 n_63 u_63 hp_63 hn_63 hm_63 hu_63 => ?_)
                  obtain ⟨rfl, rfl, rfl, rfl⟩ := hp_63
                  rcases h121 : w1.1 2 y with _ | a_
                  · exact absurd ⟨by rw [h121]; rfl, b2i_1.mp c_114⟩ hnb
                  have hSa := (hW2.hl y a_ hSy2 h121).1
                  refine g_iconst (v := 1) hC dJ1_fixAfterDeletion_121 rfl ?_
                  refine g_callv0 hC (g_runS hC (met_J1_setColor (τ := w1) hTw (some a_) true (τ2 := (tc w1 a_ true)) rfl (fun _ y => by cases y; exact hSa)) (lw_S q1580 q1581 q85 q1582) md_J1_setColor dJ1_fixAfterDeletion_122 rfl ⟨by omega, by omega⟩ (by omega) (by omega) rfl (Nat.le_of_ble_eq_true rfl)) (fun G_64 n_64 u_64 hp_64 hn_64 hm_64 hu_64 => ?_)
                  obtain ⟨rfl, rfl, rfl⟩ := hp_64
                  refine g_aload_n hC dJ1_fixAfterDeletion_125 rfl 0 rfl ?_
                  refine g_iconst (v := 0) hC dJ1_fixAfterDeletion_126 rfl ?_
                  refine g_callv0 hC (g_runS hC (met_J1_setColor (τ := (tc w1 a_ true)) hTw (some y) false (τ2 := (tc (tc w1 a_ true) y false)) rfl (fun _ y => by cases y; exact hSy2)) (lw_S q1580 q1581 q85 q1582) md_J1_setColor dJ1_fixAfterDeletion_127 rfl ⟨by omega, by omega⟩ (by omega) (by omega) rfl (Nat.le_of_ble_eq_true rfl)) (fun G_65 n_65 u_65 hp_65 hn_65 hm_65 hu_65 => ?_)
                  obtain ⟨rfl, rfl, rfl⟩ := hp_65
                  refine g_aload_n hC dJ1_fixAfterDeletion_130 rfl 2 rfl ?_
                  refine g_aload_n hC dJ1_fixAfterDeletion_131 rfl 0 rfl ?_
                  refine g_callv0 hC (g_runV hC (met_J1_rotateRight (τ := (tc (tc w1 a_ true) y false)) hTw y (r_ := a_) hW2 hSy2 h121) kc_J1 tG_h (lw_V q1587 q1589 qs9 q85 q1590) rfl md_J1_rotateRight dJ1_fixAfterDeletion_132 rfl ⟨by omega, by omega⟩ (by omega) (by omega) rfl (Nat.le_of_ble_eq_true rfl)) (fun G_66 n_66 u_66 hp_66 hn_66 hm_66 hu_66 => ?_)
                  obtain ⟨rfl, rfl, rfl⟩ := hp_66
                  obtain ⟨z2, hz2⟩ : ∃ z2, rotR (tc (tc w1 a_ true) y false) y a_ = z2 := ⟨_, rfl⟩
                  have u1 := hW2.up hx2 hp2
                  have u2 := hW2.hr g y hg2 hry
                  have u3 := hW2.hl g x hg2 hl2
                  have u4 := hW2.h0 g hg2
                  have u5 := hW2.h0 y hSy2
                  have u6 := hW2.h0 x hx2
                  have u7 := hW2.hl y a_ hSy2 h121
                  have u8 := hW2.h0 a_ hSa
                  have hxy : x ≠ y := fun e_ => by rw [← e_] at u2; omega
                  have hyg : g ≠ y := fun e_ => by rw [← e_] at u2; omega
                  have hag : g ≠ a_ := fun e_ => by rw [← e_] at u7; omega
                  have hax : x ≠ a_ := fun e_ => by rw [← e_] at u7; omega
                  have hW4 := rotR_ok (τ := (tc (tc w1 a_ true) y false)) hW2 hSy2 h121
                  have hK4 := hK2.c.c.trans (rotR_K (τ := (tc (tc w1 a_ true) y false)) hW2 hSy2 h121).1
                  have hs4 := (rotR_K (τ := (tc (tc w1 a_ true) y false)) hW2 hSy2 h121).2
                  have hP4 := rotR_P (τ := (tc (tc w1 a_ true) y false)) hW2 hSy2 h121 x hx2
                  have hY4 := rotR_o (τ := (tc (tc w1 a_ true) y false)) hW2 hSy2 h121 g hg2
                  have hL4 := rotR_k (τ := (tc (tc w1 a_ true) y false)) hW2 hSy2 h121 g hg2
                  have h54 := rotR_5 (τ := (tc (tc w1 a_ true) y false)) hW2 hSy2 h121
                  have hlo4 := rotR_o (τ := (tc (tc w1 a_ true) y false)) hW2 hSy2 h121 x_ hx_2
                  have hlk4 := rotR_k (τ := (tc (tc w1 a_ true) y false)) hW2 hSy2 h121 x_ hx_2
                  have u9 := hW2.hr a_ x hSa
                  rw [hz2] at hW4 hK4 hs4 hP4 hY4 hL4 h54 hlo4 hlk4 ⊢
                  rw [if_neg hxy, if_neg hax, if_neg (show ¬ (tc (tc w1 a_ true) y false).1 3 a_ = some x from fun e_ => by have e2 := (u9 e_).2.1; rw [hp2] at e2; cases e2; exact hag rfl)] at hP4
                  replace hP4 : z2.1 4 x = some g := hP4.trans hp2
                  rw [if_neg hag, if_pos (show (tc (tc w1 a_ true) y false).1 3 g = some y from hry)] at hY4
                  rw [if_neg hyg, if_neg (show ¬ (tc (tc w1 a_ true) y false).1 2 g = some y from fun e_ => by have e2 : w1.1 2 g = some y := e_; rw [hl2] at e2; cases e2; exact hxy rfl)] at hL4
                  replace hL4 : z2.1 2 g = some x := hL4.trans hl2
                  have hrb4 : ∀ r_, z2.1 5 0 = some r_ → z2.2.1 r_ = true := fun r_ e_ => by
                    have a0 : some r_ = if w1.1 4 y = none then some a_ else w1.1 5 0 := e_.symm.trans h54
                    have a1 := hrb2 r_
                    have a2 := hW2.ht r_
                    rw [hs4]
                    show (if r_ = y then false else if r_ = a_ then true else w1.2.1 r_) = true
                    grind
                  have hx0y : lf = true → x_ ≠ a_ ∧ x_ ≠ y := fun e_ => by
                    have a1 := hin2b e_
                    have a2 := hW2.h0 x_ hx_2
                    exact ⟨fun e2 => by rw [e2] at a1 a2; omega, fun e2 => by rw [e2] at a1 a2; omega⟩
                  have hlf4 : lf = true → z2.1 2 x_ = none ∧ z2.1 3 x_ = none := fun e_ => by
                    have a1 := hx0y e_
                    have a2 := hlf2 e_
                    have b1 : z2.1 3 x_ = if x_ = a_ then some y else if w1.1 3 x_ = some y then some a_ else w1.1 3 x_ := hlo4
                    have b2 : z2.1 2 x_ = if x_ = y then w1.1 3 a_ else if w1.1 2 x_ = some y then some a_ else w1.1 2 x_ := hlk4
                    grind
                  have hin4 : lf = true → (qR q3 y a_).2.1 x ≤ (qR q3 y a_).2.1 x_ ∧ (qR q3 y a_).2.2 x_ ≤ (qR q3 y a_).2.2 x := fun e_ => by
                    have a1 := hx0y e_
                    have a2 := hin2b e_
                    simp only [qR]
                    grind
                  have hTz2 := hK4.T hT
                  refine g_aload_n hC dJ1_fixAfterDeletion_135 rfl 1 rfl ?_
                  refine g_callq0 hC (g_runS hC (met_J1_parentOf (τ := z2) hTz2 (some x) (v := some g) hP4 (fun _ y => by cases y; exact (by rw [hK4.k2, ← hK2.k2]; exact hx2))) (lw_S q1568 q1569 q85 q1570) md_J1_parentOf dJ1_fixAfterDeletion_136 rfl ⟨by omega, by omega⟩ (by omega) (by omega) rfl (Nat.le_of_ble_eq_true rfl)) (fun r_67 G_67 n_67 u_67 hp_67 hn_67 hm_67 hu_67 => ?_)
                  obtain ⟨rfl, rfl, rfl, rfl⟩ := hp_67
                  refine g_callq0 hC (g_runS hC (met_J1_rightOf (τ := z2) hTz2 (some g) (v := some a_) hY4 (fun _ y => by cases y; exact (by rw [hK4.k2, ← hK2.k2]; exact hg2))) (lw_S q1574 q1575 q85 q1576) md_J1_rightOf dJ1_fixAfterDeletion_139 rfl ⟨by omega, by omega⟩ (by omega) (by omega) rfl (Nat.le_of_ble_eq_true rfl)) (fun r_68 G_68 n_68 u_68 hp_68 hn_68 hm_68 hu_68 => ?_)
                  obtain ⟨rfl, rfl, rfl, rfl⟩ := hp_68
                  refine g_astore_n (L' := [(2, .ref a_), (1, .ref x), (0, .ref t)]) hC dJ1_fixAfterDeletion_142 rfl (by decide) rfl ?_
                  exact hj_143 z2 (qR q3 y a_) a_ (hW4) (hq2) (hK4) (hP4) (hY4) (hL4) (hrb4) (hlf4) (hin4)
              rcases yo with _ | y
              · have hTw := hK2.T hT
                have hx2 : w1.2.2.2 x = true := by rw [hK2.k2, ← hK.k2]; exact hx
                have hg2 : w1.2.2.2 g = true := by rw [hK2.k2, ← hK.k2]; exact hSg
                have hx_2 : w1.2.2.2 x_ = true := by rw [hK2.k2]; exact hx0
                refine g_aload_nN hC dJ1_fixAfterDeletion_71 rfl 0 rfl ?_
                refine g_callq0 hC (g_runS hC (met_J1_leftOf (τ := w1) hTw (none) (v := none) rfl (fun _ y => nomatch y)) (lw_S q1571 q1572 q85 q1573) md_J1_leftOf dJ1_fixAfterDeletion_72 rfl ⟨by omega, by omega⟩ (by omega) (by omega) rfl (Nat.le_of_ble_eq_true rfl)) (fun r_69 G_69 n_69 u_69 hp_69 hn_69 hm_69 hu_69 => ?_)
                obtain ⟨rfl, rfl, rfl, rfl⟩ := hp_69
                refine g_calli0 hC (g_runS hC (met_J1_colorOf (τ := w1) hTw (none) (v := true) rfl (fun _ y => nomatch y)) (lw_S q1577 q1578 q85 q1579) md_J1_colorOf dJ1_fixAfterDeletion_75 rfl ⟨by omega, by omega⟩ (by omega) (by omega) rfl (Nat.le_of_ble_eq_true rfl)) (fun r_70 G_70 n_70 u_70 hp_70 hn_70 hm_70 hu_70 => ?_)
                obtain ⟨rfl, rfl, rfl, rfl⟩ := hp_70
                refine g_iconst (v := 1) hC dJ1_fixAfterDeletion_78 rfl ?_
                refine g_icmp_ne hC dJ1_fixAfterDeletion_79 (tgt := 106) (by decide) (fun c_79 => ?_) (fun c_79 => ?_)
                · exact absurd c_79 (by decide)
                · refine g_aload_nN hC dJ1_fixAfterDeletion_82 rfl 0 rfl ?_
                  refine g_callq0 hC (g_runS hC (met_J1_rightOf (τ := w1) hTw (none) (v := none) rfl (fun _ y => nomatch y)) (lw_S q1574 q1575 q85 q1576) md_J1_rightOf dJ1_fixAfterDeletion_83 rfl ⟨by omega, by omega⟩ (by omega) (by omega) rfl (Nat.le_of_ble_eq_true rfl)) (fun r_71 G_71 n_71 u_71 hp_71 hn_71 hm_71 hu_71 => ?_)
                  obtain ⟨rfl, rfl, rfl, rfl⟩ := hp_71
                  refine g_calli0 hC (g_runS hC (met_J1_colorOf (τ := w1) hTw (none) (v := true) rfl (fun _ y => nomatch y)) (lw_S q1577 q1578 q85 q1579) md_J1_colorOf dJ1_fixAfterDeletion_86 rfl ⟨by omega, by omega⟩ (by omega) (by omega) rfl (Nat.le_of_ble_eq_true rfl)) (fun r_72 G_72 n_72 u_72 hp_72 hn_72 hm_72 hu_72 => ?_)
                  obtain ⟨rfl, rfl, rfl, rfl⟩ := hp_72
                  refine g_iconst (v := 1) hC dJ1_fixAfterDeletion_89 rfl ?_
                  refine g_icmp_ne hC dJ1_fixAfterDeletion_90 (tgt := 106) (by decide) (fun c_90 => ?_) (fun c_90 => ?_)
                  · exact absurd c_90 (by decide)
                  · refine g_aload_nN hC dJ1_fixAfterDeletion_93 rfl 0 rfl ?_
                    refine g_iconst (v := 0) hC dJ1_fixAfterDeletion_94 rfl ?_
                    refine g_callv0 hC (g_runS hC (met_J1_setColor (τ := w1) hTw (none) false (τ2 := w1) rfl (fun _ y => nomatch y)) (lw_S q1580 q1581 q85 q1582) md_J1_setColor dJ1_fixAfterDeletion_95 rfl ⟨by omega, by omega⟩ (by omega) (by omega) rfl (Nat.le_of_ble_eq_true rfl)) (fun G_73 n_73 u_73 hp_73 hn_73 hm_73 hu_73 => ?_)
                    obtain ⟨rfl, rfl, rfl⟩ := hp_73
                    refine g_aload_n hC dJ1_fixAfterDeletion_98 rfl 1 rfl ?_
                    refine g_callq0 hC (g_runS hC (met_J1_parentOf (τ := w1) hTw (some x) (v := some g) hp2 (fun _ y => by cases y; exact hx2)) (lw_S q1568 q1569 q85 q1570) md_J1_parentOf dJ1_fixAfterDeletion_99 rfl ⟨by omega, by omega⟩ (by omega) (by omega) rfl (Nat.le_of_ble_eq_true rfl)) (fun r_74 G_74 n_74 u_74 hp_74 hn_74 hm_74 hu_74 => ?_)
                    obtain ⟨rfl, rfl, rfl, rfl⟩ := hp_74
                    refine g_astore_n (L' := [(1, .ref g), (2, .null), (0, .ref t)]) hC dJ1_fixAfterDeletion_102 rfl (by decide) rfl ?_
                    refine g_goto (tgt := 183) hC dJ1_fixAfterDeletion_103 (by decide) ?_
                    refine g_goto (tgt := 0) hC dJ1_fixAfterDeletion_183 (by decide) ?_
                    refine V.sub [0, 2] rfl ?_
                    exact ih_ w1 q3 g rd (hW2) (hq2) (hK2) (hg2) (fun r_ e_ _ => hrb2 r_ e_) (hlf2) (fun _ e_ => by have := hin2b e_; have := hW2.up hx2 hp2; omega) (fun e_ => Or.inr (hrd1 e_)) (by (cases rd with | true => (show 0 < kf_; omega) | false => (obtain ⟨e1, e2⟩ := hrd0 rfl; subst e1; subst e2; have j := hW.up hx h21; have j2 := hW.h0 g hSg; show ((HI - LO) - (q3.2.2 g - q3.2.1 g)).toNat + 1 < kf_; omega)))
              · have hSy2 := (hW2.hr g y hg2 hy2).1
                have hTw := hK2.T hT
                have hx2 : w1.2.2.2 x = true := by rw [hK2.k2, ← hK.k2]; exact hx
                have hg2 : w1.2.2.2 g = true := by rw [hK2.k2, ← hK.k2]; exact hSg
                have hx_2 : w1.2.2.2 x_ = true := by rw [hK2.k2]; exact hx0
                refine g_aload_n hC dJ1_fixAfterDeletion_71 rfl 0 rfl ?_
                refine g_callq0 hC (g_runS hC (met_J1_leftOf (τ := w1) hTw (some y) (v := w1.1 2 y) rfl (fun _ y => by cases y; exact hSy2)) (lw_S q1571 q1572 q85 q1573) md_J1_leftOf dJ1_fixAfterDeletion_72 rfl ⟨by omega, by omega⟩ (by omega) (by omega) rfl (Nat.le_of_ble_eq_true rfl)) (fun r_75 G_75 n_75 u_75 hp_75 hn_75 hm_75 hu_75 => ?_)
                obtain ⟨rfl, rfl, rfl, rfl⟩ := hp_75
                refine g_calli0 hC (g_runS hC (met_J1_colorOf (τ := w1) hTw (w1.1 2 y) (v := cO w1 (w1.1 2 y)) rfl (fun a_ e_ => (hW2.hl y a_ hSy2 e_).1)) (lw_S q1577 q1578 q85 q1579) md_J1_colorOf dJ1_fixAfterDeletion_75 rfl ⟨by omega, by omega⟩ (by omega) (by omega) rfl (Nat.le_of_ble_eq_true rfl)) (fun r_76 G_76 n_76 u_76 hp_76 hn_76 hm_76 hu_76 => ?_)
                obtain ⟨rfl, rfl, rfl, rfl⟩ := hp_76
                refine g_iconst (v := 1) hC dJ1_fixAfterDeletion_78 rfl ?_
                refine g_icmp_ne hC dJ1_fixAfterDeletion_79 (tgt := 106) (by decide) (fun c_79 => ?_) (fun c_79 => ?_)
                · exact hj_106 y (rfl) (fun q_ => c_79 (by rw [q_.1]; rfl))
                · refine g_aload_n hC dJ1_fixAfterDeletion_82 rfl 0 rfl ?_
                  refine g_callq0 hC (g_runS hC (met_J1_rightOf (τ := w1) hTw (some y) (v := w1.1 3 y) rfl (fun _ y => by cases y; exact hSy2)) (lw_S q1574 q1575 q85 q1576) md_J1_rightOf dJ1_fixAfterDeletion_83 rfl ⟨by omega, by omega⟩ (by omega) (by omega) rfl (Nat.le_of_ble_eq_true rfl)) (fun r_77 G_77 n_77 u_77 hp_77 hn_77 hm_77 hu_77 => ?_)
                  obtain ⟨rfl, rfl, rfl, rfl⟩ := hp_77
                  refine g_calli0 hC (g_runS hC (met_J1_colorOf (τ := w1) hTw (w1.1 3 y) (v := cO w1 (w1.1 3 y)) rfl (fun a_ e_ => (hW2.hr y a_ hSy2 e_).1)) (lw_S q1577 q1578 q85 q1579) md_J1_colorOf dJ1_fixAfterDeletion_86 rfl ⟨by omega, by omega⟩ (by omega) (by omega) rfl (Nat.le_of_ble_eq_true rfl)) (fun r_78 G_78 n_78 u_78 hp_78 hn_78 hm_78 hu_78 => ?_)
                  obtain ⟨rfl, rfl, rfl, rfl⟩ := hp_78
                  refine g_iconst (v := 1) hC dJ1_fixAfterDeletion_89 rfl ?_
                  refine g_icmp_ne hC dJ1_fixAfterDeletion_90 (tgt := 106) (by decide) (fun c_90 => ?_) (fun c_90 => ?_)
                  · exact hj_106 y (rfl) (fun q_ => c_90 (by rw [q_.2]; rfl))
                  · refine g_aload_n hC dJ1_fixAfterDeletion_93 rfl 0 rfl ?_
                    refine g_iconst (v := 0) hC dJ1_fixAfterDeletion_94 rfl ?_
                    refine g_callv0 hC (g_runS hC (met_J1_setColor (τ := w1) hTw (some y) false (τ2 := (tc w1 y false)) rfl (fun _ y => by cases y; exact hSy2)) (lw_S q1580 q1581 q85 q1582) md_J1_setColor dJ1_fixAfterDeletion_95 rfl ⟨by omega, by omega⟩ (by omega) (by omega) rfl (Nat.le_of_ble_eq_true rfl)) (fun G_79 n_79 u_79 hp_79 hn_79 hm_79 hu_79 => ?_)
                    obtain ⟨rfl, rfl, rfl⟩ := hp_79
                    refine g_aload_n hC dJ1_fixAfterDeletion_98 rfl 1 rfl ?_
                    refine g_callq0 hC (g_runS hC (met_J1_parentOf (τ := (tc w1 y false)) hTw (some x) (v := some g) (Eq.trans rfl hp2) (fun _ y => by cases y; exact hx2)) (lw_S q1568 q1569 q85 q1570) md_J1_parentOf dJ1_fixAfterDeletion_99 rfl ⟨by omega, by omega⟩ (by omega) (by omega) rfl (Nat.le_of_ble_eq_true rfl)) (fun r_80 G_80 n_80 u_80 hp_80 hn_80 hm_80 hu_80 => ?_)
                    obtain ⟨rfl, rfl, rfl, rfl⟩ := hp_80
                    refine g_astore_n (L' := [(1, .ref g), (2, .ref y), (0, .ref t)]) hC dJ1_fixAfterDeletion_102 rfl (by decide) rfl ?_
                    refine g_goto (tgt := 183) hC dJ1_fixAfterDeletion_103 (by decide) ?_
                    refine g_goto (tgt := 0) hC dJ1_fixAfterDeletion_183 (by decide) ?_
                    refine V.sub [0, 2] rfl ?_
                    exact ih_ (tc w1 y false) q3 g rd (hW2) (hq2) (hK2.c) (hg2) (fun r_ e_ _ => by have a1 := hrb2 r_ e_; have a2 := hW2.ht r_ e_; simp only [tc]; grind) (hlf2) (fun _ e_ => by have := hin2b e_; have := hW2.up hx2 hp2; omega) (fun e_ => Or.inr (by have a1 := hrd1 e_; simp only [tc]; grind)) (by (cases rd with | true => (show 0 < kf_; omega) | false => (obtain ⟨e1, e2⟩ := hrd0 rfl; subst e1; subst e2; have j := hW.up hx h21; have j2 := hW.h0 g hSg; show ((HI - LO) - (q3.2.2 g - q3.2.1 g)).toNat + 1 < kf_; omega)))
            refine g_aload_n hC dJ1_fixAfterDeletion_27 rfl 0 rfl ?_
            refine g_callq0 hC (g_runS hC (met_J1_parentOf (τ := z) hTz (some x) (v := some g) h21 (fun _ y => by cases y; exact hx)) (lw_S q1568 q1569 q85 q1570) md_J1_parentOf dJ1_fixAfterDeletion_28 rfl ⟨by omega, by omega⟩ (by omega) (by omega) rfl (Nat.le_of_ble_eq_true rfl)) (fun r_81 G_81 n_81 u_81 hp_81 hn_81 hm_81 hu_81 => ?_)
            obtain ⟨rfl, rfl, rfl, rfl⟩ := hp_81
            refine g_callq0 hC (g_runS hC (met_J1_rightOf (τ := z) hTz (some g) (v := z.1 3 g) rfl (fun _ y => by cases y; exact hSg)) (lw_S q1574 q1575 q85 q1576) md_J1_rightOf dJ1_fixAfterDeletion_31 rfl ⟨by omega, by omega⟩ (by omega) (by omega) rfl (Nat.le_of_ble_eq_true rfl)) (fun r_82 G_82 n_82 u_82 hp_82 hn_82 hm_82 hu_82 => ?_)
            obtain ⟨rfl, rfl, rfl, rfl⟩ := hp_82
            rcases h34 : z.1 3 g with _ | y
            · refine g_astore_nN (L' := [(2, .null), (1, .ref x), (0, .ref t)]) hC dJ1_fixAfterDeletion_34 rfl (by decide) rfl ?_
              refine g_aload_nN hC dJ1_fixAfterDeletion_35 rfl 0 rfl ?_
              refine g_calli0 hC (g_runS hC (met_J1_colorOf (τ := z) hTz (none) (v := true) rfl (fun _ y => nomatch y)) (lw_S q1577 q1578 q85 q1579) md_J1_colorOf dJ1_fixAfterDeletion_36 rfl ⟨by omega, by omega⟩ (by omega) (by omega) rfl (Nat.le_of_ble_eq_true rfl)) (fun r_83 G_83 n_83 u_83 hp_83 hn_83 hm_83 hu_83 => ?_)
              obtain ⟨rfl, rfl, rfl, rfl⟩ := hp_83
              refine g_if_neB hC true dJ1_fixAfterDeletion_39 (tgt := 71) (by decide) (fun c_39 => ?_) (fun c_39 => ?_)
              · exact hj_71 z q2 none false (hW) (hq) (hK) (h21) (hkl) (h34) (hrb) (hlf) (hin2) (fun _ => ⟨rfl, rfl⟩) (fun e_ => Bool.noConfusion e_)
              · exact Bool.noConfusion c_39
            · have hSy := (hW.hr g y hSg h34).1
              refine g_astore_n (L' := [(2, .ref y), (1, .ref x), (0, .ref t)]) hC dJ1_fixAfterDeletion_34 rfl (by decide) rfl ?_
              refine g_aload_n hC dJ1_fixAfterDeletion_35 rfl 0 rfl ?_
              refine g_calli0 hC (g_runS hC (met_J1_colorOf (τ := z) hTz (some y) (v := z.2.1 y) rfl (fun _ y => by cases y; exact hSy)) (lw_S q1577 q1578 q85 q1579) md_J1_colorOf dJ1_fixAfterDeletion_36 rfl ⟨by omega, by omega⟩ (by omega) (by omega) rfl (Nat.le_of_ble_eq_true rfl)) (fun r_84 G_84 n_84 u_84 hp_84 hn_84 hm_84 hu_84 => ?_)
              obtain ⟨rfl, rfl, rfl, rfl⟩ := hp_84
              refine g_if_neB hC (z.2.1 y) dJ1_fixAfterDeletion_39 (tgt := 71) (by decide) (fun c_39 => ?_) (fun c_39 => ?_)
              · exact hj_71 z q2 (some y) false (hW) (hq) (hK) (h21) (hkl) (h34) (hrb) (hlf) (hin2) (fun _ => ⟨rfl, rfl⟩) (fun e_ => Bool.noConfusion e_)
              · refine g_aload_n hC dJ1_fixAfterDeletion_42 rfl 0 rfl ?_
                refine g_iconst (v := 1) hC dJ1_fixAfterDeletion_43 rfl ?_
                refine g_callv0 hC (g_runS hC (met_J1_setColor (τ := z) hTz (some y) true (τ2 := (tc z y true)) rfl (fun _ y => by cases y; exact hSy)) (lw_S q1580 q1581 q85 q1582) md_J1_setColor dJ1_fixAfterDeletion_44 rfl ⟨by omega, by omega⟩ (by omega) (by omega) rfl (Nat.le_of_ble_eq_true rfl)) (fun G_85 n_85 u_85 hp_85 hn_85 hm_85 hu_85 => ?_)
                obtain ⟨rfl, rfl, rfl⟩ := hp_85
                refine g_aload_n hC dJ1_fixAfterDeletion_47 rfl 1 rfl ?_
                refine g_callq0 hC (g_runS hC (met_J1_parentOf (τ := (tc z y true)) hTz (some x) (v := some g) (Eq.trans rfl h21) (fun _ y => by cases y; exact hx)) (lw_S q1568 q1569 q85 q1570) md_J1_parentOf dJ1_fixAfterDeletion_48 rfl ⟨by omega, by omega⟩ (by omega) (by omega) rfl (Nat.le_of_ble_eq_true rfl)) (fun r_86 G_86 n_86 u_86 hp_86 hn_86 hm_86 hu_86 => ?_)
                obtain ⟨rfl, rfl, rfl, rfl⟩ := hp_86
                refine g_iconst (v := 0) hC dJ1_fixAfterDeletion_51 rfl ?_
                refine g_callv0 hC (g_runS hC (met_J1_setColor (τ := (tc z y true)) hTz (some g) false (τ2 := (tc (tc z y true) g false)) rfl (fun _ y => by cases y; exact hSg)) (lw_S q1580 q1581 q85 q1582) md_J1_setColor dJ1_fixAfterDeletion_52 rfl ⟨by omega, by omega⟩ (by omega) (by omega) rfl (Nat.le_of_ble_eq_true rfl)) (fun G_87 n_87 u_87 hp_87 hn_87 hm_87 hu_87 => ?_)
                obtain ⟨rfl, rfl, rfl⟩ := hp_87
                refine g_aload_n hC dJ1_fixAfterDeletion_55 rfl 2 rfl ?_
                refine g_aload_n hC dJ1_fixAfterDeletion_56 rfl 1 rfl ?_
                refine g_callq0 hC (g_runS hC (met_J1_parentOf (τ := (tc (tc z y true) g false)) hTz (some x) (v := some g) (Eq.trans rfl (Eq.trans rfl h21)) (fun _ y => by cases y; exact hx)) (lw_S q1568 q1569 q85 q1570) md_J1_parentOf dJ1_fixAfterDeletion_57 rfl ⟨by omega, by omega⟩ (by omega) (by omega) rfl (Nat.le_of_ble_eq_true rfl)) (fun r_88 G_88 n_88 u_88 hp_88 hn_88 hm_88 hu_88 => ?_)
                obtain ⟨rfl, rfl, rfl, rfl⟩ := hp_88
                refine g_callv0 hC (g_runV hC (met_J1_rotateLeft (τ := (tc (tc z y true) g false)) hTz g (r_ := y) hW hSg h34) kc_J1 tG_h (lw_V q1583 q1585 qs8 q85 q1586) rfl md_J1_rotateLeft dJ1_fixAfterDeletion_60 rfl ⟨by omega, by omega⟩ (by omega) (by omega) rfl (Nat.le_of_ble_eq_true rfl)) (fun G_89 n_89 u_89 hp_89 hn_89 hm_89 hu_89 => ?_)
                obtain ⟨rfl, rfl, rfl⟩ := hp_89
                obtain ⟨z1, hz1⟩ : ∃ z1, rotL (tc (tc z y true) g false) g y = z1 := ⟨_, rfl⟩
                have u1 := hW.up hx h21
                have u2 := hW.hr g y hSg h34
                have u3 := hW.hl g x hSg hkl
                have u4 := hW.h0 g hSg
                have u5 := hW.h0 y hSy
                have u6 := hW.h0 x hx
                have u7 := hW.hl y x hSy
                have hxg : x ≠ g := fun e_ => by rw [e_] at u1; omega
                have hyg : g ≠ y := fun e_ => by rw [← e_] at u2; omega
                have hxy : x ≠ y := fun e_ => by rw [← e_] at u2; omega
                have hW1 := rotL_ok (τ := (tc (tc z y true) g false)) hW hSg h34
                have hK1 := hK.c.c.trans (rotL_K (τ := (tc (tc z y true) g false)) hW hSg h34).1
                have hs1 := (rotL_K (τ := (tc (tc z y true) g false)) hW hSg h34).2
                have hP1 := rotL_P (τ := (tc (tc z y true) g false)) hW hSg h34 x hx
                have hL1 := rotL_o (τ := (tc (tc z y true) g false)) hW hSg h34 g hSg
                have hR1 := rotL_k (τ := (tc (tc z y true) g false)) hW hSg h34 g hSg
                have h51 := rotL_5 (τ := (tc (tc z y true) g false)) hW hSg h34
                have hlo1 := rotL_o (τ := (tc (tc z y true) g false)) hW hSg h34 x_ hxz
                have hlk1 := rotL_k (τ := (tc (tc z y true) g false)) hW hSg h34 x_ hxz
                rw [hz1] at hW1 hK1 hs1 hP1 hL1 hR1 h51 hlo1 hlk1 ⊢
                rw [if_neg hxg, if_neg hxy, if_neg (show ¬ (tc (tc z y true) g false).1 2 y = some x from fun e_ => by have e2 := (u7 e_).2.1; rw [h21] at e2; cases e2; exact hyg rfl)] at hP1
                replace hP1 : z1.1 4 x = some g := hP1.trans h21
                rw [if_neg hyg, if_neg (show ¬ (tc (tc z y true) g false).1 2 g = some g from fun e_ => by have e2 : z.1 2 g = some g := e_; rw [hkl] at e2; cases e2; exact hxg rfl)] at hL1
                replace hL1 : z1.1 2 g = some x := hL1.trans hkl
                rw [if_pos rfl] at hR1
                replace hR1 : z1.1 3 g = z.1 2 y := hR1
                have hc1 : z1.2.1 g = false := by rw [hs1]; simp [tc]
                have hrb1 : ∀ r_, z1.1 5 0 = some r_ → z1.2.1 r_ = true := fun r_ e_ => by
                  have a0 : some r_ = if z.1 4 g = none then some y else z.1 5 0 := e_.symm.trans h51
                  have a1 := hrb r_
                  have a2 := hW.ht r_
                  rw [hs1]
                  show (if r_ = g then false else if r_ = y then true else z.2.1 r_) = true
                  grind
                have hx0y : lf = true → x_ ≠ g ∧ x_ ≠ y := fun e_ => by
                  have a1 := hin2 e_
                  have a2 := hW.h0 x_ hxz
                  exact ⟨fun e2 => by rw [e2] at a1 a2; omega, fun e2 => by rw [e2] at a1 a2; omega⟩
                have hlf1 : lf = true → z1.1 2 x_ = none ∧ z1.1 3 x_ = none := fun e_ => by
                  have a1 := hx0y e_
                  have a2 := hlf e_
                  have b1 : z1.1 2 x_ = if x_ = y then some g else if z.1 2 x_ = some g then some y else z.1 2 x_ := hlo1
                  have b2 : z1.1 3 x_ = if x_ = g then z.1 2 y else if z.1 3 x_ = some g then some y else z.1 3 x_ := hlk1
                  grind
                have hin1 : lf = true → (qL q2 g y).2.1 x ≤ (qL q2 g y).2.1 x_ ∧ (qL q2 g y).2.2 x_ ≤ (qL q2 g y).2.2 x := fun e_ => by
                  have a1 := hx0y e_
                  have a2 := hin2 e_
                  simp only [qL]
                  grind
                have hTz1 := hK1.T hT
                refine g_aload_n hC dJ1_fixAfterDeletion_63 rfl 1 rfl ?_
                refine g_callq0 hC (g_runS hC (met_J1_parentOf (τ := z1) hTz1 (some x) (v := some g) hP1 (fun _ y => by cases y; exact (by rw [hK1.k2, ← hK.k2]; exact hx))) (lw_S q1568 q1569 q85 q1570) md_J1_parentOf dJ1_fixAfterDeletion_64 rfl ⟨by omega, by omega⟩ (by omega) (by omega) rfl (Nat.le_of_ble_eq_true rfl)) (fun r_90 G_90 n_90 u_90 hp_90 hn_90 hm_90 hu_90 => ?_)
                obtain ⟨rfl, rfl, rfl, rfl⟩ := hp_90
                refine g_callq0 hC (g_runS hC (met_J1_rightOf (τ := z1) hTz1 (some g) (v := z.1 2 y) hR1 (fun _ y => by cases y; exact (by rw [hK1.k2, ← hK.k2]; exact hSg))) (lw_S q1574 q1575 q85 q1576) md_J1_rightOf dJ1_fixAfterDeletion_67 rfl ⟨by omega, by omega⟩ (by omega) (by omega) rfl (Nat.le_of_ble_eq_true rfl)) (fun r_91 G_91 n_91 u_91 hp_91 hn_91 hm_91 hu_91 => ?_)
                obtain ⟨rfl, rfl, rfl, rfl⟩ := hp_91
                refine g_qastore_n (L' := [(2, va_rf (z.1 2 y)), (1, .ref x), (0, .ref t)]) hC dJ1_fixAfterDeletion_70 rfl (by decide) rfl ?_
                exact hj_71 z1 (qL q2 g y) (z.1 2 y) true (hW1) (hq) (hK1) (hP1) (hL1) (hR1) (hrb1) (hlf1) (hin1) (fun e_ => Bool.noConfusion e_) (fun _ => hc1)
  refine V.sub [1, 0] rfl ?_
  exact hl_0 ((if false = true then 0 else ((HI - LO) - (q.2.2 x_ - q.2.1 x_)).toNat + 1) + 1) τ q x_ false (hW0) (rfl) (TK.refl) (hx0) (hrb0) (hlf0) (fun _ _ => ⟨Int.le_refl _, Int.le_refl _⟩) (fun e_ => Bool.noConfusion e_) (by omega)
