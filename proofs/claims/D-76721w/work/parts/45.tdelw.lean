set_option maxRecDepth 100000
/-! TREE MAPS, 15: an entry taken out: the walk -/
theorem upn_iv {τ : TS} {q : TQ} {LO HI : Int} (h : TW τ q LO HI) {b : Nat} (hb : τ.2.2.2 b = true) : ∀ (j a : Nat), upn τ j b = some a → τ.2.2.2 a = true ∧ q.2.1 a ≤ q.2.1 b ∧ q.2.2 b ≤ q.2.2 a := by
  intro j
  induction j with
  | zero => intro a e; cases e; exact ⟨hb, Int.le_refl _, Int.le_refl _⟩
  | succ j ih =>
    intro a e
    cases e2 : upn τ j b with
    | none => rw [show upn τ (j + 1) b = (upn τ j b).bind (τ.1 4) from rfl, e2] at e; cases e
    | some d =>
      rw [show upn τ (j + 1) b = (upn τ j b).bind (τ.1 4) from rfl, e2] at e
      obtain ⟨h1, h2, h3⟩ := ih d e2
      have h4 := h.up h1 (show τ.1 4 d = some a from e)
      exact ⟨(h.hp d a h1 e).1, by omega, by omega⟩
theorem TW.sucL {τ : TS} {q : TQ} {LO HI : Int} (h : TW τ q LO HI) {x r s : Nat} (hx : τ.2.2.2 x = true) (hr : τ.1 3 x = some r) (hn : NX τ q (q.1 x) (some s)) : τ.1 2 s = none := by
  obtain ⟨h1, h2, h3⟩ := hn
  have hR := h.hr x r hx hr
  have h0 := h.h0 r hR.1
  have hle := h3 r hR.1 (by omega)
  obtain ⟨j, e⟩ := h.anc h1 ((HI - LO) - (q.2.2 r - q.2.1 r) + 1).toNat r hR.1 (by omega) (by omega) (by omega)
  have h4 := upn_iv h h1 j r e
  cases e2 : τ.1 2 s with
  | none => rfl
  | some y =>
    have h5 := h.hl s y h1 e2
    have h6 := h.h0 y h5.1
    have h7 := h3 y h5.1 (by omega)
    omega
theorem TW.alone {z : TS} {q : TQ} {LO HI : Int} {d : Nat} (h : TW z q LO HI) (hd : z.2.2.2 d = true) (h2 : z.1 2 d = none) (h3 : z.1 3 d = none) (h4 : z.1 4 d = none) : ∀ b, z.2.2.2 b = true → b = d := fun b hb => by
  have h5 := h.ht d (h.hn d hd h4)
  have h6 := h.rootin hb
  have h7 := h.desc hd hb (by omega) (by omega)
  rcases Int.lt_trichotomy (q.1 b) (q.1 d) with e | e | e
  · obtain ⟨y, hy, _⟩ := h7.1 e; rw [h2] at hy; cases hy
  · exact (h7.2.2 e.symm).symm
  · obtain ⟨y, hy, _⟩ := h7.2.1 e; rw [h3] at hy; cases hy
theorem cut_k {z : TS} {d y k a : Nat} (hk : k < 2 ∨ 5 < k) : (cutT z d y).1 k a = z.1 k a := by
  unfold cutT
  split
  · rw [tr_nk (by omega), tr_nk (by omega), tr_nk (by omega), tr_nk (by omega), tr_nk (by omega)]
  · split <;> rw [tr_nk (by omega), tr_nk (by omega), tr_nk (by omega), tr_nk (by omega), tr_nk (by omega)]
theorem cut_2 {z : TS} {d y : Nat} : (cutT z d y).2 = z.2 := by
  unfold cutT
  split
  · rfl
  · split <;> rfl
theorem cut_5 {z : TS} {d y g : Nat} (h : z.1 4 d = some g) : (cutT z d y).1 5 0 = z.1 5 0 := by
  unfold cutT
  rw [h]
  simp only []
  split <;> rw [tr_nk (by omega), tr_nk (by omega), tr_nk (by omega), tr_nk (by omega), tr_nk (by omega)]
theorem cut_5n {z : TS} {d y : Nat} (h : z.1 4 d = none) : (cutT z d y).1 5 0 = some y := by
  unfold cutT
  rw [h]
  simp only []
  rw [tr_nk (by omega), tr_nk (by omega), tr_nk (by omega), tr_hit]
/-- what a deletion leaves -/
def DL (τ : TS) (q : TQ) (LO HI : Int) (M : MP) (x t : Nat) (B : AH) (τ' : TS) (q' : TQ) (B' : AH) : Prop := TM τ' q' LO HI (mdel (q.1 x) M) ∧ (∀ b, τ'.2.2.2 b = true → ∃ a, τ.2.2.2 a = true ∧ q.1 a = q'.1 b ∧ τ'.1 0 b = τ.1 0 a) ∧ (∀ b, τ'.2.2.2 b = true → τ.2.2.2 b = true) ∧ (∀ k, 5 < k → τ'.1 k 0 = τ.1 k 0) ∧ ∀ a, τ.2.2.2 a = false → a ≠ t → B' a = B a
theorem DL.mk' {τ z U w : TS} {q q3 : TQ} {LO HI : Int} {M : MP} {x d t : Nat} {B : AH} (h : TM τ q LO HI M) (hx : τ.2.2.2 x = true) (hd : τ.2.2.2 d = true)
    (k0 : ∀ a, a ≠ d → z.1 0 a = τ.1 0 (if a = x then d else a)) (k1 : ∀ a, a ≠ d → z.1 1 a = τ.1 1 (if a = x then d else a))
    (hno : ∀ a, τ.2.2.2 a = true → q.1 x < q.1 a → q.1 d ≤ q.1 a) (hle : q.1 x ≤ q.1 d) (hzi : z.2.2.1 0 = nI (M.length - 1)) (hzh : ∀ k, 5 < k → z.1 k 0 = τ.1 k 0)
    (hUS : U.2.2.2 = τ.2.2.2) (hW : TW w q3 LO HI) (hq : q3.1 = q.1) (hw2 : w.2.2 = (tdel U d).2.2) (hUi : U.2.2.1 0 = z.2.2.1 0) (hwk : ∀ k a, k < 2 ∨ 5 < k → w.1 k a = z.1 k a) (hrb : ∀ r, w.1 5 0 = some r → w.2.1 r = true) :
    ∃ q', DL τ q LO HI M x t B w q' (tG t U B) := by
  have hwS : w.2.2.2 = fun b => τ.2.2.2 b && !(b == d) := by rw [hw2, ← hUS]; rfl
  obtain ⟨q', h1, h2⟩ := del_M h hx hd k0 k1 hno hle hzi hW hq hwS (by rw [hw2]; exact hUi) (fun k a hk => hwk k a (Or.inl hk)) hrb
  refine ⟨q', h1, h2, fun b hb => ?_, fun k hk => (hwk k 0 (Or.inr hk)).trans (hzh k hk), fun a ha hat => ?_⟩
  · rw [hwS] at hb; simp at hb; exact hb.1
  · exact tG_b hat (by rw [hUS]; exact ha)
set_option maxHeartbeats 4000000 in
theorem met_J1_deleteEntry {Y : YT} {l : Launch} {t n u : Nat} {τ : TS} {B : AH} (hT : TQ_ Y t τ) (x_ : Nat) {q : TQ} {LO HI : Int} {M : MP} (hM : TM τ q LO HI M) (hx0 : τ.2.2.2 x_ = true) : GM Y l yJ1_deleteEntry (ws_ yJ1_deleteEntry cJ1_deleteEntry 3 none) 2 44 [.ref t, .ref x_] (tG t τ B) n u 0 0 (pV (fun G' n' u' => ∃ τ' q' B', DL τ q LO HI M x_ t B τ' q' B' ∧ tG t τ' B' = G' ∧ n = n' ∧ u = u')) noX := by
  refine GM.intro (own := RJ1) rfl (by decide +kernel) (Nat.le_of_ble_eq_true rfl) ?_
  intro p e s m args below meth c R Q hC hr hnm hF hL hE
  have hE1 := hE.1
  have hE2 := hE.2.1
  show V Y p l e R s m args below meth c 3 n u (tG t τ B) n u Q 0 [(0, .ref t), (1, .ref x_)] []
  refine g_aload_n hC dJ1_deleteEntry_0 rfl 0 rfl ?_
  refine g_dup hC dJ1_deleteEntry_1 rfl ?_
  refine t_getH (v := .int (τ.2.2.1 1)) hC 5 (by decide) q224 (congrArg (fun z => some (Value.int z)) rfl) dJ1_deleteEntry_2 ?_
  refine g_iconst (v := 1) hC dJ1_deleteEntry_5 rfl ?_
  refine g_iadd hC dJ1_deleteEntry_6 ?_
  refine t_putI (τ := τ) hC hT 1 (by decide) ((τ.2.2.1 1) + 1) q224 dJ1_deleteEntry_7 ?_
  refine g_aload_n hC dJ1_deleteEntry_10 rfl 0 rfl ?_
  refine g_dup hC dJ1_deleteEntry_11 rfl ?_
  refine t_getH (v := .int (τ.2.2.1 0)) hC 4 (by decide) q223 (congrArg (fun z => some (Value.int z)) (ti_n (by decide))) dJ1_deleteEntry_12 ?_
  refine g_iconst (v := 1) hC dJ1_deleteEntry_15 rfl ?_
  refine g_isub hC dJ1_deleteEntry_16 ?_
  refine t_putI (τ := (ti τ 1 ((τ.2.2.1 1) + 1))) hC hT 0 (by decide) ((τ.2.2.1 0) - 1) q223 dJ1_deleteEntry_17 ?_
  have hsz : (ti (ti τ 1 ((τ.2.2.1 1) + 1)) 0 ((τ.2.2.1 0) - 1)).2.2.1 0 = nI (M.length - 1) := by
    obtain ⟨k9, _, hm9⟩ := hM.at_ hx0
    have h9 := List.length_pos_of_mem hm9
    rw [ti_hit, hM.sz]
    exact nI_sub (b := 1) (by omega)
  have hj_57 : ∀ (d : Nat) (z : TS), (TW z q LO HI) → (z.2.2.2 d = true) → (z.2.2.2 = τ.2.2.2) → (z.2.1 = τ.2.1) → (∀ k_, 5 ≤ k_ → z.1 k_ 0 = τ.1 k_ 0) → (z.2.2.1 0 = nI (M.length - 1)) → (∀ a, a ≠ d → z.1 0 a = τ.1 0 (if a = x_ then d else a)) → (∀ a, a ≠ d → z.1 1 a = τ.1 1 (if a = x_ then d else a)) → (∀ a, τ.2.2.2 a = true → q.1 x_ < q.1 a → q.1 d ≤ q.1 a) → (q.1 x_ ≤ q.1 d) → (z.1 2 d = none ∨ z.1 3 d = none) → V Y p l e R s m args below meth c 3 n u (tG t z B) n u Q 57 [(1, .ref d), (0, .ref t)] [] := by
    intro d z hW2 hd hzS hzc hzh hzi hk0 hk1 hno hle hlr
    have hTz : TQ_ Y t z := by unfold TQ_; rw [hzS]; exact hT
    have hj_80 : ∀ (y : Nat), ((z.1 2 d = some y ∧ z.1 3 d = none) ∨ (z.1 3 d = some y ∧ z.1 2 d = none)) → V Y p l e R s m args below meth c 3 n u (tG t z B) n u Q 80 [(2, .ref y), (1, .ref d), (0, .ref t)] [] := by
      intro y hy
      have hSy : z.2.2.2 y = true := by rcases hy with e_ | e_; exact (hW2.hl d y hd e_.1).1; exact (hW2.hr d y hd e_.1).1
      have hdy : d ≠ y := fun e_ => by
        subst e_
        have h9 := hW2.h0 d hd
        rcases hy with e_ | e_
        · have := hW2.hl d d hd e_.1; omega
        · have := hW2.hr d d hd e_.1; omega
      refine g_aload_n hC dJ1_deleteEntry_80 rfl 0 rfl ?_
      refine g_aload_n hC dJ1_deleteEntry_81 rfl 1 rfl ?_
      refine t_getN (τ := z) (v := va_rf (z.1 4 d)) hC hTz 4 (by decide) hd q1544 (congrArg (fun z => some (va_rf z)) rfl) dJ1_deleteEntry_82 ?_
      refine t_putN (τ := z) hC hTz 4 (by decide) (z.1 4 d) hSy q1544 dJ1_deleteEntry_85 ?_
      refine g_aload_n hC dJ1_deleteEntry_88 rfl 1 rfl ?_
      refine t_getN (τ := (tr z 4 y (z.1 4 d))) (v := va_rf (z.1 4 d)) hC hTz 4 (by decide) hd q1544 (congrArg (fun z => some (va_rf z)) (tr_na hdy)) dJ1_deleteEntry_89 ?_
      rcases h_92 : z.1 4 d with _ | g
      · refine g_ifnonnullN hC dJ1_deleteEntry_92 ?_
        refine g_aload_n hC dJ1_deleteEntry_95 rfl 2 rfl ?_
        refine g_aload_n hC dJ1_deleteEntry_96 rfl 0 rfl ?_
        refine t_putR (τ := (tr z 4 y none)) hC hTz 5 (by decide) (some y) q222 dJ1_deleteEntry_97 ?_
        refine g_goto (tgt := 133) hC dJ1_deleteEntry_100 (by decide) ?_
        refine g_aload_n hC dJ1_deleteEntry_133 rfl 1 rfl ?_
        refine g_aload_n hC dJ1_deleteEntry_134 rfl 1 rfl ?_
        refine g_aload_n hC dJ1_deleteEntry_135 rfl 1 rfl ?_
        refine g_null hC dJ1_deleteEntry_136 ?_
        refine g_dup_x1 hC dJ1_deleteEntry_137 rfl rfl ?_
        refine t_putN (τ := (tr (tr z 4 y none) 5 0 (some y))) hC hTz 4 (by decide) none hd q1544 dJ1_deleteEntry_138 ?_
        refine g_dup_x1 hC dJ1_deleteEntry_141 rfl rfl ?_
        refine t_putN (τ := (tr (tr (tr z 4 y none) 5 0 (some y)) 4 d none)) hC hTz 3 (by decide) none hd q1542 dJ1_deleteEntry_142 ?_
        refine t_putN (τ := (tr (tr (tr (tr z 4 y none) 5 0 (some y)) 4 d none) 3 d none)) hC hTz 2 (by decide) none hd q1539 dJ1_deleteEntry_145 ?_
        have hU : cutT z d y = (tr (tr (tr (tr (tr z 4 y none) 5 0 (some y)) 4 d none) 3 d none) 2 d none) := by
          unfold cutT
          rw [h_92]
        rw [← hU]
        obtain ⟨U, hUe⟩ : ∃ U, cutT z d y = U := ⟨_, rfl⟩
        have hU2 : U.2 = z.2 := by rw [← hUe]; exact cut_2
        have hUk : ∀ k_ a, k_ < 2 ∨ 5 < k_ → U.1 k_ a = z.1 k_ a := fun k_ a hk => by rw [← hUe]; exact cut_k hk
        obtain ⟨q2, hq2, hq2e⟩ := TL.tight (cut_TL hW2 hd hy)
        rw [hUe] at hq2 ⊢
        have hUS : U.2.2.2 = τ.2.2.2 := by rw [hU2]; exact hzS
        have hrbU : ∀ r_, U.1 5 0 = some r_ → r_ ≠ y → U.2.1 r_ = true := fun r_ e_ hne => by
          rw [hU2, hzc]
          rw [← hUe, cut_5n h_92] at e_
          cases e_
          exact absurd rfl hne
        refine g_aload_n hC dJ1_deleteEntry_148 rfl 1 rfl ?_
        refine t_getN (τ := U) (v := .int (b2i (U.2.1 d))) hC (show TQ_ Y t U from by unfold TQ_; rw [hUS]; exact hT) 5 (by decide) (by rw [hUS, ← hzS]; exact hd) q1546 (congrArg (fun z => some (Value.int (b2i z))) rfl) dJ1_deleteEntry_149 ?_
        refine g_iconst (v := 1) hC dJ1_deleteEntry_152 rfl ?_
        refine g_icmp_ne hC dJ1_deleteEntry_153 (tgt := 245) (by decide) (fun c_153 => ?_) (fun c_153 => ?_)
        · refine g_vret hC hr ⟨rfl, ?_⟩ (by omega) (by omega) hE dJ1_deleteEntry_245
          have hrd : ∀ r_, (tdel U d).1 5 0 = some r_ → (tdel U d).2.1 r_ = true := fun r_ e_ => by
            by_cases e9 : r_ = y
            · exfalso
              subst e9
              have e8 : U.1 5 0 = some r_ := e_
              have h8 := hM.rb d ((hzh 5 (by decide)).symm.trans (hW2.hn d hd h_92))
              rw [hU2, hzc, h8] at c_153
              exact c_153 rfl
            · exact hrbU r_ e_ e9
          obtain ⟨q', hD⟩ := DL.mk' (t := t) (B := B) hM hx0 (hzS ▸ hd) hk0 hk1 hno hle hzi (fun k_ hk => hzh k_ (by omega)) (U := U) (w := tdel U d) (q3 := q2) hUS hq2 hq2e rfl (by rw [hU2]) hUk hrd
          exact ⟨_, q', _, hD, tG_del.symm, rfl, rfl⟩
        · rw [tG_del (d := d)]
          generalize hB1 : tG t U B = B1
          have hq2' := hq2
          have hrb' : ∀ r_, (tdel U d).1 5 0 = some r_ → r_ ≠ y → (tdel U d).2.1 r_ = true := hrbU
          have hSy1 : (tdel U d).2.2.2 y = true := by
            have h9 : U.2.2.2 y = true := by rw [hUS, ← hzS]; exact hSy
            simp [tdel, h9, Ne.symm hdy]
          have hTw1 : TQ_ Y t (tdel U d) := ⟨by have h9 := hT.1; rw [← hUS] at h9; simp [tdel, h9], hT.2.1, fun a ha => hT.2.2 a (by rw [← hUS]; simp [tdel] at ha; exact ha.1)⟩
          generalize hw1 : tdel U d = w1 at *
          refine g_aload_n hC dJ1_deleteEntry_156 rfl 2 rfl ?_
          refine g_aload_n hC dJ1_deleteEntry_157 rfl 0 rfl ?_
          refine g_callv0 hC (g_runV hC (met_J1_fixAfterDeletion (τ := w1) hTw1 y (q := q2) (LO := LO) (HI := HI) (lf := false) hq2' hSy1 hrb' (fun e_ => Bool.noConfusion e_)) kc_J1 tG_h (lw_V q2883 q2885 qs28 q85 q2886) rfl md_J1_fixAfterDeletion dJ1_deleteEntry_158 rfl ⟨by omega, by omega⟩ (by omega) (by omega) rfl (Nat.le_of_ble_eq_true rfl)) (fun G_1 n_1 u_1 hp_1 hn_1 hm_1 hu_1 => ?_)
          obtain ⟨w2, q3, hF, rfl, rfl, rfl⟩ := hp_1
          refine g_goto (tgt := 245) hC dJ1_deleteEntry_161 (by decide) ?_
          refine g_vret hC hr ⟨rfl, ?_⟩ (by omega) (by omega) hE dJ1_deleteEntry_245
          obtain ⟨q', hD⟩ := DL.mk' (t := t) (B := B) hM hx0 (hzS ▸ hd) hk0 hk1 hno hle hzi (fun k_ hk => hzh k_ (by omega)) (U := U) (w := w2) (q3 := q3) hUS hF.1 (hF.2.1.trans hq2e) (by rw [hF.2.2.1.k2, ← hw1]) (by rw [hU2]) (fun k_ a hk => by rw [hF.2.2.1.kr k_ a hk, ← hw1]; exact hUk k_ a hk) hF.2.2.2.1
          exact ⟨w2, q', _, hD, by rw [hB1], rfl, rfl⟩
      · refine g_ifnonnull (tgt := 103) hC dJ1_deleteEntry_92 (by decide) ?_
        refine g_aload_n hC dJ1_deleteEntry_103 rfl 1 rfl ?_
        refine g_aload_n hC dJ1_deleteEntry_104 rfl 1 rfl ?_
        refine t_getN (τ := (tr z 4 y (some g))) (v := .ref g) hC hTz 4 (by decide) hd q1544 (congrArg (fun z => some (va_rf z)) ((tr_na hdy).trans h_92)) dJ1_deleteEntry_105 ?_
        refine t_getN (τ := (tr z 4 y (some g))) (v := va_rf (z.1 2 g)) hC hTz 2 (by decide) ((hW2.hp d g hd h_92).1) q1539 (congrArg (fun z => some (va_rf z)) (tr_nk (by decide))) dJ1_deleteEntry_108 ?_
        refine g_acmp_ne (rx := some d) (ry := z.1 2 g) hC dJ1_deleteEntry_111 (tgt := 125) (by decide) (fun c_111 => ?_) (fun c_111 => ?_)
        · refine g_aload_n hC dJ1_deleteEntry_125 rfl 1 rfl ?_
          refine t_getN (τ := (tr z 4 y (some g))) (v := .ref g) hC hTz 4 (by decide) hd q1544 (congrArg (fun z => some (va_rf z)) ((tr_na hdy).trans h_92)) dJ1_deleteEntry_126 ?_
          refine g_aload_n hC dJ1_deleteEntry_129 rfl 0 rfl ?_
          refine t_putN (τ := (tr z 4 y (some g))) hC hTz 3 (by decide) (some y) ((hW2.hp d g hd h_92).1) q1542 dJ1_deleteEntry_130 ?_
          refine g_aload_n hC dJ1_deleteEntry_133 rfl 1 rfl ?_
          refine g_aload_n hC dJ1_deleteEntry_134 rfl 1 rfl ?_
          refine g_aload_n hC dJ1_deleteEntry_135 rfl 1 rfl ?_
          refine g_null hC dJ1_deleteEntry_136 ?_
          refine g_dup_x1 hC dJ1_deleteEntry_137 rfl rfl ?_
          refine t_putN (τ := (tr (tr z 4 y (some g)) 3 g (some y))) hC hTz 4 (by decide) none hd q1544 dJ1_deleteEntry_138 ?_
          refine g_dup_x1 hC dJ1_deleteEntry_141 rfl rfl ?_
          refine t_putN (τ := (tr (tr (tr z 4 y (some g)) 3 g (some y)) 4 d none)) hC hTz 3 (by decide) none hd q1542 dJ1_deleteEntry_142 ?_
          refine t_putN (τ := (tr (tr (tr (tr z 4 y (some g)) 3 g (some y)) 4 d none) 3 d none)) hC hTz 2 (by decide) none hd q1539 dJ1_deleteEntry_145 ?_
          have hU : cutT z d y = (tr (tr (tr (tr (tr z 4 y (some g)) 3 g (some y)) 4 d none) 3 d none) 2 d none) := by
            unfold cutT
            rw [h_92]
            exact if_neg (fun e_ => c_111 e_.symm)
          rw [← hU]
          obtain ⟨U, hUe⟩ : ∃ U, cutT z d y = U := ⟨_, rfl⟩
          have hU2 : U.2 = z.2 := by rw [← hUe]; exact cut_2
          have hUk : ∀ k_ a, k_ < 2 ∨ 5 < k_ → U.1 k_ a = z.1 k_ a := fun k_ a hk => by rw [← hUe]; exact cut_k hk
          obtain ⟨q2, hq2, hq2e⟩ := TL.tight (cut_TL hW2 hd hy)
          rw [hUe] at hq2 ⊢
          have hUS : U.2.2.2 = τ.2.2.2 := by rw [hU2]; exact hzS
          have hrbU : ∀ r_, U.1 5 0 = some r_ → r_ ≠ y → U.2.1 r_ = true := fun r_ e_ hne => by
            rw [hU2, hzc]
            rw [← hUe, cut_5 h_92] at e_
            exact hM.rb r_ ((hzh 5 (by decide)).symm.trans e_)
          refine g_aload_n hC dJ1_deleteEntry_148 rfl 1 rfl ?_
          refine t_getN (τ := U) (v := .int (b2i (U.2.1 d))) hC (show TQ_ Y t U from by unfold TQ_; rw [hUS]; exact hT) 5 (by decide) (by rw [hUS, ← hzS]; exact hd) q1546 (congrArg (fun z => some (Value.int (b2i z))) rfl) dJ1_deleteEntry_149 ?_
          refine g_iconst (v := 1) hC dJ1_deleteEntry_152 rfl ?_
          refine g_icmp_ne hC dJ1_deleteEntry_153 (tgt := 245) (by decide) (fun c_153 => ?_) (fun c_153 => ?_)
          · refine g_vret hC hr ⟨rfl, ?_⟩ (by omega) (by omega) hE dJ1_deleteEntry_245
            have hrd : ∀ r_, (tdel U d).1 5 0 = some r_ → (tdel U d).2.1 r_ = true := fun r_ e_ => by
              by_cases e9 : r_ = y
              · exfalso
                subst e9
                have e8 : U.1 5 0 = some r_ := e_
                rw [← hUe, cut_5 h_92] at e8
                have h8 := (hW2.ht r_ e8).2.1
                rcases hy with e7 | e7
                · have h7 := (hW2.hl d r_ hd e7.1).2.1; rw [h8] at h7; cases h7
                · have h7 := (hW2.hr d r_ hd e7.1).2.1; rw [h8] at h7; cases h7
              · exact hrbU r_ e_ e9
            obtain ⟨q', hD⟩ := DL.mk' (t := t) (B := B) hM hx0 (hzS ▸ hd) hk0 hk1 hno hle hzi (fun k_ hk => hzh k_ (by omega)) (U := U) (w := tdel U d) (q3 := q2) hUS hq2 hq2e rfl (by rw [hU2]) hUk hrd
            exact ⟨_, q', _, hD, tG_del.symm, rfl, rfl⟩
          · rw [tG_del (d := d)]
            generalize hB1 : tG t U B = B1
            have hq2' := hq2
            have hrb' : ∀ r_, (tdel U d).1 5 0 = some r_ → r_ ≠ y → (tdel U d).2.1 r_ = true := hrbU
            have hSy1 : (tdel U d).2.2.2 y = true := by
              have h9 : U.2.2.2 y = true := by rw [hUS, ← hzS]; exact hSy
              simp [tdel, h9, Ne.symm hdy]
            have hTw1 : TQ_ Y t (tdel U d) := ⟨by have h9 := hT.1; rw [← hUS] at h9; simp [tdel, h9], hT.2.1, fun a ha => hT.2.2 a (by rw [← hUS]; simp [tdel] at ha; exact ha.1)⟩
            generalize hw1 : tdel U d = w1 at *
            refine g_aload_n hC dJ1_deleteEntry_156 rfl 2 rfl ?_
            refine g_aload_n hC dJ1_deleteEntry_157 rfl 0 rfl ?_
            refine g_callv0 hC (g_runV hC (met_J1_fixAfterDeletion (τ := w1) hTw1 y (q := q2) (LO := LO) (HI := HI) (lf := false) hq2' hSy1 hrb' (fun e_ => Bool.noConfusion e_)) kc_J1 tG_h (lw_V q2883 q2885 qs28 q85 q2886) rfl md_J1_fixAfterDeletion dJ1_deleteEntry_158 rfl ⟨by omega, by omega⟩ (by omega) (by omega) rfl (Nat.le_of_ble_eq_true rfl)) (fun G_2 n_2 u_2 hp_2 hn_2 hm_2 hu_2 => ?_)
            obtain ⟨w2, q3, hF, rfl, rfl, rfl⟩ := hp_2
            refine g_goto (tgt := 245) hC dJ1_deleteEntry_161 (by decide) ?_
            refine g_vret hC hr ⟨rfl, ?_⟩ (by omega) (by omega) hE dJ1_deleteEntry_245
            obtain ⟨q', hD⟩ := DL.mk' (t := t) (B := B) hM hx0 (hzS ▸ hd) hk0 hk1 hno hle hzi (fun k_ hk => hzh k_ (by omega)) (U := U) (w := w2) (q3 := q3) hUS hF.1 (hF.2.1.trans hq2e) (by rw [hF.2.2.1.k2, ← hw1]) (by rw [hU2]) (fun k_ a hk => by rw [hF.2.2.1.kr k_ a hk, ← hw1]; exact hUk k_ a hk) hF.2.2.2.1
            exact ⟨w2, q', _, hD, by rw [hB1], rfl, rfl⟩
        · refine g_aload_n hC dJ1_deleteEntry_114 rfl 1 rfl ?_
          refine t_getN (τ := (tr z 4 y (some g))) (v := .ref g) hC hTz 4 (by decide) hd q1544 (congrArg (fun z => some (va_rf z)) ((tr_na hdy).trans h_92)) dJ1_deleteEntry_115 ?_
          refine g_aload_n hC dJ1_deleteEntry_118 rfl 0 rfl ?_
          refine t_putN (τ := (tr z 4 y (some g))) hC hTz 2 (by decide) (some y) ((hW2.hp d g hd h_92).1) q1539 dJ1_deleteEntry_119 ?_
          refine g_goto (tgt := 133) hC dJ1_deleteEntry_122 (by decide) ?_
          refine g_aload_n hC dJ1_deleteEntry_133 rfl 1 rfl ?_
          refine g_aload_n hC dJ1_deleteEntry_134 rfl 1 rfl ?_
          refine g_aload_n hC dJ1_deleteEntry_135 rfl 1 rfl ?_
          refine g_null hC dJ1_deleteEntry_136 ?_
          refine g_dup_x1 hC dJ1_deleteEntry_137 rfl rfl ?_
          refine t_putN (τ := (tr (tr z 4 y (some g)) 2 g (some y))) hC hTz 4 (by decide) none hd q1544 dJ1_deleteEntry_138 ?_
          refine g_dup_x1 hC dJ1_deleteEntry_141 rfl rfl ?_
          refine t_putN (τ := (tr (tr (tr z 4 y (some g)) 2 g (some y)) 4 d none)) hC hTz 3 (by decide) none hd q1542 dJ1_deleteEntry_142 ?_
          refine t_putN (τ := (tr (tr (tr (tr z 4 y (some g)) 2 g (some y)) 4 d none) 3 d none)) hC hTz 2 (by decide) none hd q1539 dJ1_deleteEntry_145 ?_
          have hU : cutT z d y = (tr (tr (tr (tr (tr z 4 y (some g)) 2 g (some y)) 4 d none) 3 d none) 2 d none) := by
            unfold cutT
            rw [h_92]
            exact if_pos c_111.symm
          rw [← hU]
          obtain ⟨U, hUe⟩ : ∃ U, cutT z d y = U := ⟨_, rfl⟩
          have hU2 : U.2 = z.2 := by rw [← hUe]; exact cut_2
          have hUk : ∀ k_ a, k_ < 2 ∨ 5 < k_ → U.1 k_ a = z.1 k_ a := fun k_ a hk => by rw [← hUe]; exact cut_k hk
          obtain ⟨q2, hq2, hq2e⟩ := TL.tight (cut_TL hW2 hd hy)
          rw [hUe] at hq2 ⊢
          have hUS : U.2.2.2 = τ.2.2.2 := by rw [hU2]; exact hzS
          have hrbU : ∀ r_, U.1 5 0 = some r_ → r_ ≠ y → U.2.1 r_ = true := fun r_ e_ hne => by
            rw [hU2, hzc]
            rw [← hUe, cut_5 h_92] at e_
            exact hM.rb r_ ((hzh 5 (by decide)).symm.trans e_)
          refine g_aload_n hC dJ1_deleteEntry_148 rfl 1 rfl ?_
          refine t_getN (τ := U) (v := .int (b2i (U.2.1 d))) hC (show TQ_ Y t U from by unfold TQ_; rw [hUS]; exact hT) 5 (by decide) (by rw [hUS, ← hzS]; exact hd) q1546 (congrArg (fun z => some (Value.int (b2i z))) rfl) dJ1_deleteEntry_149 ?_
          refine g_iconst (v := 1) hC dJ1_deleteEntry_152 rfl ?_
          refine g_icmp_ne hC dJ1_deleteEntry_153 (tgt := 245) (by decide) (fun c_153 => ?_) (fun c_153 => ?_)
          · refine g_vret hC hr ⟨rfl, ?_⟩ (by omega) (by omega) hE dJ1_deleteEntry_245
            have hrd : ∀ r_, (tdel U d).1 5 0 = some r_ → (tdel U d).2.1 r_ = true := fun r_ e_ => by
              by_cases e9 : r_ = y
              · exfalso
                subst e9
                have e8 : U.1 5 0 = some r_ := e_
                rw [← hUe, cut_5 h_92] at e8
                have h8 := (hW2.ht r_ e8).2.1
                rcases hy with e7 | e7
                · have h7 := (hW2.hl d r_ hd e7.1).2.1; rw [h8] at h7; cases h7
                · have h7 := (hW2.hr d r_ hd e7.1).2.1; rw [h8] at h7; cases h7
              · exact hrbU r_ e_ e9
            obtain ⟨q', hD⟩ := DL.mk' (t := t) (B := B) hM hx0 (hzS ▸ hd) hk0 hk1 hno hle hzi (fun k_ hk => hzh k_ (by omega)) (U := U) (w := tdel U d) (q3 := q2) hUS hq2 hq2e rfl (by rw [hU2]) hUk hrd
            exact ⟨_, q', _, hD, tG_del.symm, rfl, rfl⟩
          · rw [tG_del (d := d)]
            generalize hB1 : tG t U B = B1
            have hq2' := hq2
            have hrb' : ∀ r_, (tdel U d).1 5 0 = some r_ → r_ ≠ y → (tdel U d).2.1 r_ = true := hrbU
            have hSy1 : (tdel U d).2.2.2 y = true := by
              have h9 : U.2.2.2 y = true := by rw [hUS, ← hzS]; exact hSy
              simp [tdel, h9, Ne.symm hdy]
            have hTw1 : TQ_ Y t (tdel U d) := ⟨by have h9 := hT.1; rw [← hUS] at h9; simp [tdel, h9], hT.2.1, fun a ha => hT.2.2 a (by rw [← hUS]; simp [tdel] at ha; exact ha.1)⟩
            generalize hw1 : tdel U d = w1 at *
            refine g_aload_n hC dJ1_deleteEntry_156 rfl 2 rfl ?_
            refine g_aload_n hC dJ1_deleteEntry_157 rfl 0 rfl ?_
            refine g_callv0 hC (g_runV hC (met_J1_fixAfterDeletion (τ := w1) hTw1 y (q := q2) (LO := LO) (HI := HI) (lf := false) hq2' hSy1 hrb' (fun e_ => Bool.noConfusion e_)) kc_J1 tG_h (lw_V q2883 q2885 qs28 q85 q2886) rfl md_J1_fixAfterDeletion dJ1_deleteEntry_158 rfl ⟨by omega, by omega⟩ (by omega) (by omega) rfl (Nat.le_of_ble_eq_true rfl)) (fun G_3 n_3 u_3 hp_3 hn_3 hm_3 hu_3 => ?_)
            obtain ⟨w2, q3, hF, rfl, rfl, rfl⟩ := hp_3
            refine g_goto (tgt := 245) hC dJ1_deleteEntry_161 (by decide) ?_
            refine g_vret hC hr ⟨rfl, ?_⟩ (by omega) (by omega) hE dJ1_deleteEntry_245
            obtain ⟨q', hD⟩ := DL.mk' (t := t) (B := B) hM hx0 (hzS ▸ hd) hk0 hk1 hno hle hzi (fun k_ hk => hzh k_ (by omega)) (U := U) (w := w2) (q3 := q3) hUS hF.1 (hF.2.1.trans hq2e) (by rw [hF.2.2.1.k2, ← hw1]) (by rw [hU2]) (fun k_ a hk => by rw [hF.2.2.1.kr k_ a hk, ← hw1]; exact hUk k_ a hk) hF.2.2.2.1
            exact ⟨w2, q', _, hD, by rw [hB1], rfl, rfl⟩
    refine g_aload_n hC dJ1_deleteEntry_57 rfl 0 rfl ?_
    refine t_getN (τ := z) (v := va_rf (z.1 2 d)) hC hTz 2 (by decide) hd q1539 (congrArg (fun z => some (va_rf z)) rfl) dJ1_deleteEntry_58 ?_
    rcases h_61 : z.1 2 d with _ | l1
    · refine g_ifnullN (tgt := 71) hC dJ1_deleteEntry_61 (by decide) ?_
      refine g_aload_n hC dJ1_deleteEntry_71 rfl 0 rfl ?_
      refine t_getN (τ := z) (v := va_rf (z.1 3 d)) hC hTz 3 (by decide) hd q1542 (congrArg (fun z => some (va_rf z)) rfl) dJ1_deleteEntry_72 ?_
      refine g_qastore_n (L' := [(2, va_rf (z.1 3 d)), (1, .ref d), (0, .ref t)]) hC dJ1_deleteEntry_75 rfl (by decide) rfl ?_
      refine g_qaload_n hC dJ1_deleteEntry_76 rfl 0 rfl ?_
      rcases h_77 : z.1 3 d with _ | r1
      · refine g_ifnullN (tgt := 164) hC dJ1_deleteEntry_77 (by decide) ?_
        have hj_192 : ∀ (z3 : TS) (q3 : TQ), (TW z3 q3 LO HI) → (q3.1 = q.1) → (TK z z3) → (∀ r_, z3.1 5 0 = some r_ → z3.2.1 r_ = true) → (z3.1 2 d = none ∧ z3.1 3 d = none) → (∃ g, z.2.2.2 g = true ∧ g ≠ d) → V Y p l e R s m args below meth c 3 n u (tG t z3 B) n u Q 192 [(1, .ref d), (0, .ref t)] [] := by
          intro z3 q3 hW3 hq3 hK3 hrb3 hl3 hgx
          have hTz3 := hK3.T hTz
          have hd3 : z3.2.2.2 d = true := by rw [hK3.k2]; exact hd
          refine g_aload_n hC dJ1_deleteEntry_192 rfl 0 rfl ?_
          refine t_getN (τ := z3) (v := va_rf (z3.1 4 d)) hC hTz3 4 (by decide) hd3 q1544 (congrArg (fun z => some (va_rf z)) rfl) dJ1_deleteEntry_193 ?_
          rcases h_196 : z3.1 4 d with _ | g3
          · obtain ⟨g, hg8, hg9⟩ := hgx; exact absurd (hW3.alone hd3 hl3.1 hl3.2 h_196 g (by rw [hK3.k2]; exact hg8)) hg9
          · have hg3 := hW3.hp d g3 hd3 h_196
            refine g_ifnull hC dJ1_deleteEntry_196 ?_
            refine g_aload_n hC dJ1_deleteEntry_199 rfl 0 rfl ?_
            refine g_aload_n hC dJ1_deleteEntry_200 rfl 0 rfl ?_
            refine t_getN (τ := z3) (v := .ref g3) hC hTz3 4 (by decide) hd3 q1544 (congrArg (fun z => some (va_rf z)) h_196) dJ1_deleteEntry_201 ?_
            refine t_getN (τ := z3) (v := va_rf (z3.1 2 g3)) hC hTz3 2 (by decide) hg3.1 q1539 (congrArg (fun z => some (va_rf z)) rfl) dJ1_deleteEntry_204 ?_
            refine g_acmp_ne (rx := some d) (ry := z3.1 2 g3) hC dJ1_deleteEntry_207 (tgt := 221) (by decide) (fun c_207 => ?_) (fun c_207 => ?_)
            · refine g_aload_n hC dJ1_deleteEntry_221 rfl 0 rfl ?_
              refine g_aload_n hC dJ1_deleteEntry_222 rfl 0 rfl ?_
              refine t_getN (τ := z3) (v := .ref g3) hC hTz3 4 (by decide) hd3 q1544 (congrArg (fun z => some (va_rf z)) h_196) dJ1_deleteEntry_223 ?_
              refine t_getN (τ := z3) (v := va_rf (z3.1 3 g3)) hC hTz3 3 (by decide) hg3.1 q1542 (congrArg (fun z => some (va_rf z)) rfl) dJ1_deleteEntry_226 ?_
              refine g_acmp_ne (rx := some d) (ry := z3.1 3 g3) hC dJ1_deleteEntry_229 (tgt := 240) (by decide) (fun c_229 => ?_) (fun c_229 => ?_)
              · exact absurd ((hg3.2.resolve_left (fun e_ => c_207 e_.symm)).symm) c_229
              · refine g_aload_n hC dJ1_deleteEntry_232 rfl 0 rfl ?_
                refine t_getN (τ := z3) (v := .ref g3) hC hTz3 4 (by decide) hd3 q1544 (congrArg (fun z => some (va_rf z)) h_196) dJ1_deleteEntry_233 ?_
                refine g_null hC dJ1_deleteEntry_236 ?_
                refine t_putN (τ := z3) hC hTz3 3 (by decide) none hg3.1 q1542 dJ1_deleteEntry_237 ?_
                refine g_aload_n hC dJ1_deleteEntry_240 rfl 0 rfl ?_
                refine g_null hC dJ1_deleteEntry_241 ?_
                refine t_putN (τ := (tr z3 3 g3 none)) hC hTz3 4 (by decide) none hd3 q1544 dJ1_deleteEntry_242 ?_
                refine g_vret hC hr ⟨rfl, ?_⟩ (by omega) (by omega) hE dJ1_deleteEntry_245
                obtain ⟨q', hD⟩ := DL.mk' (t := t) (B := B) hM hx0 (hzS ▸ hd) hk0 hk1 hno hle hzi (fun k_ hk => hzh k_ (by omega)) (U := (tr (tr z3 3 g3 none) 4 d none)) (w := tdel (tr (tr z3 3 g3 none) 4 d none) d) (q3 := q3) (by show z3.2.2.2 = _; rw [hK3.k2]; exact hzS) (leaf_TW hW3 hd3 hl3.1 hl3.2 h_196 (Or.inr rfl) c_229.symm) hq3 rfl (by show z3.2.2.1 0 = _; rw [hK3.k2]) (fun k_ a hk => (tr_nk (by omega)).trans ((tr_nk (by omega)).trans (hK3.kr k_ a hk))) (fun r_ e_ => hrb3 r_ (by have e8 : (tr (tr z3 3 g3 none) 4 d none).1 5 0 = some r_ := e_; rw [tr_nk (by omega), tr_nk (by omega)] at e8; exact e8))
                exact ⟨_, q', _, hD, tG_del.symm, rfl, rfl⟩
            · refine g_aload_n hC dJ1_deleteEntry_210 rfl 0 rfl ?_
              refine t_getN (τ := z3) (v := .ref g3) hC hTz3 4 (by decide) hd3 q1544 (congrArg (fun z => some (va_rf z)) h_196) dJ1_deleteEntry_211 ?_
              refine g_null hC dJ1_deleteEntry_214 ?_
              refine t_putN (τ := z3) hC hTz3 2 (by decide) none hg3.1 q1539 dJ1_deleteEntry_215 ?_
              refine g_goto (tgt := 240) hC dJ1_deleteEntry_218 (by decide) ?_
              refine g_aload_n hC dJ1_deleteEntry_240 rfl 0 rfl ?_
              refine g_null hC dJ1_deleteEntry_241 ?_
              refine t_putN (τ := (tr z3 2 g3 none)) hC hTz3 4 (by decide) none hd3 q1544 dJ1_deleteEntry_242 ?_
              refine g_vret hC hr ⟨rfl, ?_⟩ (by omega) (by omega) hE dJ1_deleteEntry_245
              obtain ⟨q', hD⟩ := DL.mk' (t := t) (B := B) hM hx0 (hzS ▸ hd) hk0 hk1 hno hle hzi (fun k_ hk => hzh k_ (by omega)) (U := (tr (tr z3 2 g3 none) 4 d none)) (w := tdel (tr (tr z3 2 g3 none) 4 d none) d) (q3 := q3) (by show z3.2.2.2 = _; rw [hK3.k2]; exact hzS) (leaf_TW hW3 hd3 hl3.1 hl3.2 h_196 (Or.inl rfl) c_207.symm) hq3 rfl (by show z3.2.2.1 0 = _; rw [hK3.k2]) (fun k_ a hk => (tr_nk (by omega)).trans ((tr_nk (by omega)).trans (hK3.kr k_ a hk))) (fun r_ e_ => hrb3 r_ (by have e8 : (tr (tr z3 2 g3 none) 4 d none).1 5 0 = some r_ := e_; rw [tr_nk (by omega), tr_nk (by omega)] at e8; exact e8))
              exact ⟨_, q', _, hD, tG_del.symm, rfl, rfl⟩
        refine g_aload_n hC dJ1_deleteEntry_164 rfl 1 rfl ?_
        refine t_getN (τ := z) (v := va_rf (z.1 4 d)) hC hTz 4 (by decide) hd q1544 (congrArg (fun z => some (va_rf z)) rfl) dJ1_deleteEntry_165 ?_
        rcases h_168 : z.1 4 d with _ | g
        · refine g_ifnonnullN hC dJ1_deleteEntry_168 ?_
          refine g_aload_n hC dJ1_deleteEntry_171 rfl 2 rfl ?_
          refine g_null hC dJ1_deleteEntry_172 ?_
          refine t_putR (τ := z) hC hTz 5 (by decide) none q222 dJ1_deleteEntry_173 ?_
          refine g_goto (tgt := 245) hC dJ1_deleteEntry_176 (by decide) ?_
          refine g_vret hC hr ⟨rfl, ?_⟩ (by omega) (by omega) hE dJ1_deleteEntry_245
          obtain ⟨q', hD⟩ := DL.mk' (t := t) (B := B) hM hx0 (hzS ▸ hd) hk0 hk1 hno hle hzi (fun k_ hk => hzh k_ (by omega)) (U := tr z 5 0 none) (w := tdel (tr z 5 0 none) d) (q3 := q) hzS (last_TW hW2 hd h_61 h_77 h_168) rfl rfl rfl (fun k_ a hk => tr_nk (by omega)) (fun r_ e_ => by have e8 : (tr z 5 0 none).1 5 0 = some r_ := e_; rw [tr_hit] at e8; cases e8)
          exact ⟨_, q', _, hD, tG_del.symm, rfl, rfl⟩
        · have hgg := hW2.hp d g hd h_168
          have hgd : g ≠ d := fun e_ => by have := hW2.up hd h_168; rw [e_] at this; omega
          refine g_ifnonnull (tgt := 179) hC dJ1_deleteEntry_168 (by decide) ?_
          refine g_aload_n hC dJ1_deleteEntry_179 rfl 1 rfl ?_
          refine t_getN (τ := z) (v := .int (b2i (z.2.1 d))) hC hTz 5 (by decide) hd q1546 (congrArg (fun z => some (Value.int (b2i z))) rfl) dJ1_deleteEntry_180 ?_
          refine g_iconst (v := 1) hC dJ1_deleteEntry_183 rfl ?_
          refine g_icmp_ne hC dJ1_deleteEntry_184 (tgt := 192) (by decide) (fun c_184 => ?_) (fun c_184 => ?_)
          · refine V.sub [1, 2] rfl ?_
            exact hj_192 z q (hW2) (rfl) (TK.refl) (fun r_ e_ => by rw [hzc]; exact hM.rb r_ ((hzh 5 (by decide)).symm.trans e_)) (⟨h_61, h_77⟩) (⟨g, hgg.1, hgd⟩)
          · refine g_aload_n hC dJ1_deleteEntry_187 rfl 2 rfl ?_
            refine g_aload_n hC dJ1_deleteEntry_188 rfl 1 rfl ?_
            refine g_callv0 hC (g_runV hC (met_J1_fixAfterDeletion (τ := z) hTz d (q := q) (LO := LO) (HI := HI) (lf := true) hW2 hd (fun r_ e_ _ => by rw [hzc]; exact hM.rb r_ ((hzh 5 (by decide)).symm.trans e_)) (fun _ => ⟨h_61, h_77⟩)) kc_J1 tG_h (lw_V q2883 q2885 qs28 q85 q2886) rfl md_J1_fixAfterDeletion dJ1_deleteEntry_189 rfl ⟨by omega, by omega⟩ (by omega) (by omega) rfl (Nat.le_of_ble_eq_true rfl)) (fun G_4 n_4 u_4 hp_4 hn_4 hm_4 hu_4 => ?_)
            obtain ⟨w2, q3, hF, rfl, rfl, rfl⟩ := hp_4
            refine V.sub [1, 2] rfl ?_
            exact hj_192 w2 q3 (hF.1) (hF.2.1) (hF.2.2.1) (hF.2.2.2.1) (hF.2.2.2.2 rfl) (⟨g, hgg.1, hgd⟩)
      · refine g_ifnull hC dJ1_deleteEntry_77 ?_
        exact hj_80 r1 (Or.inr ⟨h_77, h_61⟩)
    · refine g_ifnull hC dJ1_deleteEntry_61 ?_
      refine g_aload_n hC dJ1_deleteEntry_64 rfl 0 rfl ?_
      refine t_getN (τ := z) (v := .ref l1) hC hTz 2 (by decide) hd q1539 (congrArg (fun z => some (va_rf z)) h_61) dJ1_deleteEntry_65 ?_
      refine g_goto (tgt := 75) hC dJ1_deleteEntry_68 (by decide) ?_
      refine g_astore_n (L' := [(2, .ref l1), (1, .ref d), (0, .ref t)]) hC dJ1_deleteEntry_75 rfl (by decide) rfl ?_
      refine g_aload_n hC dJ1_deleteEntry_76 rfl 0 rfl ?_
      refine g_ifnull hC dJ1_deleteEntry_77 ?_
      exact hj_80 l1 (Or.inl ⟨h_61, hlr.resolve_left (by rw [h_61]; exact fun e_ => nomatch e_)⟩)
  refine g_aload_n hC dJ1_deleteEntry_20 rfl 1 rfl ?_
  refine t_getN (τ := (ti (ti τ 1 ((τ.2.2.1 1) + 1)) 0 ((τ.2.2.1 0) - 1))) (v := va_rf (τ.1 2 x_)) hC hT 2 (by decide) hx0 q1539 (congrArg (fun z => some (va_rf z)) rfl) dJ1_deleteEntry_21 ?_
  rcases h_24 : τ.1 2 x_ with _ | l0
  · refine g_ifnullN (tgt := 57) hC dJ1_deleteEntry_24 (by decide) ?_
    refine V.sub [1, 0] rfl ?_
    exact hj_57 x_ (ti (ti τ 1 ((τ.2.2.1 1) + 1)) 0 ((τ.2.2.1 0) - 1)) (hM.tw) (hx0) (rfl) (rfl) (fun k_ _ => rfl) (hsz) (fun a ha => by rw [if_neg ha]; rfl) (fun a ha => by rw [if_neg ha]; rfl) (fun a _ hl => Int.le_of_lt hl) (Int.le_refl _) (Or.inl h_24)
  · refine g_ifnull hC dJ1_deleteEntry_24 ?_
    refine g_aload_n hC dJ1_deleteEntry_27 rfl 1 rfl ?_
    refine t_getN (τ := (ti (ti τ 1 ((τ.2.2.1 1) + 1)) 0 ((τ.2.2.1 0) - 1))) (v := va_rf (τ.1 3 x_)) hC hT 3 (by decide) hx0 q1542 (congrArg (fun z => some (va_rf z)) rfl) dJ1_deleteEntry_28 ?_
    rcases h_31 : τ.1 3 x_ with _ | r0
    · refine g_ifnullN (tgt := 57) hC dJ1_deleteEntry_31 (by decide) ?_
      refine V.sub [1, 0] rfl ?_
      exact hj_57 x_ (ti (ti τ 1 ((τ.2.2.1 1) + 1)) 0 ((τ.2.2.1 0) - 1)) (hM.tw) (hx0) (rfl) (rfl) (fun k_ _ => rfl) (hsz) (fun a ha => by rw [if_neg ha]; rfl) (fun a ha => by rw [if_neg ha]; rfl) (fun a _ hl => Int.le_of_lt hl) (Int.le_refl _) (Or.inr h_31)
    · have h31 := hM.tw.hr x_ r0 hx0 h_31
      refine g_ifnull hC dJ1_deleteEntry_31 ?_
      refine g_aload_n hC dJ1_deleteEntry_34 rfl 1 rfl ?_
      refine g_callq0 hC (g_runS hC (met_J1_successor (τ := (ti (ti τ 1 ((τ.2.2.1 1) + 1)) 0 ((τ.2.2.1 0) - 1))) hT x_ (q := q) (LO := LO) (HI := HI) hM.tw hx0) (lw_S q2882 q2267 q85 q2268) md_J1_successor dJ1_deleteEntry_35 rfl ⟨by omega, by omega⟩ (by omega) (by omega) rfl (Nat.le_of_ble_eq_true rfl)) (fun r_5 G_5 n_5 u_5 hp_5 hn_5 hm_5 hu_5 => ?_)
      obtain ⟨hnx, rfl, rfl, rfl⟩ := hp_5
      rcases hs9 : r_5 with _ | s9
      · exact absurd ((show ∀ a, τ.2.2.2 a = true → q.1 a ≤ q.1 x_ from (hs9 ▸ hnx :)) r0 h31.1) (by have := hM.tw.h0 r0 h31.1; omega)
      rw [hs9] at hnx
      replace hnx : NX τ q (q.1 x_) (some s9) := hnx
      refine g_astore_n (L' := [(2, .ref s9), (0, .ref t), (1, .ref x_)]) hC dJ1_deleteEntry_38 rfl (by decide) rfl ?_
      refine g_aload_n hC dJ1_deleteEntry_39 rfl 2 rfl ?_
      refine g_aload_n hC dJ1_deleteEntry_40 rfl 0 rfl ?_
      refine t_getN (τ := (ti (ti τ 1 ((τ.2.2.1 1) + 1)) 0 ((τ.2.2.1 0) - 1))) (v := va_rf (τ.1 0 s9)) hC hT 0 (by decide) hnx.1 q1534 (congrArg (fun z => some (va_rf z)) rfl) dJ1_deleteEntry_41 ?_
      refine t_putN (τ := (ti (ti τ 1 ((τ.2.2.1 1) + 1)) 0 ((τ.2.2.1 0) - 1))) hC hT 0 (by decide) (τ.1 0 s9) hx0 q1534 dJ1_deleteEntry_44 ?_
      refine g_aload_n hC dJ1_deleteEntry_47 rfl 2 rfl ?_
      refine g_aload_n hC dJ1_deleteEntry_48 rfl 0 rfl ?_
      refine t_getN (τ := (tr (ti (ti τ 1 ((τ.2.2.1 1) + 1)) 0 ((τ.2.2.1 0) - 1)) 0 x_ (τ.1 0 s9))) (v := va_rf (τ.1 1 s9)) hC hT 1 (by decide) hnx.1 q1536 (congrArg (fun z => some (va_rf z)) (tr_nk (by decide))) dJ1_deleteEntry_49 ?_
      refine t_putN (τ := (tr (ti (ti τ 1 ((τ.2.2.1 1) + 1)) 0 ((τ.2.2.1 0) - 1)) 0 x_ (τ.1 0 s9))) hC hT 1 (by decide) (τ.1 1 s9) hx0 q1536 dJ1_deleteEntry_52 ?_
      refine g_aload_n hC dJ1_deleteEntry_55 rfl 0 rfl ?_
      refine g_astore_n (L' := [(1, .ref s9), (2, .ref s9), (0, .ref t)]) hC dJ1_deleteEntry_56 rfl (by decide) rfl ?_
      refine V.sub [0, 2] rfl ?_
      exact hj_57 s9 (tr (tr (ti (ti τ 1 ((τ.2.2.1 1) + 1)) 0 ((τ.2.2.1 0) - 1)) 0 x_ (τ.1 0 s9)) 1 x_ (τ.1 1 s9)) (hM.tw.cong (fun k_ a h1 h2 => by rw [tr_nk (by omega), tr_nk (by omega)]; rfl) rfl) (hnx.1) (rfl) (rfl) (fun k_ hk => by rw [tr_nk (by omega), tr_nk (by omega)]; rfl) (hsz) (fun a ha => by show (tr (tr _ 0 x_ (τ.1 0 s9)) 1 x_ (τ.1 1 s9)).1 0 a = _; by_cases e_ : a = x_ <;> simp [tr, ti, e_]) (fun a ha => by show (tr (tr _ 0 x_ (τ.1 0 s9)) 1 x_ (τ.1 1 s9)).1 1 a = _; by_cases e_ : a = x_ <;> simp [tr, ti, e_]) (hnx.2.2) (Int.le_of_lt hnx.2.1) (Or.inl (hM.tw.sucL hx0 h_31 hnx))
