set_option maxRecDepth 100000
/-! TREE MAPS, 11: the next entry, the first, a search -/
theorem rf_cat {r : Option Nat} : (va_rf r).category = 1 := by cases r <;> rfl
/-- r: the least node above x -/
def NX (τ : TS) (q : TQ) (x : Int) (r : Option Nat) : Prop := match r with
  | none => ∀ a, τ.2.2.2 a = true → q.1 a ≤ x
  | some s => τ.2.2.2 s = true ∧ x < q.1 s ∧ ∀ a, τ.2.2.2 a = true → x < q.1 a → q.1 s ≤ q.1 a
/-- r: the greatest node below x -/
def PV (τ : TS) (q : TQ) (x : Int) (r : Option Nat) : Prop := match r with
  | none => ∀ a, τ.2.2.2 a = true → x ≤ q.1 a
  | some s => τ.2.2.2 s = true ∧ q.1 s < x ∧ ∀ a, τ.2.2.2 a = true → q.1 a < x → q.1 a ≤ q.1 s
theorem TW.nxL {τ : TS} {q : TQ} {LO HI x : Int} (h : TW τ q LO HI) {p : Nat} (hp : τ.2.2.2 p = true) (hl : τ.1 2 p = none) (h1 : q.2.1 p ≤ x) (h2 : x < q.1 p) : NX τ q x (some p) := by
  refine ⟨hp, h2, fun a ha hx => ?_⟩
  have h0 := h.h0 p hp
  refine Int.not_lt.mp (fun hlt => ?_)
  obtain ⟨y, hy, _⟩ := (h.desc hp ha (by omega) (by omega)).1 hlt
  rw [hl] at hy; cases hy
theorem TW.pvR {τ : TS} {q : TQ} {LO HI x : Int} (h : TW τ q LO HI) {p : Nat} (hp : τ.2.2.2 p = true) (hl : τ.1 3 p = none) (h1 : x ≤ q.2.2 p) (h2 : q.1 p < x) : PV τ q x (some p) := by
  refine ⟨hp, h2, fun a ha hx => ?_⟩
  have h0 := h.h0 p hp
  refine Int.not_lt.mp (fun hlt => ?_)
  obtain ⟨y, hy, _⟩ := (h.desc hp ha (by omega) (by omega)).2.1 hlt
  rw [hl] at hy; cases hy
/-- no node between e and its upper end -/
theorem TW.upR {τ : TS} {q : TQ} {LO HI : Int} (h : TW τ q LO HI) {e a : Nat} (he : τ.2.2.2 e = true) (hr : τ.1 3 e = none) (ha : τ.2.2.2 a = true) (h1 : q.1 e < q.1 a) : q.2.2 e ≤ q.1 a := by
  have h0 := h.h0 e he
  refine Int.not_lt.mp (fun hlt => ?_)
  obtain ⟨y, hy, _⟩ := (h.desc he ha (by omega) (by omega)).2.1 h1
  rw [hr] at hy; cases hy
theorem TW.upL {τ : TS} {q : TQ} {LO HI : Int} (h : TW τ q LO HI) {e a : Nat} (he : τ.2.2.2 e = true) (hr : τ.1 2 e = none) (ha : τ.2.2.2 a = true) (h1 : q.1 a < q.1 e) : q.1 a ≤ q.2.1 e := by
  have h0 := h.h0 e he
  refine Int.not_lt.mp (fun hlt => ?_)
  obtain ⟨y, hy, _⟩ := (h.desc he ha (by omega) (by omega)).1 h1
  rw [hr] at hy; cases hy
set_option maxHeartbeats 1000000 in
theorem met_J1_successor {Y : YT} {l : Launch} {t n u : Nat} {τ : TS} {B : AH} (hT : TQ_ Y t τ) (x_ : Nat) {q : TQ} {LO HI : Int} (hW : TW τ q LO HI) (hx : τ.2.2.2 x_ = true) : GM Y l yJ1_successor (ws_ yJ1_successor cJ1_successor 3 (some (FieldType.object "java/util/TreeMap$Entry"))) 0 0 [.ref x_] (tG t τ B) n u 0 0 (pQ (fun r G' n' u' => NX τ q (q.1 x_) r ∧ tG t τ B = G' ∧ n = n' ∧ u = u')) noX := by
  refine GM.intro (own := RJ1) rfl (by decide +kernel) (Nat.le_of_ble_eq_true rfl) ?_
  intro p e s m args below meth c R Q hC hr hnm hF hL hE
  have hE1 := hE.1
  have hE2 := hE.2.1
  show V Y p l e R s m args below meth c 3 n u (tG t τ B) n u Q 0 [(0, .ref x_)] []
  refine g_aload_n hC dJ1_successor_0 rfl 0 rfl ?_
  refine g_ifnonnull (tgt := 6) hC dJ1_successor_1 (by decide) ?_
  refine g_aload_n hC dJ1_successor_6 rfl 0 rfl ?_
  refine t_getN (τ := τ) (v := va_rf (τ.1 3 x_)) hC hT 3 (by decide) hx q1542 (congrArg (fun z => some (va_rf z)) rfl) dJ1_successor_7 ?_
  rcases h_10 : τ.1 3 x_ with _ | r1
  · refine g_ifnullN (tgt := 35) hC dJ1_successor_10 (by decide) ?_
    refine g_aload_n hC dJ1_successor_35 rfl 0 rfl ?_
    refine t_getN (τ := τ) (v := va_rf (τ.1 4 x_)) hC hT 4 (by decide) hx q1544 (congrArg (fun z => some (va_rf z)) rfl) dJ1_successor_36 ?_
    refine g_qastore_n (L' := [(1, va_rf (τ.1 4 x_)), (0, .ref x_)]) hC dJ1_successor_39 rfl (by decide) rfl ?_
    refine g_aload_n hC dJ1_successor_40 rfl 1 rfl ?_
    refine g_astore_n (L' := [(2, .ref x_), (1, va_rf (τ.1 4 x_)), (0, .ref x_)]) hC dJ1_successor_41 rfl (by decide) (by simp [rf_cat]) ?_
    have hl_42 : ∀ (kf_ : Nat) (po : Option Nat) (ch : Nat), (τ.2.2.2 ch = true) → (τ.1 4 ch = po) → (q.2.2 ch = q.2.2 x_) → ((HI - LO) - (q.2.2 ch - q.2.1 ch)).toNat < kf_ → V Y p l e R s m args below meth c 3 n u (tG t τ B) n u Q 42 [(1, va_rf po), (2, .ref ch), (0, .ref x_)] [] := by
      intro kf_
      induction kf_ with
      | zero => intro po ch hch hpo hhi hk_; exact absurd hk_ (Nat.not_lt_zero _)
      | succ kf_ ih_b =>
        intro po ch hch hpo hhi hk_
        refine g_qaload_n hC dJ1_successor_42 rfl 0 rfl ?_
        rcases h_43 : po with _ | pp
        · rw [h_43] at hpo
          refine g_ifnullN (tgt := 64) hC dJ1_successor_43 (by decide) ?_
          refine g_aload_nN hC dJ1_successor_64 rfl 0 rfl ?_
          refine g_aret (v := none) hC hr (by first | exact Or.inl ⟨_, rfl⟩ | exact Or.inr ⟨_, rfl⟩) ⟨_, rfl, ?_⟩ (by omega) (by omega) hE dJ1_successor_65
          exact ⟨fun a ha => Int.not_lt.mp (fun hlt => by have h1 := hW.upR hx h_10 ha hlt; have h2 := hW.ht ch (hW.hn ch hch hpo); have h3 := hW.h0 a ha; omega), rfl, rfl, rfl⟩
        · rw [h_43] at hpo
          have hpp := hW.hp ch pp hch hpo
          refine g_ifnull hC dJ1_successor_43 ?_
          refine g_aload_n hC dJ1_successor_46 rfl 1 rfl ?_
          refine g_aload_n hC dJ1_successor_47 rfl 0 rfl ?_
          refine t_getN (τ := τ) (v := va_rf (τ.1 3 pp)) hC hT 3 (by decide) hpp.1 q1542 (congrArg (fun z => some (va_rf z)) rfl) dJ1_successor_48 ?_
          refine g_acmp_ne (rx := some ch) (ry := τ.1 3 pp) hC dJ1_successor_51 (tgt := 64) (by decide) (fun c_51 => ?_) (fun c_51 => ?_)
          · refine g_aload_n hC dJ1_successor_64 rfl 0 rfl ?_
            refine g_aret (v := some pp) hC hr (by first | exact Or.inl ⟨_, rfl⟩ | exact Or.inr ⟨_, rfl⟩) ⟨_, rfl, ?_⟩ (by omega) (by omega) hE dJ1_successor_65
            have hpl : τ.1 2 pp = some ch := by
              rcases hpp.2 with e1 | e1
              · exact e1
              · exact absurd e1.symm c_51
            have h8 := hW.hl pp ch hpp.1 hpl
            have h7 := hW.h0 x_ hx
            exact ⟨⟨hpp.1, by omega, fun a ha hlt => by have h1 := hW.upR hx h_10 ha hlt; omega⟩, rfl, rfl, rfl⟩
          · refine g_aload_n hC dJ1_successor_54 rfl 0 rfl ?_
            refine g_astore_n (L' := [(2, .ref pp), (1, .ref pp), (0, .ref x_)]) hC dJ1_successor_55 rfl (by decide) rfl ?_
            refine g_aload_n hC dJ1_successor_56 rfl 1 rfl ?_
            refine t_getN (τ := τ) (v := va_rf (τ.1 4 pp)) hC hT 4 (by decide) hpp.1 q1544 (congrArg (fun z => some (va_rf z)) rfl) dJ1_successor_57 ?_
            refine g_qastore_n (L' := [(1, va_rf (τ.1 4 pp)), (2, .ref pp), (0, .ref x_)]) hC dJ1_successor_60 rfl (by decide) rfl ?_
            refine g_goto (tgt := 42) hC dJ1_successor_61 (by decide) ?_
            exact ih_b (τ.1 4 pp) pp (hpp.1) (rfl) (by have := hW.hr pp ch hpp.1 c_51.symm; omega) (by have := hW.up hch hpo; have := hW.h0 pp hpp.1; omega)
    refine V.sub [1, 0, 2] rfl ?_
    exact hl_42 (((HI - LO) - (q.2.2 x_ - q.2.1 x_)).toNat + 1) (τ.1 4 x_) x_ (hx) (rfl) (rfl) (by omega)
  · have h10 := hW.hr x_ r1 hx h_10
    refine g_ifnull hC dJ1_successor_10 ?_
    refine g_aload_n hC dJ1_successor_13 rfl 0 rfl ?_
    refine t_getN (τ := τ) (v := .ref r1) hC hT 3 (by decide) hx q1542 (congrArg (fun z => some (va_rf z)) h_10) dJ1_successor_14 ?_
    refine g_astore_n (L' := [(1, .ref r1), (0, .ref x_)]) hC dJ1_successor_17 rfl (by decide) rfl ?_
    have hl_18 : ∀ (kf_ : Nat) (y : Nat), (τ.2.2.2 y = true) → (q.2.1 y = q.1 x_) → (q.2.2 y - q.2.1 y).toNat < kf_ → V Y p l e R s m args below meth c 3 n u (tG t τ B) n u Q 18 [(1, .ref y), (0, .ref x_)] [] := by
      intro kf_
      induction kf_ with
      | zero => intro y hy hyl hk_; exact absurd hk_ (Nat.not_lt_zero _)
      | succ kf_ ih_a =>
        intro y hy hyl hk_
        refine g_aload_n hC dJ1_successor_18 rfl 0 rfl ?_
        refine t_getN (τ := τ) (v := va_rf (τ.1 2 y)) hC hT 2 (by decide) hy q1539 (congrArg (fun z => some (va_rf z)) rfl) dJ1_successor_19 ?_
        rcases h_22 : τ.1 2 y with _ | l1
        · refine g_ifnullN (tgt := 33) hC dJ1_successor_22 (by decide) ?_
          refine g_aload_n hC dJ1_successor_33 rfl 0 rfl ?_
          refine g_aret (v := some y) hC hr (by first | exact Or.inl ⟨_, rfl⟩ | exact Or.inr ⟨_, rfl⟩) ⟨_, rfl, ?_⟩ (by omega) (by omega) hE dJ1_successor_34
          exact ⟨hW.nxL hy h_22 (by omega) (by have := hW.h0 y hy; omega), rfl, rfl, rfl⟩
        · have h22b := hW.hl y l1 hy h_22
          refine g_ifnull hC dJ1_successor_22 ?_
          refine g_aload_n hC dJ1_successor_25 rfl 0 rfl ?_
          refine t_getN (τ := τ) (v := .ref l1) hC hT 2 (by decide) hy q1539 (congrArg (fun z => some (va_rf z)) h_22) dJ1_successor_26 ?_
          refine g_astore_n (L' := [(1, .ref l1), (0, .ref x_)]) hC dJ1_successor_29 rfl (by decide) rfl ?_
          refine g_goto (tgt := 18) hC dJ1_successor_30 (by decide) ?_
          exact ih_a l1 (h22b.1) (by have := h22b.2.2; omega) (by have := hW.h0 y hy; have := hW.h0 _ h22b.1; have := h22b.2.2; omega)
    exact hl_18 ((q.2.2 r1 - q.2.1 r1).toNat + 1) r1 (h10.1) (h10.2.2.1) (by omega)
set_option maxHeartbeats 1000000 in
theorem met_J1_predecessor {Y : YT} {l : Launch} {t n u : Nat} {τ : TS} {B : AH} (hT : TQ_ Y t τ) (x_ : Nat) {q : TQ} {LO HI : Int} (hW : TW τ q LO HI) (hx : τ.2.2.2 x_ = true) : GM Y l yJ1_predecessor (ws_ yJ1_predecessor cJ1_predecessor 3 (some (FieldType.object "java/util/TreeMap$Entry"))) 0 0 [.ref x_] (tG t τ B) n u 0 0 (pQ (fun r G' n' u' => PV τ q (q.1 x_) r ∧ tG t τ B = G' ∧ n = n' ∧ u = u')) noX := by
  refine GM.intro (own := RJ1) rfl (by decide +kernel) (Nat.le_of_ble_eq_true rfl) ?_
  intro p e s m args below meth c R Q hC hr hnm hF hL hE
  have hE1 := hE.1
  have hE2 := hE.2.1
  show V Y p l e R s m args below meth c 3 n u (tG t τ B) n u Q 0 [(0, .ref x_)] []
  refine g_aload_n hC dJ1_predecessor_0 rfl 0 rfl ?_
  refine g_ifnonnull (tgt := 6) hC dJ1_predecessor_1 (by decide) ?_
  refine g_aload_n hC dJ1_predecessor_6 rfl 0 rfl ?_
  refine t_getN (τ := τ) (v := va_rf (τ.1 2 x_)) hC hT 2 (by decide) hx q1539 (congrArg (fun z => some (va_rf z)) rfl) dJ1_predecessor_7 ?_
  rcases h_10 : τ.1 2 x_ with _ | r1
  · refine g_ifnullN (tgt := 35) hC dJ1_predecessor_10 (by decide) ?_
    refine g_aload_n hC dJ1_predecessor_35 rfl 0 rfl ?_
    refine t_getN (τ := τ) (v := va_rf (τ.1 4 x_)) hC hT 4 (by decide) hx q1544 (congrArg (fun z => some (va_rf z)) rfl) dJ1_predecessor_36 ?_
    refine g_qastore_n (L' := [(1, va_rf (τ.1 4 x_)), (0, .ref x_)]) hC dJ1_predecessor_39 rfl (by decide) rfl ?_
    refine g_aload_n hC dJ1_predecessor_40 rfl 1 rfl ?_
    refine g_astore_n (L' := [(2, .ref x_), (1, va_rf (τ.1 4 x_)), (0, .ref x_)]) hC dJ1_predecessor_41 rfl (by decide) (by simp [rf_cat]) ?_
    have hl_42 : ∀ (kf_ : Nat) (po : Option Nat) (ch : Nat), (τ.2.2.2 ch = true) → (τ.1 4 ch = po) → (q.2.1 ch = q.2.1 x_) → ((HI - LO) - (q.2.2 ch - q.2.1 ch)).toNat < kf_ → V Y p l e R s m args below meth c 3 n u (tG t τ B) n u Q 42 [(1, va_rf po), (2, .ref ch), (0, .ref x_)] [] := by
      intro kf_
      induction kf_ with
      | zero => intro po ch hch hpo hhi hk_; exact absurd hk_ (Nat.not_lt_zero _)
      | succ kf_ ih_b =>
        intro po ch hch hpo hhi hk_
        refine g_qaload_n hC dJ1_predecessor_42 rfl 0 rfl ?_
        rcases h_43 : po with _ | pp
        · rw [h_43] at hpo
          refine g_ifnullN (tgt := 64) hC dJ1_predecessor_43 (by decide) ?_
          refine g_aload_nN hC dJ1_predecessor_64 rfl 0 rfl ?_
          refine g_aret (v := none) hC hr (by first | exact Or.inl ⟨_, rfl⟩ | exact Or.inr ⟨_, rfl⟩) ⟨_, rfl, ?_⟩ (by omega) (by omega) hE dJ1_predecessor_65
          exact ⟨fun a ha => Int.not_lt.mp (fun hlt => by have h1 := hW.upL hx h_10 ha hlt; have h2 := hW.ht ch (hW.hn ch hch hpo); have h3 := hW.h0 a ha; omega), rfl, rfl, rfl⟩
        · rw [h_43] at hpo
          have hpp := hW.hp ch pp hch hpo
          refine g_ifnull hC dJ1_predecessor_43 ?_
          refine g_aload_n hC dJ1_predecessor_46 rfl 1 rfl ?_
          refine g_aload_n hC dJ1_predecessor_47 rfl 0 rfl ?_
          refine t_getN (τ := τ) (v := va_rf (τ.1 2 pp)) hC hT 2 (by decide) hpp.1 q1539 (congrArg (fun z => some (va_rf z)) rfl) dJ1_predecessor_48 ?_
          refine g_acmp_ne (rx := some ch) (ry := τ.1 2 pp) hC dJ1_predecessor_51 (tgt := 64) (by decide) (fun c_51 => ?_) (fun c_51 => ?_)
          · refine g_aload_n hC dJ1_predecessor_64 rfl 0 rfl ?_
            refine g_aret (v := some pp) hC hr (by first | exact Or.inl ⟨_, rfl⟩ | exact Or.inr ⟨_, rfl⟩) ⟨_, rfl, ?_⟩ (by omega) (by omega) hE dJ1_predecessor_65
            have hpl : τ.1 3 pp = some ch := by
              rcases hpp.2 with e1 | e1
              · exact absurd e1.symm c_51
              · exact e1
            have h8 := hW.hr pp ch hpp.1 hpl
            have h7 := hW.h0 x_ hx
            exact ⟨⟨hpp.1, by omega, fun a ha hlt => by have h1 := hW.upL hx h_10 ha hlt; omega⟩, rfl, rfl, rfl⟩
          · refine g_aload_n hC dJ1_predecessor_54 rfl 0 rfl ?_
            refine g_astore_n (L' := [(2, .ref pp), (1, .ref pp), (0, .ref x_)]) hC dJ1_predecessor_55 rfl (by decide) rfl ?_
            refine g_aload_n hC dJ1_predecessor_56 rfl 1 rfl ?_
            refine t_getN (τ := τ) (v := va_rf (τ.1 4 pp)) hC hT 4 (by decide) hpp.1 q1544 (congrArg (fun z => some (va_rf z)) rfl) dJ1_predecessor_57 ?_
            refine g_qastore_n (L' := [(1, va_rf (τ.1 4 pp)), (2, .ref pp), (0, .ref x_)]) hC dJ1_predecessor_60 rfl (by decide) rfl ?_
            refine g_goto (tgt := 42) hC dJ1_predecessor_61 (by decide) ?_
            exact ih_b (τ.1 4 pp) pp (hpp.1) (rfl) (by have := hW.hl pp ch hpp.1 c_51.symm; omega) (by have := hW.up hch hpo; have := hW.h0 pp hpp.1; omega)
    refine V.sub [1, 0, 2] rfl ?_
    exact hl_42 (((HI - LO) - (q.2.2 x_ - q.2.1 x_)).toNat + 1) (τ.1 4 x_) x_ (hx) (rfl) (rfl) (by omega)
  · have h10 := hW.hl x_ r1 hx h_10
    refine g_ifnull hC dJ1_predecessor_10 ?_
    refine g_aload_n hC dJ1_predecessor_13 rfl 0 rfl ?_
    refine t_getN (τ := τ) (v := .ref r1) hC hT 2 (by decide) hx q1539 (congrArg (fun z => some (va_rf z)) h_10) dJ1_predecessor_14 ?_
    refine g_astore_n (L' := [(1, .ref r1), (0, .ref x_)]) hC dJ1_predecessor_17 rfl (by decide) rfl ?_
    have hl_18 : ∀ (kf_ : Nat) (y : Nat), (τ.2.2.2 y = true) → (q.2.2 y = q.1 x_) → (q.2.2 y - q.2.1 y).toNat < kf_ → V Y p l e R s m args below meth c 3 n u (tG t τ B) n u Q 18 [(1, .ref y), (0, .ref x_)] [] := by
      intro kf_
      induction kf_ with
      | zero => intro y hy hyl hk_; exact absurd hk_ (Nat.not_lt_zero _)
      | succ kf_ ih_a =>
        intro y hy hyl hk_
        refine g_aload_n hC dJ1_predecessor_18 rfl 0 rfl ?_
        refine t_getN (τ := τ) (v := va_rf (τ.1 3 y)) hC hT 3 (by decide) hy q1542 (congrArg (fun z => some (va_rf z)) rfl) dJ1_predecessor_19 ?_
        rcases h_22 : τ.1 3 y with _ | l1
        · refine g_ifnullN (tgt := 33) hC dJ1_predecessor_22 (by decide) ?_
          refine g_aload_n hC dJ1_predecessor_33 rfl 0 rfl ?_
          refine g_aret (v := some y) hC hr (by first | exact Or.inl ⟨_, rfl⟩ | exact Or.inr ⟨_, rfl⟩) ⟨_, rfl, ?_⟩ (by omega) (by omega) hE dJ1_predecessor_34
          exact ⟨hW.pvR hy h_22 (by omega) (by have := hW.h0 y hy; omega), rfl, rfl, rfl⟩
        · have h22b := hW.hr y l1 hy h_22
          refine g_ifnull hC dJ1_predecessor_22 ?_
          refine g_aload_n hC dJ1_predecessor_25 rfl 0 rfl ?_
          refine t_getN (τ := τ) (v := .ref l1) hC hT 3 (by decide) hy q1542 (congrArg (fun z => some (va_rf z)) h_22) dJ1_predecessor_26 ?_
          refine g_astore_n (L' := [(1, .ref l1), (0, .ref x_)]) hC dJ1_predecessor_29 rfl (by decide) rfl ?_
          refine g_goto (tgt := 18) hC dJ1_predecessor_30 (by decide) ?_
          exact ih_a l1 (h22b.1) (by have := h22b.2.2; omega) (by have := hW.h0 y hy; have := hW.h0 _ h22b.1; have := h22b.2.2; omega)
    exact hl_18 ((q.2.2 r1 - q.2.1 r1).toNat + 1) r1 (h10.1) (h10.2.2.2) (by omega)
set_option maxHeartbeats 1000000 in
theorem met_J1_getFirstEntry {Y : YT} {l : Launch} {t n u : Nat} {τ : TS} {B : AH} (hT : TQ_ Y t τ)  {q : TQ} {LO HI : Int} (hW : TW τ q LO HI) : GM Y l yJ1_getFirstEntry (ws_ yJ1_getFirstEntry cJ1_getFirstEntry 2 (some (FieldType.object "java/util/TreeMap$Entry"))) 0 0 [.ref t] (tG t τ B) n u 0 0 (pQ (fun r G' n' u' => NX τ q LO r ∧ tG t τ B = G' ∧ n = n' ∧ u = u')) noX := by
  refine GM.intro (own := RJ1) rfl (by decide +kernel) (Nat.le_of_ble_eq_true rfl) ?_
  intro p e s m args below meth c R Q hC hr hnm hF hL hE
  have hE1 := hE.1
  have hE2 := hE.2.1
  show V Y p l e R s m args below meth c 2 n u (tG t τ B) n u Q 0 [(0, .ref t)] []
  refine g_aload_n hC dJ1_getFirstEntry_0 rfl 0 rfl ?_
  refine t_getH (v := va_rf (τ.1 5 0)) hC 3 (by decide) q222 (congrArg (fun z => some (va_rf z)) rfl) dJ1_getFirstEntry_1 ?_
  refine g_qastore_n (L' := [(1, va_rf (τ.1 5 0)), (0, .ref t)]) hC dJ1_getFirstEntry_4 rfl (by decide) rfl ?_
  refine g_qaload_n hC dJ1_getFirstEntry_5 rfl 0 rfl ?_
  rcases h_6 : τ.1 5 0 with _ | rt
  · refine g_ifnullN (tgt := 24) hC dJ1_getFirstEntry_6 (by decide) ?_
    refine g_aload_nN hC dJ1_getFirstEntry_24 rfl 0 rfl ?_
    refine g_aret (v := none) hC hr (by first | exact Or.inl ⟨_, rfl⟩ | exact Or.inr ⟨_, rfl⟩) ⟨_, rfl, ?_⟩ (by omega) (by omega) hE dJ1_getFirstEntry_25
    exact ⟨fun a ha => (by obtain ⟨r9, e9⟩ := hW.root' ha; rw [h_6] at e9; cases e9), rfl, rfl, rfl⟩
  · have hrt := hW.ht rt h_6
    refine g_ifnull hC dJ1_getFirstEntry_6 ?_
    have hl_9 : ∀ (kf_ : Nat) (y : Nat), (τ.2.2.2 y = true) → (q.2.1 y = LO) → (q.2.2 y - q.2.1 y).toNat < kf_ → V Y p l e R s m args below meth c 2 n u (tG t τ B) n u Q 9 [(1, .ref y), (0, .ref t)] [] := by
      intro kf_
      induction kf_ with
      | zero => intro y hy hyl hk_; exact absurd hk_ (Nat.not_lt_zero _)
      | succ kf_ ih_ =>
        intro y hy hyl hk_
        refine g_aload_n hC dJ1_getFirstEntry_9 rfl 0 rfl ?_
        refine t_getN (τ := τ) (v := va_rf (τ.1 2 y)) hC hT 2 (by decide) hy q1539 (congrArg (fun z => some (va_rf z)) rfl) dJ1_getFirstEntry_10 ?_
        rcases h_13 : τ.1 2 y with _ | l1
        · refine g_ifnullN (tgt := 24) hC dJ1_getFirstEntry_13 (by decide) ?_
          refine g_aload_n hC dJ1_getFirstEntry_24 rfl 0 rfl ?_
          refine g_aret (v := some y) hC hr (by first | exact Or.inl ⟨_, rfl⟩ | exact Or.inr ⟨_, rfl⟩) ⟨_, rfl, ?_⟩ (by omega) (by omega) hE dJ1_getFirstEntry_25
          exact ⟨hW.nxL hy h_13 (by omega) (by have := hW.h0 y hy; omega), rfl, rfl, rfl⟩
        · have h13 := hW.hl y l1 hy h_13
          refine g_ifnull hC dJ1_getFirstEntry_13 ?_
          refine g_aload_n hC dJ1_getFirstEntry_16 rfl 0 rfl ?_
          refine t_getN (τ := τ) (v := .ref l1) hC hT 2 (by decide) hy q1539 (congrArg (fun z => some (va_rf z)) h_13) dJ1_getFirstEntry_17 ?_
          refine g_astore_n (L' := [(1, .ref l1), (0, .ref t)]) hC dJ1_getFirstEntry_20 rfl (by decide) rfl ?_
          refine g_goto (tgt := 9) hC dJ1_getFirstEntry_21 (by decide) ?_
          exact ih_ l1 (h13.1) (by have := h13.2.2; omega) (by have := hW.h0 y hy; have := hW.h0 _ h13.1; have := h13.2.2; omega)
    exact hl_9 ((q.2.2 rt - q.2.1 rt).toNat + 1) rt (hrt.1) (hrt.2.2.1) (by omega)
set_option maxHeartbeats 1000000 in
theorem met_J1_getLastEntry {Y : YT} {l : Launch} {t n u : Nat} {τ : TS} {B : AH} (hT : TQ_ Y t τ)  {q : TQ} {LO HI : Int} (hW : TW τ q LO HI) : GM Y l yJ1_getLastEntry (ws_ yJ1_getLastEntry cJ1_getLastEntry 2 (some (FieldType.object "java/util/TreeMap$Entry"))) 0 0 [.ref t] (tG t τ B) n u 0 0 (pQ (fun r G' n' u' => PV τ q HI r ∧ tG t τ B = G' ∧ n = n' ∧ u = u')) noX := by
  refine GM.intro (own := RJ1) rfl (by decide +kernel) (Nat.le_of_ble_eq_true rfl) ?_
  intro p e s m args below meth c R Q hC hr hnm hF hL hE
  have hE1 := hE.1
  have hE2 := hE.2.1
  show V Y p l e R s m args below meth c 2 n u (tG t τ B) n u Q 0 [(0, .ref t)] []
  refine g_aload_n hC dJ1_getLastEntry_0 rfl 0 rfl ?_
  refine t_getH (v := va_rf (τ.1 5 0)) hC 3 (by decide) q222 (congrArg (fun z => some (va_rf z)) rfl) dJ1_getLastEntry_1 ?_
  refine g_qastore_n (L' := [(1, va_rf (τ.1 5 0)), (0, .ref t)]) hC dJ1_getLastEntry_4 rfl (by decide) rfl ?_
  refine g_qaload_n hC dJ1_getLastEntry_5 rfl 0 rfl ?_
  rcases h_6 : τ.1 5 0 with _ | rt
  · refine g_ifnullN (tgt := 24) hC dJ1_getLastEntry_6 (by decide) ?_
    refine g_aload_nN hC dJ1_getLastEntry_24 rfl 0 rfl ?_
    refine g_aret (v := none) hC hr (by first | exact Or.inl ⟨_, rfl⟩ | exact Or.inr ⟨_, rfl⟩) ⟨_, rfl, ?_⟩ (by omega) (by omega) hE dJ1_getLastEntry_25
    exact ⟨fun a ha => (by obtain ⟨r9, e9⟩ := hW.root' ha; rw [h_6] at e9; cases e9), rfl, rfl, rfl⟩
  · have hrt := hW.ht rt h_6
    refine g_ifnull hC dJ1_getLastEntry_6 ?_
    have hl_9 : ∀ (kf_ : Nat) (y : Nat), (τ.2.2.2 y = true) → (q.2.2 y = HI) → (q.2.2 y - q.2.1 y).toNat < kf_ → V Y p l e R s m args below meth c 2 n u (tG t τ B) n u Q 9 [(1, .ref y), (0, .ref t)] [] := by
      intro kf_
      induction kf_ with
      | zero => intro y hy hyl hk_; exact absurd hk_ (Nat.not_lt_zero _)
      | succ kf_ ih_ =>
        intro y hy hyl hk_
        refine g_aload_n hC dJ1_getLastEntry_9 rfl 0 rfl ?_
        refine t_getN (τ := τ) (v := va_rf (τ.1 3 y)) hC hT 3 (by decide) hy q1542 (congrArg (fun z => some (va_rf z)) rfl) dJ1_getLastEntry_10 ?_
        rcases h_13 : τ.1 3 y with _ | l1
        · refine g_ifnullN (tgt := 24) hC dJ1_getLastEntry_13 (by decide) ?_
          refine g_aload_n hC dJ1_getLastEntry_24 rfl 0 rfl ?_
          refine g_aret (v := some y) hC hr (by first | exact Or.inl ⟨_, rfl⟩ | exact Or.inr ⟨_, rfl⟩) ⟨_, rfl, ?_⟩ (by omega) (by omega) hE dJ1_getLastEntry_25
          exact ⟨hW.pvR hy h_13 (by omega) (by have := hW.h0 y hy; omega), rfl, rfl, rfl⟩
        · have h13 := hW.hr y l1 hy h_13
          refine g_ifnull hC dJ1_getLastEntry_13 ?_
          refine g_aload_n hC dJ1_getLastEntry_16 rfl 0 rfl ?_
          refine t_getN (τ := τ) (v := .ref l1) hC hT 3 (by decide) hy q1542 (congrArg (fun z => some (va_rf z)) h_13) dJ1_getLastEntry_17 ?_
          refine g_astore_n (L' := [(1, .ref l1), (0, .ref t)]) hC dJ1_getLastEntry_20 rfl (by decide) rfl ?_
          refine g_goto (tgt := 9) hC dJ1_getLastEntry_21 (by decide) ?_
          exact ih_ l1 (h13.1) (by have := h13.2.2; omega) (by have := hW.h0 y hy; have := hW.h0 _ h13.1; have := h13.2.2; omega)
    exact hl_9 ((q.2.2 rt - q.2.1 rt).toNat + 1) rt (hrt.1) (hrt.2.2.2) (by omega)
set_option maxHeartbeats 1000000 in
theorem met_J1_size {Y : YT} {l : Launch} {t n u : Nat} {τ : TS} {B : AH} (hT : TQ_ Y t τ)    : GM Y l yJ1_size (ws_ yJ1_size cJ1_size 1 (some FieldType.int)) 0 0 [.ref t] (tG t τ B) n u 0 0 (pI (fun r G' n' u' => τ.2.2.1 0 = r ∧ tG t τ B = G' ∧ n = n' ∧ u = u')) noX := by
  refine GM.intro (own := RJ1) rfl (by decide +kernel) (Nat.le_of_ble_eq_true rfl) ?_
  intro p e s m args below meth c R Q hC hr hnm hF hL hE
  have hE1 := hE.1
  have hE2 := hE.2.1
  show V Y p l e R s m args below meth c 1 n u (tG t τ B) n u Q 0 [(0, .ref t)] []
  refine g_aload_n hC dJ1_size_0 rfl 0 rfl ?_
  refine t_getH (v := .int (τ.2.2.1 0)) hC 4 (by decide) q223 (congrArg (fun z => some (Value.int z)) rfl) dJ1_size_1 ?_
  refine g_iret hC hr rfl ⟨_, rfl, ?_⟩ (by omega) (by omega) hE dJ1_size_4
  exact ⟨rfl, rfl, rfl, rfl⟩
set_option maxHeartbeats 1000000 in
theorem met_J1_keyOrNull {Y : YT} {l : Launch} {t n u : Nat} {τ : TS} {B : AH} (hT : TQ_ Y t τ) (r_ : Option Nat) {v : Option Nat} (hv : tO τ 0 r_ = v) (hs : ∀ a, r_ = some a → τ.2.2.2 a = true) : GM Y l yJ1_keyOrNull (ws_ yJ1_keyOrNull cJ1_keyOrNull 1 (some (FieldType.object "java/lang/Object"))) 0 0 [va_rf r_] (tG t τ B) n u 0 0 (pQ (fun r G' n' u' => v = r ∧ tG t τ B = G' ∧ n = n' ∧ u = u')) noX := by
  rcases r_ with _ | r_
  · refine GM.intro (own := RJ1) rfl (by decide +kernel) (Nat.le_of_ble_eq_true rfl) ?_
    intro p e s m args below meth c R Q hC hr hnm hF hL hE
    have hE1 := hE.1
    have hE2 := hE.2.1
    show V Y p l e R s m args below meth c 1 n u (tG t τ B) n u Q 0 [(0, .null)] []
    refine g_aload_nN hC dJ1_keyOrNull_0 rfl 0 rfl ?_
    refine g_ifnonnullN hC dJ1_keyOrNull_1 ?_
    refine g_null hC dJ1_keyOrNull_4 ?_
    refine g_goto (tgt := 12) hC dJ1_keyOrNull_5 (by decide) ?_
    refine g_aret (v := none) hC hr (by first | exact Or.inl ⟨_, rfl⟩ | exact Or.inr ⟨_, rfl⟩) ⟨_, rfl, ?_⟩ (by omega) (by omega) hE dJ1_keyOrNull_12
    exact ⟨hv.symm, rfl, rfl, rfl⟩
  · refine GM.intro (own := RJ1) rfl (by decide +kernel) (Nat.le_of_ble_eq_true rfl) ?_
    intro p e s m args below meth c R Q hC hr hnm hF hL hE
    have hE1 := hE.1
    have hE2 := hE.2.1
    show V Y p l e R s m args below meth c 1 n u (tG t τ B) n u Q 0 [(0, .ref r_)] []
    refine g_aload_n hC dJ1_keyOrNull_0 rfl 0 rfl ?_
    refine g_ifnonnull (tgt := 8) hC dJ1_keyOrNull_1 (by decide) ?_
    refine g_aload_n hC dJ1_keyOrNull_8 rfl 0 rfl ?_
    refine t_getN (τ := τ) (v := va_rf (τ.1 0 r_)) hC hT 0 (by decide) (hs r_ rfl) q1534 (congrArg (fun z => some (va_rf z)) rfl) dJ1_keyOrNull_9 ?_
    refine g_aret (v := τ.1 0 r_) hC hr (by first | exact Or.inl ⟨_, rfl⟩ | exact Or.inr ⟨_, rfl⟩) ⟨_, rfl, ?_⟩ (by omega) (by omega) hE dJ1_keyOrNull_12
    exact ⟨hv.symm, rfl, rfl, rfl⟩
