set_option maxRecDepth 100000
/-! TREE MAPS, 3: the small methods, the rotations -/
set_option maxHeartbeats 1000000 in
theorem met_J1_parentOf {Y : YT} {l : Launch} {t n u : Nat} {τ : TS} {B : AH} (hT : TQ_ Y t τ) (r_ : Option Nat) {v : Option Nat} (hv : tO τ 4 r_ = v) (hs : ∀ a, r_ = some a → τ.2.2.2 a = true) : GM Y l yJ1_parentOf (ws_ yJ1_parentOf cJ1_parentOf 1 (some (FieldType.object "java/util/TreeMap$Entry"))) 0 0 [va_rf r_] (tG t τ B) n u 0 0 (pQ (fun r G' n' u' => v = r ∧ tG t τ B = G' ∧ n = n' ∧ u = u')) noX := by
  rcases r_ with _ | r_
  · refine GM.intro (own := RJ1) rfl (by decide +kernel) (Nat.le_of_ble_eq_true rfl) ?_
    intro p e s m args below meth c R Q hC hr hnm hF hL hE
    have hE1 := hE.1
    have hE2 := hE.2.1
    show V Y p l e R s m args below meth c 1 n u (tG t τ B) n u Q 0 [(0, .null)] []
    refine g_aload_nN hC dJ1_parentOf_0 rfl 0 rfl ?_
    refine g_ifnonnullN hC dJ1_parentOf_1 ?_
    refine g_null hC dJ1_parentOf_4 ?_
    refine g_goto (tgt := 12) hC dJ1_parentOf_5 (by decide) ?_
    refine g_aret (v := none) hC hr (by first | exact Or.inl ⟨_, rfl⟩ | exact Or.inr ⟨_, rfl⟩) ⟨_, rfl, ?_⟩ (by omega) (by omega) hE dJ1_parentOf_12
    exact ⟨hv.symm, rfl, rfl, rfl⟩
  · refine GM.intro (own := RJ1) rfl (by decide +kernel) (Nat.le_of_ble_eq_true rfl) ?_
    intro p e s m args below meth c R Q hC hr hnm hF hL hE
    have hE1 := hE.1
    have hE2 := hE.2.1
    show V Y p l e R s m args below meth c 1 n u (tG t τ B) n u Q 0 [(0, .ref r_)] []
    refine g_aload_n hC dJ1_parentOf_0 rfl 0 rfl ?_
    refine g_ifnonnull (tgt := 8) hC dJ1_parentOf_1 (by decide) ?_
    refine g_aload_n hC dJ1_parentOf_8 rfl 0 rfl ?_
    refine t_getN (τ := τ) (v := va_rf (τ.1 4 r_)) hC hT 4 (by decide) (hs r_ rfl) q1544 (congrArg (fun z => some (va_rf z)) rfl) dJ1_parentOf_9 ?_
    refine g_aret (v := τ.1 4 r_) hC hr (by first | exact Or.inl ⟨_, rfl⟩ | exact Or.inr ⟨_, rfl⟩) ⟨_, rfl, ?_⟩ (by omega) (by omega) hE dJ1_parentOf_12
    exact ⟨hv.symm, rfl, rfl, rfl⟩
set_option maxHeartbeats 1000000 in
theorem met_J1_leftOf {Y : YT} {l : Launch} {t n u : Nat} {τ : TS} {B : AH} (hT : TQ_ Y t τ) (r_ : Option Nat) {v : Option Nat} (hv : tO τ 2 r_ = v) (hs : ∀ a, r_ = some a → τ.2.2.2 a = true) : GM Y l yJ1_leftOf (ws_ yJ1_leftOf cJ1_leftOf 1 (some (FieldType.object "java/util/TreeMap$Entry"))) 0 0 [va_rf r_] (tG t τ B) n u 0 0 (pQ (fun r G' n' u' => v = r ∧ tG t τ B = G' ∧ n = n' ∧ u = u')) noX := by
  rcases r_ with _ | r_
  · refine GM.intro (own := RJ1) rfl (by decide +kernel) (Nat.le_of_ble_eq_true rfl) ?_
    intro p e s m args below meth c R Q hC hr hnm hF hL hE
    have hE1 := hE.1
    have hE2 := hE.2.1
    show V Y p l e R s m args below meth c 1 n u (tG t τ B) n u Q 0 [(0, .null)] []
    refine g_aload_nN hC dJ1_leftOf_0 rfl 0 rfl ?_
    refine g_ifnonnullN hC dJ1_leftOf_1 ?_
    refine g_null hC dJ1_leftOf_4 ?_
    refine g_goto (tgt := 12) hC dJ1_leftOf_5 (by decide) ?_
    refine g_aret (v := none) hC hr (by first | exact Or.inl ⟨_, rfl⟩ | exact Or.inr ⟨_, rfl⟩) ⟨_, rfl, ?_⟩ (by omega) (by omega) hE dJ1_leftOf_12
    exact ⟨hv.symm, rfl, rfl, rfl⟩
  · refine GM.intro (own := RJ1) rfl (by decide +kernel) (Nat.le_of_ble_eq_true rfl) ?_
    intro p e s m args below meth c R Q hC hr hnm hF hL hE
    have hE1 := hE.1
    have hE2 := hE.2.1
    show V Y p l e R s m args below meth c 1 n u (tG t τ B) n u Q 0 [(0, .ref r_)] []
    refine g_aload_n hC dJ1_leftOf_0 rfl 0 rfl ?_
    refine g_ifnonnull (tgt := 8) hC dJ1_leftOf_1 (by decide) ?_
    refine g_aload_n hC dJ1_leftOf_8 rfl 0 rfl ?_
    refine t_getN (τ := τ) (v := va_rf (τ.1 2 r_)) hC hT 2 (by decide) (hs r_ rfl) q1539 (congrArg (fun z => some (va_rf z)) rfl) dJ1_leftOf_9 ?_
    refine g_aret (v := τ.1 2 r_) hC hr (by first | exact Or.inl ⟨_, rfl⟩ | exact Or.inr ⟨_, rfl⟩) ⟨_, rfl, ?_⟩ (by omega) (by omega) hE dJ1_leftOf_12
    exact ⟨hv.symm, rfl, rfl, rfl⟩
set_option maxHeartbeats 1000000 in
theorem met_J1_rightOf {Y : YT} {l : Launch} {t n u : Nat} {τ : TS} {B : AH} (hT : TQ_ Y t τ) (r_ : Option Nat) {v : Option Nat} (hv : tO τ 3 r_ = v) (hs : ∀ a, r_ = some a → τ.2.2.2 a = true) : GM Y l yJ1_rightOf (ws_ yJ1_rightOf cJ1_rightOf 1 (some (FieldType.object "java/util/TreeMap$Entry"))) 0 0 [va_rf r_] (tG t τ B) n u 0 0 (pQ (fun r G' n' u' => v = r ∧ tG t τ B = G' ∧ n = n' ∧ u = u')) noX := by
  rcases r_ with _ | r_
  · refine GM.intro (own := RJ1) rfl (by decide +kernel) (Nat.le_of_ble_eq_true rfl) ?_
    intro p e s m args below meth c R Q hC hr hnm hF hL hE
    have hE1 := hE.1
    have hE2 := hE.2.1
    show V Y p l e R s m args below meth c 1 n u (tG t τ B) n u Q 0 [(0, .null)] []
    refine g_aload_nN hC dJ1_rightOf_0 rfl 0 rfl ?_
    refine g_ifnonnullN hC dJ1_rightOf_1 ?_
    refine g_null hC dJ1_rightOf_4 ?_
    refine g_goto (tgt := 12) hC dJ1_rightOf_5 (by decide) ?_
    refine g_aret (v := none) hC hr (by first | exact Or.inl ⟨_, rfl⟩ | exact Or.inr ⟨_, rfl⟩) ⟨_, rfl, ?_⟩ (by omega) (by omega) hE dJ1_rightOf_12
    exact ⟨hv.symm, rfl, rfl, rfl⟩
  · refine GM.intro (own := RJ1) rfl (by decide +kernel) (Nat.le_of_ble_eq_true rfl) ?_
    intro p e s m args below meth c R Q hC hr hnm hF hL hE
    have hE1 := hE.1
    have hE2 := hE.2.1
    show V Y p l e R s m args below meth c 1 n u (tG t τ B) n u Q 0 [(0, .ref r_)] []
    refine g_aload_n hC dJ1_rightOf_0 rfl 0 rfl ?_
    refine g_ifnonnull (tgt := 8) hC dJ1_rightOf_1 (by decide) ?_
    refine g_aload_n hC dJ1_rightOf_8 rfl 0 rfl ?_
    refine t_getN (τ := τ) (v := va_rf (τ.1 3 r_)) hC hT 3 (by decide) (hs r_ rfl) q1542 (congrArg (fun z => some (va_rf z)) rfl) dJ1_rightOf_9 ?_
    refine g_aret (v := τ.1 3 r_) hC hr (by first | exact Or.inl ⟨_, rfl⟩ | exact Or.inr ⟨_, rfl⟩) ⟨_, rfl, ?_⟩ (by omega) (by omega) hE dJ1_rightOf_12
    exact ⟨hv.symm, rfl, rfl, rfl⟩
set_option maxHeartbeats 1000000 in
theorem met_J1_colorOf {Y : YT} {l : Launch} {t n u : Nat} {τ : TS} {B : AH} (hT : TQ_ Y t τ) (r_ : Option Nat) {v : Bool} (hv : cO τ r_ = v) (hs : ∀ a, r_ = some a → τ.2.2.2 a = true) : GM Y l yJ1_colorOf (ws_ yJ1_colorOf cJ1_colorOf 1 (some FieldType.boolean)) 0 0 [va_rf r_] (tG t τ B) n u 0 0 (pI (fun r G' n' u' => b2i v = r ∧ tG t τ B = G' ∧ n = n' ∧ u = u')) noX := by
  rcases r_ with _ | r_
  · refine GM.intro (own := RJ1) rfl (by decide +kernel) (Nat.le_of_ble_eq_true rfl) ?_
    intro p e s m args below meth c R Q hC hr hnm hF hL hE
    have hE1 := hE.1
    have hE2 := hE.2.1
    show V Y p l e R s m args below meth c 1 n u (tG t τ B) n u Q 0 [(0, .null)] []
    refine g_aload_nN hC dJ1_colorOf_0 rfl 0 rfl ?_
    refine g_ifnonnullN hC dJ1_colorOf_1 ?_
    refine g_iconst (v := 1) hC dJ1_colorOf_4 rfl ?_
    refine g_goto (tgt := 12) hC dJ1_colorOf_5 (by decide) ?_
    refine g_iret hC hr rfl ⟨_, rfl, ?_⟩ (by omega) (by omega) hE dJ1_colorOf_12
    exact ⟨by rw [← hv]; rfl, rfl, rfl, rfl⟩
  · refine GM.intro (own := RJ1) rfl (by decide +kernel) (Nat.le_of_ble_eq_true rfl) ?_
    intro p e s m args below meth c R Q hC hr hnm hF hL hE
    have hE1 := hE.1
    have hE2 := hE.2.1
    show V Y p l e R s m args below meth c 1 n u (tG t τ B) n u Q 0 [(0, .ref r_)] []
    refine g_aload_n hC dJ1_colorOf_0 rfl 0 rfl ?_
    refine g_ifnonnull (tgt := 8) hC dJ1_colorOf_1 (by decide) ?_
    refine g_aload_n hC dJ1_colorOf_8 rfl 0 rfl ?_
    refine t_getN (τ := τ) (v := .int (b2i (τ.2.1 r_))) hC hT 5 (by decide) (hs r_ rfl) q1546 (congrArg (fun z => some (Value.int (b2i z))) rfl) dJ1_colorOf_9 ?_
    refine g_iret hC hr (nar_b2i _) ⟨_, rfl, ?_⟩ (by omega) (by omega) hE dJ1_colorOf_12
    exact ⟨by rw [← hv]; rfl, rfl, rfl, rfl⟩
set_option maxHeartbeats 1000000 in
theorem met_J1_setColor {Y : YT} {l : Launch} {t n u : Nat} {τ : TS} {B : AH} (hT : TQ_ Y t τ) (r_ : Option Nat) (b_ : Bool) {τ2 : TS} (hv : tcO τ r_ b_ = τ2) (hs : ∀ a, r_ = some a → τ.2.2.2 a = true) : GM Y l yJ1_setColor (ws_ yJ1_setColor cJ1_setColor 2 none) 0 0 [va_rf r_, .int (b2i b_)] (tG t τ B) n u 0 0 (pV (fun G' n' u' => tG t τ2 B = G' ∧ n = n' ∧ u = u')) noX := by
  rcases r_ with _ | r_
  · refine GM.intro (own := RJ1) rfl (by decide +kernel) (Nat.le_of_ble_eq_true rfl) ?_
    intro p e s m args below meth c R Q hC hr hnm hF hL hE
    have hE1 := hE.1
    have hE2 := hE.2.1
    show V Y p l e R s m args below meth c 2 n u (tG t τ B) n u Q 0 [(0, .null), (1, .int (b2i b_))] []
    refine g_aload_nN hC dJ1_setColor_0 rfl 0 rfl ?_
    refine g_ifnullN (tgt := 9) hC dJ1_setColor_1 (by decide) ?_
    refine g_vret hC hr ⟨rfl, ?_⟩ (by omega) (by omega) hE dJ1_setColor_9
    exact ⟨by rw [← hv]; rfl, rfl, rfl⟩
  · refine GM.intro (own := RJ1) rfl (by decide +kernel) (Nat.le_of_ble_eq_true rfl) ?_
    intro p e s m args below meth c R Q hC hr hnm hF hL hE
    have hE1 := hE.1
    have hE2 := hE.2.1
    show V Y p l e R s m args below meth c 2 n u (tG t τ B) n u Q 0 [(0, .ref r_), (1, .int (b2i b_))] []
    refine g_aload_n hC dJ1_setColor_0 rfl 0 rfl ?_
    refine g_ifnull hC dJ1_setColor_1 ?_
    refine g_aload_n hC dJ1_setColor_4 rfl 0 rfl ?_
    refine g_iload_n hC dJ1_setColor_5 rfl 1 rfl ?_
    refine t_putC (τ := τ) hC hT b_ (hs r_ rfl) q1546 dJ1_setColor_6 ?_
    refine g_vret hC hr ⟨rfl, ?_⟩ (by omega) (by omega) hE dJ1_setColor_9
    exact ⟨by rw [← hv]; rfl, rfl, rfl⟩
set_option maxHeartbeats 1000000 in
theorem met_J1_rotateLeft {Y : YT} {l : Launch} {t n u : Nat} {τ : TS} {B : AH} (hT : TQ_ Y t τ) (x_ : Nat) {r_ : Nat} {q : TQ} {LO HI : Int} (hW : TW τ q LO HI) (hp : τ.2.2.2 x_ = true) (hx1 : τ.1 3 x_ = some r_) : GM Y l yJ1_rotateLeft (ws_ yJ1_rotateLeft cJ1_rotateLeft 3 none) 0 0 [.ref t, .ref x_] (tG t τ B) n u 0 0 (pV (fun G' n' u' => tG t (rotL τ x_ r_) B = G' ∧ n = n' ∧ u = u')) noX := by
  refine GM.intro (own := RJ1) rfl (by decide +kernel) (Nat.le_of_ble_eq_true rfl) ?_
  intro p e s m args below meth c R Q hC hr hnm hF hL hE
  have hE1 := hE.1
  have hE2 := hE.2.1
  show V Y p l e R s m args below meth c 3 n u (tG t τ B) n u Q 0 [(0, .ref t), (1, .ref x_)] []
  have h7 := hW.hr x_ r_ hp hx1
  have hSr := h7.1
  have hpr : x_ ≠ r_ := fun e => by
    have h6 := hW.h0 x_ hp
    subst e
    omega
  refine g_aload_n hC dJ1_rotateLeft_0 rfl 1 rfl ?_
  refine g_ifnull hC dJ1_rotateLeft_1 ?_
  refine g_aload_n hC dJ1_rotateLeft_4 rfl 1 rfl ?_
  refine t_getN (τ := τ) (v := .ref r_) hC hT 3 (by decide) hp q1542 (congrArg (fun z => some (va_rf z)) hx1) dJ1_rotateLeft_5 ?_
  refine g_astore_n (L' := [(2, .ref r_), (0, .ref t), (1, .ref x_)]) hC dJ1_rotateLeft_8 rfl (by decide) rfl ?_
  refine g_aload_n hC dJ1_rotateLeft_9 rfl 2 rfl ?_
  refine g_aload_n hC dJ1_rotateLeft_10 rfl 0 rfl ?_
  refine t_getN (τ := τ) (v := va_rf (τ.1 2 r_)) hC hT 2 (by decide) hSr q1539 (congrArg (fun z => some (va_rf z)) rfl) dJ1_rotateLeft_11 ?_
  refine t_putN (τ := τ) hC hT 3 (by decide) (τ.1 2 r_) hp q1542 dJ1_rotateLeft_14 ?_
  refine g_aload_n hC dJ1_rotateLeft_17 rfl 0 rfl ?_
  refine t_getN (τ := (tr τ 3 x_ (τ.1 2 r_))) (v := va_rf (τ.1 2 r_)) hC hT 2 (by decide) hSr q1539 (congrArg (fun z => some (va_rf z)) (tr_nk (by decide))) dJ1_rotateLeft_18 ?_
  rcases h_21 : τ.1 2 r_ with _ | l_
  · refine g_ifnullN (tgt := 32) hC dJ1_rotateLeft_21 (by decide) ?_
    refine g_aload_n hC dJ1_rotateLeft_32 rfl 0 rfl ?_
    refine g_aload_n hC dJ1_rotateLeft_33 rfl 2 rfl ?_
    refine t_getN (τ := (tr τ 3 x_ none)) (v := va_rf (τ.1 4 x_)) hC hT 4 (by decide) hp q1544 (congrArg (fun z => some (va_rf z)) (tr_nk (by decide))) dJ1_rotateLeft_34 ?_
    refine t_putN (τ := (tr τ 3 x_ none)) hC hT 4 (by decide) (τ.1 4 x_) hSr q1544 dJ1_rotateLeft_37 ?_
    refine g_aload_n hC dJ1_rotateLeft_40 rfl 2 rfl ?_
    refine t_getN (τ := (tr (tr τ 3 x_ none) 4 r_ (τ.1 4 x_))) (v := va_rf (τ.1 4 x_)) hC hT 4 (by decide) hp q1544 (congrArg (fun z => some (va_rf z)) ((tr_na hpr).trans (tr_nk (by decide)))) dJ1_rotateLeft_41 ?_
    rcases h_44 : τ.1 4 x_ with _ | g
    · refine g_ifnonnullN hC dJ1_rotateLeft_44 ?_
      refine g_aload_n hC dJ1_rotateLeft_47 rfl 1 rfl ?_
      refine g_aload_n hC dJ1_rotateLeft_48 rfl 0 rfl ?_
      refine t_putR (τ := (tr (tr τ 3 x_ none) 4 r_ none)) hC hT 5 (by decide) (some r_) q222 dJ1_rotateLeft_49 ?_
      refine g_goto (tgt := 85) hC dJ1_rotateLeft_52 (by decide) ?_
      refine g_aload_n hC dJ1_rotateLeft_85 rfl 0 rfl ?_
      refine g_aload_n hC dJ1_rotateLeft_86 rfl 2 rfl ?_
      refine t_putN (τ := (tr (tr (tr τ 3 x_ none) 4 r_ none) 5 0 (some r_))) hC hT 2 (by decide) (some x_) hSr q1539 dJ1_rotateLeft_87 ?_
      refine g_aload_n hC dJ1_rotateLeft_90 rfl 2 rfl ?_
      refine g_aload_n hC dJ1_rotateLeft_91 rfl 0 rfl ?_
      refine t_putN (τ := (tr (tr (tr (tr τ 3 x_ none) 4 r_ none) 5 0 (some r_)) 2 r_ (some x_))) hC hT 4 (by decide) (some r_) hp q1544 dJ1_rotateLeft_92 ?_
      refine g_vret hC hr ⟨rfl, ?_⟩ (by omega) (by omega) hE dJ1_rotateLeft_95
      have e1 : rot1 τ 3 x_ (τ.1 2 r_) = (tr τ 3 x_ none) := by rw [h_21]; rfl
      have e2 : (tr τ 3 x_ none).1 4 x_ = none := (tr_nk (by decide)).trans h_44
      have e9 : rotL τ x_ r_ = (tr (tr (tr (tr (tr τ 3 x_ none) 4 r_ none) 5 0 (some r_)) 2 r_ (some x_)) 4 x_ (some r_)) := by
        unfold rotL
        rw [e1, e2]
      exact ⟨by rw [e9], rfl, rfl⟩
    · have hSg := (hW.hp x_ g hp h_44).1
      refine g_ifnonnull (tgt := 55) hC dJ1_rotateLeft_44 (by decide) ?_
      refine g_aload_n hC dJ1_rotateLeft_55 rfl 2 rfl ?_
      refine t_getN (τ := (tr (tr τ 3 x_ none) 4 r_ (some g))) (v := .ref g) hC hT 4 (by decide) hp q1544 (congrArg (fun z => some (va_rf z)) ((tr_na hpr).trans ((tr_nk (by decide)).trans h_44))) dJ1_rotateLeft_56 ?_
      refine t_getN (τ := (tr (tr τ 3 x_ none) 4 r_ (some g))) (v := va_rf (τ.1 2 g)) hC hT 2 (by decide) hSg q1539 (congrArg (fun z => some (va_rf z)) ((tr_nk (by decide)).trans (tr_nk (by decide)))) dJ1_rotateLeft_59 ?_
      refine g_aload_n hC dJ1_rotateLeft_62 rfl 2 rfl ?_
      refine g_acmp_ne (rx := τ.1 2 g) (ry := some x_) hC dJ1_rotateLeft_63 (tgt := 77) (by decide) (fun c_63 => ?_) (fun c_63 => ?_)
      · refine g_aload_n hC dJ1_rotateLeft_77 rfl 2 rfl ?_
        refine t_getN (τ := (tr (tr τ 3 x_ none) 4 r_ (some g))) (v := .ref g) hC hT 4 (by decide) hp q1544 (congrArg (fun z => some (va_rf z)) ((tr_na hpr).trans ((tr_nk (by decide)).trans h_44))) dJ1_rotateLeft_78 ?_
        refine g_aload_n hC dJ1_rotateLeft_81 rfl 0 rfl ?_
        refine t_putN (τ := (tr (tr τ 3 x_ none) 4 r_ (some g))) hC hT 3 (by decide) (some r_) hSg q1542 dJ1_rotateLeft_82 ?_
        refine g_aload_n hC dJ1_rotateLeft_85 rfl 0 rfl ?_
        refine g_aload_n hC dJ1_rotateLeft_86 rfl 2 rfl ?_
        refine t_putN (τ := (tr (tr (tr τ 3 x_ none) 4 r_ (some g)) 3 g (some r_))) hC hT 2 (by decide) (some x_) hSr q1539 dJ1_rotateLeft_87 ?_
        refine g_aload_n hC dJ1_rotateLeft_90 rfl 2 rfl ?_
        refine g_aload_n hC dJ1_rotateLeft_91 rfl 0 rfl ?_
        refine t_putN (τ := (tr (tr (tr (tr τ 3 x_ none) 4 r_ (some g)) 3 g (some r_)) 2 r_ (some x_))) hC hT 4 (by decide) (some r_) hp q1544 dJ1_rotateLeft_92 ?_
        refine g_vret hC hr ⟨rfl, ?_⟩ (by omega) (by omega) hE dJ1_rotateLeft_95
        have e1 : rot1 τ 3 x_ (τ.1 2 r_) = (tr τ 3 x_ none) := by rw [h_21]; rfl
        have e2 : (tr τ 3 x_ none).1 4 x_ = some g := (tr_nk (by decide)).trans h_44
        have e9 : rotL τ x_ r_ = (tr (tr (tr (tr (tr τ 3 x_ none) 4 r_ (some g)) 3 g (some r_)) 2 r_ (some x_)) 4 x_ (some r_)) := by
          unfold rotL
          rw [e1, e2]
          exact congrArg (fun z => tr (tr z 2 r_ (some x_)) 4 x_ (some r_)) (if_neg (show ¬ (tr τ 3 x_ none).1 2 g = some x_ from fun y => c_63 ((Eq.symm (tr_nk (by decide))).trans y)))
        exact ⟨by rw [e9], rfl, rfl⟩
      · refine g_aload_n hC dJ1_rotateLeft_66 rfl 2 rfl ?_
        refine t_getN (τ := (tr (tr τ 3 x_ none) 4 r_ (some g))) (v := .ref g) hC hT 4 (by decide) hp q1544 (congrArg (fun z => some (va_rf z)) ((tr_na hpr).trans ((tr_nk (by decide)).trans h_44))) dJ1_rotateLeft_67 ?_
        refine g_aload_n hC dJ1_rotateLeft_70 rfl 0 rfl ?_
        refine t_putN (τ := (tr (tr τ 3 x_ none) 4 r_ (some g))) hC hT 2 (by decide) (some r_) hSg q1539 dJ1_rotateLeft_71 ?_
        refine g_goto (tgt := 85) hC dJ1_rotateLeft_74 (by decide) ?_
        refine g_aload_n hC dJ1_rotateLeft_85 rfl 0 rfl ?_
        refine g_aload_n hC dJ1_rotateLeft_86 rfl 2 rfl ?_
        refine t_putN (τ := (tr (tr (tr τ 3 x_ none) 4 r_ (some g)) 2 g (some r_))) hC hT 2 (by decide) (some x_) hSr q1539 dJ1_rotateLeft_87 ?_
        refine g_aload_n hC dJ1_rotateLeft_90 rfl 2 rfl ?_
        refine g_aload_n hC dJ1_rotateLeft_91 rfl 0 rfl ?_
        refine t_putN (τ := (tr (tr (tr (tr τ 3 x_ none) 4 r_ (some g)) 2 g (some r_)) 2 r_ (some x_))) hC hT 4 (by decide) (some r_) hp q1544 dJ1_rotateLeft_92 ?_
        refine g_vret hC hr ⟨rfl, ?_⟩ (by omega) (by omega) hE dJ1_rotateLeft_95
        have e1 : rot1 τ 3 x_ (τ.1 2 r_) = (tr τ 3 x_ none) := by rw [h_21]; rfl
        have e2 : (tr τ 3 x_ none).1 4 x_ = some g := (tr_nk (by decide)).trans h_44
        have e9 : rotL τ x_ r_ = (tr (tr (tr (tr (tr τ 3 x_ none) 4 r_ (some g)) 2 g (some r_)) 2 r_ (some x_)) 4 x_ (some r_)) := by
          unfold rotL
          rw [e1, e2]
          exact congrArg (fun z => tr (tr z 2 r_ (some x_)) 4 x_ (some r_)) (if_pos (show (tr τ 3 x_ none).1 2 g = some x_ from (tr_nk (by decide)).trans c_63))
        exact ⟨by rw [e9], rfl, rfl⟩
  · have h8 := hW.hl r_ l_ hSr h_21
    have hSl := h8.1
    have hpl : x_ ≠ l_ := fun e => by
      have h7 := hW.hr x_ r_ hp hx1
      have h6 := hW.h0 x_ hp
      have h5 := hW.h0 r_ hSr
      subst e
      omega
    refine g_ifnull hC dJ1_rotateLeft_21 ?_
    refine g_aload_n hC dJ1_rotateLeft_24 rfl 0 rfl ?_
    refine t_getN (τ := (tr τ 3 x_ (some l_))) (v := .ref l_) hC hT 2 (by decide) hSr q1539 (congrArg (fun z => some (va_rf z)) ((tr_nk (by decide)).trans h_21)) dJ1_rotateLeft_25 ?_
    refine g_aload_n hC dJ1_rotateLeft_28 rfl 2 rfl ?_
    refine t_putN (τ := (tr τ 3 x_ (some l_))) hC hT 4 (by decide) (some x_) hSl q1544 dJ1_rotateLeft_29 ?_
    refine g_aload_n hC dJ1_rotateLeft_32 rfl 0 rfl ?_
    refine g_aload_n hC dJ1_rotateLeft_33 rfl 2 rfl ?_
    refine t_getN (τ := (tr (tr τ 3 x_ (some l_)) 4 l_ (some x_))) (v := va_rf (τ.1 4 x_)) hC hT 4 (by decide) hp q1544 (congrArg (fun z => some (va_rf z)) ((tr_na hpl).trans (tr_nk (by decide)))) dJ1_rotateLeft_34 ?_
    refine t_putN (τ := (tr (tr τ 3 x_ (some l_)) 4 l_ (some x_))) hC hT 4 (by decide) (τ.1 4 x_) hSr q1544 dJ1_rotateLeft_37 ?_
    refine g_aload_n hC dJ1_rotateLeft_40 rfl 2 rfl ?_
    refine t_getN (τ := (tr (tr (tr τ 3 x_ (some l_)) 4 l_ (some x_)) 4 r_ (τ.1 4 x_))) (v := va_rf (τ.1 4 x_)) hC hT 4 (by decide) hp q1544 (congrArg (fun z => some (va_rf z)) ((tr_na hpr).trans ((tr_na hpl).trans (tr_nk (by decide))))) dJ1_rotateLeft_41 ?_
    rcases h_44 : τ.1 4 x_ with _ | g
    · refine g_ifnonnullN hC dJ1_rotateLeft_44 ?_
      refine g_aload_n hC dJ1_rotateLeft_47 rfl 1 rfl ?_
      refine g_aload_n hC dJ1_rotateLeft_48 rfl 0 rfl ?_
      refine t_putR (τ := (tr (tr (tr τ 3 x_ (some l_)) 4 l_ (some x_)) 4 r_ none)) hC hT 5 (by decide) (some r_) q222 dJ1_rotateLeft_49 ?_
      refine g_goto (tgt := 85) hC dJ1_rotateLeft_52 (by decide) ?_
      refine g_aload_n hC dJ1_rotateLeft_85 rfl 0 rfl ?_
      refine g_aload_n hC dJ1_rotateLeft_86 rfl 2 rfl ?_
      refine t_putN (τ := (tr (tr (tr (tr τ 3 x_ (some l_)) 4 l_ (some x_)) 4 r_ none) 5 0 (some r_))) hC hT 2 (by decide) (some x_) hSr q1539 dJ1_rotateLeft_87 ?_
      refine g_aload_n hC dJ1_rotateLeft_90 rfl 2 rfl ?_
      refine g_aload_n hC dJ1_rotateLeft_91 rfl 0 rfl ?_
      refine t_putN (τ := (tr (tr (tr (tr (tr τ 3 x_ (some l_)) 4 l_ (some x_)) 4 r_ none) 5 0 (some r_)) 2 r_ (some x_))) hC hT 4 (by decide) (some r_) hp q1544 dJ1_rotateLeft_92 ?_
      refine g_vret hC hr ⟨rfl, ?_⟩ (by omega) (by omega) hE dJ1_rotateLeft_95
      have e1 : rot1 τ 3 x_ (τ.1 2 r_) = (tr (tr τ 3 x_ (some l_)) 4 l_ (some x_)) := by rw [h_21]; rfl
      have e2 : (tr (tr τ 3 x_ (some l_)) 4 l_ (some x_)).1 4 x_ = none := ((tr_na hpl).trans (tr_nk (by decide))).trans h_44
      have e9 : rotL τ x_ r_ = (tr (tr (tr (tr (tr (tr τ 3 x_ (some l_)) 4 l_ (some x_)) 4 r_ none) 5 0 (some r_)) 2 r_ (some x_)) 4 x_ (some r_)) := by
        unfold rotL
        rw [e1, e2]
      exact ⟨by rw [e9], rfl, rfl⟩
    · have hSg := (hW.hp x_ g hp h_44).1
      refine g_ifnonnull (tgt := 55) hC dJ1_rotateLeft_44 (by decide) ?_
      refine g_aload_n hC dJ1_rotateLeft_55 rfl 2 rfl ?_
      refine t_getN (τ := (tr (tr (tr τ 3 x_ (some l_)) 4 l_ (some x_)) 4 r_ (some g))) (v := .ref g) hC hT 4 (by decide) hp q1544 (congrArg (fun z => some (va_rf z)) ((tr_na hpr).trans ((tr_na hpl).trans ((tr_nk (by decide)).trans h_44)))) dJ1_rotateLeft_56 ?_
      refine t_getN (τ := (tr (tr (tr τ 3 x_ (some l_)) 4 l_ (some x_)) 4 r_ (some g))) (v := va_rf (τ.1 2 g)) hC hT 2 (by decide) hSg q1539 (congrArg (fun z => some (va_rf z)) ((tr_nk (by decide)).trans ((tr_nk (by decide)).trans (tr_nk (by decide))))) dJ1_rotateLeft_59 ?_
      refine g_aload_n hC dJ1_rotateLeft_62 rfl 2 rfl ?_
      refine g_acmp_ne (rx := τ.1 2 g) (ry := some x_) hC dJ1_rotateLeft_63 (tgt := 77) (by decide) (fun c_63 => ?_) (fun c_63 => ?_)
      · refine g_aload_n hC dJ1_rotateLeft_77 rfl 2 rfl ?_
        refine t_getN (τ := (tr (tr (tr τ 3 x_ (some l_)) 4 l_ (some x_)) 4 r_ (some g))) (v := .ref g) hC hT 4 (by decide) hp q1544 (congrArg (fun z => some (va_rf z)) ((tr_na hpr).trans ((tr_na hpl).trans ((tr_nk (by decide)).trans h_44)))) dJ1_rotateLeft_78 ?_
        refine g_aload_n hC dJ1_rotateLeft_81 rfl 0 rfl ?_
        refine t_putN (τ := (tr (tr (tr τ 3 x_ (some l_)) 4 l_ (some x_)) 4 r_ (some g))) hC hT 3 (by decide) (some r_) hSg q1542 dJ1_rotateLeft_82 ?_
        refine g_aload_n hC dJ1_rotateLeft_85 rfl 0 rfl ?_
        refine g_aload_n hC dJ1_rotateLeft_86 rfl 2 rfl ?_
        refine t_putN (τ := (tr (tr (tr (tr τ 3 x_ (some l_)) 4 l_ (some x_)) 4 r_ (some g)) 3 g (some r_))) hC hT 2 (by decide) (some x_) hSr q1539 dJ1_rotateLeft_87 ?_
        refine g_aload_n hC dJ1_rotateLeft_90 rfl 2 rfl ?_
        refine g_aload_n hC dJ1_rotateLeft_91 rfl 0 rfl ?_
        refine t_putN (τ := (tr (tr (tr (tr (tr τ 3 x_ (some l_)) 4 l_ (some x_)) 4 r_ (some g)) 3 g (some r_)) 2 r_ (some x_))) hC hT 4 (by decide) (some r_) hp q1544 dJ1_rotateLeft_92 ?_
        refine g_vret hC hr ⟨rfl, ?_⟩ (by omega) (by omega) hE dJ1_rotateLeft_95
        have e1 : rot1 τ 3 x_ (τ.1 2 r_) = (tr (tr τ 3 x_ (some l_)) 4 l_ (some x_)) := by rw [h_21]; rfl
        have e2 : (tr (tr τ 3 x_ (some l_)) 4 l_ (some x_)).1 4 x_ = some g := ((tr_na hpl).trans (tr_nk (by decide))).trans h_44
        have e9 : rotL τ x_ r_ = (tr (tr (tr (tr (tr (tr τ 3 x_ (some l_)) 4 l_ (some x_)) 4 r_ (some g)) 3 g (some r_)) 2 r_ (some x_)) 4 x_ (some r_)) := by
          unfold rotL
          rw [e1, e2]
          exact congrArg (fun z => tr (tr z 2 r_ (some x_)) 4 x_ (some r_)) (if_neg (show ¬ (tr (tr τ 3 x_ (some l_)) 4 l_ (some x_)).1 2 g = some x_ from fun y => c_63 ((Eq.symm ((tr_nk (by decide)).trans (tr_nk (by decide)))).trans y)))
        exact ⟨by rw [e9], rfl, rfl⟩
      · refine g_aload_n hC dJ1_rotateLeft_66 rfl 2 rfl ?_
        refine t_getN (τ := (tr (tr (tr τ 3 x_ (some l_)) 4 l_ (some x_)) 4 r_ (some g))) (v := .ref g) hC hT 4 (by decide) hp q1544 (congrArg (fun z => some (va_rf z)) ((tr_na hpr).trans ((tr_na hpl).trans ((tr_nk (by decide)).trans h_44)))) dJ1_rotateLeft_67 ?_
        refine g_aload_n hC dJ1_rotateLeft_70 rfl 0 rfl ?_
        refine t_putN (τ := (tr (tr (tr τ 3 x_ (some l_)) 4 l_ (some x_)) 4 r_ (some g))) hC hT 2 (by decide) (some r_) hSg q1539 dJ1_rotateLeft_71 ?_
        refine g_goto (tgt := 85) hC dJ1_rotateLeft_74 (by decide) ?_
        refine g_aload_n hC dJ1_rotateLeft_85 rfl 0 rfl ?_
        refine g_aload_n hC dJ1_rotateLeft_86 rfl 2 rfl ?_
        refine t_putN (τ := (tr (tr (tr (tr τ 3 x_ (some l_)) 4 l_ (some x_)) 4 r_ (some g)) 2 g (some r_))) hC hT 2 (by decide) (some x_) hSr q1539 dJ1_rotateLeft_87 ?_
        refine g_aload_n hC dJ1_rotateLeft_90 rfl 2 rfl ?_
        refine g_aload_n hC dJ1_rotateLeft_91 rfl 0 rfl ?_
        refine t_putN (τ := (tr (tr (tr (tr (tr τ 3 x_ (some l_)) 4 l_ (some x_)) 4 r_ (some g)) 2 g (some r_)) 2 r_ (some x_))) hC hT 4 (by decide) (some r_) hp q1544 dJ1_rotateLeft_92 ?_
        refine g_vret hC hr ⟨rfl, ?_⟩ (by omega) (by omega) hE dJ1_rotateLeft_95
        have e1 : rot1 τ 3 x_ (τ.1 2 r_) = (tr (tr τ 3 x_ (some l_)) 4 l_ (some x_)) := by rw [h_21]; rfl
        have e2 : (tr (tr τ 3 x_ (some l_)) 4 l_ (some x_)).1 4 x_ = some g := ((tr_na hpl).trans (tr_nk (by decide))).trans h_44
        have e9 : rotL τ x_ r_ = (tr (tr (tr (tr (tr (tr τ 3 x_ (some l_)) 4 l_ (some x_)) 4 r_ (some g)) 2 g (some r_)) 2 r_ (some x_)) 4 x_ (some r_)) := by
          unfold rotL
          rw [e1, e2]
          exact congrArg (fun z => tr (tr z 2 r_ (some x_)) 4 x_ (some r_)) (if_pos (show (tr (tr τ 3 x_ (some l_)) 4 l_ (some x_)).1 2 g = some x_ from ((tr_nk (by decide)).trans (tr_nk (by decide))).trans c_63))
        exact ⟨by rw [e9], rfl, rfl⟩
set_option maxHeartbeats 1000000 in
theorem met_J1_rotateRight {Y : YT} {l : Launch} {t n u : Nat} {τ : TS} {B : AH} (hT : TQ_ Y t τ) (x_ : Nat) {r_ : Nat} {q : TQ} {LO HI : Int} (hW : TW τ q LO HI) (hp : τ.2.2.2 x_ = true) (hx1 : τ.1 2 x_ = some r_) : GM Y l yJ1_rotateRight (ws_ yJ1_rotateRight cJ1_rotateRight 3 none) 0 0 [.ref t, .ref x_] (tG t τ B) n u 0 0 (pV (fun G' n' u' => tG t (rotR τ x_ r_) B = G' ∧ n = n' ∧ u = u')) noX := by
  refine GM.intro (own := RJ1) rfl (by decide +kernel) (Nat.le_of_ble_eq_true rfl) ?_
  intro p e s m args below meth c R Q hC hr hnm hF hL hE
  have hE1 := hE.1
  have hE2 := hE.2.1
  show V Y p l e R s m args below meth c 3 n u (tG t τ B) n u Q 0 [(0, .ref t), (1, .ref x_)] []
  have h7 := hW.hl x_ r_ hp hx1
  have hSr := h7.1
  have hpr : x_ ≠ r_ := fun e => by
    have h6 := hW.h0 x_ hp
    subst e
    omega
  refine g_aload_n hC dJ1_rotateRight_0 rfl 1 rfl ?_
  refine g_ifnull hC dJ1_rotateRight_1 ?_
  refine g_aload_n hC dJ1_rotateRight_4 rfl 1 rfl ?_
  refine t_getN (τ := τ) (v := .ref r_) hC hT 2 (by decide) hp q1539 (congrArg (fun z => some (va_rf z)) hx1) dJ1_rotateRight_5 ?_
  refine g_astore_n (L' := [(2, .ref r_), (0, .ref t), (1, .ref x_)]) hC dJ1_rotateRight_8 rfl (by decide) rfl ?_
  refine g_aload_n hC dJ1_rotateRight_9 rfl 2 rfl ?_
  refine g_aload_n hC dJ1_rotateRight_10 rfl 0 rfl ?_
  refine t_getN (τ := τ) (v := va_rf (τ.1 3 r_)) hC hT 3 (by decide) hSr q1542 (congrArg (fun z => some (va_rf z)) rfl) dJ1_rotateRight_11 ?_
  refine t_putN (τ := τ) hC hT 2 (by decide) (τ.1 3 r_) hp q1539 dJ1_rotateRight_14 ?_
  refine g_aload_n hC dJ1_rotateRight_17 rfl 0 rfl ?_
  refine t_getN (τ := (tr τ 2 x_ (τ.1 3 r_))) (v := va_rf (τ.1 3 r_)) hC hT 3 (by decide) hSr q1542 (congrArg (fun z => some (va_rf z)) (tr_nk (by decide))) dJ1_rotateRight_18 ?_
  rcases h_21 : τ.1 3 r_ with _ | l_
  · refine g_ifnullN (tgt := 32) hC dJ1_rotateRight_21 (by decide) ?_
    refine g_aload_n hC dJ1_rotateRight_32 rfl 0 rfl ?_
    refine g_aload_n hC dJ1_rotateRight_33 rfl 2 rfl ?_
    refine t_getN (τ := (tr τ 2 x_ none)) (v := va_rf (τ.1 4 x_)) hC hT 4 (by decide) hp q1544 (congrArg (fun z => some (va_rf z)) (tr_nk (by decide))) dJ1_rotateRight_34 ?_
    refine t_putN (τ := (tr τ 2 x_ none)) hC hT 4 (by decide) (τ.1 4 x_) hSr q1544 dJ1_rotateRight_37 ?_
    refine g_aload_n hC dJ1_rotateRight_40 rfl 2 rfl ?_
    refine t_getN (τ := (tr (tr τ 2 x_ none) 4 r_ (τ.1 4 x_))) (v := va_rf (τ.1 4 x_)) hC hT 4 (by decide) hp q1544 (congrArg (fun z => some (va_rf z)) ((tr_na hpr).trans (tr_nk (by decide)))) dJ1_rotateRight_41 ?_
    rcases h_44 : τ.1 4 x_ with _ | g
    · refine g_ifnonnullN hC dJ1_rotateRight_44 ?_
      refine g_aload_n hC dJ1_rotateRight_47 rfl 1 rfl ?_
      refine g_aload_n hC dJ1_rotateRight_48 rfl 0 rfl ?_
      refine t_putR (τ := (tr (tr τ 2 x_ none) 4 r_ none)) hC hT 5 (by decide) (some r_) q222 dJ1_rotateRight_49 ?_
      refine g_goto (tgt := 85) hC dJ1_rotateRight_52 (by decide) ?_
      refine g_aload_n hC dJ1_rotateRight_85 rfl 0 rfl ?_
      refine g_aload_n hC dJ1_rotateRight_86 rfl 2 rfl ?_
      refine t_putN (τ := (tr (tr (tr τ 2 x_ none) 4 r_ none) 5 0 (some r_))) hC hT 3 (by decide) (some x_) hSr q1542 dJ1_rotateRight_87 ?_
      refine g_aload_n hC dJ1_rotateRight_90 rfl 2 rfl ?_
      refine g_aload_n hC dJ1_rotateRight_91 rfl 0 rfl ?_
      refine t_putN (τ := (tr (tr (tr (tr τ 2 x_ none) 4 r_ none) 5 0 (some r_)) 3 r_ (some x_))) hC hT 4 (by decide) (some r_) hp q1544 dJ1_rotateRight_92 ?_
      refine g_vret hC hr ⟨rfl, ?_⟩ (by omega) (by omega) hE dJ1_rotateRight_95
      have e1 : rot1 τ 2 x_ (τ.1 3 r_) = (tr τ 2 x_ none) := by rw [h_21]; rfl
      have e2 : (tr τ 2 x_ none).1 4 x_ = none := (tr_nk (by decide)).trans h_44
      have e9 : rotR τ x_ r_ = (tr (tr (tr (tr (tr τ 2 x_ none) 4 r_ none) 5 0 (some r_)) 3 r_ (some x_)) 4 x_ (some r_)) := by
        unfold rotR
        rw [e1, e2]
      exact ⟨by rw [e9], rfl, rfl⟩
    · have hSg := (hW.hp x_ g hp h_44).1
      refine g_ifnonnull (tgt := 55) hC dJ1_rotateRight_44 (by decide) ?_
      refine g_aload_n hC dJ1_rotateRight_55 rfl 2 rfl ?_
      refine t_getN (τ := (tr (tr τ 2 x_ none) 4 r_ (some g))) (v := .ref g) hC hT 4 (by decide) hp q1544 (congrArg (fun z => some (va_rf z)) ((tr_na hpr).trans ((tr_nk (by decide)).trans h_44))) dJ1_rotateRight_56 ?_
      refine t_getN (τ := (tr (tr τ 2 x_ none) 4 r_ (some g))) (v := va_rf (τ.1 3 g)) hC hT 3 (by decide) hSg q1542 (congrArg (fun z => some (va_rf z)) ((tr_nk (by decide)).trans (tr_nk (by decide)))) dJ1_rotateRight_59 ?_
      refine g_aload_n hC dJ1_rotateRight_62 rfl 2 rfl ?_
      refine g_acmp_ne (rx := τ.1 3 g) (ry := some x_) hC dJ1_rotateRight_63 (tgt := 77) (by decide) (fun c_63 => ?_) (fun c_63 => ?_)
      · refine g_aload_n hC dJ1_rotateRight_77 rfl 2 rfl ?_
        refine t_getN (τ := (tr (tr τ 2 x_ none) 4 r_ (some g))) (v := .ref g) hC hT 4 (by decide) hp q1544 (congrArg (fun z => some (va_rf z)) ((tr_na hpr).trans ((tr_nk (by decide)).trans h_44))) dJ1_rotateRight_78 ?_
        refine g_aload_n hC dJ1_rotateRight_81 rfl 0 rfl ?_
        refine t_putN (τ := (tr (tr τ 2 x_ none) 4 r_ (some g))) hC hT 2 (by decide) (some r_) hSg q1539 dJ1_rotateRight_82 ?_
        refine g_aload_n hC dJ1_rotateRight_85 rfl 0 rfl ?_
        refine g_aload_n hC dJ1_rotateRight_86 rfl 2 rfl ?_
        refine t_putN (τ := (tr (tr (tr τ 2 x_ none) 4 r_ (some g)) 2 g (some r_))) hC hT 3 (by decide) (some x_) hSr q1542 dJ1_rotateRight_87 ?_
        refine g_aload_n hC dJ1_rotateRight_90 rfl 2 rfl ?_
        refine g_aload_n hC dJ1_rotateRight_91 rfl 0 rfl ?_
        refine t_putN (τ := (tr (tr (tr (tr τ 2 x_ none) 4 r_ (some g)) 2 g (some r_)) 3 r_ (some x_))) hC hT 4 (by decide) (some r_) hp q1544 dJ1_rotateRight_92 ?_
        refine g_vret hC hr ⟨rfl, ?_⟩ (by omega) (by omega) hE dJ1_rotateRight_95
        have e1 : rot1 τ 2 x_ (τ.1 3 r_) = (tr τ 2 x_ none) := by rw [h_21]; rfl
        have e2 : (tr τ 2 x_ none).1 4 x_ = some g := (tr_nk (by decide)).trans h_44
        have e9 : rotR τ x_ r_ = (tr (tr (tr (tr (tr τ 2 x_ none) 4 r_ (some g)) 2 g (some r_)) 3 r_ (some x_)) 4 x_ (some r_)) := by
          unfold rotR
          rw [e1, e2]
          exact congrArg (fun z => tr (tr z 3 r_ (some x_)) 4 x_ (some r_)) (if_neg (show ¬ (tr τ 2 x_ none).1 3 g = some x_ from fun y => c_63 ((Eq.symm (tr_nk (by decide))).trans y)))
        exact ⟨by rw [e9], rfl, rfl⟩
      · refine g_aload_n hC dJ1_rotateRight_66 rfl 2 rfl ?_
        refine t_getN (τ := (tr (tr τ 2 x_ none) 4 r_ (some g))) (v := .ref g) hC hT 4 (by decide) hp q1544 (congrArg (fun z => some (va_rf z)) ((tr_na hpr).trans ((tr_nk (by decide)).trans h_44))) dJ1_rotateRight_67 ?_
        refine g_aload_n hC dJ1_rotateRight_70 rfl 0 rfl ?_
        refine t_putN (τ := (tr (tr τ 2 x_ none) 4 r_ (some g))) hC hT 3 (by decide) (some r_) hSg q1542 dJ1_rotateRight_71 ?_
        refine g_goto (tgt := 85) hC dJ1_rotateRight_74 (by decide) ?_
        refine g_aload_n hC dJ1_rotateRight_85 rfl 0 rfl ?_
        refine g_aload_n hC dJ1_rotateRight_86 rfl 2 rfl ?_
        refine t_putN (τ := (tr (tr (tr τ 2 x_ none) 4 r_ (some g)) 3 g (some r_))) hC hT 3 (by decide) (some x_) hSr q1542 dJ1_rotateRight_87 ?_
        refine g_aload_n hC dJ1_rotateRight_90 rfl 2 rfl ?_
        refine g_aload_n hC dJ1_rotateRight_91 rfl 0 rfl ?_
        refine t_putN (τ := (tr (tr (tr (tr τ 2 x_ none) 4 r_ (some g)) 3 g (some r_)) 3 r_ (some x_))) hC hT 4 (by decide) (some r_) hp q1544 dJ1_rotateRight_92 ?_
        refine g_vret hC hr ⟨rfl, ?_⟩ (by omega) (by omega) hE dJ1_rotateRight_95
        have e1 : rot1 τ 2 x_ (τ.1 3 r_) = (tr τ 2 x_ none) := by rw [h_21]; rfl
        have e2 : (tr τ 2 x_ none).1 4 x_ = some g := (tr_nk (by decide)).trans h_44
        have e9 : rotR τ x_ r_ = (tr (tr (tr (tr (tr τ 2 x_ none) 4 r_ (some g)) 3 g (some r_)) 3 r_ (some x_)) 4 x_ (some r_)) := by
          unfold rotR
          rw [e1, e2]
          exact congrArg (fun z => tr (tr z 3 r_ (some x_)) 4 x_ (some r_)) (if_pos (show (tr τ 2 x_ none).1 3 g = some x_ from (tr_nk (by decide)).trans c_63))
        exact ⟨by rw [e9], rfl, rfl⟩
  · have h8 := hW.hr r_ l_ hSr h_21
    have hSl := h8.1
    have hpl : x_ ≠ l_ := fun e => by
      have h7 := hW.hl x_ r_ hp hx1
      have h6 := hW.h0 x_ hp
      have h5 := hW.h0 r_ hSr
      subst e
      omega
    refine g_ifnull hC dJ1_rotateRight_21 ?_
    refine g_aload_n hC dJ1_rotateRight_24 rfl 0 rfl ?_
    refine t_getN (τ := (tr τ 2 x_ (some l_))) (v := .ref l_) hC hT 3 (by decide) hSr q1542 (congrArg (fun z => some (va_rf z)) ((tr_nk (by decide)).trans h_21)) dJ1_rotateRight_25 ?_
    refine g_aload_n hC dJ1_rotateRight_28 rfl 2 rfl ?_
    refine t_putN (τ := (tr τ 2 x_ (some l_))) hC hT 4 (by decide) (some x_) hSl q1544 dJ1_rotateRight_29 ?_
    refine g_aload_n hC dJ1_rotateRight_32 rfl 0 rfl ?_
    refine g_aload_n hC dJ1_rotateRight_33 rfl 2 rfl ?_
    refine t_getN (τ := (tr (tr τ 2 x_ (some l_)) 4 l_ (some x_))) (v := va_rf (τ.1 4 x_)) hC hT 4 (by decide) hp q1544 (congrArg (fun z => some (va_rf z)) ((tr_na hpl).trans (tr_nk (by decide)))) dJ1_rotateRight_34 ?_
    refine t_putN (τ := (tr (tr τ 2 x_ (some l_)) 4 l_ (some x_))) hC hT 4 (by decide) (τ.1 4 x_) hSr q1544 dJ1_rotateRight_37 ?_
    refine g_aload_n hC dJ1_rotateRight_40 rfl 2 rfl ?_
    refine t_getN (τ := (tr (tr (tr τ 2 x_ (some l_)) 4 l_ (some x_)) 4 r_ (τ.1 4 x_))) (v := va_rf (τ.1 4 x_)) hC hT 4 (by decide) hp q1544 (congrArg (fun z => some (va_rf z)) ((tr_na hpr).trans ((tr_na hpl).trans (tr_nk (by decide))))) dJ1_rotateRight_41 ?_
    rcases h_44 : τ.1 4 x_ with _ | g
    · refine g_ifnonnullN hC dJ1_rotateRight_44 ?_
      refine g_aload_n hC dJ1_rotateRight_47 rfl 1 rfl ?_
      refine g_aload_n hC dJ1_rotateRight_48 rfl 0 rfl ?_
      refine t_putR (τ := (tr (tr (tr τ 2 x_ (some l_)) 4 l_ (some x_)) 4 r_ none)) hC hT 5 (by decide) (some r_) q222 dJ1_rotateRight_49 ?_
      refine g_goto (tgt := 85) hC dJ1_rotateRight_52 (by decide) ?_
      refine g_aload_n hC dJ1_rotateRight_85 rfl 0 rfl ?_
      refine g_aload_n hC dJ1_rotateRight_86 rfl 2 rfl ?_
      refine t_putN (τ := (tr (tr (tr (tr τ 2 x_ (some l_)) 4 l_ (some x_)) 4 r_ none) 5 0 (some r_))) hC hT 3 (by decide) (some x_) hSr q1542 dJ1_rotateRight_87 ?_
      refine g_aload_n hC dJ1_rotateRight_90 rfl 2 rfl ?_
      refine g_aload_n hC dJ1_rotateRight_91 rfl 0 rfl ?_
      refine t_putN (τ := (tr (tr (tr (tr (tr τ 2 x_ (some l_)) 4 l_ (some x_)) 4 r_ none) 5 0 (some r_)) 3 r_ (some x_))) hC hT 4 (by decide) (some r_) hp q1544 dJ1_rotateRight_92 ?_
      refine g_vret hC hr ⟨rfl, ?_⟩ (by omega) (by omega) hE dJ1_rotateRight_95
      have e1 : rot1 τ 2 x_ (τ.1 3 r_) = (tr (tr τ 2 x_ (some l_)) 4 l_ (some x_)) := by rw [h_21]; rfl
      have e2 : (tr (tr τ 2 x_ (some l_)) 4 l_ (some x_)).1 4 x_ = none := ((tr_na hpl).trans (tr_nk (by decide))).trans h_44
      have e9 : rotR τ x_ r_ = (tr (tr (tr (tr (tr (tr τ 2 x_ (some l_)) 4 l_ (some x_)) 4 r_ none) 5 0 (some r_)) 3 r_ (some x_)) 4 x_ (some r_)) := by
        unfold rotR
        rw [e1, e2]
      exact ⟨by rw [e9], rfl, rfl⟩
    · have hSg := (hW.hp x_ g hp h_44).1
      refine g_ifnonnull (tgt := 55) hC dJ1_rotateRight_44 (by decide) ?_
      refine g_aload_n hC dJ1_rotateRight_55 rfl 2 rfl ?_
      refine t_getN (τ := (tr (tr (tr τ 2 x_ (some l_)) 4 l_ (some x_)) 4 r_ (some g))) (v := .ref g) hC hT 4 (by decide) hp q1544 (congrArg (fun z => some (va_rf z)) ((tr_na hpr).trans ((tr_na hpl).trans ((tr_nk (by decide)).trans h_44)))) dJ1_rotateRight_56 ?_
      refine t_getN (τ := (tr (tr (tr τ 2 x_ (some l_)) 4 l_ (some x_)) 4 r_ (some g))) (v := va_rf (τ.1 3 g)) hC hT 3 (by decide) hSg q1542 (congrArg (fun z => some (va_rf z)) ((tr_nk (by decide)).trans ((tr_nk (by decide)).trans (tr_nk (by decide))))) dJ1_rotateRight_59 ?_
      refine g_aload_n hC dJ1_rotateRight_62 rfl 2 rfl ?_
      refine g_acmp_ne (rx := τ.1 3 g) (ry := some x_) hC dJ1_rotateRight_63 (tgt := 77) (by decide) (fun c_63 => ?_) (fun c_63 => ?_)
      · refine g_aload_n hC dJ1_rotateRight_77 rfl 2 rfl ?_
        refine t_getN (τ := (tr (tr (tr τ 2 x_ (some l_)) 4 l_ (some x_)) 4 r_ (some g))) (v := .ref g) hC hT 4 (by decide) hp q1544 (congrArg (fun z => some (va_rf z)) ((tr_na hpr).trans ((tr_na hpl).trans ((tr_nk (by decide)).trans h_44)))) dJ1_rotateRight_78 ?_
        refine g_aload_n hC dJ1_rotateRight_81 rfl 0 rfl ?_
        refine t_putN (τ := (tr (tr (tr τ 2 x_ (some l_)) 4 l_ (some x_)) 4 r_ (some g))) hC hT 2 (by decide) (some r_) hSg q1539 dJ1_rotateRight_82 ?_
        refine g_aload_n hC dJ1_rotateRight_85 rfl 0 rfl ?_
        refine g_aload_n hC dJ1_rotateRight_86 rfl 2 rfl ?_
        refine t_putN (τ := (tr (tr (tr (tr τ 2 x_ (some l_)) 4 l_ (some x_)) 4 r_ (some g)) 2 g (some r_))) hC hT 3 (by decide) (some x_) hSr q1542 dJ1_rotateRight_87 ?_
        refine g_aload_n hC dJ1_rotateRight_90 rfl 2 rfl ?_
        refine g_aload_n hC dJ1_rotateRight_91 rfl 0 rfl ?_
        refine t_putN (τ := (tr (tr (tr (tr (tr τ 2 x_ (some l_)) 4 l_ (some x_)) 4 r_ (some g)) 2 g (some r_)) 3 r_ (some x_))) hC hT 4 (by decide) (some r_) hp q1544 dJ1_rotateRight_92 ?_
        refine g_vret hC hr ⟨rfl, ?_⟩ (by omega) (by omega) hE dJ1_rotateRight_95
        have e1 : rot1 τ 2 x_ (τ.1 3 r_) = (tr (tr τ 2 x_ (some l_)) 4 l_ (some x_)) := by rw [h_21]; rfl
        have e2 : (tr (tr τ 2 x_ (some l_)) 4 l_ (some x_)).1 4 x_ = some g := ((tr_na hpl).trans (tr_nk (by decide))).trans h_44
        have e9 : rotR τ x_ r_ = (tr (tr (tr (tr (tr (tr τ 2 x_ (some l_)) 4 l_ (some x_)) 4 r_ (some g)) 2 g (some r_)) 3 r_ (some x_)) 4 x_ (some r_)) := by
          unfold rotR
          rw [e1, e2]
          exact congrArg (fun z => tr (tr z 3 r_ (some x_)) 4 x_ (some r_)) (if_neg (show ¬ (tr (tr τ 2 x_ (some l_)) 4 l_ (some x_)).1 3 g = some x_ from fun y => c_63 ((Eq.symm ((tr_nk (by decide)).trans (tr_nk (by decide)))).trans y)))
        exact ⟨by rw [e9], rfl, rfl⟩
      · refine g_aload_n hC dJ1_rotateRight_66 rfl 2 rfl ?_
        refine t_getN (τ := (tr (tr (tr τ 2 x_ (some l_)) 4 l_ (some x_)) 4 r_ (some g))) (v := .ref g) hC hT 4 (by decide) hp q1544 (congrArg (fun z => some (va_rf z)) ((tr_na hpr).trans ((tr_na hpl).trans ((tr_nk (by decide)).trans h_44)))) dJ1_rotateRight_67 ?_
        refine g_aload_n hC dJ1_rotateRight_70 rfl 0 rfl ?_
        refine t_putN (τ := (tr (tr (tr τ 2 x_ (some l_)) 4 l_ (some x_)) 4 r_ (some g))) hC hT 3 (by decide) (some r_) hSg q1542 dJ1_rotateRight_71 ?_
        refine g_goto (tgt := 85) hC dJ1_rotateRight_74 (by decide) ?_
        refine g_aload_n hC dJ1_rotateRight_85 rfl 0 rfl ?_
        refine g_aload_n hC dJ1_rotateRight_86 rfl 2 rfl ?_
        refine t_putN (τ := (tr (tr (tr (tr τ 2 x_ (some l_)) 4 l_ (some x_)) 4 r_ (some g)) 3 g (some r_))) hC hT 3 (by decide) (some x_) hSr q1542 dJ1_rotateRight_87 ?_
        refine g_aload_n hC dJ1_rotateRight_90 rfl 2 rfl ?_
        refine g_aload_n hC dJ1_rotateRight_91 rfl 0 rfl ?_
        refine t_putN (τ := (tr (tr (tr (tr (tr τ 2 x_ (some l_)) 4 l_ (some x_)) 4 r_ (some g)) 3 g (some r_)) 3 r_ (some x_))) hC hT 4 (by decide) (some r_) hp q1544 dJ1_rotateRight_92 ?_
        refine g_vret hC hr ⟨rfl, ?_⟩ (by omega) (by omega) hE dJ1_rotateRight_95
        have e1 : rot1 τ 2 x_ (τ.1 3 r_) = (tr (tr τ 2 x_ (some l_)) 4 l_ (some x_)) := by rw [h_21]; rfl
        have e2 : (tr (tr τ 2 x_ (some l_)) 4 l_ (some x_)).1 4 x_ = some g := ((tr_na hpl).trans (tr_nk (by decide))).trans h_44
        have e9 : rotR τ x_ r_ = (tr (tr (tr (tr (tr (tr τ 2 x_ (some l_)) 4 l_ (some x_)) 4 r_ (some g)) 3 g (some r_)) 3 r_ (some x_)) 4 x_ (some r_)) := by
          unfold rotR
          rw [e1, e2]
          exact congrArg (fun z => tr (tr z 3 r_ (some x_)) 4 x_ (some r_)) (if_pos (show (tr (tr τ 2 x_ (some l_)) 4 l_ (some x_)).1 3 g = some x_ from ((tr_nk (by decide)).trans (tr_nk (by decide))).trans c_63))
        exact ⟨by rw [e9], rfl, rfl⟩
