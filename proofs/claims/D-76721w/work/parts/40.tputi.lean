set_option maxRecDepth 100000
/-! TREE MAPS, 10: put -/
def KI (G : AH) (k : Nat) (x : Int) : Prop := ∃ v : Int32, G k = some (.inr (40, [.int v])) ∧ v.toInt = x
theorem cmpI_lt {x y : Int32} : cmpI x y < 0 ↔ x.toInt < y.toInt := by
  unfold cmpI
  rw [← Int32.lt_iff_toInt_lt]
  split
  · rename_i h; exact ⟨fun _ => h, fun _ => by decide⟩
  · rename_i h
    split
    · exact ⟨fun q => absurd q (by decide), fun q => absurd q h⟩
    · exact ⟨fun q => absurd q (by decide), fun q => absurd q h⟩
theorem cmpI_gt {x y : Int32} : 0 < cmpI x y ↔ y.toInt < x.toInt := by
  unfold cmpI
  by_cases h : x < y
  · rw [if_pos h]
    have := Int32.lt_iff_toInt_lt.mp h
    exact ⟨fun q => absurd q (by decide), fun q => by omega⟩
  · rw [if_neg h]
    have h1 : ¬ x.toInt < y.toInt := fun q => h (Int32.lt_iff_toInt_lt.mpr q)
    by_cases e : x = y
    · rw [if_pos e, e]; exact ⟨fun q => absurd q (by decide), fun q => by omega⟩
    · rw [if_neg e]
      have h2 : x.toInt ≠ y.toInt := fun q => e (Int32.toInt_inj.mp q)
      exact ⟨fun _ => by omega, fun _ => by decide⟩
theorem ins_0 {τ : TS} {q : TQ} {LO HI X : Int} {M : MP} {a k : Nat} {v : Option Nat} {y : Int32} (h : TM τ q LO HI M) (hr : τ.1 5 0 = none) (h1 : LO < X) (h2 : X < HI) : TM (ti (ti (tr (tr (tr (tr (tc (tnew τ a) a true) 0 a (some k)) 1 a v) 4 a none) 5 0 (some a)) 0 1) 1 y) ((fun i => if i = a then X else q.1 i), (fun _ => LO), fun _ => HI) LO HI (mput X k v M) ∧ TP τ q a k X (ti (ti (tr (tr (tr (tr (tc (tnew τ a) a true) 0 a (some k)) 1 a v) 4 a none) 5 0 (some a)) 0 1) 1 y) ((fun i => if i = a then X else q.1 i), (fun _ => LO), fun _ => HI) := by
  have hE : ∀ b, τ.2.2.2 b = false := fun b => by
    cases e : τ.2.2.2 b with
    | false => rfl
    | true => obtain ⟨r, e2⟩ := h.tw.root' e; rw [hr] at e2; cases e2
  have hM : M = [] := by
    rcases M with _ | ⟨⟨x, k', v'⟩, M⟩
    · rfl
    · obtain ⟨b, hb, _⟩ := (h.mem x k' v').mp List.mem_cons_self
      rw [hE b] at hb; cases hb
  subst hM
  refine ⟨⟨?_, ?_, ?_, ?_, ?_, ?_⟩, ⟨?_, ?_, ?_, ?_⟩⟩
  · unfold TW
    simp only [tr, tc, tnew, ti]
    refine ⟨?_, ?_, ?_, ?_, ?_, ?_⟩ <;> grind
  · simp only [tr, tc, tnew, ti]; grind
  · simp [mput]
  · intro x k' v'
    simp only [tr, tc, tnew, ti, mput, hE]
    simp
    grind
  · intro b hb
    have e : b = a := by simpa [tr, tc, tnew, ti, hE] using hb
    subst e
    exact ⟨k, by simp [tr, tc, tnew, ti]⟩
  · show (1 : Int32) = nI 1; rfl
  · rfl
  · intro j hj; simp only [tr, tc, tnew, ti]; grind
  · intro b hb; rw [hE b] at hb; cases hb
  · simp only [tr, tc, tnew, ti]; grind
theorem TM.nomem {τ : TS} {q : TQ} {LO HI : Int} {M : MP} (h : TM τ q LO HI M) {a : Nat} {X : Int} (ha : τ.2.2.2 a = true) (hX : ∀ e, e ∈ M → e.1 ≠ X) : q.1 a ≠ X := by
  obtain ⟨k, _, hm⟩ := h.at_ ha
  exact hX _ hm
set_option maxHeartbeats 1000000 in
theorem met_J1_compareI {Y : YT} {l : Launch} {t n u : Nat} {τ : TS} {B : AH} (hT : TQ_ Y t τ) (a_ : Nat) (b_ : Nat) {x_ y_ : Int32} (hcm : τ.1 6 0 = none) (h1 : tG t τ B a_ = some (.inr (40, [.int x_]))) (h2 : tG t τ B b_ = some (.inr (40, [.int y_]))) : GM Y l yJ1_compare (ws_ yJ1_compare cJ1_compare 3 (some FieldType.int)) 3 63 [.ref t, .ref a_, .ref b_] (tG t τ B) n u 0 0 (pI (fun r G' n' u' => cmpI x_ y_ = r ∧ tG t τ B = G' ∧ n = n' ∧ u = u')) noX := by
  refine GM.intro (own := RJ1) rfl (by decide +kernel) (Nat.le_of_ble_eq_true rfl) ?_
  intro p e s m args below meth c R Q hC hr hnm hF hL hE
  have hE1 := hE.1
  have hE2 := hE.2.1
  show V Y p l e R s m args below meth c 3 n u (tG t τ B) n u Q 0 [(0, .ref t), (1, .ref a_), (2, .ref b_)] []
  refine g_aload_n hC dJ1_compare_0 rfl 0 rfl ?_
  refine t_getH (v := .null) hC 2 (by decide) q220 (congrArg (fun z => some (va_rf z)) hcm) dJ1_compare_1 ?_
  refine g_ifnonnullN hC dJ1_compare_4 ?_
  refine g_aload_n hC dJ1_compare_7 rfl 1 rfl ?_
  refine g_castY hC kc_J12 h1 q1398 q1233 dJ1_compare_8 ?_
  refine g_aload_n hC dJ1_compare_11 rfl 2 rfl ?_
  refine g_calli0 hC (g_runF (n := 1) hC (met_J12_compareTo (G := (tG t τ B)) a_ b_ (h1) (h2) ) kc_J12 h1 (lw_F q1400 q1234 q1236 q106 q1238) q1212 q1211 q1237 q1235 q1233 (x := ⟨"java/lang/Comparable", "compareTo", "(Ljava/lang/Object;)I"⟩) ⟨by decide, by decide, by decide +kernel⟩ dJ1_compare_12 rfl ⟨by omega, by omega⟩ (by omega) (by omega) rfl (Nat.le_of_ble_eq_true rfl)) (fun r_1 G_1 n_1 u_1 hp_1 hn_1 hm_1 hu_1 => ?_)
  obtain ⟨rfl, rfl, rfl, rfl⟩ := hp_1
  refine g_goto (tgt := 31) hC dJ1_compare_17 (by decide) ?_
  refine g_iret hC hr rfl ⟨_, rfl, ?_⟩ (by omega) (by omega) hE dJ1_compare_31
  exact ⟨rfl, rfl, rfl, rfl⟩
set_option maxHeartbeats 1000000 in
theorem met_J1_addEntryToEmptyMapI {Y : YT} {l : Launch} {t n u : Nat} {τ : TS} {B : AH} (hT : TQ_ Y t τ) (k_ : Nat) (v_ : Nat) {q : TQ} {LO HI : Int} {M : MP}  (X : Int) (hM : TM τ q LO HI M) (hr0 : τ.1 5 0 = none) (h1X : LO < X) (h2X : X < HI) (hcm : τ.1 6 0 = none) (hKk : KI (tG t τ B) k_ X) : GM Y l yJ1_addEntryToEmptyMap (ws_ yJ1_addEntryToEmptyMap cJ1_addEntryToEmptyMap 3 none) 4 85 [.ref t, .ref k_, .ref v_] (tG t τ B) n u 1 6 (pV (fun G' n' u' => ∃ τ' q', TM τ' q' LO HI (mput X k_ (some v_) M) ∧ TP τ q n k_ X τ' q' ∧ tG t τ' B = G' ∧ n + 1 = n' ∧ u + 6 = u')) noX := by
  refine GM.intro (own := RJ1) rfl (by decide +kernel) (Nat.le_of_ble_eq_true rfl) ?_
  intro p e s m args below meth c R Q hC hr hnm hF hL hE
  have hE1 := hE.1
  have hE2 := hE.2.1
  show V Y p l e R s m args below meth c 3 n u (tG t τ B) n u Q 0 [(0, .ref t), (1, .ref k_), (2, .ref v_)] []
  refine V.lt tG_h (fun htn => ?_)
  have hnt : n ≠ t := Nat.ne_of_gt htn
  have hnz : yz Y ≤ n := by have := hC.z; have := hC.n; omega
  rcases hSn : τ.2.2.2 n with _ | _
  case' true => refine V.lt (tG_n hSn hT.1) (fun hq => absurd hq (Nat.lt_irrefl _))
  have hKk2 := hKk
  obtain ⟨x_, hv1, hv2⟩ := hKk2
  refine g_aload_n hC dJ1_addEntryToEmptyMap_0 rfl 0 rfl ?_
  refine g_aload_n hC dJ1_addEntryToEmptyMap_1 rfl 1 rfl ?_
  refine g_aload_n hC dJ1_addEntryToEmptyMap_2 rfl 1 rfl ?_
  refine g_calli0 hC (g_runV hC (met_J1_compareI (τ := τ) hT k_ k_ hcm hv1 hv1) kc_J1 tG_h (lw_V q1517 q1518 q1519 q85 q1520) rfl md_J1_compare dJ1_addEntryToEmptyMap_3 rfl ⟨by omega, by omega⟩ (by omega) (by omega) rfl (Nat.le_of_ble_eq_true rfl)) (fun r_1 G_1 n_1 u_1 hp_1 hn_1 hm_1 hu_1 => ?_)
  obtain ⟨rfl, rfl, rfl, rfl⟩ := hp_1
  refine g_pop hC dJ1_addEntryToEmptyMap_6 rfl ?_
  refine g_aload_n hC dJ1_addEntryToEmptyMap_7 rfl 0 rfl ?_
  refine t_new (τ := τ) hC hnt q1521 q1522 q124 (by omega) (by omega) dJ1_addEntryToEmptyMap_8 ?_
  refine g_dup hC dJ1_addEntryToEmptyMap_11 rfl ?_
  refine g_aload_n hC dJ1_addEntryToEmptyMap_12 rfl 1 rfl ?_
  refine g_aload_n hC dJ1_addEntryToEmptyMap_13 rfl 2 rfl ?_
  refine g_null hC dJ1_addEntryToEmptyMap_14 ?_
  refine g_callv0 hC (g_runI (ret := none) hC (met_J1_J23init (τ := (tnew τ n)) (tnew_T hT hnt hnz) n k_ v_ (none) tnew_S) (lw_meth q1525) q124 q1523 q1524 rfl md_J23_init dJ1_addEntryToEmptyMap_15 rfl ⟨by omega, by omega⟩ (by omega) (by omega) rfl (Nat.le_of_ble_eq_true rfl)) (fun G_2 n_2 u_2 hp_2 hn_2 hm_2 hu_2 => ?_)
  obtain ⟨rfl, rfl, rfl⟩ := hp_2
  refine t_putR (τ := (tr (tr (tr (tc (tnew τ n) n true) 0 n (some k_)) 1 n (some v_)) 4 n none)) hC (tnew_T hT hnt hnz) 5 (by decide) (some n) q222 dJ1_addEntryToEmptyMap_18 ?_
  refine g_aload_n hC dJ1_addEntryToEmptyMap_21 rfl 0 rfl ?_
  refine g_iconst (v := 1) hC dJ1_addEntryToEmptyMap_22 rfl ?_
  refine t_putI (τ := (tr (tr (tr (tr (tc (tnew τ n) n true) 0 n (some k_)) 1 n (some v_)) 4 n none) 5 0 (some n))) hC (tnew_T hT hnt hnz) 0 (by decide) 1 q223 dJ1_addEntryToEmptyMap_23 ?_
  refine g_aload_n hC dJ1_addEntryToEmptyMap_26 rfl 0 rfl ?_
  refine g_dup hC dJ1_addEntryToEmptyMap_27 rfl ?_
  refine t_getH (v := .int (τ.2.2.1 1)) hC 5 (by decide) q224 (congrArg (fun z => some (Value.int z)) (ti_n (by decide))) dJ1_addEntryToEmptyMap_28 ?_
  refine g_iconst (v := 1) hC dJ1_addEntryToEmptyMap_31 rfl ?_
  refine g_iadd hC dJ1_addEntryToEmptyMap_32 ?_
  refine t_putI (τ := (ti (tr (tr (tr (tr (tc (tnew τ n) n true) 0 n (some k_)) 1 n (some v_)) 4 n none) 5 0 (some n)) 0 1)) hC (tnew_T hT hnt hnz) 1 (by decide) ((τ.2.2.1 1) + 1) q224 dJ1_addEntryToEmptyMap_33 ?_
  refine g_vret hC hr ⟨rfl, ?_⟩ (by omega) (by omega) hE dJ1_addEntryToEmptyMap_36
  obtain ⟨r1, r2⟩ := ins_0 (a := n) (k := k_) (v := some v_) (y := τ.2.2.1 1 + 1) hM hr0 h1X h2X
  exact ⟨(ti (ti (tr (tr (tr (tr (tc (tnew τ n) n true) 0 n (some k_)) 1 n (some v_)) 4 n none) 5 0 (some n)) 0 1) 1 ((τ.2.2.1 1) + 1)), _, r1, r2, rfl, rfl, rfl⟩
set_option maxHeartbeats 4000000 in
theorem met_J1_put_2I {Y : YT} {l : Launch} {t n u : Nat} {τ : TS} {B : AH} (hT : TQ_ Y t τ) (k_ : Nat) (v_ : Nat) {q : TQ} {LO HI : Int} {M : MP}  (X : Int) (hM : TM τ q LO HI M) (hX : ∀ e, e ∈ M → e.1 ≠ X) (h1X : LO < X) (h2X : X < HI) (hcm : τ.1 6 0 = none) (hKk : KI (tG t τ B) k_ X) (hKO : ∀ a k, τ.2.2.2 a = true → τ.1 0 a = some k → KI (tG t τ B) k (q.1 a)) : GM Y l yJ1_put_2 (ws_ yJ1_put_2 cJ1_put_2 10 (some (FieldType.object "java/lang/Object"))) 5 107 [.ref t, .ref k_, .ref v_, .int 1] (tG t τ B) n u 1 6 (pQ (fun r G' n' u' => none = r ∧ ∃ τ' q', TM τ' q' LO HI (mput X k_ (some v_) M) ∧ TP τ q n k_ X τ' q' ∧ tG t τ' B = G' ∧ n + 1 = n' ∧ u + 6 = u')) noX := by
  refine GM.intro (own := RJ1) rfl (by decide +kernel) (Nat.le_of_ble_eq_true rfl) ?_
  intro p e s m args below meth c R Q hC hr hnm hF hL hE
  have hE1 := hE.1
  have hE2 := hE.2.1
  show V Y p l e R s m args below meth c 10 n u (tG t τ B) n u Q 0 [(0, .ref t), (1, .ref k_), (2, .ref v_), (3, .int 1)] []
  have hKk2 := hKk
  obtain ⟨x_, hv1, hv2⟩ := hKk2
  refine g_aload_n hC dJ1_put_2_0 rfl 0 rfl ?_
  refine t_getH (v := va_rf (τ.1 5 0)) hC 3 (by decide) q222 (congrArg (fun z => some (va_rf z)) rfl) dJ1_put_2_1 ?_
  refine g_qastore (L' := [(4, va_rf (τ.1 5 0)), (0, .ref t), (1, .ref k_), (2, .ref v_), (3, .int 1)]) hC dJ1_put_2_4 (by decide) rfl ?_
  refine g_qaload hC dJ1_put_2_6 0 rfl ?_
  rcases h_8 : τ.1 5 0 with _ | rt
  · refine g_ifnonnullN hC dJ1_put_2_8 ?_
    refine g_aload_n hC dJ1_put_2_11 rfl 1 rfl ?_
    refine g_aload_n hC dJ1_put_2_12 rfl 2 rfl ?_
    refine g_aload_n hC dJ1_put_2_13 rfl 3 rfl ?_
    refine g_callv0 hC (g_runV hC (met_J1_addEntryToEmptyMapI (τ := τ) hT k_ v_ X hM h_8 h1X h2X hcm hKk) kc_J1 tG_h (lw_V q1513 q1515 qs5 q85 q1516) rfl md_J1_addEntryToEmptyMap dJ1_put_2_14 rfl ⟨by omega, by omega⟩ (by omega) (by omega) rfl (Nat.le_of_ble_eq_true rfl)) (fun G_1 n_1 u_1 hp_1 hn_1 hm_1 hu_1 => ?_)
    obtain ⟨z, q3, r1, r2, rfl, rfl, rfl⟩ := hp_1
    refine g_null hC dJ1_put_2_17 ?_
    refine g_aret (v := none) hC hr (by first | exact Or.inl ⟨_, rfl⟩ | exact Or.inr ⟨_, rfl⟩) ⟨_, rfl, ?_⟩ (by omega) (by omega) hE dJ1_put_2_18
    exact ⟨rfl, z, q3, r1, r2, rfl, rfl, rfl⟩
  · have hrt := hM.tw.ht rt h_8
    refine g_ifnonnull (tgt := 19) hC dJ1_put_2_8 (by decide) ?_
    refine g_aload_n hC dJ1_put_2_19 rfl 1 rfl ?_
    refine t_getH (v := .null) hC 2 (by decide) q220 (congrArg (fun z => some (va_rf z)) hcm) dJ1_put_2_20 ?_
    refine g_astoreN (L' := [(7, .null), (4, .ref rt), (0, .ref t), (1, .ref k_), (2, .ref v_), (3, .int 1)]) hC dJ1_put_2_23 (by decide) rfl ?_
    refine g_aloadN hC dJ1_put_2_25 0 rfl ?_
    refine g_ifnullN (tgt := 112) hC dJ1_put_2_27 (by decide) ?_
    refine g_aload_n hC dJ1_put_2_112 rfl 3 rfl ?_
    refine g_callq0 hC (g_runS hC (met_J22_requireNonNull (G := (tG t τ B)) k_  ) (lw_S q1395 q1396 q117 q1397) md_J22_requireNonNull dJ1_put_2_113 rfl ⟨by omega, by omega⟩ (by omega) (by omega) rfl (Nat.le_of_ble_eq_true rfl)) (fun r_2 G_2 n_2 u_2 hp_2 hn_2 hm_2 hu_2 => ?_)
    obtain ⟨rfl, rfl, rfl, rfl⟩ := hp_2
    refine g_pop hC dJ1_put_2_116 rfl ?_
    refine g_aload_n hC dJ1_put_2_117 rfl 3 rfl ?_
    refine g_castY hC kc_J12 hv1 q1398 q1233 dJ1_put_2_118 ?_
    refine g_astore (L' := [(8, .ref k_), (7, .null), (4, .ref rt), (0, .ref t), (1, .ref k_), (2, .ref v_), (3, .int 1)]) hC dJ1_put_2_121 (by decide) rfl ?_
    have hl_123 : ∀ (kf_ : Nat) (x : Nat), (τ.2.2.2 x = true) → (q.2.1 x < X) → (X < q.2.2 x) → (q.2.2 x - q.2.1 x).toNat < kf_ → V Y p l e R s m args below meth c 10 n u (tG t τ B) n u Q 123 [(4, .ref x), (0, .ref t), (1, .ref k_), (2, .ref v_), (3, .int 1), (8, .ref k_)] [] := by
      intro kf_
      induction kf_ with
      | zero => intro x hx hx1 hx2 hk_; exact absurd hk_ (Nat.not_lt_zero _)
      | succ kf_ ih_ =>
        intro x hx hx1 hx2 hk_
        obtain ⟨kk, hkk⟩ := hM.ky x hx
        obtain ⟨y_, hy1, hy2⟩ := hKO x kk hx hkk
        have hne := hM.nomem hx hX
        have hx0 := hM.tw.h0 x hx
        refine g_aload hC dJ1_put_2_123 0 rfl ?_
        refine g_astore (L' := [(6, .ref x), (4, .ref x), (0, .ref t), (1, .ref k_), (2, .ref v_), (3, .int 1), (8, .ref k_)]) hC dJ1_put_2_125 (by decide) rfl ?_
        refine g_aload hC dJ1_put_2_127 6 rfl ?_
        refine g_aload hC dJ1_put_2_129 1 rfl ?_
        refine t_getN (τ := τ) (v := .ref kk) hC hT 0 (by decide) hx q1534 (congrArg (fun z => some (va_rf z)) hkk) dJ1_put_2_131 ?_
        refine g_calli0 hC (g_runF (n := 1) hC (met_J12_compareTo (G := (tG t τ B)) k_ kk (hv1) (hy1) ) kc_J12 hv1 (lw_F q1400 q1234 q1236 q106 q1238) q1212 q1211 q1237 q1235 q1233 (x := ⟨"java/lang/Comparable", "compareTo", "(Ljava/lang/Object;)I"⟩) ⟨by decide, by decide, by decide +kernel⟩ dJ1_put_2_134 rfl ⟨by omega, by omega⟩ (by omega) (by omega) rfl (Nat.le_of_ble_eq_true rfl)) (fun r_3 G_3 n_3 u_3 hp_3 hn_3 hm_3 hu_3 => ?_)
        obtain ⟨rfl, rfl, rfl, rfl⟩ := hp_3
        refine g_istore (L' := [(5, .int (cmpI x_ y_)), (6, .ref x), (4, .ref x), (0, .ref t), (1, .ref k_), (2, .ref v_), (3, .int 1), (8, .ref k_)]) hC dJ1_put_2_139 (by decide) rfl ?_
        refine g_iload hC dJ1_put_2_141 0 rfl ?_
        refine g_if_ge hC dJ1_put_2_143 (tgt := 156) (by decide) (fun c_143 => ?_) (fun c_143 => ?_)
        · refine g_iload hC dJ1_put_2_156 0 rfl ?_
          refine g_if_le hC dJ1_put_2_158 (tgt := 171) (by decide) (fun c_158 => ?_) (fun c_158 => ?_)
          · exact absurd (show q.1 x = X from by have h8 : ¬ cmpI x_ y_ < 0 := Int32.not_lt.mpr c_143; have h9 : ¬ 0 < cmpI x_ y_ := Int32.not_lt.mpr c_158; rw [cmpI_lt] at h8; rw [cmpI_gt] at h9; omega) hne
          · refine g_aload hC dJ1_put_2_161 2 rfl ?_
            refine t_getN (τ := τ) (v := va_rf (τ.1 3 x)) hC hT 3 (by decide) hx q1542 (congrArg (fun z => some (va_rf z)) rfl) dJ1_put_2_163 ?_
            refine g_qastore (L' := [(4, va_rf (τ.1 3 x)), (5, .int (cmpI x_ y_)), (6, .ref x), (0, .ref t), (1, .ref k_), (2, .ref v_), (3, .int 1), (8, .ref k_)]) hC dJ1_put_2_166 (by decide) rfl ?_
            refine g_goto (tgt := 196) hC dJ1_put_2_168 (by decide) ?_
            refine g_qaload hC dJ1_put_2_196 0 rfl ?_
            rcases h_198 : τ.1 3 x with _ | x2
            · refine g_ifnonnullN hC dJ1_put_2_198 ?_
              refine g_aload_n hC dJ1_put_2_201 rfl 3 rfl ?_
              refine g_aload_n hC dJ1_put_2_202 rfl 4 rfl ?_
              refine g_aload_n hC dJ1_put_2_203 rfl 5 rfl ?_
              refine g_aload hC dJ1_put_2_204 2 rfl ?_
              refine g_iload hC dJ1_put_2_206 1 rfl ?_
              refine g_if_ge hC dJ1_put_2_208 (tgt := 215) (by decide) (fun c_208 => ?_) (fun c_208 => ?_)
              · refine g_iconst (v := 0) hC dJ1_put_2_215 rfl ?_
                refine g_callv0 hC (g_runV hC (met_J1_addEntry (τ := τ) hT k_ v_ x false X hM hx (fun e_ => Bool.noConfusion e_) (fun _ => ⟨h_198, (by have := cmpI_gt.mp (Int32.not_le.mp c_158); omega), hx2⟩) hX) kc_J1 tG_h (lw_V q1560 q1562 qs6 q85 q1563) rfl md_J1_addEntry dJ1_put_2_216 rfl ⟨by omega, by omega⟩ (by omega) (by omega) rfl (Nat.le_of_ble_eq_true rfl)) (fun G_4 n_4 u_4 hp_4 hn_4 hm_4 hu_4 => ?_)
                obtain ⟨z, q3, r1, r2, rfl, rfl, rfl⟩ := hp_4
                refine g_null hC dJ1_put_2_219 ?_
                refine g_aret (v := none) hC hr (by first | exact Or.inl ⟨_, rfl⟩ | exact Or.inr ⟨_, rfl⟩) ⟨_, rfl, ?_⟩ (by omega) (by omega) hE dJ1_put_2_220
                exact ⟨rfl, z, q3, r1, r2, rfl, rfl, rfl⟩
              · first | exact absurd c_208 (Int32.not_le.mpr c_143) | exact absurd (Int32.not_lt.mp c_143) c_208 | exact absurd c_143 c_208 | exact absurd c_208 c_143
            · have hc := hM.tw.hr x x2 hx h_198
              have hlt : q.1 x < X := (by have := cmpI_gt.mp (Int32.not_le.mp c_158); omega)
              refine g_ifnonnull (tgt := 123) hC dJ1_put_2_198 (by decide) ?_
              refine V.sub [0, 3, 4, 5, 6, 7] rfl ?_
              exact ih_ x2 (hc.1) (by omega) (by omega) (by have := hM.tw.h0 _ hc.1; omega)
        · refine g_aload hC dJ1_put_2_146 2 rfl ?_
          refine t_getN (τ := τ) (v := va_rf (τ.1 2 x)) hC hT 2 (by decide) hx q1539 (congrArg (fun z => some (va_rf z)) rfl) dJ1_put_2_148 ?_
          refine g_qastore (L' := [(4, va_rf (τ.1 2 x)), (5, .int (cmpI x_ y_)), (6, .ref x), (0, .ref t), (1, .ref k_), (2, .ref v_), (3, .int 1), (8, .ref k_)]) hC dJ1_put_2_151 (by decide) rfl ?_
          refine g_goto (tgt := 196) hC dJ1_put_2_153 (by decide) ?_
          refine g_qaload hC dJ1_put_2_196 0 rfl ?_
          rcases h_198 : τ.1 2 x with _ | x2
          · refine g_ifnonnullN hC dJ1_put_2_198 ?_
            refine g_aload_n hC dJ1_put_2_201 rfl 3 rfl ?_
            refine g_aload_n hC dJ1_put_2_202 rfl 4 rfl ?_
            refine g_aload_n hC dJ1_put_2_203 rfl 5 rfl ?_
            refine g_aload hC dJ1_put_2_204 2 rfl ?_
            refine g_iload hC dJ1_put_2_206 1 rfl ?_
            refine g_if_ge hC dJ1_put_2_208 (tgt := 215) (by decide) (fun c_208 => ?_) (fun c_208 => ?_)
            · first | exact absurd c_208 (Int32.not_le.mpr c_143) | exact absurd (Int32.not_lt.mp c_143) c_208 | exact absurd c_143 c_208 | exact absurd c_208 c_143
            · refine g_iconst (v := 1) hC dJ1_put_2_211 rfl ?_
              refine g_goto (tgt := 216) hC dJ1_put_2_212 (by decide) ?_
              refine g_callv0 hC (g_runV hC (met_J1_addEntry (τ := τ) hT k_ v_ x true X hM hx (fun _ => ⟨h_198, hx1, (by have := cmpI_lt.mp (Int32.not_le.mp c_143); omega)⟩) (fun e_ => Bool.noConfusion e_) hX) kc_J1 tG_h (lw_V q1560 q1562 qs6 q85 q1563) rfl md_J1_addEntry dJ1_put_2_216 rfl ⟨by omega, by omega⟩ (by omega) (by omega) rfl (Nat.le_of_ble_eq_true rfl)) (fun G_5 n_5 u_5 hp_5 hn_5 hm_5 hu_5 => ?_)
              obtain ⟨z, q3, r1, r2, rfl, rfl, rfl⟩ := hp_5
              refine g_null hC dJ1_put_2_219 ?_
              refine g_aret (v := none) hC hr (by first | exact Or.inl ⟨_, rfl⟩ | exact Or.inr ⟨_, rfl⟩) ⟨_, rfl, ?_⟩ (by omega) (by omega) hE dJ1_put_2_220
              exact ⟨rfl, z, q3, r1, r2, rfl, rfl, rfl⟩
          · have hc := hM.tw.hl x x2 hx h_198
            have hlt : X < q.1 x := (by have := cmpI_lt.mp (Int32.not_le.mp c_143); omega)
            refine g_ifnonnull (tgt := 123) hC dJ1_put_2_198 (by decide) ?_
            refine V.sub [0, 3, 4, 5, 6, 7] rfl ?_
            exact ih_ x2 (hc.1) (by omega) (by omega) (by have := hM.tw.h0 _ hc.1; omega)
    refine V.sub [2, 3, 4, 5, 6, 0] rfl ?_
    exact hl_123 ((q.2.2 rt - q.2.1 rt).toNat + 1) rt (hrt.1) (by have := hrt.2; omega) (by have := hrt.2; omega) (by omega)
set_option maxHeartbeats 1000000 in
theorem met_J1_putI {Y : YT} {l : Launch} {t n u : Nat} {τ : TS} {B : AH} (hT : TQ_ Y t τ) (k_ : Nat) (v_ : Nat) {q : TQ} {LO HI : Int} {M : MP}  (X : Int) (hM : TM τ q LO HI M) (hX : ∀ e, e ∈ M → e.1 ≠ X) (h1X : LO < X) (h2X : X < HI) (hcm : τ.1 6 0 = none) (hKk : KI (tG t τ B) k_ X) (hKO : ∀ a k, τ.2.2.2 a = true → τ.1 0 a = some k → KI (tG t τ B) k (q.1 a)) : GM Y l yJ1_put (ws_ yJ1_put cJ1_put 3 (some (FieldType.object "java/lang/Object"))) 6 136 [.ref t, .ref k_, .ref v_] (tG t τ B) n u 1 6 (pQ (fun r G' n' u' => none = r ∧ ∃ τ' q', TM τ' q' LO HI (mput X k_ (some v_) M) ∧ TP τ q n k_ X τ' q' ∧ tG t τ' B = G' ∧ n + 1 = n' ∧ u + 6 = u')) noX := by
  refine GM.intro (own := RJ1) rfl (by decide +kernel) (Nat.le_of_ble_eq_true rfl) ?_
  intro p e s m args below meth c R Q hC hr hnm hF hL hE
  have hE1 := hE.1
  have hE2 := hE.2.1
  show V Y p l e R s m args below meth c 3 n u (tG t τ B) n u Q 0 [(0, .ref t), (1, .ref k_), (2, .ref v_)] []
  refine g_aload_n hC dJ1_put_0 rfl 0 rfl ?_
  refine g_aload_n hC dJ1_put_1 rfl 1 rfl ?_
  refine g_aload_n hC dJ1_put_2 rfl 2 rfl ?_
  refine g_iconst (v := 1) hC dJ1_put_3 rfl ?_
  refine g_callq0 hC (g_runV hC (met_J1_put_2I (τ := τ) hT k_ v_ X hM hX h1X h2X hcm hKk hKO) kc_J1 tG_h (lw_V q1509 q1511 qs4 q85 q1512) rfl md_J1_put_2 dJ1_put_4 rfl ⟨by omega, by omega⟩ (by omega) (by omega) rfl (Nat.le_of_ble_eq_true rfl)) (fun r_1 G_1 n_1 u_1 hp_1 hn_1 hm_1 hu_1 => ?_)
  obtain ⟨rfl, z, q3, r1, r2, rfl, rfl, rfl⟩ := hp_1
  refine g_aret (v := none) hC hr (by first | exact Or.inl ⟨_, rfl⟩ | exact Or.inr ⟨_, rfl⟩) ⟨_, rfl, ?_⟩ (by omega) (by omega) hE dJ1_put_7
  exact ⟨rfl, z, q3, r1, r2, rfl, rfl, rfl⟩
set_option maxHeartbeats 1000000 in
theorem met_J1_addEntryToEmptyMapI0 {Y : YT} {l : Launch} {t n u : Nat} {τ : TS} {B : AH} (hT : TQ_ Y t τ) (k_ : Nat) {q : TQ} {LO HI : Int} {M : MP}  (X : Int) (hM : TM τ q LO HI M) (hr0 : τ.1 5 0 = none) (h1X : LO < X) (h2X : X < HI) (hcm : τ.1 6 0 = none) (hKk : KI (tG t τ B) k_ X) : GM Y l yJ1_addEntryToEmptyMap (ws_ yJ1_addEntryToEmptyMap cJ1_addEntryToEmptyMap 3 none) 4 85 [.ref t, .ref k_, .null] (tG t τ B) n u 1 6 (pV (fun G' n' u' => ∃ τ' q', TM τ' q' LO HI (mput X k_ (none) M) ∧ TP τ q n k_ X τ' q' ∧ tG t τ' B = G' ∧ n + 1 = n' ∧ u + 6 = u')) noX := by
  refine GM.intro (own := RJ1) rfl (by decide +kernel) (Nat.le_of_ble_eq_true rfl) ?_
  intro p e s m args below meth c R Q hC hr hnm hF hL hE
  have hE1 := hE.1
  have hE2 := hE.2.1
  show V Y p l e R s m args below meth c 3 n u (tG t τ B) n u Q 0 [(0, .ref t), (1, .ref k_), (2, .null)] []
  refine V.lt tG_h (fun htn => ?_)
  have hnt : n ≠ t := Nat.ne_of_gt htn
  have hnz : yz Y ≤ n := by have := hC.z; have := hC.n; omega
  rcases hSn : τ.2.2.2 n with _ | _
  case' true => refine V.lt (tG_n hSn hT.1) (fun hq => absurd hq (Nat.lt_irrefl _))
  have hKk2 := hKk
  obtain ⟨x_, hv1, hv2⟩ := hKk2
  refine g_aload_n hC dJ1_addEntryToEmptyMap_0 rfl 0 rfl ?_
  refine g_aload_n hC dJ1_addEntryToEmptyMap_1 rfl 1 rfl ?_
  refine g_aload_n hC dJ1_addEntryToEmptyMap_2 rfl 1 rfl ?_
  refine g_calli0 hC (g_runV hC (met_J1_compareI (τ := τ) hT k_ k_ hcm hv1 hv1) kc_J1 tG_h (lw_V q1517 q1518 q1519 q85 q1520) rfl md_J1_compare dJ1_addEntryToEmptyMap_3 rfl ⟨by omega, by omega⟩ (by omega) (by omega) rfl (Nat.le_of_ble_eq_true rfl)) (fun r_1 G_1 n_1 u_1 hp_1 hn_1 hm_1 hu_1 => ?_)
  obtain ⟨rfl, rfl, rfl, rfl⟩ := hp_1
  refine g_pop hC dJ1_addEntryToEmptyMap_6 rfl ?_
  refine g_aload_n hC dJ1_addEntryToEmptyMap_7 rfl 0 rfl ?_
  refine t_new (τ := τ) hC hnt q1521 q1522 q124 (by omega) (by omega) dJ1_addEntryToEmptyMap_8 ?_
  refine g_dup hC dJ1_addEntryToEmptyMap_11 rfl ?_
  refine g_aload_n hC dJ1_addEntryToEmptyMap_12 rfl 1 rfl ?_
  refine g_aload_nN hC dJ1_addEntryToEmptyMap_13 rfl 2 rfl ?_
  refine g_null hC dJ1_addEntryToEmptyMap_14 ?_
  refine g_callv0 hC (g_runI (ret := none) hC (met_J1_J23init0 (τ := (tnew τ n)) (tnew_T hT hnt hnz) n k_  (none) tnew_S) (lw_meth q1525) q124 q1523 q1524 rfl md_J23_init dJ1_addEntryToEmptyMap_15 rfl ⟨by omega, by omega⟩ (by omega) (by omega) rfl (Nat.le_of_ble_eq_true rfl)) (fun G_2 n_2 u_2 hp_2 hn_2 hm_2 hu_2 => ?_)
  obtain ⟨rfl, rfl, rfl⟩ := hp_2
  refine t_putR (τ := (tr (tr (tr (tc (tnew τ n) n true) 0 n (some k_)) 1 n none) 4 n none)) hC (tnew_T hT hnt hnz) 5 (by decide) (some n) q222 dJ1_addEntryToEmptyMap_18 ?_
  refine g_aload_n hC dJ1_addEntryToEmptyMap_21 rfl 0 rfl ?_
  refine g_iconst (v := 1) hC dJ1_addEntryToEmptyMap_22 rfl ?_
  refine t_putI (τ := (tr (tr (tr (tr (tc (tnew τ n) n true) 0 n (some k_)) 1 n none) 4 n none) 5 0 (some n))) hC (tnew_T hT hnt hnz) 0 (by decide) 1 q223 dJ1_addEntryToEmptyMap_23 ?_
  refine g_aload_n hC dJ1_addEntryToEmptyMap_26 rfl 0 rfl ?_
  refine g_dup hC dJ1_addEntryToEmptyMap_27 rfl ?_
  refine t_getH (v := .int (τ.2.2.1 1)) hC 5 (by decide) q224 (congrArg (fun z => some (Value.int z)) (ti_n (by decide))) dJ1_addEntryToEmptyMap_28 ?_
  refine g_iconst (v := 1) hC dJ1_addEntryToEmptyMap_31 rfl ?_
  refine g_iadd hC dJ1_addEntryToEmptyMap_32 ?_
  refine t_putI (τ := (ti (tr (tr (tr (tr (tc (tnew τ n) n true) 0 n (some k_)) 1 n none) 4 n none) 5 0 (some n)) 0 1)) hC (tnew_T hT hnt hnz) 1 (by decide) ((τ.2.2.1 1) + 1) q224 dJ1_addEntryToEmptyMap_33 ?_
  refine g_vret hC hr ⟨rfl, ?_⟩ (by omega) (by omega) hE dJ1_addEntryToEmptyMap_36
  obtain ⟨r1, r2⟩ := ins_0 (a := n) (k := k_) (v := none) (y := τ.2.2.1 1 + 1) hM hr0 h1X h2X
  exact ⟨(ti (ti (tr (tr (tr (tr (tc (tnew τ n) n true) 0 n (some k_)) 1 n none) 4 n none) 5 0 (some n)) 0 1) 1 ((τ.2.2.1 1) + 1)), _, r1, r2, rfl, rfl, rfl⟩
set_option maxHeartbeats 4000000 in
theorem met_J1_put_2I0 {Y : YT} {l : Launch} {t n u : Nat} {τ : TS} {B : AH} (hT : TQ_ Y t τ) (k_ : Nat) {q : TQ} {LO HI : Int} {M : MP}  (X : Int) (hM : TM τ q LO HI M) (hX : ∀ e, e ∈ M → e.1 ≠ X) (h1X : LO < X) (h2X : X < HI) (hcm : τ.1 6 0 = none) (hKk : KI (tG t τ B) k_ X) (hKO : ∀ a k, τ.2.2.2 a = true → τ.1 0 a = some k → KI (tG t τ B) k (q.1 a)) : GM Y l yJ1_put_2 (ws_ yJ1_put_2 cJ1_put_2 10 (some (FieldType.object "java/lang/Object"))) 5 107 [.ref t, .ref k_, .null, .int 1] (tG t τ B) n u 1 6 (pQ (fun r G' n' u' => none = r ∧ ∃ τ' q', TM τ' q' LO HI (mput X k_ (none) M) ∧ TP τ q n k_ X τ' q' ∧ tG t τ' B = G' ∧ n + 1 = n' ∧ u + 6 = u')) noX := by
  refine GM.intro (own := RJ1) rfl (by decide +kernel) (Nat.le_of_ble_eq_true rfl) ?_
  intro p e s m args below meth c R Q hC hr hnm hF hL hE
  have hE1 := hE.1
  have hE2 := hE.2.1
  show V Y p l e R s m args below meth c 10 n u (tG t τ B) n u Q 0 [(0, .ref t), (1, .ref k_), (2, .null), (3, .int 1)] []
  have hKk2 := hKk
  obtain ⟨x_, hv1, hv2⟩ := hKk2
  refine g_aload_n hC dJ1_put_2_0 rfl 0 rfl ?_
  refine t_getH (v := va_rf (τ.1 5 0)) hC 3 (by decide) q222 (congrArg (fun z => some (va_rf z)) rfl) dJ1_put_2_1 ?_
  refine g_qastore (L' := [(4, va_rf (τ.1 5 0)), (0, .ref t), (1, .ref k_), (2, .null), (3, .int 1)]) hC dJ1_put_2_4 (by decide) rfl ?_
  refine g_qaload hC dJ1_put_2_6 0 rfl ?_
  rcases h_8 : τ.1 5 0 with _ | rt
  · refine g_ifnonnullN hC dJ1_put_2_8 ?_
    refine g_aload_n hC dJ1_put_2_11 rfl 1 rfl ?_
    refine g_aload_n hC dJ1_put_2_12 rfl 2 rfl ?_
    refine g_aload_nN hC dJ1_put_2_13 rfl 3 rfl ?_
    refine g_callv0 hC (g_runV hC (met_J1_addEntryToEmptyMapI0 (τ := τ) hT k_  X hM h_8 h1X h2X hcm hKk) kc_J1 tG_h (lw_V q1513 q1515 qs5 q85 q1516) rfl md_J1_addEntryToEmptyMap dJ1_put_2_14 rfl ⟨by omega, by omega⟩ (by omega) (by omega) rfl (Nat.le_of_ble_eq_true rfl)) (fun G_1 n_1 u_1 hp_1 hn_1 hm_1 hu_1 => ?_)
    obtain ⟨z, q3, r1, r2, rfl, rfl, rfl⟩ := hp_1
    refine g_null hC dJ1_put_2_17 ?_
    refine g_aret (v := none) hC hr (by first | exact Or.inl ⟨_, rfl⟩ | exact Or.inr ⟨_, rfl⟩) ⟨_, rfl, ?_⟩ (by omega) (by omega) hE dJ1_put_2_18
    exact ⟨rfl, z, q3, r1, r2, rfl, rfl, rfl⟩
  · have hrt := hM.tw.ht rt h_8
    refine g_ifnonnull (tgt := 19) hC dJ1_put_2_8 (by decide) ?_
    refine g_aload_n hC dJ1_put_2_19 rfl 1 rfl ?_
    refine t_getH (v := .null) hC 2 (by decide) q220 (congrArg (fun z => some (va_rf z)) hcm) dJ1_put_2_20 ?_
    refine g_astoreN (L' := [(7, .null), (4, .ref rt), (0, .ref t), (1, .ref k_), (2, .null), (3, .int 1)]) hC dJ1_put_2_23 (by decide) rfl ?_
    refine g_aloadN hC dJ1_put_2_25 0 rfl ?_
    refine g_ifnullN (tgt := 112) hC dJ1_put_2_27 (by decide) ?_
    refine g_aload_n hC dJ1_put_2_112 rfl 3 rfl ?_
    refine g_callq0 hC (g_runS hC (met_J22_requireNonNull (G := (tG t τ B)) k_  ) (lw_S q1395 q1396 q117 q1397) md_J22_requireNonNull dJ1_put_2_113 rfl ⟨by omega, by omega⟩ (by omega) (by omega) rfl (Nat.le_of_ble_eq_true rfl)) (fun r_2 G_2 n_2 u_2 hp_2 hn_2 hm_2 hu_2 => ?_)
    obtain ⟨rfl, rfl, rfl, rfl⟩ := hp_2
    refine g_pop hC dJ1_put_2_116 rfl ?_
    refine g_aload_n hC dJ1_put_2_117 rfl 3 rfl ?_
    refine g_castY hC kc_J12 hv1 q1398 q1233 dJ1_put_2_118 ?_
    refine g_astore (L' := [(8, .ref k_), (7, .null), (4, .ref rt), (0, .ref t), (1, .ref k_), (2, .null), (3, .int 1)]) hC dJ1_put_2_121 (by decide) rfl ?_
    have hl_123 : ∀ (kf_ : Nat) (x : Nat), (τ.2.2.2 x = true) → (q.2.1 x < X) → (X < q.2.2 x) → (q.2.2 x - q.2.1 x).toNat < kf_ → V Y p l e R s m args below meth c 10 n u (tG t τ B) n u Q 123 [(4, .ref x), (0, .ref t), (1, .ref k_), (2, .null), (3, .int 1), (8, .ref k_)] [] := by
      intro kf_
      induction kf_ with
      | zero => intro x hx hx1 hx2 hk_; exact absurd hk_ (Nat.not_lt_zero _)
      | succ kf_ ih_ =>
        intro x hx hx1 hx2 hk_
        obtain ⟨kk, hkk⟩ := hM.ky x hx
        obtain ⟨y_, hy1, hy2⟩ := hKO x kk hx hkk
        have hne := hM.nomem hx hX
        have hx0 := hM.tw.h0 x hx
        refine g_aload hC dJ1_put_2_123 0 rfl ?_
        refine g_astore (L' := [(6, .ref x), (4, .ref x), (0, .ref t), (1, .ref k_), (2, .null), (3, .int 1), (8, .ref k_)]) hC dJ1_put_2_125 (by decide) rfl ?_
        refine g_aload hC dJ1_put_2_127 6 rfl ?_
        refine g_aload hC dJ1_put_2_129 1 rfl ?_
        refine t_getN (τ := τ) (v := .ref kk) hC hT 0 (by decide) hx q1534 (congrArg (fun z => some (va_rf z)) hkk) dJ1_put_2_131 ?_
        refine g_calli0 hC (g_runF (n := 1) hC (met_J12_compareTo (G := (tG t τ B)) k_ kk (hv1) (hy1) ) kc_J12 hv1 (lw_F q1400 q1234 q1236 q106 q1238) q1212 q1211 q1237 q1235 q1233 (x := ⟨"java/lang/Comparable", "compareTo", "(Ljava/lang/Object;)I"⟩) ⟨by decide, by decide, by decide +kernel⟩ dJ1_put_2_134 rfl ⟨by omega, by omega⟩ (by omega) (by omega) rfl (Nat.le_of_ble_eq_true rfl)) (fun r_3 G_3 n_3 u_3 hp_3 hn_3 hm_3 hu_3 => ?_)
        obtain ⟨rfl, rfl, rfl, rfl⟩ := hp_3
        refine g_istore (L' := [(5, .int (cmpI x_ y_)), (6, .ref x), (4, .ref x), (0, .ref t), (1, .ref k_), (2, .null), (3, .int 1), (8, .ref k_)]) hC dJ1_put_2_139 (by decide) rfl ?_
        refine g_iload hC dJ1_put_2_141 0 rfl ?_
        refine g_if_ge hC dJ1_put_2_143 (tgt := 156) (by decide) (fun c_143 => ?_) (fun c_143 => ?_)
        · refine g_iload hC dJ1_put_2_156 0 rfl ?_
          refine g_if_le hC dJ1_put_2_158 (tgt := 171) (by decide) (fun c_158 => ?_) (fun c_158 => ?_)
          · exact absurd (show q.1 x = X from by have h8 : ¬ cmpI x_ y_ < 0 := Int32.not_lt.mpr c_143; have h9 : ¬ 0 < cmpI x_ y_ := Int32.not_lt.mpr c_158; rw [cmpI_lt] at h8; rw [cmpI_gt] at h9; omega) hne
          · refine g_aload hC dJ1_put_2_161 2 rfl ?_
            refine t_getN (τ := τ) (v := va_rf (τ.1 3 x)) hC hT 3 (by decide) hx q1542 (congrArg (fun z => some (va_rf z)) rfl) dJ1_put_2_163 ?_
            refine g_qastore (L' := [(4, va_rf (τ.1 3 x)), (5, .int (cmpI x_ y_)), (6, .ref x), (0, .ref t), (1, .ref k_), (2, .null), (3, .int 1), (8, .ref k_)]) hC dJ1_put_2_166 (by decide) rfl ?_
            refine g_goto (tgt := 196) hC dJ1_put_2_168 (by decide) ?_
            refine g_qaload hC dJ1_put_2_196 0 rfl ?_
            rcases h_198 : τ.1 3 x with _ | x2
            · refine g_ifnonnullN hC dJ1_put_2_198 ?_
              refine g_aload_n hC dJ1_put_2_201 rfl 3 rfl ?_
              refine g_aload_n hC dJ1_put_2_202 rfl 4 rfl ?_
              refine g_aload_nN hC dJ1_put_2_203 rfl 5 rfl ?_
              refine g_aload hC dJ1_put_2_204 2 rfl ?_
              refine g_iload hC dJ1_put_2_206 1 rfl ?_
              refine g_if_ge hC dJ1_put_2_208 (tgt := 215) (by decide) (fun c_208 => ?_) (fun c_208 => ?_)
              · refine g_iconst (v := 0) hC dJ1_put_2_215 rfl ?_
                refine g_callv0 hC (g_runV hC (met_J1_addEntry0 (τ := τ) hT k_  x false X hM hx (fun e_ => Bool.noConfusion e_) (fun _ => ⟨h_198, (by have := cmpI_gt.mp (Int32.not_le.mp c_158); omega), hx2⟩) hX) kc_J1 tG_h (lw_V q1560 q1562 qs6 q85 q1563) rfl md_J1_addEntry dJ1_put_2_216 rfl ⟨by omega, by omega⟩ (by omega) (by omega) rfl (Nat.le_of_ble_eq_true rfl)) (fun G_4 n_4 u_4 hp_4 hn_4 hm_4 hu_4 => ?_)
                obtain ⟨z, q3, r1, r2, rfl, rfl, rfl⟩ := hp_4
                refine g_null hC dJ1_put_2_219 ?_
                refine g_aret (v := none) hC hr (by first | exact Or.inl ⟨_, rfl⟩ | exact Or.inr ⟨_, rfl⟩) ⟨_, rfl, ?_⟩ (by omega) (by omega) hE dJ1_put_2_220
                exact ⟨rfl, z, q3, r1, r2, rfl, rfl, rfl⟩
              · first | exact absurd c_208 (Int32.not_le.mpr c_143) | exact absurd (Int32.not_lt.mp c_143) c_208 | exact absurd c_143 c_208 | exact absurd c_208 c_143
            · have hc := hM.tw.hr x x2 hx h_198
              have hlt : q.1 x < X := (by have := cmpI_gt.mp (Int32.not_le.mp c_158); omega)
              refine g_ifnonnull (tgt := 123) hC dJ1_put_2_198 (by decide) ?_
              refine V.sub [0, 3, 4, 5, 6, 7] rfl ?_
              exact ih_ x2 (hc.1) (by omega) (by omega) (by have := hM.tw.h0 _ hc.1; omega)
        · refine g_aload hC dJ1_put_2_146 2 rfl ?_
          refine t_getN (τ := τ) (v := va_rf (τ.1 2 x)) hC hT 2 (by decide) hx q1539 (congrArg (fun z => some (va_rf z)) rfl) dJ1_put_2_148 ?_
          refine g_qastore (L' := [(4, va_rf (τ.1 2 x)), (5, .int (cmpI x_ y_)), (6, .ref x), (0, .ref t), (1, .ref k_), (2, .null), (3, .int 1), (8, .ref k_)]) hC dJ1_put_2_151 (by decide) rfl ?_
          refine g_goto (tgt := 196) hC dJ1_put_2_153 (by decide) ?_
          refine g_qaload hC dJ1_put_2_196 0 rfl ?_
          rcases h_198 : τ.1 2 x with _ | x2
          · refine g_ifnonnullN hC dJ1_put_2_198 ?_
            refine g_aload_n hC dJ1_put_2_201 rfl 3 rfl ?_
            refine g_aload_n hC dJ1_put_2_202 rfl 4 rfl ?_
            refine g_aload_nN hC dJ1_put_2_203 rfl 5 rfl ?_
            refine g_aload hC dJ1_put_2_204 2 rfl ?_
            refine g_iload hC dJ1_put_2_206 1 rfl ?_
            refine g_if_ge hC dJ1_put_2_208 (tgt := 215) (by decide) (fun c_208 => ?_) (fun c_208 => ?_)
            · first | exact absurd c_208 (Int32.not_le.mpr c_143) | exact absurd (Int32.not_lt.mp c_143) c_208 | exact absurd c_143 c_208 | exact absurd c_208 c_143
            · refine g_iconst (v := 1) hC dJ1_put_2_211 rfl ?_
              refine g_goto (tgt := 216) hC dJ1_put_2_212 (by decide) ?_
              refine g_callv0 hC (g_runV hC (met_J1_addEntry0 (τ := τ) hT k_  x true X hM hx (fun _ => ⟨h_198, hx1, (by have := cmpI_lt.mp (Int32.not_le.mp c_143); omega)⟩) (fun e_ => Bool.noConfusion e_) hX) kc_J1 tG_h (lw_V q1560 q1562 qs6 q85 q1563) rfl md_J1_addEntry dJ1_put_2_216 rfl ⟨by omega, by omega⟩ (by omega) (by omega) rfl (Nat.le_of_ble_eq_true rfl)) (fun G_5 n_5 u_5 hp_5 hn_5 hm_5 hu_5 => ?_)
              obtain ⟨z, q3, r1, r2, rfl, rfl, rfl⟩ := hp_5
              refine g_null hC dJ1_put_2_219 ?_
              refine g_aret (v := none) hC hr (by first | exact Or.inl ⟨_, rfl⟩ | exact Or.inr ⟨_, rfl⟩) ⟨_, rfl, ?_⟩ (by omega) (by omega) hE dJ1_put_2_220
              exact ⟨rfl, z, q3, r1, r2, rfl, rfl, rfl⟩
          · have hc := hM.tw.hl x x2 hx h_198
            have hlt : X < q.1 x := (by have := cmpI_lt.mp (Int32.not_le.mp c_143); omega)
            refine g_ifnonnull (tgt := 123) hC dJ1_put_2_198 (by decide) ?_
            refine V.sub [0, 3, 4, 5, 6, 7] rfl ?_
            exact ih_ x2 (hc.1) (by omega) (by omega) (by have := hM.tw.h0 _ hc.1; omega)
    refine V.sub [2, 3, 4, 5, 6, 0] rfl ?_
    exact hl_123 ((q.2.2 rt - q.2.1 rt).toNat + 1) rt (hrt.1) (by have := hrt.2; omega) (by have := hrt.2; omega) (by omega)
set_option maxHeartbeats 1000000 in
theorem met_J1_putI0 {Y : YT} {l : Launch} {t n u : Nat} {τ : TS} {B : AH} (hT : TQ_ Y t τ) (k_ : Nat) {q : TQ} {LO HI : Int} {M : MP}  (X : Int) (hM : TM τ q LO HI M) (hX : ∀ e, e ∈ M → e.1 ≠ X) (h1X : LO < X) (h2X : X < HI) (hcm : τ.1 6 0 = none) (hKk : KI (tG t τ B) k_ X) (hKO : ∀ a k, τ.2.2.2 a = true → τ.1 0 a = some k → KI (tG t τ B) k (q.1 a)) : GM Y l yJ1_put (ws_ yJ1_put cJ1_put 3 (some (FieldType.object "java/lang/Object"))) 6 136 [.ref t, .ref k_, .null] (tG t τ B) n u 1 6 (pQ (fun r G' n' u' => none = r ∧ ∃ τ' q', TM τ' q' LO HI (mput X k_ (none) M) ∧ TP τ q n k_ X τ' q' ∧ tG t τ' B = G' ∧ n + 1 = n' ∧ u + 6 = u')) noX := by
  refine GM.intro (own := RJ1) rfl (by decide +kernel) (Nat.le_of_ble_eq_true rfl) ?_
  intro p e s m args below meth c R Q hC hr hnm hF hL hE
  have hE1 := hE.1
  have hE2 := hE.2.1
  show V Y p l e R s m args below meth c 3 n u (tG t τ B) n u Q 0 [(0, .ref t), (1, .ref k_), (2, .null)] []
  refine g_aload_n hC dJ1_put_0 rfl 0 rfl ?_
  refine g_aload_n hC dJ1_put_1 rfl 1 rfl ?_
  refine g_aload_nN hC dJ1_put_2 rfl 2 rfl ?_
  refine g_iconst (v := 1) hC dJ1_put_3 rfl ?_
  refine g_callq0 hC (g_runV hC (met_J1_put_2I0 (τ := τ) hT k_  X hM hX h1X h2X hcm hKk hKO) kc_J1 tG_h (lw_V q1509 q1511 qs4 q85 q1512) rfl md_J1_put_2 dJ1_put_4 rfl ⟨by omega, by omega⟩ (by omega) (by omega) rfl (Nat.le_of_ble_eq_true rfl)) (fun r_1 G_1 n_1 u_1 hp_1 hn_1 hm_1 hu_1 => ?_)
  obtain ⟨rfl, z, q3, r1, r2, rfl, rfl, rfl⟩ := hp_1
  refine g_aret (v := none) hC hr (by first | exact Or.inl ⟨_, rfl⟩ | exact Or.inr ⟨_, rfl⟩) ⟨_, rfl, ?_⟩ (by omega) (by omega) hE dJ1_put_7
  exact ⟨rfl, z, q3, r1, r2, rfl, rfl, rfl⟩
