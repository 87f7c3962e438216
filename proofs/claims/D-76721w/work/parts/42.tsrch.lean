set_option maxRecDepth 100000
/-! TREE MAPS, 12: searches by Integer keys; clear -/
def GE (τ : TS) (q : TQ) (x : Int) (r : Option Nat) : Prop := match r with
  | none => ∀ b, τ.2.2.2 b = true → q.1 b ≠ x
  | some s => τ.2.2.2 s = true ∧ q.1 s = x
theorem TW.noL {τ : TS} {q : TQ} {LO HI x : Int} (h : TW τ q LO HI) {p : Nat} (hp : τ.2.2.2 p = true) (hl : τ.1 2 p = none) (h1 : q.2.1 p < x) (h2 : x < q.1 p) : GE τ q x none := fun b hb e => by
  have h0 := h.h0 p hp
  obtain ⟨y, hy, _⟩ := (h.desc hp hb (by omega) (by omega)).1 (by omega)
  rw [hl] at hy; cases hy
theorem TW.noR {τ : TS} {q : TQ} {LO HI x : Int} (h : TW τ q LO HI) {p : Nat} (hp : τ.2.2.2 p = true) (hl : τ.1 3 p = none) (h1 : q.1 p < x) (h2 : x < q.2.2 p) : GE τ q x none := fun b hb e => by
  have h0 := h.h0 p hp
  obtain ⟨y, hy, _⟩ := (h.desc hp hb (by omega) (by omega)).2.1 (by omega)
  rw [hl] at hy; cases hy
theorem TW.no0 {τ : TS} {q : TQ} {LO HI x : Int} (h : TW τ q LO HI) (hr : τ.1 5 0 = none) : GE τ q x none := fun b hb e => by
  obtain ⟨r, e2⟩ := h.root' hb
  rw [hr] at e2; cases e2
theorem TM.tW {τ : TS} {q : TQ} {LO HI : Int} {M : MP} (h : TM τ q LO HI M) : TW τ q LO HI := h.tw
set_option maxHeartbeats 2000000 in
theorem met_J1_getEntryI {Y : YT} {l : Launch} {t n u : Nat} {τ : TS} {B : AH} (hT : TQ_ Y t τ) (k_ : Nat) {q : TQ} {LO HI : Int} {M : MP}  (X : Int) (hM : TM τ q LO HI M) (h1X : LO < X) (h2X : X < HI) (hcm : τ.1 6 0 = none) (hKk : KI (tG t τ B) k_ X) (hKO : ∀ a k, τ.2.2.2 a = true → τ.1 0 a = some k → KI (tG t τ B) k (q.1 a)) : GM Y l yJ1_getEntry (ws_ yJ1_getEntry cJ1_getEntry 5 (some (FieldType.object "java/util/TreeMap$Entry"))) 3 63 [.ref t, .ref k_] (tG t τ B) n u 0 0 (pQ (fun r G' n' u' => GE τ q X r ∧ tG t τ B = G' ∧ n = n' ∧ u = u')) noX := by
  refine GM.intro (own := RJ1) rfl (by decide +kernel) (Nat.le_of_ble_eq_true rfl) ?_
  intro p e s m args below meth c R Q hC hr hnm hF hL hE
  have hE1 := hE.1
  have hE2 := hE.2.1
  show V Y p l e R s m args below meth c 5 n u (tG t τ B) n u Q 0 [(0, .ref t), (1, .ref k_)] []
  have hKk2 := hKk
  obtain ⟨x_, hv1, hv2⟩ := hKk2
  refine g_aload_n hC dJ1_getEntry_0 rfl 0 rfl ?_
  refine t_getH (v := .null) hC 2 (by decide) q220 (congrArg (fun z => some (va_rf z)) hcm) dJ1_getEntry_1 ?_
  refine g_ifnullN (tgt := 13) hC dJ1_getEntry_4 (by decide) ?_
  refine g_aload_n hC dJ1_getEntry_13 rfl 1 rfl ?_
  refine g_callq0 hC (g_runS hC (met_J22_requireNonNull (G := (tG t τ B)) k_  ) (lw_S q1395 q1396 q117 q1397) md_J22_requireNonNull dJ1_getEntry_14 rfl ⟨by omega, by omega⟩ (by omega) (by omega) rfl (Nat.le_of_ble_eq_true rfl)) (fun r_1 G_1 n_1 u_1 hp_1 hn_1 hm_1 hu_1 => ?_)
  obtain ⟨rfl, rfl, rfl, rfl⟩ := hp_1
  refine g_pop hC dJ1_getEntry_17 rfl ?_
  refine g_aload_n hC dJ1_getEntry_18 rfl 1 rfl ?_
  refine g_castY hC kc_J12 hv1 q1398 q1233 dJ1_getEntry_19 ?_
  refine g_astore_n (L' := [(2, .ref k_), (0, .ref t), (1, .ref k_)]) hC dJ1_getEntry_22 rfl (by decide) rfl ?_
  refine g_aload_n hC dJ1_getEntry_23 rfl 1 rfl ?_
  refine t_getH (v := va_rf (τ.1 5 0)) hC 3 (by decide) q222 (congrArg (fun z => some (va_rf z)) rfl) dJ1_getEntry_24 ?_
  rcases hr0 : τ.1 5 0 with _ | rt
  · refine g_astore_nN (L' := [(3, .null), (2, .ref k_), (0, .ref t), (1, .ref k_)]) hC dJ1_getEntry_27 rfl (by decide) rfl ?_
    refine g_aload_nN hC dJ1_getEntry_28 rfl 0 rfl ?_
    refine g_ifnullN (tgt := 75) hC dJ1_getEntry_29 (by decide) ?_
    refine g_null hC dJ1_getEntry_75 ?_
    refine g_aret (v := none) hC hr (by first | exact Or.inl ⟨_, rfl⟩ | exact Or.inr ⟨_, rfl⟩) ⟨_, rfl, ?_⟩ (by omega) (by omega) hE dJ1_getEntry_76
    exact ⟨hM.tw.no0 hr0, rfl, rfl, rfl⟩
  · have hrt := hM.tw.ht rt hr0
    refine g_astore_n (L' := [(3, .ref rt), (2, .ref k_), (0, .ref t), (1, .ref k_)]) hC dJ1_getEntry_27 rfl (by decide) rfl ?_
    have hl_28 : ∀ (kf_ : Nat) (x : Nat), (τ.2.2.2 x = true) → (q.2.1 x < X) → (X < q.2.2 x) → (q.2.2 x - q.2.1 x).toNat < kf_ → V Y p l e R s m args below meth c 5 n u (tG t τ B) n u Q 28 [(3, .ref x), (0, .ref t), (1, .ref k_), (2, .ref k_)] [] := by
      intro kf_
      induction kf_ with
      | zero => intro x hx hx1 hx2 hk_; exact absurd hk_ (Nat.not_lt_zero _)
      | succ kf_ ih_ =>
        intro x hx hx1 hx2 hk_
        obtain ⟨kk, hkk⟩ := hM.ky x hx
        obtain ⟨y_, hy1, hy2⟩ := hKO x kk hx hkk
        have hx0 := hM.tw.h0 x hx
        refine g_aload_n hC dJ1_getEntry_28 rfl 0 rfl ?_
        refine g_ifnull hC dJ1_getEntry_29 ?_
        refine g_aload_n hC dJ1_getEntry_32 rfl 3 rfl ?_
        refine g_aload_n hC dJ1_getEntry_33 rfl 0 rfl ?_
        refine t_getN (τ := τ) (v := .ref kk) hC hT 0 (by decide) hx q1534 (congrArg (fun z => some (va_rf z)) hkk) dJ1_getEntry_34 ?_
        refine g_calli0 hC (g_runF (n := 1) hC (met_J12_compareTo (G := (tG t τ B)) k_ kk (hv1) (hy1) ) kc_J12 hv1 (lw_F q1400 q1234 q1236 q106 q1238) q1212 q1211 q1237 q1235 q1233 (x := ⟨"java/lang/Comparable", "compareTo", "(Ljava/lang/Object;)I"⟩) ⟨by decide, by decide, by decide +kernel⟩ dJ1_getEntry_37 rfl ⟨by omega, by omega⟩ (by omega) (by omega) rfl (Nat.le_of_ble_eq_true rfl)) (fun r_2 G_2 n_2 u_2 hp_2 hn_2 hm_2 hu_2 => ?_)
        obtain ⟨rfl, rfl, rfl, rfl⟩ := hp_2
        refine g_istore (L' := [(4, .int (cmpI x_ y_)), (3, .ref x), (0, .ref t), (1, .ref k_), (2, .ref k_)]) hC dJ1_getEntry_42 (by decide) rfl ?_
        refine g_iload hC dJ1_getEntry_44 0 rfl ?_
        refine g_if_ge hC dJ1_getEntry_46 (tgt := 57) (by decide) (fun c_46 => ?_) (fun c_46 => ?_)
        · refine g_iload hC dJ1_getEntry_57 0 rfl ?_
          refine g_if_le hC dJ1_getEntry_59 (tgt := 70) (by decide) (fun c_59 => ?_) (fun c_59 => ?_)
          · refine g_aload_n hC dJ1_getEntry_70 rfl 1 rfl ?_
            refine g_aret (v := some x) hC hr (by first | exact Or.inl ⟨_, rfl⟩ | exact Or.inr ⟨_, rfl⟩) ⟨_, rfl, ?_⟩ (by omega) (by omega) hE dJ1_getEntry_71
            exact ⟨⟨hx, (by have h8 : ¬ cmpI x_ y_ < 0 := Int32.not_lt.mpr c_46; have h9 : ¬ 0 < cmpI x_ y_ := Int32.not_lt.mpr c_59; rw [cmpI_lt] at h8; rw [cmpI_gt] at h9; omega)⟩, rfl, rfl, rfl⟩
          · refine g_aload_n hC dJ1_getEntry_62 rfl 1 rfl ?_
            refine t_getN (τ := τ) (v := va_rf (τ.1 3 x)) hC hT 3 (by decide) hx q1542 (congrArg (fun z => some (va_rf z)) rfl) dJ1_getEntry_63 ?_
            have hlt : q.1 x < X := (by have := cmpI_gt.mp (Int32.not_le.mp c_59); omega)
            rcases hch : τ.1 3 x with _ | x2
            · refine g_astore_nN (L' := [(3, .null), (4, .int (cmpI x_ y_)), (0, .ref t), (1, .ref k_), (2, .ref k_)]) hC dJ1_getEntry_66 rfl (by decide) rfl ?_
              refine g_goto (tgt := 72) hC dJ1_getEntry_67 (by decide) ?_
              refine g_goto (tgt := 28) hC dJ1_getEntry_72 (by decide) ?_
              refine g_aload_nN hC dJ1_getEntry_28 rfl 0 rfl ?_
              refine g_ifnullN (tgt := 75) hC dJ1_getEntry_29 (by decide) ?_
              refine g_null hC dJ1_getEntry_75 ?_
              refine g_aret (v := none) hC hr (by first | exact Or.inl ⟨_, rfl⟩ | exact Or.inr ⟨_, rfl⟩) ⟨_, rfl, ?_⟩ (by omega) (by omega) hE dJ1_getEntry_76
              exact ⟨hM.tw.noR hx hch hlt hx2, rfl, rfl, rfl⟩
            · have hc := hM.tw.hr x x2 hx hch
              refine g_astore_n (L' := [(3, .ref x2), (4, .int (cmpI x_ y_)), (0, .ref t), (1, .ref k_), (2, .ref k_)]) hC dJ1_getEntry_66 rfl (by decide) rfl ?_
              refine g_goto (tgt := 72) hC dJ1_getEntry_67 (by decide) ?_
              refine g_goto (tgt := 28) hC dJ1_getEntry_72 (by decide) ?_
              refine V.sub [0, 2, 3, 4] rfl ?_
              exact ih_ x2 (hc.1) (by omega) (by omega) (by have := hM.tw.h0 _ hc.1; omega)
        · refine g_aload_n hC dJ1_getEntry_49 rfl 1 rfl ?_
          refine t_getN (τ := τ) (v := va_rf (τ.1 2 x)) hC hT 2 (by decide) hx q1539 (congrArg (fun z => some (va_rf z)) rfl) dJ1_getEntry_50 ?_
          have hlt : X < q.1 x := (by have := cmpI_lt.mp (Int32.not_le.mp c_46); omega)
          rcases hch : τ.1 2 x with _ | x2
          · refine g_astore_nN (L' := [(3, .null), (4, .int (cmpI x_ y_)), (0, .ref t), (1, .ref k_), (2, .ref k_)]) hC dJ1_getEntry_53 rfl (by decide) rfl ?_
            refine g_goto (tgt := 72) hC dJ1_getEntry_54 (by decide) ?_
            refine g_goto (tgt := 28) hC dJ1_getEntry_72 (by decide) ?_
            refine g_aload_nN hC dJ1_getEntry_28 rfl 0 rfl ?_
            refine g_ifnullN (tgt := 75) hC dJ1_getEntry_29 (by decide) ?_
            refine g_null hC dJ1_getEntry_75 ?_
            refine g_aret (v := none) hC hr (by first | exact Or.inl ⟨_, rfl⟩ | exact Or.inr ⟨_, rfl⟩) ⟨_, rfl, ?_⟩ (by omega) (by omega) hE dJ1_getEntry_76
            exact ⟨hM.tw.noL hx hch hx1 hlt, rfl, rfl, rfl⟩
          · have hc := hM.tw.hl x x2 hx hch
            refine g_astore_n (L' := [(3, .ref x2), (4, .int (cmpI x_ y_)), (0, .ref t), (1, .ref k_), (2, .ref k_)]) hC dJ1_getEntry_53 rfl (by decide) rfl ?_
            refine g_goto (tgt := 72) hC dJ1_getEntry_54 (by decide) ?_
            refine g_goto (tgt := 28) hC dJ1_getEntry_72 (by decide) ?_
            refine V.sub [0, 2, 3, 4] rfl ?_
            exact ih_ x2 (hc.1) (by omega) (by omega) (by have := hM.tw.h0 _ hc.1; omega)
    refine V.sub [0, 2, 3, 1] rfl ?_
    exact hl_28 ((q.2.2 rt - q.2.1 rt).toNat + 1) rt (hrt.1) (by have := hrt.2; omega) (by have := hrt.2; omega) (by omega)
set_option maxHeartbeats 1000000 in
theorem met_J1_containsKeyI {Y : YT} {l : Launch} {t n u : Nat} {τ : TS} {B : AH} (hT : TQ_ Y t τ) (k_ : Nat) {q : TQ} {LO HI : Int} {M : MP}  (X : Int) (hM : TM τ q LO HI M) (h1X : LO < X) (h2X : X < HI) (hcm : τ.1 6 0 = none) (hKk : KI (tG t τ B) k_ X) (hKO : ∀ a k, τ.2.2.2 a = true → τ.1 0 a = some k → KI (tG t τ B) k (q.1 a)) : GM Y l yJ1_containsKey (ws_ yJ1_containsKey cJ1_containsKey 2 (some FieldType.boolean)) 4 87 [.ref t, .ref k_] (tG t τ B) n u 0 0 (pI (fun r G' n' u' => b2i (mget X M).isSome = r ∧ tG t τ B = G' ∧ n = n' ∧ u = u')) noX := by
  refine GM.intro (own := RJ1) rfl (by decide +kernel) (Nat.le_of_ble_eq_true rfl) ?_
  intro p e s m args below meth c R Q hC hr hnm hF hL hE
  have hE1 := hE.1
  have hE2 := hE.2.1
  show V Y p l e R s m args below meth c 2 n u (tG t τ B) n u Q 0 [(0, .ref t), (1, .ref k_)] []
  refine g_aload_n hC dJ1_containsKey_0 rfl 0 rfl ?_
  refine g_aload_n hC dJ1_containsKey_1 rfl 1 rfl ?_
  refine g_callq0 hC (g_runV hC (met_J1_getEntryI (τ := τ) hT k_ X hM h1X h2X hcm hKk hKO) kc_J1 tG_h (lw_V q990 q991 q992 q85 q993) rfl md_J1_getEntry dJ1_containsKey_2 rfl ⟨by omega, by omega⟩ (by omega) (by omega) rfl (Nat.le_of_ble_eq_true rfl)) (fun r_1 G_1 n_1 u_1 hp_1 hn_1 hm_1 hu_1 => ?_)
  obtain ⟨hge, rfl, rfl, rfl⟩ := hp_1
  rcases h_5 : r_1 with _ | s9
  · refine g_ifnullN (tgt := 12) hC dJ1_containsKey_5 (by decide) ?_
    refine g_iconst (v := 0) hC dJ1_containsKey_12 rfl ?_
    refine g_iret hC hr rfl ⟨_, rfl, ?_⟩ (by omega) (by omega) hE dJ1_containsKey_13
    rw [h_5] at hge
    exact ⟨by rw [show mget X M = none from (mget_none M).mpr (fun e_ he e2 => by obtain ⟨a, ha, h3, _⟩ := (hM.mem e_.1 e_.2.1 e_.2.2).mp he; exact hge a ha (h3.trans e2))]; rfl, rfl, rfl, rfl⟩
  · refine g_ifnull hC dJ1_containsKey_5 ?_
    refine g_iconst (v := 1) hC dJ1_containsKey_8 rfl ?_
    refine g_goto (tgt := 13) hC dJ1_containsKey_9 (by decide) ?_
    refine g_iret hC hr rfl ⟨_, rfl, ?_⟩ (by omega) (by omega) hE dJ1_containsKey_13
    rw [h_5] at hge
    exact ⟨by obtain ⟨k9, _, h9⟩ := hM.at_ hge.1; rw [hge.2] at h9; rw [(mget_some M hM.so).mpr h9]; rfl, rfl, rfl, rfl⟩
set_option maxHeartbeats 1000000 in
theorem met_J1_getI {Y : YT} {l : Launch} {t n u : Nat} {τ : TS} {B : AH} (hT : TQ_ Y t τ) (k_ : Nat) {q : TQ} {LO HI : Int} {M : MP} {kk9 : Nat} {v9 : Option Nat}  (X : Int) (hM : TM τ q LO HI M) (h1X : LO < X) (h2X : X < HI) (hcm : τ.1 6 0 = none) (hKk : KI (tG t τ B) k_ X) (hKO : ∀ a k, τ.2.2.2 a = true → τ.1 0 a = some k → KI (tG t τ B) k (q.1 a)) (hin : (X, kk9, v9) ∈ M) : GM Y l yJ1_get (ws_ yJ1_get cJ1_get 3 (some (FieldType.object "java/lang/Object"))) 4 87 [.ref t, .ref k_] (tG t τ B) n u 0 0 (pQ (fun r G' n' u' => v9 = r ∧ tG t τ B = G' ∧ n = n' ∧ u = u')) noX := by
  refine GM.intro (own := RJ1) rfl (by decide +kernel) (Nat.le_of_ble_eq_true rfl) ?_
  intro p e s m args below meth c R Q hC hr hnm hF hL hE
  have hE1 := hE.1
  have hE2 := hE.2.1
  show V Y p l e R s m args below meth c 3 n u (tG t τ B) n u Q 0 [(0, .ref t), (1, .ref k_)] []
  refine g_aload_n hC dJ1_get_0 rfl 0 rfl ?_
  refine g_aload_n hC dJ1_get_1 rfl 1 rfl ?_
  refine g_callq0 hC (g_runV hC (met_J1_getEntryI (τ := τ) hT k_ X hM h1X h2X hcm hKk hKO) kc_J1 tG_h (lw_V q990 q991 q992 q85 q993) rfl md_J1_getEntry dJ1_get_2 rfl ⟨by omega, by omega⟩ (by omega) (by omega) rfl (Nat.le_of_ble_eq_true rfl)) (fun r_1 G_1 n_1 u_1 hp_1 hn_1 hm_1 hu_1 => ?_)
  obtain ⟨hge, rfl, rfl, rfl⟩ := hp_1
  refine g_qastore_n (L' := [(2, va_rf r_1), (0, .ref t), (1, .ref k_)]) hC dJ1_get_5 rfl (by decide) rfl ?_
  refine g_qaload_n hC dJ1_get_6 rfl 0 rfl ?_
  rcases h_7 : r_1 with _ | s9
  · rw [h_7] at hge; obtain ⟨a, ha, h3, _⟩ := (hM.mem _ _ _).mp hin; exact absurd h3 (hge a ha)
  · rw [h_7] at hge
    refine g_ifnonnull (tgt := 14) hC dJ1_get_7 (by decide) ?_
    refine g_aload_n hC dJ1_get_14 rfl 0 rfl ?_
    refine t_getN (τ := τ) (v := va_rf (τ.1 1 s9)) hC hT 1 (by decide) hge.1 q1536 (congrArg (fun z => some (va_rf z)) rfl) dJ1_get_15 ?_
    refine g_aret (v := τ.1 1 s9) hC hr (by first | exact Or.inl ⟨_, rfl⟩ | exact Or.inr ⟨_, rfl⟩) ⟨_, rfl, ?_⟩ (by omega) (by omega) hE dJ1_get_18
    obtain ⟨a, ha, h3, h4, h5⟩ := (hM.mem _ _ _).mp hin
    have e9 := hM.tw.uniq ha hge.1 (h3.trans hge.2.symm)
    subst e9
    exact ⟨h5.symm, rfl, rfl, rfl⟩
set_option maxHeartbeats 2000000 in
theorem met_J1_getHigherEntryI {Y : YT} {l : Launch} {t n u : Nat} {τ : TS} {B : AH} (hT : TQ_ Y t τ) (k_ : Nat) {q : TQ} {LO HI : Int} {M : MP}  (X : Int) (hM : TM τ q LO HI M) (h1X : LO < X) (h2X : X < HI) (hcm : τ.1 6 0 = none) (hKk : KI (tG t τ B) k_ X) (hKO : ∀ a k, τ.2.2.2 a = true → τ.1 0 a = some k → KI (tG t τ B) k (q.1 a)) : GM Y l yJ1_getHigherEntry (ws_ yJ1_getHigherEntry cJ1_getHigherEntry 6 (some (FieldType.object "java/util/TreeMap$Entry"))) 4 85 [.ref t, .ref k_] (tG t τ B) n u 0 0 (pQ (fun r G' n' u' => NX τ q X r ∧ tG t τ B = G' ∧ n = n' ∧ u = u')) noX := by
  refine GM.intro (own := RJ1) rfl (by decide +kernel) (Nat.le_of_ble_eq_true rfl) ?_
  intro p e s m args below meth c R Q hC hr hnm hF hL hE
  have hE1 := hE.1
  have hE2 := hE.2.1
  show V Y p l e R s m args below meth c 6 n u (tG t τ B) n u Q 0 [(0, .ref t), (1, .ref k_)] []
  have hKk2 := hKk
  obtain ⟨x_, hv1, hv2⟩ := hKk2
  refine g_aload_n hC dJ1_getHigherEntry_0 rfl 0 rfl ?_
  refine t_getH (v := va_rf (τ.1 5 0)) hC 3 (by decide) q222 (congrArg (fun z => some (va_rf z)) rfl) dJ1_getHigherEntry_1 ?_
  rcases hr0 : τ.1 5 0 with _ | rt
  · refine g_astore_nN (L' := [(2, .null), (0, .ref t), (1, .ref k_)]) hC dJ1_getHigherEntry_4 rfl (by decide) rfl ?_
    refine g_aload_nN hC dJ1_getHigherEntry_5 rfl 0 rfl ?_
    refine g_ifnullN (tgt := 99) hC dJ1_getHigherEntry_6 (by decide) ?_
    refine g_null hC dJ1_getHigherEntry_99 ?_
    refine g_aret (v := none) hC hr (by first | exact Or.inl ⟨_, rfl⟩ | exact Or.inr ⟨_, rfl⟩) ⟨_, rfl, ?_⟩ (by omega) (by omega) hE dJ1_getHigherEntry_100
    exact ⟨fun a ha => absurd rfl ((hM.tw.no0 (x := q.1 a) hr0) a ha), rfl, rfl, rfl⟩
  · have hrt := hM.tw.ht rt hr0
    refine g_astore_n (L' := [(2, .ref rt), (0, .ref t), (1, .ref k_)]) hC dJ1_getHigherEntry_4 rfl (by decide) rfl ?_
    have hl_5 : ∀ (kf_ : Nat) (x : Nat), (τ.2.2.2 x = true) → (q.2.1 x ≤ X) → (X < q.2.2 x) → (q.2.2 x - q.2.1 x).toNat < kf_ → V Y p l e R s m args below meth c 6 n u (tG t τ B) n u Q 5 [(2, .ref x), (0, .ref t), (1, .ref k_)] [] := by
      intro kf_
      induction kf_ with
      | zero => intro x hx hx1 hx2 hk_; exact absurd hk_ (Nat.not_lt_zero _)
      | succ kf_ ih_ =>
        intro x hx hx1 hx2 hk_
        obtain ⟨kk, hkk⟩ := hM.ky x hx
        obtain ⟨y_, hy1, hy2⟩ := hKO x kk hx hkk
        have hx0 := hM.tw.h0 x hx
        refine g_aload_n hC dJ1_getHigherEntry_5 rfl 0 rfl ?_
        refine g_ifnull hC dJ1_getHigherEntry_6 ?_
        refine g_aload_n hC dJ1_getHigherEntry_9 rfl 1 rfl ?_
        refine g_aload_n hC dJ1_getHigherEntry_10 rfl 2 rfl ?_
        refine g_aload_n hC dJ1_getHigherEntry_11 rfl 0 rfl ?_
        refine t_getN (τ := τ) (v := .ref kk) hC hT 0 (by decide) hx q1534 (congrArg (fun z => some (va_rf z)) hkk) dJ1_getHigherEntry_12 ?_
        refine g_calli0 hC (g_runV hC (met_J1_compareI (τ := τ) hT k_ kk hcm hv1 hy1) kc_J1 tG_h (lw_V q1517 q1518 q1519 q85 q1520) rfl md_J1_compare dJ1_getHigherEntry_15 rfl ⟨by omega, by omega⟩ (by omega) (by omega) rfl (Nat.le_of_ble_eq_true rfl)) (fun r_1 G_1 n_1 u_1 hp_1 hn_1 hm_1 hu_1 => ?_)
        obtain ⟨rfl, rfl, rfl, rfl⟩ := hp_1
        refine g_istore_n (L' := [(3, .int (cmpI x_ y_)), (2, .ref x), (0, .ref t), (1, .ref k_)]) hC dJ1_getHigherEntry_18 rfl (by decide) rfl ?_
        refine g_iload_n hC dJ1_getHigherEntry_19 rfl 0 rfl ?_
        refine g_if_ge hC dJ1_getHigherEntry_20 (tgt := 40) (by decide) (fun c_20 => ?_) (fun c_20 => ?_)
        · have hge : q.1 x ≤ X := (by have h8 : ¬ cmpI x_ y_ < 0 := Int32.not_lt.mpr c_20; rw [cmpI_lt] at h8; omega)
          refine g_aload_n hC dJ1_getHigherEntry_40 rfl 1 rfl ?_
          refine t_getN (τ := τ) (v := va_rf (τ.1 3 x)) hC hT 3 (by decide) hx q1542 (congrArg (fun z => some (va_rf z)) rfl) dJ1_getHigherEntry_41 ?_
          rcases h_44 : τ.1 3 x with _ | x2
          · refine g_ifnullN (tgt := 55) hC dJ1_getHigherEntry_44 (by decide) ?_
            refine g_aload_n hC dJ1_getHigherEntry_55 rfl 1 rfl ?_
            refine t_getN (τ := τ) (v := va_rf (τ.1 4 x)) hC hT 4 (by decide) hx q1544 (congrArg (fun z => some (va_rf z)) rfl) dJ1_getHigherEntry_56 ?_
            refine g_qastore (L' := [(4, va_rf (τ.1 4 x)), (3, .int (cmpI x_ y_)), (2, .ref x), (0, .ref t), (1, .ref k_)]) hC dJ1_getHigherEntry_59 (by decide) rfl ?_
            refine g_aload_n hC dJ1_getHigherEntry_61 rfl 2 rfl ?_
            refine g_astore (L' := [(5, .ref x), (4, va_rf (τ.1 4 x)), (3, .int (cmpI x_ y_)), (2, .ref x), (0, .ref t), (1, .ref k_)]) hC dJ1_getHigherEntry_62 (by decide) (by simp [rf_cat]) ?_
            have hl_64 : ∀ (kf_ : Nat) (po : Option Nat) (ch : Nat), (τ.2.2.2 ch = true) → (τ.1 4 ch = po) → (q.2.2 ch = q.2.2 x) → ((HI - LO) - (q.2.2 ch - q.2.1 ch)).toNat < kf_ → V Y p l e R s m args below meth c 6 n u (tG t τ B) n u Q 64 [(4, va_rf po), (5, .ref ch), (0, .ref t), (2, .ref x)] [] := by
              intro kf_
              induction kf_ with
              | zero => intro po ch hch hpo hhi hk_; exact absurd hk_ (Nat.not_lt_zero _)
              | succ kf_ ih_b =>
                intro po ch hch hpo hhi hk_
                refine g_qaload hC dJ1_getHigherEntry_64 0 rfl ?_
                rcases h_66 : po with _ | pp
                · rw [h_66] at hpo
                  refine g_ifnullN (tgt := 93) hC dJ1_getHigherEntry_66 (by decide) ?_
                  refine g_aloadN hC dJ1_getHigherEntry_93 0 rfl ?_
                  refine g_aret (v := none) hC hr (by first | exact Or.inl ⟨_, rfl⟩ | exact Or.inr ⟨_, rfl⟩) ⟨_, rfl, ?_⟩ (by omega) (by omega) hE dJ1_getHigherEntry_95
                  exact ⟨fun a ha => Int.not_lt.mp (fun hl => by have h1 := hM.tw.upR hx h_44 ha (by omega); have h2 := hM.tw.ht ch (hM.tw.hn ch hch hpo); have h3 := hM.tw.h0 a ha; omega), rfl, rfl, rfl⟩
                · rw [h_66] at hpo
                  have hpp := hM.tw.hp ch pp hch hpo
                  refine g_ifnull hC dJ1_getHigherEntry_66 ?_
                  refine g_aload hC dJ1_getHigherEntry_69 1 rfl ?_
                  refine g_aload hC dJ1_getHigherEntry_71 0 rfl ?_
                  refine t_getN (τ := τ) (v := va_rf (τ.1 3 pp)) hC hT 3 (by decide) hpp.1 q1542 (congrArg (fun z => some (va_rf z)) rfl) dJ1_getHigherEntry_73 ?_
                  refine g_acmp_ne (rx := some ch) (ry := τ.1 3 pp) hC dJ1_getHigherEntry_76 (tgt := 93) (by decide) (fun c_76 => ?_) (fun c_76 => ?_)
                  · refine g_aload hC dJ1_getHigherEntry_93 0 rfl ?_
                    refine g_aret (v := some pp) hC hr (by first | exact Or.inl ⟨_, rfl⟩ | exact Or.inr ⟨_, rfl⟩) ⟨_, rfl, ?_⟩ (by omega) (by omega) hE dJ1_getHigherEntry_95
                    have hpl : τ.1 2 pp = some ch := hpp.2.resolve_right (fun e1 => c_76 e1.symm)
                    have h8 := hM.tw.hl pp ch hpp.1 hpl
                    exact ⟨⟨hpp.1, by omega, fun a ha hl => by have h1 := hM.tw.upR hx h_44 ha (by omega); omega⟩, rfl, rfl, rfl⟩
                  · refine g_aload hC dJ1_getHigherEntry_79 0 rfl ?_
                    refine g_astore (L' := [(5, .ref pp), (4, .ref pp), (0, .ref t), (2, .ref x)]) hC dJ1_getHigherEntry_81 (by decide) rfl ?_
                    refine g_aload hC dJ1_getHigherEntry_83 1 rfl ?_
                    refine t_getN (τ := τ) (v := va_rf (τ.1 4 pp)) hC hT 4 (by decide) hpp.1 q1544 (congrArg (fun z => some (va_rf z)) rfl) dJ1_getHigherEntry_85 ?_
                    refine g_qastore (L' := [(4, va_rf (τ.1 4 pp)), (5, .ref pp), (0, .ref t), (2, .ref x)]) hC dJ1_getHigherEntry_88 (by decide) rfl ?_
                    refine g_goto (tgt := 64) hC dJ1_getHigherEntry_90 (by decide) ?_
                    exact ih_b (τ.1 4 pp) pp (hpp.1) (rfl) (by have := hM.tw.hr pp ch hpp.1 c_76.symm; omega) (by have := hM.tw.up hch hpo; have := hM.tw.h0 pp hpp.1; omega)
            refine V.sub [1, 0, 4, 3] rfl ?_
            exact hl_64 (((HI - LO) - (q.2.2 x - q.2.1 x)).toNat + 1) (τ.1 4 x) x (hx) (rfl) (rfl) (by omega)
          · have hc := hM.tw.hr x x2 hx h_44
            refine g_ifnull hC dJ1_getHigherEntry_44 ?_
            refine g_aload_n hC dJ1_getHigherEntry_47 rfl 1 rfl ?_
            refine t_getN (τ := τ) (v := .ref x2) hC hT 3 (by decide) hx q1542 (congrArg (fun z => some (va_rf z)) h_44) dJ1_getHigherEntry_48 ?_
            refine g_astore_n (L' := [(2, .ref x2), (3, .int (cmpI x_ y_)), (0, .ref t), (1, .ref k_)]) hC dJ1_getHigherEntry_51 rfl (by decide) rfl ?_
            refine g_goto (tgt := 96) hC dJ1_getHigherEntry_52 (by decide) ?_
            refine g_goto (tgt := 5) hC dJ1_getHigherEntry_96 (by decide) ?_
            refine V.sub [0, 2, 3] rfl ?_
            exact ih_ x2 (hc.1) (by omega) (by omega) (by have := hM.tw.h0 _ hc.1; omega)
        · have hlt : X < q.1 x := (by have := cmpI_lt.mp (Int32.not_le.mp c_20); omega)
          refine g_aload_n hC dJ1_getHigherEntry_23 rfl 1 rfl ?_
          refine t_getN (τ := τ) (v := va_rf (τ.1 2 x)) hC hT 2 (by decide) hx q1539 (congrArg (fun z => some (va_rf z)) rfl) dJ1_getHigherEntry_24 ?_
          rcases h_27 : τ.1 2 x with _ | x2
          · refine g_ifnullN (tgt := 38) hC dJ1_getHigherEntry_27 (by decide) ?_
            refine g_aload_n hC dJ1_getHigherEntry_38 rfl 1 rfl ?_
            refine g_aret (v := some x) hC hr (by first | exact Or.inl ⟨_, rfl⟩ | exact Or.inr ⟨_, rfl⟩) ⟨_, rfl, ?_⟩ (by omega) (by omega) hE dJ1_getHigherEntry_39
            exact ⟨hM.tw.nxL hx h_27 hx1 hlt, rfl, rfl, rfl⟩
          · have hc := hM.tw.hl x x2 hx h_27
            refine g_ifnull hC dJ1_getHigherEntry_27 ?_
            refine g_aload_n hC dJ1_getHigherEntry_30 rfl 1 rfl ?_
            refine t_getN (τ := τ) (v := .ref x2) hC hT 2 (by decide) hx q1539 (congrArg (fun z => some (va_rf z)) h_27) dJ1_getHigherEntry_31 ?_
            refine g_astore_n (L' := [(2, .ref x2), (3, .int (cmpI x_ y_)), (0, .ref t), (1, .ref k_)]) hC dJ1_getHigherEntry_34 rfl (by decide) rfl ?_
            refine g_goto (tgt := 96) hC dJ1_getHigherEntry_35 (by decide) ?_
            refine g_goto (tgt := 5) hC dJ1_getHigherEntry_96 (by decide) ?_
            refine V.sub [0, 2, 3] rfl ?_
            exact ih_ x2 (hc.1) (by omega) (by omega) (by have := hM.tw.h0 _ hc.1; omega)
    exact hl_5 ((q.2.2 rt - q.2.1 rt).toNat + 1) rt (hrt.1) (by have := hrt.2; omega) (by have := hrt.2; omega) (by omega)
