set_option maxRecDepth 100000
/-! TREE MAPS, 22: hooks as keys, by the comparator -/
abbrev hMH (Y : YT) (h N : Nat) (σ : MS) (η : HV) : AH := hM Y h N σ η
set_option maxHeartbeats 1000000 in
theorem met_J1_compareH {Y : YT} {l : Launch} {t n u : Nat} {τ : TS} {B : AH} (hT : TQ_ Y t τ) (a_ : Nat) (b_ : Nat) {x y : Int} {cm h N K : Nat} {σ : MS} {η : HV} {I : AH} (hcm : τ.1 6 0 = some cm) (h0 : tG t τ B cm = some (.inr (27, [.ref h]))) (hh : sub (hMH Y h N σ η) (tG t τ B)) (hN : σ.1 0 0 = nI N) (hK : σ.1 4 0 = nI K) (hN2 : N ≤ 12) (hI : sub I (tG t τ B)) (h1 : KPh N σ I a_ x) (h2 : KPh N σ I b_ y) : GM Y l yJ1_compare (ws_ yJ1_compare cJ1_compare 3 (some FieldType.int)) 2 45 [.ref t, .ref a_, .ref b_] (tG t τ B) n u 0 0 (pI (fun r G' n' u' => (r < 0 ↔ x < y) ∧ (0 < r ↔ y < x) ∧ tG t τ B = G' ∧ n = n' ∧ u = u')) noX := by
  refine GM.intro (own := RJ1) rfl (by decide +kernel) (Nat.le_of_ble_eq_true rfl) ?_
  intro p e s m args below meth c R Q hC hr hnm hF hL hE
  have hE1 := hE.1
  have hE2 := hE.2.1
  show V Y p l e R s m args below meth c 3 n u (tG t τ B) n u Q 0 [(0, .ref t), (1, .ref a_), (2, .ref b_)] []
  refine g_aload_n hC dJ1_compare_0 rfl 0 rfl ?_
  refine t_getH (v := .ref cm) hC 2 (by decide) q220 (congrArg (fun z => some (va_rf z)) hcm) dJ1_compare_1 ?_
  refine g_ifnonnull (tgt := 20) hC dJ1_compare_4 (by decide) ?_
  refine g_aload_n hC dJ1_compare_20 rfl 0 rfl ?_
  refine t_getH (v := .ref cm) hC 2 (by decide) q220 (congrArg (fun z => some (va_rf z)) hcm) dJ1_compare_21 ?_
  refine g_aload_n hC dJ1_compare_24 rfl 1 rfl ?_
  refine g_aload_n hC dJ1_compare_25 rfl 2 rfl ?_
  refine g_calli0 hC (g_runF (n := 2) hC (met_X28_compare (G := (tG t τ B)) cm a_ b_ h0 hh hN hK hN2 hI (h1) (h2)) kc_X28 h0 (lw_F q999 q1003 q1005 q157 q1007) q1001 q1000 q1006 q1004 q1002 (x := ⟨"java/util/Comparator", "compare", "(Ljava/lang/Object;Ljava/lang/Object;)I"⟩) ⟨by decide, by decide, by decide +kernel⟩ dJ1_compare_26 rfl ⟨by omega, by omega⟩ (by omega) (by omega) rfl (Nat.le_of_ble_eq_true rfl)) (fun r_1 G_1 n_1 u_1 hp_1 hn_1 hm_1 hu_1 => ?_)
  obtain ⟨hs1, hs2, rfl, rfl, rfl⟩ := hp_1
  refine g_iret hC hr rfl ⟨_, rfl, ?_⟩ (by omega) (by omega) hE dJ1_compare_31
  exact ⟨hs1, hs2, rfl, rfl, rfl⟩
set_option maxHeartbeats 1000000 in
theorem met_J1_addEntryToEmptyMapH {Y : YT} {l : Launch} {t n u : Nat} {τ : TS} {B : AH} (hT : TQ_ Y t τ) (k_ : Nat) (v_ : Nat) {q : TQ} {LO HI : Int} {M : MP} {cm h N K : Nat} {σ : MS} {η : HV} {I : AH} (X : Int) (hM : TM τ q LO HI M) (hr0 : τ.1 5 0 = none) (h1X : LO < X) (h2X : X < HI) (hcm : τ.1 6 0 = some cm) (h0 : tG t τ B cm = some (.inr (27, [.ref h]))) (hh : sub (hMH Y h N σ η) (tG t τ B)) (hN : σ.1 0 0 = nI N) (hK : σ.1 4 0 = nI K) (hN2 : N ≤ 12) (hI : sub I (tG t τ B)) (hKk : KPh N σ I k_ X) : GM Y l yJ1_addEntryToEmptyMap (ws_ yJ1_addEntryToEmptyMap cJ1_addEntryToEmptyMap 3 none) 3 67 [.ref t, .ref k_, .ref v_] (tG t τ B) n u 1 6 (pV (fun G' n' u' => ∃ τ' q', TM τ' q' LO HI (mput X k_ (some v_) M) ∧ TP τ q n k_ X τ' q' ∧ tG t τ' B = G' ∧ n + 1 = n' ∧ u + 6 = u')) noX := by
  refine GM.intro (own := RJ1) rfl (by decide +kernel) (Nat.le_of_ble_eq_true rfl) ?_
  intro p e s m args below meth c R Q hC hr hnm hF hL hE
  have hE1 := hE.1
  have hE2 := hE.2.1
  show V Y p l e R s m args below meth c 3 n u (tG t τ B) n u Q 0 [(0, .ref t), (1, .ref k_), (2, .ref v_)] []
  refine V.lt tG_h (fun htn => ?_)
  have hnt : n ≠ t := Nat.ne_of_gt htn
  have hnz : yz Y ≤ n := by have := hC.z; have := hC.n; omega
  rcases hSn : τ.2.2.2 n with _ | _
  case' true => refine V.lt (tG_n hSn hT.1) (fun hq => absurd hq (Nat.lt_irrefl _))
  
  refine g_aload_n hC dJ1_addEntryToEmptyMap_0 rfl 0 rfl ?_
  refine g_aload_n hC dJ1_addEntryToEmptyMap_1 rfl 1 rfl ?_
  refine g_aload_n hC dJ1_addEntryToEmptyMap_2 rfl 1 rfl ?_
  refine g_calli0 hC (g_runV hC (met_J1_compareH (τ := τ) hT k_ k_ hcm h0 hh hN hK hN2 hI hKk hKk) kc_J1 tG_h (lw_V q1517 q1518 q1519 q85 q1520) rfl md_J1_compare dJ1_addEntryToEmptyMap_3 rfl ⟨by omega, by omega⟩ (by omega) (by omega) rfl (Nat.le_of_ble_eq_true rfl)) (fun r_1 G_1 n_1 u_1 hp_1 hn_1 hm_1 hu_1 => ?_)
  obtain ⟨hs1, hs2, rfl, rfl, rfl⟩ := hp_1
  refine g_pop hC dJ1_addEntryToEmptyMap_6 rfl ?_
  refine g_aload_n hC dJ1_addEntryToEmptyMap_7 rfl 0 rfl ?_
  refine t_new (τ := τ) hC hnt q1521 q1522 q124 (by omega) (by omega) dJ1_addEntryToEmptyMap_8 ?_
  refine g_dup hC dJ1_addEntryToEmptyMap_11 rfl ?_
  refine g_aload_n hC dJ1_addEntryToEmptyMap_12 rfl 1 rfl ?_
  refine g_aload_n hC dJ1_addEntryToEmptyMap_13 rfl 2 rfl ?_
  refine g_null hC dJ1_addEntryToEmptyMap_14 ?_
  refine g_callv0 hC (g_runI (ret := none) hC (met_J1_J23init (τ := (tnew τ n)) (tnew_T hT hnt hnz) n k_ v_ (none) tnew_S) (lw_meth q1525) q124 q1523 q1524 rfl md_J23_init dJ1_addEntryToEmptyMap_15 rfl ⟨by omega, by omega⟩ (by omega) (by omega) rfl (Nat.le_of_ble_eq_true rfl)) (fun G_2 n_2 u_2 hp_2 hn_2 hm_2 hu_2 => ?_)
  obtain ⟨rfl, rfl, rfl⟩ := hp_2
  refine t_putR (τ := (tr (tr (tr (tc (tnew τ n) n true) 0 n (some k_)) 1 n (some v_)) 4 n none)) hC (tnew_T hT hnt hnz) 5 (by decide) (some n) q222 dJ1_addEntryToEmptyMap_18 ?_
  refine g_aload_n hC dJ1_addEntryToEmptyMap_21 rfl 0 rfl ?_
  refine g_iconst (v := 1) hC dJ1_addEntryToEmptyMap_22 rfl ?_
  refine t_putI (τ := (tr (tr (tr (tr (tc (tnew τ n) n true) 0 n (some k_)) 1 n (some v_)) 4 n none) 5 0 (some n))) hC (tnew_T hT hnt hnz) 0 (by decide) 1 q223 dJ1_addEntryToEmptyMap_23 ?_
  refine g_aload_n hC dJ1_addEntryToEmptyMap_26 rfl 0 rfl ?_
  refine g_dup hC dJ1_addEntryToEmptyMap_27 rfl ?_
  refine t_getH (v := .int (τ.2.2.1 1)) hC 5 (by decide) q224 (congrArg (fun z => some (Value.int z)) (ti_n (by decide))) dJ1_addEntryToEmptyMap_28 ?_
  refine g_iconst (v := 1) hC dJ1_addEntryToEmptyMap_31 rfl ?_
  refine g_iadd hC dJ1_addEntryToEmptyMap_32 ?_
  refine t_putI (τ := (ti (tr (tr (tr (tr (tc (tnew τ n) n true) 0 n (some k_)) 1 n (some v_)) 4 n none) 5 0 (some n)) 0 1)) hC (tnew_T hT hnt hnz) 1 (by decide) ((τ.2.2.1 1) + 1) q224 dJ1_addEntryToEmptyMap_33 ?_
  refine g_vret hC hr ⟨rfl, ?_⟩ (by omega) (by omega) hE dJ1_addEntryToEmptyMap_36
  obtain ⟨r1, r2⟩ := ins_0 (a := n) (k := k_) (v := some v_) (y := τ.2.2.1 1 + 1) hM hr0 h1X h2X
  exact ⟨(ti (ti (tr (tr (tr (tr (tc (tnew τ n) n true) 0 n (some k_)) 1 n (some v_)) 4 n none) 5 0 (some n)) 0 1) 1 ((τ.2.2.1 1) + 1)), _, r1, r2, rfl, rfl, rfl⟩
set_option maxHeartbeats 4000000 in
theorem met_J1_put_2H {Y : YT} {l : Launch} {t n u : Nat} {τ : TS} {B : AH} (hT : TQ_ Y t τ) (k_ : Nat) (v_ : Nat) {q : TQ} {LO HI : Int} {M : MP} {cm h N K : Nat} {σ : MS} {η : HV} {I : AH} (X : Int) (hM : TM τ q LO HI M) (hX : ∀ e, e ∈ M → e.1 ≠ X) (h1X : LO < X) (h2X : X < HI) (hcm : τ.1 6 0 = some cm) (h0 : tG t τ B cm = some (.inr (27, [.ref h]))) (hh : sub (hMH Y h N σ η) (tG t τ B)) (hN : σ.1 0 0 = nI N) (hK : σ.1 4 0 = nI K) (hN2 : N ≤ 12) (hI : sub I (tG t τ B)) (hKk : KPh N σ I k_ X) (hKO : ∀ a k, τ.2.2.2 a = true → τ.1 0 a = some k → KPh N σ I k (q.1 a)) : GM Y l yJ1_put_2 (ws_ yJ1_put_2 cJ1_put_2 10 (some (FieldType.object "java/lang/Object"))) 4 89 [.ref t, .ref k_, .ref v_, .int 1] (tG t τ B) n u 1 6 (pQ (fun r G' n' u' => none = r ∧ ∃ τ' q', TM τ' q' LO HI (mput X k_ (some v_) M) ∧ TP τ q n k_ X τ' q' ∧ tG t τ' B = G' ∧ n + 1 = n' ∧ u + 6 = u')) noX := by
  refine GM.intro (own := RJ1) rfl (by decide +kernel) (Nat.le_of_ble_eq_true rfl) ?_
  intro p e s m args below meth c R Q hC hr hnm hF hL hE
  have hE1 := hE.1
  have hE2 := hE.2.1
  show V Y p l e R s m args below meth c 10 n u (tG t τ B) n u Q 0 [(0, .ref t), (1, .ref k_), (2, .ref v_), (3, .int 1)] []
  refine g_aload_n hC dJ1_put_2_0 rfl 0 rfl ?_
  refine t_getH (v := va_rf (τ.1 5 0)) hC 3 (by decide) q222 (congrArg (fun z => some (va_rf z)) rfl) dJ1_put_2_1 ?_
  refine g_qastore (L' := [(4, va_rf (τ.1 5 0)), (0, .ref t), (1, .ref k_), (2, .ref v_), (3, .int 1)]) hC dJ1_put_2_4 (by decide) rfl ?_
  refine g_qaload hC dJ1_put_2_6 0 rfl ?_
  rcases h_8 : τ.1 5 0 with _ | rt
  · refine g_ifnonnullN hC dJ1_put_2_8 ?_
    refine g_aload_n hC dJ1_put_2_11 rfl 1 rfl ?_
    refine g_aload_n hC dJ1_put_2_12 rfl 2 rfl ?_
    refine g_aload_n hC dJ1_put_2_13 rfl 3 rfl ?_
    refine g_callv0 hC (g_runV hC (met_J1_addEntryToEmptyMapH (τ := τ) hT k_ v_ X hM h_8 h1X h2X hcm h0 hh hN hK hN2 hI hKk) kc_J1 tG_h (lw_V q1513 q1515 qs5 q85 q1516) rfl md_J1_addEntryToEmptyMap dJ1_put_2_14 rfl ⟨by omega, by omega⟩ (by omega) (by omega) rfl (Nat.le_of_ble_eq_true rfl)) (fun G_1 n_1 u_1 hp_1 hn_1 hm_1 hu_1 => ?_)
    obtain ⟨z, q3, r1, r2, rfl, rfl, rfl⟩ := hp_1
    refine g_null hC dJ1_put_2_17 ?_
    refine g_aret (v := none) hC hr (by first | exact Or.inl ⟨_, rfl⟩ | exact Or.inr ⟨_, rfl⟩) ⟨_, rfl, ?_⟩ (by omega) (by omega) hE dJ1_put_2_18
    exact ⟨rfl, z, q3, r1, r2, rfl, rfl, rfl⟩
  · have hrt := hM.tw.ht rt h_8
    refine g_ifnonnull (tgt := 19) hC dJ1_put_2_8 (by decide) ?_
    refine g_aload_n hC dJ1_put_2_19 rfl 1 rfl ?_
    refine t_getH (v := .ref cm) hC 2 (by decide) q220 (congrArg (fun z => some (va_rf z)) hcm) dJ1_put_2_20 ?_
    refine g_astore (L' := [(7, .ref cm), (4, .ref rt), (0, .ref t), (1, .ref k_), (2, .ref v_), (3, .int 1)]) hC dJ1_put_2_23 (by decide) rfl ?_
    refine g_aload hC dJ1_put_2_25 0 rfl ?_
    refine g_ifnull hC dJ1_put_2_27 ?_
    have hl_30 : ∀ (kf_ : Nat) (x : Nat), (τ.2.2.2 x = true) → (q.2.1 x < X) → (X < q.2.2 x) → (q.2.2 x - q.2.1 x).toNat < kf_ → V Y p l e R s m args below meth c 10 n u (tG t τ B) n u Q 30 [(4, .ref x), (0, .ref t), (1, .ref k_), (2, .ref v_), (3, .int 1), (7, .ref cm)] [] := by
      intro kf_
      induction kf_ with
      | zero => intro x hx hx1 hx2 hk_; exact absurd hk_ (Nat.not_lt_zero _)
      | succ kf_ ih_ =>
        intro x hx hx1 hx2 hk_
        obtain ⟨kk, hkk⟩ := hM.ky x hx
        
        have hne := hM.nomem hx hX
        have hx0 := hM.tw.h0 x hx
        refine g_aload hC dJ1_put_2_30 0 rfl ?_
        refine g_astore (L' := [(6, .ref x), (4, .ref x), (0, .ref t), (1, .ref k_), (2, .ref v_), (3, .int 1), (7, .ref cm)]) hC dJ1_put_2_32 (by decide) rfl ?_
        refine g_aload hC dJ1_put_2_34 6 rfl ?_
        refine g_aload_n hC dJ1_put_2_36 rfl 3 rfl ?_
        refine g_aload hC dJ1_put_2_37 1 rfl ?_
        refine t_getN (τ := τ) (v := .ref kk) hC hT 0 (by decide) hx q1534 (congrArg (fun z => some (va_rf z)) hkk) dJ1_put_2_39 ?_
        refine g_calli0 hC (g_runF (n := 2) hC (met_X28_compare (G := (tG t τ B)) cm k_ kk h0 hh hN hK hN2 hI (hKk) (hKO x kk hx hkk)) kc_X28 h0 (lw_F q999 q1003 q1005 q157 q1007) q1001 q1000 q1006 q1004 q1002 (x := ⟨"java/util/Comparator", "compare", "(Ljava/lang/Object;Ljava/lang/Object;)I"⟩) ⟨by decide, by decide, by decide +kernel⟩ dJ1_put_2_42 rfl ⟨by omega, by omega⟩ (by omega) (by omega) rfl (Nat.le_of_ble_eq_true rfl)) (fun r_2 G_2 n_2 u_2 hp_2 hn_2 hm_2 hu_2 => ?_)
        obtain ⟨hs1, hs2, rfl, rfl, rfl⟩ := hp_2
        refine g_istore (L' := [(5, .int r_2), (6, .ref x), (4, .ref x), (0, .ref t), (1, .ref k_), (2, .ref v_), (3, .int 1), (7, .ref cm)]) hC dJ1_put_2_47 (by decide) rfl ?_
        refine g_iload hC dJ1_put_2_49 0 rfl ?_
        refine g_if_ge hC dJ1_put_2_51 (tgt := 64) (by decide) (fun c_51 => ?_) (fun c_51 => ?_)
        · refine g_iload hC dJ1_put_2_64 0 rfl ?_
          refine g_if_le hC dJ1_put_2_66 (tgt := 79) (by decide) (fun c_66 => ?_) (fun c_66 => ?_)
          · exact absurd (show q.1 x = X from by have h8 := (not_congr hs1).mp (Int32.not_lt.mpr c_51); have h9 := (not_congr hs2).mp (Int32.not_lt.mpr c_66); omega) hne
          · refine g_aload hC dJ1_put_2_69 2 rfl ?_
            refine t_getN (τ := τ) (v := va_rf (τ.1 3 x)) hC hT 3 (by decide) hx q1542 (congrArg (fun z => some (va_rf z)) rfl) dJ1_put_2_71 ?_
            refine g_qastore (L' := [(4, va_rf (τ.1 3 x)), (5, .int r_2), (6, .ref x), (0, .ref t), (1, .ref k_), (2, .ref v_), (3, .int 1), (7, .ref cm)]) hC dJ1_put_2_74 (by decide) rfl ?_
            refine g_goto (tgt := 104) hC dJ1_put_2_76 (by decide) ?_
            refine g_qaload hC dJ1_put_2_104 0 rfl ?_
            rcases h_106 : τ.1 3 x with _ | x2
            · refine g_ifnonnullN hC dJ1_put_2_106 ?_
              refine g_goto (tgt := 201) hC dJ1_put_2_109 (by decide) ?_
              refine g_aload_n hC dJ1_put_2_201 rfl 3 rfl ?_
              refine g_aload_n hC dJ1_put_2_202 rfl 4 rfl ?_
              refine g_aload_n hC dJ1_put_2_203 rfl 5 rfl ?_
              refine g_aload hC dJ1_put_2_204 2 rfl ?_
              refine g_iload hC dJ1_put_2_206 1 rfl ?_
              refine g_if_ge hC dJ1_put_2_208 (tgt := 215) (by decide) (fun c_208 => ?_) (fun c_208 => ?_)
              · refine g_iconst (v := 0) hC dJ1_put_2_215 rfl ?_
                refine g_callv0 hC (g_runV hC (met_J1_addEntry (τ := τ) hT k_ v_ x false X hM hx (fun e_ => Bool.noConfusion e_) (fun _ => ⟨h_106, (hs2.mp (Int32.not_le.mp c_66)), hx2⟩) hX) kc_J1 tG_h (lw_V q1560 q1562 qs6 q85 q1563) rfl md_J1_addEntry dJ1_put_2_216 rfl ⟨by omega, by omega⟩ (by omega) (by omega) rfl (Nat.le_of_ble_eq_true rfl)) (fun G_3 n_3 u_3 hp_3 hn_3 hm_3 hu_3 => ?_)
                obtain ⟨z, q3, r1, r2, rfl, rfl, rfl⟩ := hp_3
                refine g_null hC dJ1_put_2_219 ?_
                refine g_aret (v := none) hC hr (by first | exact Or.inl ⟨_, rfl⟩ | exact Or.inr ⟨_, rfl⟩) ⟨_, rfl, ?_⟩ (by omega) (by omega) hE dJ1_put_2_220
                exact ⟨rfl, z, q3, r1, r2, rfl, rfl, rfl⟩
              · first | exact absurd c_208 (Int32.not_le.mpr c_51) | exact absurd (Int32.not_lt.mp c_51) c_208 | exact absurd c_51 c_208 | exact absurd c_208 c_51
            · have hc := hM.tw.hr x x2 hx h_106
              have hlt : q.1 x < X := (hs2.mp (Int32.not_le.mp c_66))
              refine g_ifnonnull (tgt := 30) hC dJ1_put_2_106 (by decide) ?_
              refine V.sub [0, 3, 4, 5, 6, 7] rfl ?_
              exact ih_ x2 (hc.1) (by omega) (by omega) (by have := hM.tw.h0 _ hc.1; omega)
        · refine g_aload hC dJ1_put_2_54 2 rfl ?_
          refine t_getN (τ := τ) (v := va_rf (τ.1 2 x)) hC hT 2 (by decide) hx q1539 (congrArg (fun z => some (va_rf z)) rfl) dJ1_put_2_56 ?_
          refine g_qastore (L' := [(4, va_rf (τ.1 2 x)), (5, .int r_2), (6, .ref x), (0, .ref t), (1, .ref k_), (2, .ref v_), (3, .int 1), (7, .ref cm)]) hC dJ1_put_2_59 (by decide) rfl ?_
          refine g_goto (tgt := 104) hC dJ1_put_2_61 (by decide) ?_
          refine g_qaload hC dJ1_put_2_104 0 rfl ?_
          rcases h_106 : τ.1 2 x with _ | x2
          · refine g_ifnonnullN hC dJ1_put_2_106 ?_
            refine g_goto (tgt := 201) hC dJ1_put_2_109 (by decide) ?_
            refine g_aload_n hC dJ1_put_2_201 rfl 3 rfl ?_
            refine g_aload_n hC dJ1_put_2_202 rfl 4 rfl ?_
            refine g_aload_n hC dJ1_put_2_203 rfl 5 rfl ?_
            refine g_aload hC dJ1_put_2_204 2 rfl ?_
            refine g_iload hC dJ1_put_2_206 1 rfl ?_
            refine g_if_ge hC dJ1_put_2_208 (tgt := 215) (by decide) (fun c_208 => ?_) (fun c_208 => ?_)
            · first | exact absurd c_208 (Int32.not_le.mpr c_51) | exact absurd (Int32.not_lt.mp c_51) c_208 | exact absurd c_51 c_208 | exact absurd c_208 c_51
            · refine g_iconst (v := 1) hC dJ1_put_2_211 rfl ?_
              refine g_goto (tgt := 216) hC dJ1_put_2_212 (by decide) ?_
              refine g_callv0 hC (g_runV hC (met_J1_addEntry (τ := τ) hT k_ v_ x true X hM hx (fun _ => ⟨h_106, hx1, (hs1.mp (Int32.not_le.mp c_51))⟩) (fun e_ => Bool.noConfusion e_) hX) kc_J1 tG_h (lw_V q1560 q1562 qs6 q85 q1563) rfl md_J1_addEntry dJ1_put_2_216 rfl ⟨by omega, by omega⟩ (by omega) (by omega) rfl (Nat.le_of_ble_eq_true rfl)) (fun G_4 n_4 u_4 hp_4 hn_4 hm_4 hu_4 => ?_)
              obtain ⟨z, q3, r1, r2, rfl, rfl, rfl⟩ := hp_4
              refine g_null hC dJ1_put_2_219 ?_
              refine g_aret (v := none) hC hr (by first | exact Or.inl ⟨_, rfl⟩ | exact Or.inr ⟨_, rfl⟩) ⟨_, rfl, ?_⟩ (by omega) (by omega) hE dJ1_put_2_220
              exact ⟨rfl, z, q3, r1, r2, rfl, rfl, rfl⟩
          · have hc := hM.tw.hl x x2 hx h_106
            have hlt : X < q.1 x := (hs1.mp (Int32.not_le.mp c_51))
            refine g_ifnonnull (tgt := 30) hC dJ1_put_2_106 (by decide) ?_
            refine V.sub [0, 3, 4, 5, 6, 7] rfl ?_
            exact ih_ x2 (hc.1) (by omega) (by omega) (by have := hM.tw.h0 _ hc.1; omega)
    refine V.sub [1, 2, 3, 4, 5, 0] rfl ?_
    exact hl_30 ((q.2.2 rt - q.2.1 rt).toNat + 1) rt (hrt.1) (by have := hrt.2; omega) (by have := hrt.2; omega) (by omega)
set_option maxHeartbeats 1000000 in
theorem met_J1_putH {Y : YT} {l : Launch} {t n u : Nat} {τ : TS} {B : AH} (hT : TQ_ Y t τ) (k_ : Nat) (v_ : Nat) {q : TQ} {LO HI : Int} {M : MP} {cm h N K : Nat} {σ : MS} {η : HV} {I : AH} (X : Int) (hM : TM τ q LO HI M) (hX : ∀ e, e ∈ M → e.1 ≠ X) (h1X : LO < X) (h2X : X < HI) (hcm : τ.1 6 0 = some cm) (h0 : tG t τ B cm = some (.inr (27, [.ref h]))) (hh : sub (hMH Y h N σ η) (tG t τ B)) (hN : σ.1 0 0 = nI N) (hK : σ.1 4 0 = nI K) (hN2 : N ≤ 12) (hI : sub I (tG t τ B)) (hKk : KPh N σ I k_ X) (hKO : ∀ a k, τ.2.2.2 a = true → τ.1 0 a = some k → KPh N σ I k (q.1 a)) : GM Y l yJ1_put (ws_ yJ1_put cJ1_put 3 (some (FieldType.object "java/lang/Object"))) 5 118 [.ref t, .ref k_, .ref v_] (tG t τ B) n u 1 6 (pQ (fun r G' n' u' => none = r ∧ ∃ τ' q', TM τ' q' LO HI (mput X k_ (some v_) M) ∧ TP τ q n k_ X τ' q' ∧ tG t τ' B = G' ∧ n + 1 = n' ∧ u + 6 = u')) noX := by
  refine GM.intro (own := RJ1) rfl (by decide +kernel) (Nat.le_of_ble_eq_true rfl) ?_
  intro p e s m args below meth c R Q hC hr hnm hF hL hE
  have hE1 := hE.1
  have hE2 := hE.2.1
  show V Y p l e R s m args below meth c 3 n u (tG t τ B) n u Q 0 [(0, .ref t), (1, .ref k_), (2, .ref v_)] []
  refine g_aload_n hC dJ1_put_0 rfl 0 rfl ?_
  refine g_aload_n hC dJ1_put_1 rfl 1 rfl ?_
  refine g_aload_n hC dJ1_put_2 rfl 2 rfl ?_
  refine g_iconst (v := 1) hC dJ1_put_3 rfl ?_
  refine g_callq0 hC (g_runV hC (met_J1_put_2H (τ := τ) hT k_ v_ X hM hX h1X h2X hcm h0 hh hN hK hN2 hI hKk hKO) kc_J1 tG_h (lw_V q1509 q1511 qs4 q85 q1512) rfl md_J1_put_2 dJ1_put_4 rfl ⟨by omega, by omega⟩ (by omega) (by omega) rfl (Nat.le_of_ble_eq_true rfl)) (fun r_1 G_1 n_1 u_1 hp_1 hn_1 hm_1 hu_1 => ?_)
  obtain ⟨rfl, z, q3, r1, r2, rfl, rfl, rfl⟩ := hp_1
  refine g_aret (v := none) hC hr (by first | exact Or.inl ⟨_, rfl⟩ | exact Or.inr ⟨_, rfl⟩) ⟨_, rfl, ?_⟩ (by omega) (by omega) hE dJ1_put_7
  exact ⟨rfl, z, q3, r1, r2, rfl, rfl, rfl⟩
set_option maxHeartbeats 1000000 in
theorem met_J35_addH {Y : YT} {l : Launch} {t n u : Nat} {τ : TS} {B : AH} (hT : TQ_ Y t τ) (i_ : Nat) (k_ : Nat) {q : TQ} {LO HI : Int} {M : MP} {cm h N K : Nat} {σ : MS} {η : HV} {I : AH} (X : Int) (hM : TM τ q LO HI M) (hX : ∀ e, e ∈ M → e.1 ≠ X) (h1X : LO < X) (h2X : X < HI) (hcm : τ.1 6 0 = some cm) (h0 : tG t τ B cm = some (.inr (27, [.ref h]))) (hh : sub (hMH Y h N σ η) (tG t τ B)) (hN : σ.1 0 0 = nI N) (hK : σ.1 4 0 = nI K) (hN2 : N ≤ 12) (hI : sub I (tG t τ B)) (hKk : KPh N σ I k_ X) (hKO : ∀ a k, τ.2.2.2 a = true → τ.1 0 a = some k → KPh N σ I k (q.1 a)) (h1 : B i_ = some (.inr (47, [.ref t]))) (ho : i_ ≠ t ∧ τ.2.2.2 i_ = false) : GM Y l yJ35_add (ws_ yJ35_add cJ35_add 2 (some FieldType.boolean)) 6 140 [.ref i_, .ref k_] (tG t τ B) n u 1 6 (pI (fun r G' n' u' => 1 = r ∧ ∃ pv τ' q', TM τ' q' LO HI (mput X k_ (some pv) M) ∧ TP τ q n k_ X τ' q' ∧ tG t τ' B = G' ∧ n + 1 = n' ∧ u + 6 = u')) noX := by
  refine GM.intro (own := RJ35) rfl (by decide +kernel) (Nat.le_of_ble_eq_true rfl) ?_
  intro p e s m args below meth c R Q hC hr hnm hF hL hE
  have hE1 := hE.1
  have hE2 := hE.2.1
  show V Y p l e R s m args below meth c 2 n u (tG t τ B) n u Q 0 [(0, .ref i_), (1, .ref k_)] []
  refine g_aload_n hC dJ35_add_0 rfl 0 rfl ?_
  refine g_get (v := .ref t) hC kc_J35 ((tG_b (τ := τ) ho.1 ho.2).trans h1) 0 (by decide) q2488 rfl dJ35_add_1 ?_
  refine g_aload_n hC dJ35_add_4 rfl 1 rfl ?_
  obtain ⟨sa_PRESENT, hZ_PRESENT, hlt_PRESENT⟩ := hC.K.stX q2497 q143 sn_PRESENT
  refine g_gets (v := .ref sa_PRESENT) hC hZ_PRESENT q2496 dJ35_add_5 ?_
  refine g_callq0 hC (g_runFI (n := 2) (owner := "java/util/Map") (x := ⟨"java/util/NavigableMap", "put", "(Ljava/lang/Object;Ljava/lang/Object;)Ljava/lang/Object;"⟩) hC (met_J1_putH (τ := τ) (B := B) hT k_ sa_PRESENT X hM hX h1X h2X hcm h0 hh hN hK hN2 hI hKk hKO) kc_J1 tG_h nw_l69 nw_f69 q2501 q1506 q85 q1508 q2500 q2503 q2502 q2338 ⟨by decide, by decide, by decide +kernel⟩ dJ35_add_8 rfl ⟨by omega, by omega⟩ (by omega) (by omega) rfl (Nat.le_of_ble_eq_true rfl)) (fun r_1 G_1 n_1 u_1 hp_1 hn_1 hm_1 hu_1 => ?_)
  obtain ⟨rfl, z, q3, r1, r2, rfl, rfl, rfl⟩ := hp_1
  refine g_ifnonnullN hC dJ35_add_13 ?_
  refine g_iconst (v := 1) hC dJ35_add_16 rfl ?_
  refine g_goto (tgt := 21) hC dJ35_add_17 (by decide) ?_
  refine g_iret hC hr rfl ⟨_, rfl, ?_⟩ (by omega) (by omega) hE dJ35_add_21
  exact ⟨rfl, sa_PRESENT, z, q3, r1, r2, rfl, rfl, rfl⟩
