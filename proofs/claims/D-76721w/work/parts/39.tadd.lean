set_option maxRecDepth 100000
/-! TREE MAPS, 9: an entry put in -/
def insT (τ : TS) (a k : Nat) (v : Option Nat) (x : Nat) : TS := tr (tr (tr (tc (tnew τ a) a true) 0 a (some k)) 1 a v) 4 a (some x)
def insQ (q : TQ) (a x : Nat) (X : Int) (b : Bool) : TQ := ((fun i => if i = a then X else q.1 i), (fun i => if i = a then (if b = true then q.2.1 x else q.1 x) else q.2.1 i), fun i => if i = a then (if b = true then q.1 x else q.2.2 x) else q.2.2 i)
theorem ins_L {τ : TS} {q : TQ} {LO HI X : Int} {a k x : Nat} {v : Option Nat} (h : TW τ q LO HI) (ha : τ.2.2.2 a = false) (hx : τ.2.2.2 x = true) (hl : τ.1 2 x = none) (h1 : q.2.1 x < X) (h2 : X < q.1 x) : TW (tr (insT τ a k v x) 2 x (some a)) (insQ q a x X true) LO HI := by
  obtain ⟨h0, hL, hR, hP, hn, ht⟩ := h
  have hax : x ≠ a := fun e => by rw [e, ha] at hx; cases hx
  have i0 := h0 x hx
  unfold TW insQ insT
  simp only [tr, tc, tnew]
  refine ⟨?_, ?_, ?_, ?_, ?_, ?_⟩ <;> grind
theorem ins_R {τ : TS} {q : TQ} {LO HI X : Int} {a k x : Nat} {v : Option Nat} (h : TW τ q LO HI) (ha : τ.2.2.2 a = false) (hx : τ.2.2.2 x = true) (hl : τ.1 3 x = none) (h1 : q.1 x < X) (h2 : X < q.2.2 x) : TW (tr (insT τ a k v x) 3 x (some a)) (insQ q a x X false) LO HI := by
  obtain ⟨h0, hL, hR, hP, hn, ht⟩ := h
  have hax : x ≠ a := fun e => by rw [e, ha] at hx; cases hx
  have i0 := h0 x hx
  unfold TW insQ insT
  simp only [tr, tc, tnew]
  refine ⟨?_, ?_, ?_, ?_, ?_, ?_⟩ <;> grind
theorem ins_5 {τ : TS} {a k x j : Nat} {v : Option Nat} (hj : j = 2 ∨ j = 3) : (tr (insT τ a k v x) j x (some a)).1 5 0 = τ.1 5 0 := by
  rw [tr_nk (by omega)]
  unfold insT
  rw [tr_nk (by omega), tr_nk (by omega), tr_nk (by omega)]
  exact tnew_h (by omega)
/-- what a put leaves as it was -/
abbrev TP (τ : TS) (q : TQ) (a k : Nat) (X : Int) (τ' : TS) (q' : TQ) : Prop :=
  (τ'.2.2.2 = fun b => b == a || τ.2.2.2 b) ∧
  (∀ j, 5 < j → τ'.1 j 0 = τ.1 j 0) ∧
  (∀ b, τ.2.2.2 b = true → q'.1 b = q.1 b ∧ τ'.1 0 b = τ.1 0 b) ∧
  (q'.1 a = X ∧ τ'.1 0 a = some k)
theorem TP.dom {τ : TS} {q : TQ} {a k : Nat} {X : Int} {τ' : TS} {q' : TQ} (h : TP τ q a k X τ' q') : τ'.2.2.2 = fun b => b == a || τ.2.2.2 b := h.1
theorem TP.hd {τ : TS} {q : TQ} {a k : Nat} {X : Int} {τ' : TS} {q' : TQ} (h : TP τ q a k X τ' q') : ∀ j, 5 < j → τ'.1 j 0 = τ.1 j 0 := h.2.1
theorem TP.rk {τ : TS} {q : TQ} {a k : Nat} {X : Int} {τ' : TS} {q' : TQ} (h : TP τ q a k X τ' q') : ∀ b, τ.2.2.2 b = true → q'.1 b = q.1 b ∧ τ'.1 0 b = τ.1 0 b := h.2.2.1
theorem TP.rn {τ : TS} {q : TQ} {a k : Nat} {X : Int} {τ' : TS} {q' : TQ} (h : TP τ q a k X τ' q') : q'.1 a = X ∧ τ'.1 0 a = some k := h.2.2.2
theorem ins_M {τ z : TS} {q q3 : TQ} {LO HI X : Int} {M : MP} {a k x j : Nat} {v : Option Nat} {b : Bool} {y : Int32} (h : TM τ q LO HI M) (ha : τ.2.2.2 a = false) (hj : j = 2 ∨ j = 3) (hF : FI (tr (insT τ a k v x) j x (some a)) (insQ q a x X b) LO HI z q3) (hX : ∀ e, e ∈ M → e.1 ≠ X) : TM (ti (ti z 0 (z.2.2.1 0 + 1)) 1 y) q3 LO HI (mput X k v M) ∧ TP τ q a k X (ti (ti z 0 (z.2.2.1 0 + 1)) 1 y) q3 := by
  obtain ⟨hW, hq, hK, hb⟩ := hF
  have hd : z.2.2 = (tr (insT τ a k v x) j x (some a)).2.2 := hK.k2
  have hS : z.2.2.2 = fun b => b == a || τ.2.2.2 b := by rw [hd]; rfl
  have hi : z.2.2.1 = τ.2.2.1 := by rw [hd]; rfl
  have hr : q3.1 = fun i => if i = a then X else q.1 i := hq
  have k0 : ∀ b, z.1 0 b = if b = a then some k else τ.1 0 b := fun b => by
    rw [hK.kr 0 b (by omega), tr_nk (by omega)]
    unfold insT
    rw [tr_nk (by omega), tr_nk (by omega)]
    by_cases e : b = a
    · subst e; rw [tr_hit, if_pos rfl]
    · rw [tr_na e, if_neg e]; exact tnew_na e
  have k1 : ∀ b, z.1 1 b = if b = a then v else τ.1 1 b := fun b => by
    rw [hK.kr 1 b (by omega), tr_nk (by omega)]
    unfold insT
    rw [tr_nk (by omega)]
    by_cases e : b = a
    · subst e; rw [tr_hit, if_pos rfl]
    · rw [tr_na e, if_neg e, tr_nk (by omega)]; exact tnew_na e
  refine ⟨⟨hW, hb, mput_so M hX h.so, fun x' k' v' => ?_, fun b hb2 => ?_, ?_⟩, ⟨hS, fun i hi2 => ?_, fun b hb2 => ?_, ?_⟩⟩
  · show (x', k', v') ∈ mput X k v M ↔ ∃ c, z.2.2.2 c = true ∧ q3.1 c = x' ∧ z.1 0 c = some k' ∧ z.1 1 c = v'
    rw [mput_mem M hX, h.mem]
    constructor
    · rintro (e | ⟨c, h1, h2, h3, h4⟩)
      · cases e
        exact ⟨a, by rw [hS]; simp, by rw [hr]; simp, by rw [k0]; simp, by rw [k1]; simp⟩
      · have hca : c ≠ a := fun e => by rw [e, ha] at h1; cases h1
        exact ⟨c, by rw [hS]; simp [h1], by rw [hr]; simp [hca, h2], by rw [k0]; simp [hca, h3], by rw [k1]; simp [hca, h4]⟩
    · rintro ⟨c, h1, h2, h3, h4⟩
      rw [hr] at h2
      rw [k0] at h3
      rw [k1] at h4
      by_cases e : c = a
      · subst e
        left
        simp at h2 h3 h4
        rw [h2, h3, h4]
      · right
        simp [e] at h2 h3 h4
        rw [hS] at h1
        simp [e] at h1
        exact ⟨c, h1, h2, h3, h4⟩
  · show ∃ k', z.1 0 b = some k'
    rw [k0]
    by_cases e : b = a
    · exact ⟨k, by simp [e]⟩
    · rw [if_neg e]
      refine h.ky b ?_
      have h1 : z.2.2.2 b = true := hb2
      rw [hS] at h1
      simpa [e] using h1
  · show (ti (ti z 0 (z.2.2.1 0 + 1)) 1 y).2.2.1 0 = _
    rw [ti_n (by decide), ti_hit, hi, h.sz, mput_len M hX]
    exact nI_add M.length 1
  · show z.1 i 0 = τ.1 i 0
    rw [hK.kr i 0 (by omega), tr_nk (by omega)]
    unfold insT
    rw [tr_nk (by omega), tr_nk (by omega), tr_nk (by omega)]
    exact tnew_h (by omega)
  · have hca : b ≠ a := fun e => by rw [e, ha] at hb2; cases hb2
    refine ⟨?_, ?_⟩
    · rw [hr]; simp [hca]
    · show z.1 0 b = _
      rw [k0, if_neg hca]
  · refine ⟨?_, ?_⟩
    · rw [hr]; simp
    · show z.1 0 a = _
      rw [k0]; simp
set_option maxHeartbeats 1000000 in
theorem met_J1_addEntry {Y : YT} {l : Launch} {t n u : Nat} {τ : TS} {B : AH} (hT : TQ_ Y t τ) (k_ : Nat) (v_ : Nat) (x_ : Nat) (b_ : Bool) {q : TQ} {LO HI : Int} {M : MP} (X : Int) (hM : TM τ q LO HI M) (hx : τ.2.2.2 x_ = true) (hbt : b_ = true → τ.1 2 x_ = none ∧ q.2.1 x_ < X ∧ X < q.1 x_) (hbf : b_ = false → τ.1 3 x_ = none ∧ q.1 x_ < X ∧ X < q.2.2 x_) (hX : ∀ e, e ∈ M → e.1 ≠ X) : GM Y l yJ1_addEntry (ws_ yJ1_addEntry cJ1_addEntry 6 none) 2 47 [.ref t, .ref k_, .ref v_, .ref x_, .int (b2i b_)] (tG t τ B) n u 1 6 (pV (fun G' n' u' => ∃ τ' q', TM τ' q' LO HI (mput X k_ (some v_) M) ∧ TP τ q n k_ X τ' q' ∧ tG t τ' B = G' ∧ n + 1 = n' ∧ u + 6 = u')) noX := by
  refine GM.intro (own := RJ1) rfl (by decide +kernel) (Nat.le_of_ble_eq_true rfl) ?_
  intro p e s m args below meth c R Q hC hr hnm hF hL hE
  have hE1 := hE.1
  have hE2 := hE.2.1
  show V Y p l e R s m args below meth c 6 n u (tG t τ B) n u Q 0 [(0, .ref t), (1, .ref k_), (2, .ref v_), (3, .ref x_), (4, .int (b2i b_))] []
  refine V.lt tG_h (fun htn => ?_)
  have hnt : n ≠ t := Nat.ne_of_gt htn
  have hnz : yz Y ≤ n := by have := hC.z; have := hC.n; omega
  rcases hSn : τ.2.2.2 n with _ | _
  case' true => refine V.lt (tG_n hSn hT.1) (fun hq => absurd hq (Nat.lt_irrefl _))
  have hxn : x_ ≠ n := fun e_ => by rw [e_, hSn] at hx; cases hx
  refine t_new (τ := τ) hC hnt q1521 q1522 q124 (by omega) (by omega) dJ1_addEntry_0 ?_
  refine g_dup hC dJ1_addEntry_3 rfl ?_
  refine g_aload_n hC dJ1_addEntry_4 rfl 1 rfl ?_
  refine g_aload_n hC dJ1_addEntry_5 rfl 2 rfl ?_
  refine g_aload_n hC dJ1_addEntry_6 rfl 3 rfl ?_
  refine g_callv0 hC (g_runI (ret := none) hC (met_J1_J23init (τ := (tnew τ n)) (tnew_T hT hnt hnz) n k_ v_ (some x_) tnew_S) (lw_meth q1525) q124 q1523 q1524 rfl md_J23_init dJ1_addEntry_7 rfl ⟨by omega, by omega⟩ (by omega) (by omega) rfl (Nat.le_of_ble_eq_true rfl)) (fun G_1 n_1 u_1 hp_1 hn_1 hm_1 hu_1 => ?_)
  obtain ⟨rfl, rfl, rfl⟩ := hp_1
  refine g_astore (L' := [(5, .ref n), (0, .ref t), (1, .ref k_), (2, .ref v_), (3, .ref x_), (4, .int (b2i b_))]) hC dJ1_addEntry_10 (by decide) rfl ?_
  refine g_iload hC dJ1_addEntry_12 5 rfl ?_
  refine g_if_eqB hC b_ dJ1_addEntry_14 (tgt := 26) (by decide) (fun c_14 => ?_) (fun c_14 => ?_)
  · have h14 := hbf c_14
    refine g_aload_n hC dJ1_addEntry_26 rfl 4 rfl ?_
    refine g_aload hC dJ1_addEntry_27 0 rfl ?_
    refine t_putN (τ := (tr (tr (tr (tc (tnew τ n) n true) 0 n (some k_)) 1 n (some v_)) 4 n (some x_))) hC (tnew_T hT hnt hnz) 3 (by decide) (some n) (tnew_in hx) q1542 dJ1_addEntry_29 ?_
    refine g_aload_n hC dJ1_addEntry_32 rfl 1 rfl ?_
    refine g_aload hC dJ1_addEntry_33 0 rfl ?_
    refine g_callv0 hC (g_runV hC (met_J1_fixAfterInsertion (τ := (tr (tr (tr (tr (tc (tnew τ n) n true) 0 n (some k_)) 1 n (some v_)) 4 n (some x_)) 3 x_ (some n))) (tnew_T hT hnt hnz) n (ins_R hM.tw hSn hx h14.1 h14.2.1 h14.2.2) (tnew_S) (fun r_ e_ hne => by have a1 := hM.rb r_ ((ins_5 (by omega)).symm.trans e_); show (tc (tnew τ n) n true).2.1 r_ = true; rw [tc_na hne, tnew_cna hne]; exact a1)) kc_J1 tG_h (lw_V q1564 q1566 qs7 q85 q1567) rfl md_J1_fixAfterInsertion dJ1_addEntry_35 rfl ⟨by omega, by omega⟩ (by omega) (by omega) rfl (Nat.le_of_ble_eq_true rfl)) (fun G_2 n_2 u_2 hp_2 hn_2 hm_2 hu_2 => ?_)
    obtain ⟨z, q3, hF, rfl, rfl, rfl⟩ := hp_2
    refine g_aload_n hC dJ1_addEntry_38 rfl 1 rfl ?_
    refine g_dup hC dJ1_addEntry_39 rfl ?_
    refine t_getH (v := .int (z.2.2.1 0)) hC 4 (by decide) q223 (congrArg (fun z => some (Value.int z)) rfl) dJ1_addEntry_40 ?_
    refine g_iconst (v := 1) hC dJ1_addEntry_43 rfl ?_
    refine g_iadd hC dJ1_addEntry_44 ?_
    refine t_putI (τ := z) hC (hF.2.2.1.T (tnew_T hT hnt hnz)) 0 (by decide) ((z.2.2.1 0) + 1) q223 dJ1_addEntry_45 ?_
    refine g_aload_n hC dJ1_addEntry_48 rfl 1 rfl ?_
    refine g_dup hC dJ1_addEntry_49 rfl ?_
    refine t_getH (v := .int (z.2.2.1 1)) hC 5 (by decide) q224 (congrArg (fun z => some (Value.int z)) (ti_n (by decide))) dJ1_addEntry_50 ?_
    refine g_iconst (v := 1) hC dJ1_addEntry_53 rfl ?_
    refine g_iadd hC dJ1_addEntry_54 ?_
    refine t_putI (τ := (ti z 0 ((z.2.2.1 0) + 1))) hC (hF.2.2.1.T (tnew_T hT hnt hnz)) 1 (by decide) ((z.2.2.1 1) + 1) q224 dJ1_addEntry_55 ?_
    refine g_vret hC hr ⟨rfl, ?_⟩ (by omega) (by omega) hE dJ1_addEntry_58
    obtain ⟨r1, r2⟩ := ins_M (y := z.2.2.1 1 + 1) hM hSn (by omega) hF hX
    exact ⟨(ti (ti z 0 ((z.2.2.1 0) + 1)) 1 ((z.2.2.1 1) + 1)), q3, r1, r2, rfl, rfl, rfl⟩
  · have h14 := hbt c_14
    refine g_aload_n hC dJ1_addEntry_17 rfl 4 rfl ?_
    refine g_aload hC dJ1_addEntry_18 0 rfl ?_
    refine t_putN (τ := (tr (tr (tr (tc (tnew τ n) n true) 0 n (some k_)) 1 n (some v_)) 4 n (some x_))) hC (tnew_T hT hnt hnz) 2 (by decide) (some n) (tnew_in hx) q1539 dJ1_addEntry_20 ?_
    refine g_goto (tgt := 32) hC dJ1_addEntry_23 (by decide) ?_
    refine g_aload_n hC dJ1_addEntry_32 rfl 1 rfl ?_
    refine g_aload hC dJ1_addEntry_33 0 rfl ?_
    refine g_callv0 hC (g_runV hC (met_J1_fixAfterInsertion (τ := (tr (tr (tr (tr (tc (tnew τ n) n true) 0 n (some k_)) 1 n (some v_)) 4 n (some x_)) 2 x_ (some n))) (tnew_T hT hnt hnz) n (ins_L hM.tw hSn hx h14.1 h14.2.1 h14.2.2) (tnew_S) (fun r_ e_ hne => by have a1 := hM.rb r_ ((ins_5 (by omega)).symm.trans e_); show (tc (tnew τ n) n true).2.1 r_ = true; rw [tc_na hne, tnew_cna hne]; exact a1)) kc_J1 tG_h (lw_V q1564 q1566 qs7 q85 q1567) rfl md_J1_fixAfterInsertion dJ1_addEntry_35 rfl ⟨by omega, by omega⟩ (by omega) (by omega) rfl (Nat.le_of_ble_eq_true rfl)) (fun G_3 n_3 u_3 hp_3 hn_3 hm_3 hu_3 => ?_)
    obtain ⟨z, q3, hF, rfl, rfl, rfl⟩ := hp_3
    refine g_aload_n hC dJ1_addEntry_38 rfl 1 rfl ?_
    refine g_dup hC dJ1_addEntry_39 rfl ?_
    refine t_getH (v := .int (z.2.2.1 0)) hC 4 (by decide) q223 (congrArg (fun z => some (Value.int z)) rfl) dJ1_addEntry_40 ?_
    refine g_iconst (v := 1) hC dJ1_addEntry_43 rfl ?_
    refine g_iadd hC dJ1_addEntry_44 ?_
    refine t_putI (τ := z) hC (hF.2.2.1.T (tnew_T hT hnt hnz)) 0 (by decide) ((z.2.2.1 0) + 1) q223 dJ1_addEntry_45 ?_
    refine g_aload_n hC dJ1_addEntry_48 rfl 1 rfl ?_
    refine g_dup hC dJ1_addEntry_49 rfl ?_
    refine t_getH (v := .int (z.2.2.1 1)) hC 5 (by decide) q224 (congrArg (fun z => some (Value.int z)) (ti_n (by decide))) dJ1_addEntry_50 ?_
    refine g_iconst (v := 1) hC dJ1_addEntry_53 rfl ?_
    refine g_iadd hC dJ1_addEntry_54 ?_
    refine t_putI (τ := (ti z 0 ((z.2.2.1 0) + 1))) hC (hF.2.2.1.T (tnew_T hT hnt hnz)) 1 (by decide) ((z.2.2.1 1) + 1) q224 dJ1_addEntry_55 ?_
    refine g_vret hC hr ⟨rfl, ?_⟩ (by omega) (by omega) hE dJ1_addEntry_58
    obtain ⟨r1, r2⟩ := ins_M (y := z.2.2.1 1 + 1) hM hSn (by omega) hF hX
    exact ⟨(ti (ti z 0 ((z.2.2.1 0) + 1)) 1 ((z.2.2.1 1) + 1)), q3, r1, r2, rfl, rfl, rfl⟩
set_option maxHeartbeats 1000000 in
theorem met_J1_addEntry0 {Y : YT} {l : Launch} {t n u : Nat} {τ : TS} {B : AH} (hT : TQ_ Y t τ) (k_ : Nat) (x_ : Nat) (b_ : Bool) {q : TQ} {LO HI : Int} {M : MP} (X : Int) (hM : TM τ q LO HI M) (hx : τ.2.2.2 x_ = true) (hbt : b_ = true → τ.1 2 x_ = none ∧ q.2.1 x_ < X ∧ X < q.1 x_) (hbf : b_ = false → τ.1 3 x_ = none ∧ q.1 x_ < X ∧ X < q.2.2 x_) (hX : ∀ e, e ∈ M → e.1 ≠ X) : GM Y l yJ1_addEntry (ws_ yJ1_addEntry cJ1_addEntry 6 none) 2 47 [.ref t, .ref k_, .null, .ref x_, .int (b2i b_)] (tG t τ B) n u 1 6 (pV (fun G' n' u' => ∃ τ' q', TM τ' q' LO HI (mput X k_ none M) ∧ TP τ q n k_ X τ' q' ∧ tG t τ' B = G' ∧ n + 1 = n' ∧ u + 6 = u')) noX := by
  refine GM.intro (own := RJ1) rfl (by decide +kernel) (Nat.le_of_ble_eq_true rfl) ?_
  intro p e s m args below meth c R Q hC hr hnm hF hL hE
  have hE1 := hE.1
  have hE2 := hE.2.1
  show V Y p l e R s m args below meth c 6 n u (tG t τ B) n u Q 0 [(0, .ref t), (1, .ref k_), (2, .null), (3, .ref x_), (4, .int (b2i b_))] []
  refine V.lt tG_h (fun htn => ?_)
  have hnt : n ≠ t := Nat.ne_of_gt htn
  have hnz : yz Y ≤ n := by have := hC.z; have := hC.n; omega
  rcases hSn : τ.2.2.2 n with _ | _
  case' true => refine V.lt (tG_n hSn hT.1) (fun hq => absurd hq (Nat.lt_irrefl _))
  have hxn : x_ ≠ n := fun e_ => by rw [e_, hSn] at hx; cases hx
  refine t_new (τ := τ) hC hnt q1521 q1522 q124 (by omega) (by omega) dJ1_addEntry_0 ?_
  refine g_dup hC dJ1_addEntry_3 rfl ?_
  refine g_aload_n hC dJ1_addEntry_4 rfl 1 rfl ?_
  refine g_aload_nN hC dJ1_addEntry_5 rfl 2 rfl ?_
  refine g_aload_n hC dJ1_addEntry_6 rfl 3 rfl ?_
  refine g_callv0 hC (g_runI (ret := none) hC (met_J1_J23init0 (τ := (tnew τ n)) (tnew_T hT hnt hnz) n k_  (some x_) tnew_S) (lw_meth q1525) q124 q1523 q1524 rfl md_J23_init dJ1_addEntry_7 rfl ⟨by omega, by omega⟩ (by omega) (by omega) rfl (Nat.le_of_ble_eq_true rfl)) (fun G_1 n_1 u_1 hp_1 hn_1 hm_1 hu_1 => ?_)
  obtain ⟨rfl, rfl, rfl⟩ := hp_1
  refine g_astore (L' := [(5, .ref n), (0, .ref t), (1, .ref k_), (2, .null), (3, .ref x_), (4, .int (b2i b_))]) hC dJ1_addEntry_10 (by decide) rfl ?_
  refine g_iload hC dJ1_addEntry_12 5 rfl ?_
  refine g_if_eqB hC b_ dJ1_addEntry_14 (tgt := 26) (by decide) (fun c_14 => ?_) (fun c_14 => ?_)
  · have h14 := hbf c_14
    refine g_aload_n hC dJ1_addEntry_26 rfl 4 rfl ?_
    refine g_aload hC dJ1_addEntry_27 0 rfl ?_
    refine t_putN (τ := (tr (tr (tr (tc (tnew τ n) n true) 0 n (some k_)) 1 n none) 4 n (some x_))) hC (tnew_T hT hnt hnz) 3 (by decide) (some n) (tnew_in hx) q1542 dJ1_addEntry_29 ?_
    refine g_aload_n hC dJ1_addEntry_32 rfl 1 rfl ?_
    refine g_aload hC dJ1_addEntry_33 0 rfl ?_
    refine g_callv0 hC (g_runV hC (met_J1_fixAfterInsertion (τ := (tr (tr (tr (tr (tc (tnew τ n) n true) 0 n (some k_)) 1 n none) 4 n (some x_)) 3 x_ (some n))) (tnew_T hT hnt hnz) n (ins_R hM.tw hSn hx h14.1 h14.2.1 h14.2.2) (tnew_S) (fun r_ e_ hne => by have a1 := hM.rb r_ ((ins_5 (by omega)).symm.trans e_); show (tc (tnew τ n) n true).2.1 r_ = true; rw [tc_na hne, tnew_cna hne]; exact a1)) kc_J1 tG_h (lw_V q1564 q1566 qs7 q85 q1567) rfl md_J1_fixAfterInsertion dJ1_addEntry_35 rfl ⟨by omega, by omega⟩ (by omega) (by omega) rfl (Nat.le_of_ble_eq_true rfl)) (fun G_2 n_2 u_2 hp_2 hn_2 hm_2 hu_2 => ?_)
    obtain ⟨z, q3, hF, rfl, rfl, rfl⟩ := hp_2
    refine g_aload_n hC dJ1_addEntry_38 rfl 1 rfl ?_
    refine g_dup hC dJ1_addEntry_39 rfl ?_
    refine t_getH (v := .int (z.2.2.1 0)) hC 4 (by decide) q223 (congrArg (fun z => some (Value.int z)) rfl) dJ1_addEntry_40 ?_
    refine g_iconst (v := 1) hC dJ1_addEntry_43 rfl ?_
    refine g_iadd hC dJ1_addEntry_44 ?_
    refine t_putI (τ := z) hC (hF.2.2.1.T (tnew_T hT hnt hnz)) 0 (by decide) ((z.2.2.1 0) + 1) q223 dJ1_addEntry_45 ?_
    refine g_aload_n hC dJ1_addEntry_48 rfl 1 rfl ?_
    refine g_dup hC dJ1_addEntry_49 rfl ?_
    refine t_getH (v := .int (z.2.2.1 1)) hC 5 (by decide) q224 (congrArg (fun z => some (Value.int z)) (ti_n (by decide))) dJ1_addEntry_50 ?_
    refine g_iconst (v := 1) hC dJ1_addEntry_53 rfl ?_
    refine g_iadd hC dJ1_addEntry_54 ?_
    refine t_putI (τ := (ti z 0 ((z.2.2.1 0) + 1))) hC (hF.2.2.1.T (tnew_T hT hnt hnz)) 1 (by decide) ((z.2.2.1 1) + 1) q224 dJ1_addEntry_55 ?_
    refine g_vret hC hr ⟨rfl, ?_⟩ (by omega) (by omega) hE dJ1_addEntry_58
    obtain ⟨r1, r2⟩ := ins_M (y := z.2.2.1 1 + 1) hM hSn (by omega) hF hX
    exact ⟨(ti (ti z 0 ((z.2.2.1 0) + 1)) 1 ((z.2.2.1 1) + 1)), q3, r1, r2, rfl, rfl, rfl⟩
  · have h14 := hbt c_14
    refine g_aload_n hC dJ1_addEntry_17 rfl 4 rfl ?_
    refine g_aload hC dJ1_addEntry_18 0 rfl ?_
    refine t_putN (τ := (tr (tr (tr (tc (tnew τ n) n true) 0 n (some k_)) 1 n none) 4 n (some x_))) hC (tnew_T hT hnt hnz) 2 (by decide) (some n) (tnew_in hx) q1539 dJ1_addEntry_20 ?_
    refine g_goto (tgt := 32) hC dJ1_addEntry_23 (by decide) ?_
    refine g_aload_n hC dJ1_addEntry_32 rfl 1 rfl ?_
    refine g_aload hC dJ1_addEntry_33 0 rfl ?_
    refine g_callv0 hC (g_runV hC (met_J1_fixAfterInsertion (τ := (tr (tr (tr (tr (tc (tnew τ n) n true) 0 n (some k_)) 1 n none) 4 n (some x_)) 2 x_ (some n))) (tnew_T hT hnt hnz) n (ins_L hM.tw hSn hx h14.1 h14.2.1 h14.2.2) (tnew_S) (fun r_ e_ hne => by have a1 := hM.rb r_ ((ins_5 (by omega)).symm.trans e_); show (tc (tnew τ n) n true).2.1 r_ = true; rw [tc_na hne, tnew_cna hne]; exact a1)) kc_J1 tG_h (lw_V q1564 q1566 qs7 q85 q1567) rfl md_J1_fixAfterInsertion dJ1_addEntry_35 rfl ⟨by omega, by omega⟩ (by omega) (by omega) rfl (Nat.le_of_ble_eq_true rfl)) (fun G_3 n_3 u_3 hp_3 hn_3 hm_3 hu_3 => ?_)
    obtain ⟨z, q3, hF, rfl, rfl, rfl⟩ := hp_3
    refine g_aload_n hC dJ1_addEntry_38 rfl 1 rfl ?_
    refine g_dup hC dJ1_addEntry_39 rfl ?_
    refine t_getH (v := .int (z.2.2.1 0)) hC 4 (by decide) q223 (congrArg (fun z => some (Value.int z)) rfl) dJ1_addEntry_40 ?_
    refine g_iconst (v := 1) hC dJ1_addEntry_43 rfl ?_
    refine g_iadd hC dJ1_addEntry_44 ?_
    refine t_putI (τ := z) hC (hF.2.2.1.T (tnew_T hT hnt hnz)) 0 (by decide) ((z.2.2.1 0) + 1) q223 dJ1_addEntry_45 ?_
    refine g_aload_n hC dJ1_addEntry_48 rfl 1 rfl ?_
    refine g_dup hC dJ1_addEntry_49 rfl ?_
    refine t_getH (v := .int (z.2.2.1 1)) hC 5 (by decide) q224 (congrArg (fun z => some (Value.int z)) (ti_n (by decide))) dJ1_addEntry_50 ?_
    refine g_iconst (v := 1) hC dJ1_addEntry_53 rfl ?_
    refine g_iadd hC dJ1_addEntry_54 ?_
    refine t_putI (τ := (ti z 0 ((z.2.2.1 0) + 1))) hC (hF.2.2.1.T (tnew_T hT hnt hnz)) 1 (by decide) ((z.2.2.1 1) + 1) q224 dJ1_addEntry_55 ?_
    refine g_vret hC hr ⟨rfl, ?_⟩ (by omega) (by omega) hE dJ1_addEntry_58
    obtain ⟨r1, r2⟩ := ins_M (y := z.2.2.1 1 + 1) hM hSn (by omega) hF hX
    exact ⟨(ti (ti z 0 ((z.2.2.1 0) + 1)) 1 ((z.2.2.1 1) + 1)), q3, r1, r2, rfl, rfl, rfl⟩
