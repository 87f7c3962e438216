set_option maxRecDepth 100000
/-! COMPONENT, 7: what the comparators answer, by ranks -/
/-- a plug-in, by strength (the strongest first) and name -/
def KPs (Y : YT) (I : AH) (a : Nat) (x : Int) : Prop := ∃ (kd : Nat) (ix : Int32) (nm : Nat) (rk nd of_ : Int32) (X : Int), kd ≤ 4 ∧ I a = some (.inr (11 + kd, [.int ix, .ref nm, .int rk, .int nd, .int of_])) ∧ KS Y I nm X ∧ (0 ≤ (strV kd rk of_).toInt ∧ (strV kd rk of_).toInt < 1000) ∧ (0 ≤ X ∧ X < 1000000) ∧ x = -(strV kd rk of_).toInt * 1000000 + X
/-- a box of a plug-in's number, by age (the youngest first) -/
def KPy (N : Nat) (σ : MS) (I : AH) (a : Nat) (x : Int) : Prop := ∃ q, q < N ∧ I a = some (.inr (40, [.int (nI q)])) ∧ (0 ≤ (tl σ 7 q).toInt ∧ (tl σ 7 q).toInt < 100000000) ∧ x = -(tl σ 7 q).toInt
/-- a hook, by priority (the highest first), its plug-in's age, its number -/
def KPh (N : Nat) (σ : MS) (I : AH) (a : Nat) (x : Int) : Prop := ∃ (q pl : Nat) (pt pr fu k : Int32), q < 1000 ∧ pl < N ∧ I a = some (.inr (26, [.int (nI q), .int (nI pl), .int pt, .int pr, .int fu, .int k])) ∧ (-1000 ≤ pr.toInt ∧ pr.toInt ≤ 1000) ∧ (0 ≤ (tl σ 7 pl).toInt ∧ (tl σ 7 pl).toInt < 100000000) ∧ x = -pr.toInt * 1000000000000 + (tl σ 7 pl).toInt * 1000 + q
theorem difI {u v : Int32} (h : -1000000000 ≤ v.toInt - u.toInt ∧ v.toInt - u.toInt ≤ 1000000000) : (v - u < 0 ↔ v.toInt < u.toInt) ∧ (0 < v - u ↔ u.toInt < v.toInt) ∧ (v - u = 0 ↔ u.toInt = v.toInt) := by
  have e : (v - u).toInt = v.toInt - u.toInt := by
    rw [Int32.toInt_sub]
    exact Int.bmod_eq_of_le (by omega) (by omega)
  refine ⟨?_, ?_, ?_⟩
  · rw [Int32.lt_iff_toInt_lt, e]; show _ < (0 : Int) ↔ _; omega
  · rw [Int32.lt_iff_toInt_lt, e]; show (0 : Int) < _ ↔ _; omega
  · rw [← Int32.toInt_inj, e]; show _ = (0 : Int) ↔ _; omega
theorem cS_ne {u v : Int32} {X X' x y : Int} (hu : 0 ≤ u.toInt ∧ u.toInt < 1000) (hv : 0 ≤ v.toInt ∧ v.toInt < 1000) (hX : 0 ≤ X ∧ X < 1000000) (hX' : 0 ≤ X' ∧ X' < 1000000) (hx : x = -u.toInt * 1000000 + X) (hy : y = -v.toInt * 1000000 + X') (hne : ¬ u = v) : (v - u < 0 ↔ x < y) ∧ (0 < v - u ↔ y < x) := by
  have h := difI (u := u) (v := v) (by omega)
  have hn : u.toInt ≠ v.toInt := fun e => hne (Int32.toInt_inj.mp e)
  rw [h.1, h.2.1]
  omega
theorem cS_eq {u v : Int32} {X X' x y : Int} {r : Int32} (hx : x = -u.toInt * 1000000 + X) (hy : y = -v.toInt * 1000000 + X') (he : u = v) (h1 : r < 0 ↔ X < X') (h2 : 0 < r ↔ X' < X) : (r < 0 ↔ x < y) ∧ (0 < r ↔ y < x) := by
  subst he
  rw [h1, h2]
  omega
theorem cH_1 {u v : Int32} {a b x y : Int} (hu : -1000 ≤ u.toInt ∧ u.toInt ≤ 1000) (hv : -1000 ≤ v.toInt ∧ v.toInt ≤ 1000) (ha : 0 ≤ a ∧ a < 1000000000000) (hb : 0 ≤ b ∧ b < 1000000000000) (hx : x = -u.toInt * 1000000000000 + a) (hy : y = -v.toInt * 1000000000000 + b) (hne : ¬ u = v) : (v - u < 0 ↔ x < y) ∧ (0 < v - u ↔ y < x) := by
  have h := difI (u := u) (v := v) (by omega)
  have hn : u.toInt ≠ v.toInt := fun e => hne (Int32.toInt_inj.mp e)
  rw [h.1, h.2.1]
  omega
theorem met_J8_cmpS {Y : YT} {l : Launch} {n u : Nat} {G : AH} (a b : Nat) (x y : Int) (h1 : KS Y G a x) (h2 : KS Y G b y) : GM Y l yJ8_compareTo (ws_ yJ8_compareTo cJ8_compareTo 5 (some FieldType.int)) 3 71 [.ref a, .ref b] G n u 0 0 (pI (fun r G' n' u' => (r < 0 ↔ x < y) ∧ (0 < r ↔ y < x) ∧ G = G' ∧ n = n' ∧ u = u')) noX := by
  obtain ⟨va, N1, f, d, x1, x2, a1, a2, a3, a4, a5, a6⟩ := h1
  obtain ⟨vb, N2, g, e, y1, y2, b1, b2, b3, b4, b5, b6⟩ := h2
  have hs := strC_ok ⟨a3, a4⟩ ⟨b3, b4⟩ a5 b5
  refine (met_J8_compareTo a b a1 a2 b1 b2 (by omega) (by omega)).weaken (Nat.le_refl _) (Nat.le_refl _) (fun v G' n' u' hp => ?_) (fun _ _ _ _ _ h => h)
  obtain ⟨r, e1, e2, e3⟩ := hp
  refine ⟨r, e1, ?_, ?_, e3⟩
  · rw [← e2, hs.1, a6, b6]; omega
  · rw [← e2, hs.2, a6, b6]; omega
theorem KS.subs {Y : YT} {I G : AH} (hs : sub I G) {k : Nat} {x : Int} (h : KS Y I k x) : KS Y G k x := by
  obtain ⟨va, N, f, d, x1, x2, h1, h2, h3⟩ := h
  exact ⟨va, N, f, d, x1, x2, hs _ _ h1, hs _ _ h2, h3⟩
set_option maxHeartbeats 1000000 in
theorem met_X12_compareTo {Y : YT} {l : Launch} {n u : Nat} {G : AH} (a : Nat) (b : Nat) {I : AH} {kda kdb : Nat} {ixa ixb : Int32} {nma nmb : Nat} {rka nda ofa rkb ndb ofb : Int32} {Xa Xb : Int} (hI : sub I G) (hka : kda ≤ 4) (hia : I a = some (.inr (11 + kda, [.int ixa, .ref nma, .int rka, .int nda, .int ofa]))) (hna : KS Y I nma Xa) (hkb : kdb ≤ 4) (hib : I b = some (.inr (11 + kdb, [.int ixb, .ref nmb, .int rkb, .int ndb, .int ofb]))) (hnb : KS Y I nmb Xb) : GM Y l yX12_compareTo (ws_ yX12_compareTo cX12_compareTo 2 (some FieldType.int)) 4 95 [.ref a, .ref b] G n u 0 0 (pI (fun r G' n' u' => (r < 0 ↔ Xa < Xb) ∧ (0 < r ↔ Xb < Xa) ∧ G = G' ∧ n = n' ∧ u = u')) noX := by
  refine GM.intro (own := RX12) rfl (by decide +kernel) (Nat.le_of_ble_eq_true rfl) ?_
  intro p e s m args below meth c R Q hC hr hnm hF hL hE
  have hE1 := hE.1
  have hE2 := hE.2.1
  have hnz : yz Y ≤ n := by have := hC.z; have := hC.n; omega
  show V Y p l e R s m args below meth c 2 n u G n u Q 0 [(0, .ref a), (1, .ref b)] []
  refine V.lts (fun hlt => ?_)
  have hIn := sub_none hI hlt
  refine g_aload_n hC dX12_compareTo_0 rfl 0 rfl ?_
  refine g_getP (v := .ref nma) hC hka (hI _ _ hia) 1 (by decide) q1420 rfl dX12_compareTo_1 ?_
  refine g_aload_n hC dX12_compareTo_4 rfl 1 rfl ?_
  refine g_getP (v := .ref nmb) hC hkb (hI _ _ hib) 1 (by decide) q1420 rfl dX12_compareTo_5 ?_
  obtain ⟨vaX, NX_, fX, dX, x1X, x2X, hoX, _⟩ := hna.subs hI
  refine g_calli0 hC (g_runV hC (met_J8_cmpS nma nmb Xa Xb (hna.subs hI) (hnb.subs hI)) kc_J8 hoX (lw_V q1043 q1044 q1045 q95 q1046) rfl md_J8_compareTo dX12_compareTo_8 rfl ⟨by omega, by omega⟩ (by omega) (by omega) rfl (Nat.le_of_ble_eq_true rfl)) (fun r_1 G_1 n_1 u_1 hp_1 hn_1 hm_1 hu_1 => ?_)
  obtain ⟨hr1, hr2, rfl, rfl, rfl⟩ := hp_1
  refine g_iret hC hr rfl ⟨_, rfl, ?_⟩ (by omega) (by omega) hE dX12_compareTo_11
  exact ⟨hr1, hr2, rfl, rfl, rfl⟩
section PLC
variable {Y : YT} {p : Program} {l : Launch} {e : Env} {R : Room} {s : State} {m : MethodId} {args : Array Value} {below : List Frame} {meth : Method} {c : Code} {nL n0 u0 : Nat} {G : AH} {nn uu : Nat} {Q : State → Prop} {pc : Nat} {L : List (Nat × Value)} {rest : List Value} {cc : ByteArray} {own : String} {hh : List (Nat × Nat × Nat × Nat)}
theorem g_plCmp {I : AH} {kda kdb a b index : Nat} {ixa ixb : Int32} {nma nmb : Nat} {rka nda ofa rkb ndb ofb : Int32} {Xa Xb : Int} (hC : CX Y p s m args meth c cc nL own hh n0 u0) (hI : sub I G) (hka : kda ≤ 4) (hia : I a = some (.inr (11 + kda, [.int ixa, .ref nma, .int rka, .int nda, .int ofa]))) (hna : KS Y I nma Xa) (hkb : kdb ≤ 4) (hib : I b = some (.inr (11 + kdb, [.int ixb, .ref nmb, .int rkb, .int ndb, .int ofb]))) (hnb : KS Y I nmb Xb) (hlink : Cond.methodLink own index ⟨"PluginChains$Plain", "compareTo", "(LPluginChains$Plain;)I"⟩ ∈ lw_all) (hdg : decode cc pc = .ok (.invokevirtual index, 3)) (hR : 4 + 1 ≤ R.frames ∧ 8 + (2 + 11) + 95 ≤ R.locals) (hrc : nn + 0 ≤ n0 + R.cells) (hru : uu + 0 ≤ u0 + R.slots) (hW : (rest.map fun v => v.category).sum ≤ 8) :
    GRun Y p l e R s m args below meth c nL n0 u0 G nn uu pc 3 L (.ref b :: .ref a :: rest) rest 0 0 (pI (fun r G' n' u' => (r < 0 ↔ Xa < Xb) ∧ (0 < r ↔ Xb < Xa) ∧ G = G' ∧ nn = n' ∧ uu = u')) noX := by
  rcases kda with _ | _ | _ | _ | _ | kd
  · exact g_runV hC (met_X12_compareTo a b hI hka hia hna hkb hib hnb) kc_X12 (hI _ _ hia) (lw_V hlink q1035 q1036 q118 q1042) rfl md_X12_compareTo hdg rfl (by omega) (by omega) (by omega) rfl hW
  · exact g_runO (n := 1) (owner := "PluginChains$Plain") (x := ⟨"PluginChains$Plain", "compareTo", "(LPluginChains$Plain;)I"⟩) hC (met_X12_compareTo a b hI hka hia hna hkb hib hnb) kc_X13 (hI _ _ hia) (lw_O hlink q1037 q1035 q1038 q1035 q118 q1042) q1042 ⟨by decide, by decide, by decide +kernel⟩ hdg rfl (by omega) (by omega) (by omega) rfl hW
  · exact g_runO (n := 1) (owner := "PluginChains$Plain") (x := ⟨"PluginChains$Plain", "compareTo", "(LPluginChains$Plain;)I"⟩) hC (met_X12_compareTo a b hI hka hia hna hkb hib hnb) kc_X14 (hI _ _ hia) (lw_O hlink q1037 q1035 q1041 q1035 q118 q1042) q1042 ⟨by decide, by decide, by decide +kernel⟩ hdg rfl (by omega) (by omega) (by omega) rfl hW
  · exact g_runO (n := 1) (owner := "PluginChains$Plain") (x := ⟨"PluginChains$Plain", "compareTo", "(LPluginChains$Plain;)I"⟩) hC (met_X12_compareTo a b hI hka hia hna hkb hib hnb) kc_X15 (hI _ _ hia) (lw_O hlink q1037 q1035 q1039 q1035 q118 q1042) q1042 ⟨by decide, by decide, by decide +kernel⟩ hdg rfl (by omega) (by omega) (by omega) rfl hW
  · exact g_runO (n := 1) (owner := "PluginChains$Plain") (x := ⟨"PluginChains$Plain", "compareTo", "(LPluginChains$Plain;)I"⟩) hC (met_X12_compareTo a b hI hka hia hna hkb hib hnb) kc_X16 (hI _ _ hia) (lw_O hlink q1037 q1035 q1040 q1035 q118 q1042) q1042 ⟨by decide, by decide, by decide +kernel⟩ hdg rfl (by omega) (by omega) (by omega) rfl hW
  · omega
end PLC
set_option maxHeartbeats 1000000 in
theorem met_X23_compare_2 {Y : YT} {l : Launch} {n u : Nat} {G : AH} (a_ : Nat) (b : Nat) (c_ : Nat) {I : AH} {x y : Int} (hI : sub I G) (h1b : KPs Y I b x) (h1c_ : KPs Y I c_ y) : GM Y l yX23_compare_2 (ws_ yX23_compare_2 cX23_compare_2 3 (some FieldType.int)) 5 116 [.ref a_, .ref b, .ref c_] G n u 0 0 (pI (fun r G' n' u' => (r < 0 ↔ x < y) ∧ (0 < r ↔ y < x) ∧ G = G' ∧ n = n' ∧ u = u')) noX := by
  refine GM.intro (own := RX23) rfl (by decide +kernel) (Nat.le_of_ble_eq_true rfl) ?_
  intro p e s m args below meth c R Q hC hr hnm hF hL hE
  have hE1 := hE.1
  have hE2 := hE.2.1
  have hnz : yz Y ≤ n := by have := hC.z; have := hC.n; omega
  show V Y p l e R s m args below meth c 3 n u G n u Q 0 [(0, .ref a_), (1, .ref b), (2, .ref c_)] []
  refine V.lts (fun hlt => ?_)
  have hIn := sub_none hI hlt
  have h1b_ := h1b
  obtain ⟨kdb, ixb, nmb, rkb, ndb, ofb, Xb, hkb, hib, hnb, hsb, hbb, hxb⟩ := h1b_
  have h1c__ := h1c_
  obtain ⟨kdc_, ixc_, nmc_, rkc_, ndc_, ofc_, Xc_, hkc_, hic_, hnc_, hsc_, hbc_, hxc_⟩ := h1c__
  refine g_aload_n hC dX23_compare_2_0 rfl 1 rfl ?_
  refine V.lts (fun lc_1 => ?_)
  refine g_calli0 hC (g_plStr hC hkb (hI _ _ hib) q1024 dX23_compare_2_1 ⟨by omega, by omega⟩ (by omega) (by omega) (Nat.le_of_ble_eq_true rfl)) (fun r_2 G_2 n_2 u_2 hp_2 hn_2 hm_2 hu_2 => ?_)
  obtain ⟨rfl, rfl, rfl, rfl⟩ := hp_2
  refine g_aload_n hC dX23_compare_2_4 rfl 2 rfl ?_
  refine V.lts (fun lc_3 => ?_)
  refine g_calli0 hC (g_plStr hC hkc_ (hI _ _ hic_) q1024 dX23_compare_2_5 ⟨by omega, by omega⟩ (by omega) (by omega) (Nat.le_of_ble_eq_true rfl)) (fun r_4 G_4 n_4 u_4 hp_4 hn_4 hm_4 hu_4 => ?_)
  obtain ⟨rfl, rfl, rfl, rfl⟩ := hp_4
  refine g_icmp_eq hC dX23_compare_2_8 (tgt := 23) (by decide) (fun c_8 => ?_) (fun c_8 => ?_)
  · refine g_aload_n hC dX23_compare_2_23 rfl 1 rfl ?_
    refine g_aload_n hC dX23_compare_2_24 rfl 2 rfl ?_
    refine g_calli0 hC (g_plCmp hC hI hkb hib hnb hkc_ hic_ hnc_ q1034 dX23_compare_2_25 ⟨by omega, by omega⟩ (by omega) (by omega) (Nat.le_of_ble_eq_true rfl)) (fun r_5 G_5 n_5 u_5 hp_5 hn_5 hm_5 hu_5 => ?_)
    obtain ⟨hr1, hr2, rfl, rfl, rfl⟩ := hp_5
    refine g_iret hC hr rfl ⟨_, rfl, ?_⟩ (by omega) (by omega) hE dX23_compare_2_28
    obtain ⟨e1, e2⟩ := cS_eq hxb hxc_ c_8 hr1 hr2
    exact ⟨e1, e2, rfl, rfl, rfl⟩
  · refine g_aload_n hC dX23_compare_2_11 rfl 2 rfl ?_
    refine V.lts (fun lc_6 => ?_)
    refine g_calli0 hC (g_plStr hC hkc_ (hI _ _ hic_) q1024 dX23_compare_2_12 ⟨by omega, by omega⟩ (by omega) (by omega) (Nat.le_of_ble_eq_true rfl)) (fun r_7 G_7 n_7 u_7 hp_7 hn_7 hm_7 hu_7 => ?_)
    obtain ⟨rfl, rfl, rfl, rfl⟩ := hp_7
    refine g_aload_n hC dX23_compare_2_15 rfl 1 rfl ?_
    refine V.lts (fun lc_8 => ?_)
    refine g_calli0 hC (g_plStr hC hkb (hI _ _ hib) q1024 dX23_compare_2_16 ⟨by omega, by omega⟩ (by omega) (by omega) (Nat.le_of_ble_eq_true rfl)) (fun r_9 G_9 n_9 u_9 hp_9 hn_9 hm_9 hu_9 => ?_)
    obtain ⟨rfl, rfl, rfl, rfl⟩ := hp_9
    refine g_isub hC dX23_compare_2_19 ?_
    refine g_goto (tgt := 28) hC dX23_compare_2_20 (by decide) ?_
    refine g_iret hC hr rfl ⟨_, rfl, ?_⟩ (by omega) (by omega) hE dX23_compare_2_28
    obtain ⟨e1, e2⟩ := cS_ne hsb hsc_ hbb hbc_ hxb hxc_ c_8
    exact ⟨e1, e2, rfl, rfl, rfl⟩
set_option maxHeartbeats 1000000 in
theorem met_X23_compare {Y : YT} {l : Launch} {n u : Nat} {G : AH} (a_ : Nat) (b : Nat) (c_ : Nat) {I : AH} {x y : Int} (h0 : G a_ = some (.inr (22, []))) (hI : sub I G) (h1b : KPs Y I b x) (h1c_ : KPs Y I c_ y) : GM Y l yX23_compare (ws_ yX23_compare cX23_compare 3 (some FieldType.int)) 6 138 [.ref a_, .ref b, .ref c_] G n u 0 0 (pI (fun r G' n' u' => (r < 0 ↔ x < y) ∧ (0 < r ↔ y < x) ∧ G = G' ∧ n = n' ∧ u = u')) noX := by
  refine GM.intro (own := RX23) rfl (by decide +kernel) (Nat.le_of_ble_eq_true rfl) ?_
  intro p e s m args below meth c R Q hC hr hnm hF hL hE
  have hE1 := hE.1
  have hE2 := hE.2.1
  have hnz : yz Y ≤ n := by have := hC.z; have := hC.n; omega
  show V Y p l e R s m args below meth c 3 n u G n u Q 0 [(0, .ref a_), (1, .ref b), (2, .ref c_)] []
  refine V.lts (fun hlt => ?_)
  have hl_a_ : a_ < n := hlt _ _ h0
  have hIn := sub_none hI hlt
  have h1b_ := h1b
  obtain ⟨kdb, ixb, nmb, rkb, ndb, ofb, Xb, hkb, hib, hnb, hsb, hbb, hxb⟩ := h1b_
  have h1c__ := h1c_
  obtain ⟨kdc_, ixc_, nmc_, rkc_, ndc_, ofc_, Xc_, hkc_, hic_, hnc_, hsc_, hbc_, hxc_⟩ := h1c__
  refine g_aload_n hC dX23_compare_0 rfl 0 rfl ?_
  refine g_aload_n hC dX23_compare_1 rfl 1 rfl ?_
  refine g_castP hC hkb (hI _ _ hib) q1019 dX23_compare_2 ?_
  refine g_aload_n hC dX23_compare_5 rfl 2 rfl ?_
  refine g_castP hC hkc_ (hI _ _ hic_) q1019 dX23_compare_6 ?_
  refine V.lts (fun lc_1 => ?_)
  refine g_calli0 hC (g_runV hC (met_X23_compare_2 (G := G) a_ b c_ hI h1b h1c_) kc_X23 h0 (lw_V q1020 q1021 q1022 q134 q1023) rfl md_X23_compare_2 dX23_compare_9 rfl ⟨by omega, by omega⟩ (by omega) (by omega) rfl (Nat.le_of_ble_eq_true rfl)) (fun r_2 G_2 n_2 u_2 hp_2 hn_2 hm_2 hu_2 => ?_)
  obtain ⟨hr1_2, hr2_2, rfl, rfl, rfl⟩ := hp_2
  refine g_iret hC hr rfl ⟨_, rfl, ?_⟩ (by omega) (by omega) hE dX23_compare_12
  exact ⟨hr1_2, hr2_2, rfl, rfl, rfl⟩
set_option maxHeartbeats 1000000 in
theorem met_X24_compare_2 {Y : YT} {l : Launch} {n u : Nat} {G : AH} (a_ : Nat) (b : Nat) (c_ : Nat) {h N K : Nat} {σ : MS} {η : HV} {I : AH} {x y : Int} (h0 : G a_ = some (.inr (23, [.ref h]))) (hh : sub (hM Y h N σ η) G) (hN : σ.1 0 0 = nI N) (hK : σ.1 4 0 = nI K) (hN2 : N ≤ 12) (hI : sub I G) (h1b : KPy N σ I b x) (h1c_ : KPy N σ I c_ y) : GM Y l yX24_compare_2 (ws_ yX24_compare_2 cX24_compare_2 3 (some FieldType.int)) 1 20 [.ref a_, .ref b, .ref c_] G n u 0 0 (pI (fun r G' n' u' => (r < 0 ↔ x < y) ∧ (0 < r ↔ y < x) ∧ G = G' ∧ n = n' ∧ u = u')) noX := by
  refine GM.intro (own := RX24) rfl (by decide +kernel) (Nat.le_of_ble_eq_true rfl) ?_
  intro p e s m args below meth c R Q hC hr hnm hF hL hE
  have hE1 := hE.1
  have hE2 := hE.2.1
  have hnz : yz Y ≤ n := by have := hC.z; have := hC.n; omega
  show V Y p l e R s m args below meth c 3 n u G n u Q 0 [(0, .ref a_), (1, .ref b), (2, .ref c_)] []
  refine V.lts (fun hlt => ?_)
  have hl_a_ : a_ < n := hlt _ _ h0
  have hl_h : h + 6 < n := hlt _ _ (hh _ _ (hM_j 6))
  have hIn := sub_none hI hlt
  obtain ⟨qb, hqb, hib, hsb, hxb⟩ := h1b
  obtain ⟨qc_, hqc_, hic_, hsc_, hxc_⟩ := h1c_
  refine g_aload_n hC dX24_compare_2_0 rfl 0 rfl ?_
  refine g_get (v := .ref h) hC kc_X24 h0 0 (by decide) q2965 rfl dX24_compare_2_1 ?_
  refine g_get (v := .ref (h + 5)) hC kc_X2 (hh _ _ (hM_0 hN hK)) 8 (by decide) q276 rfl dX24_compare_2_4 ?_
  refine g_aload_n hC dX24_compare_2_7 rfl 2 rfl ?_
  refine V.lts (fun lc_1 => ?_)
  refine g_calli0 hC (g_runV hC (met_J12_intValue (G := G) c_ (hI _ _ hic_)) kc_J12 (hI _ _ hic_) (lw_V q1194 q1195 q1196 q106 q1197) rfl md_J12_intValue dX24_compare_2_8 rfl ⟨by omega, by omega⟩ (by omega) (by omega) rfl (Nat.le_of_ble_eq_true rfl)) (fun r_2 G_2 n_2 u_2 hp_2 hn_2 hm_2 hu_2 => ?_)
  obtain ⟨rfl, rfl, rfl, rfl⟩ := hp_2
  refine g_iald hC (hh _ _ (hM_j 5)) (vin (by omega) (by omega)) dX24_compare_2_11 ?_
  rw [show (nI qc_).toNatClampNeg = qc_ from nI_clamp (by omega)]
  rw [hA_in (by omega)]
  refine g_aload_n hC dX24_compare_2_12 rfl 0 rfl ?_
  refine g_get (v := .ref h) hC kc_X24 h0 0 (by decide) q2965 rfl dX24_compare_2_13 ?_
  refine g_get (v := .ref (h + 5)) hC kc_X2 (hh _ _ (hM_0 hN hK)) 8 (by decide) q276 rfl dX24_compare_2_16 ?_
  refine g_aload_n hC dX24_compare_2_19 rfl 1 rfl ?_
  refine V.lts (fun lc_3 => ?_)
  refine g_calli0 hC (g_runV hC (met_J12_intValue (G := G) b (hI _ _ hib)) kc_J12 (hI _ _ hib) (lw_V q1194 q1195 q1196 q106 q1197) rfl md_J12_intValue dX24_compare_2_20 rfl ⟨by omega, by omega⟩ (by omega) (by omega) rfl (Nat.le_of_ble_eq_true rfl)) (fun r_4 G_4 n_4 u_4 hp_4 hn_4 hm_4 hu_4 => ?_)
  obtain ⟨rfl, rfl, rfl, rfl⟩ := hp_4
  refine g_iald hC (hh _ _ (hM_j 5)) (vin (by omega) (by omega)) dX24_compare_2_23 ?_
  rw [show (nI qb).toNatClampNeg = qb from nI_clamp (by omega)]
  rw [hA_in (by omega)]
  refine g_isub hC dX24_compare_2_24 ?_
  refine g_iret hC hr rfl ⟨_, rfl, ?_⟩ (by omega) (by omega) hE dX24_compare_2_25
  have hd := difI (u := tl σ 7 qb) (v := tl σ 7 qc_) (by omega)
  exact ⟨by rw [hd.1]; omega, by rw [hd.2.1]; omega, rfl, rfl, rfl⟩
set_option maxHeartbeats 1000000 in
theorem met_X24_compare {Y : YT} {l : Launch} {n u : Nat} {G : AH} (a_ : Nat) (b : Nat) (c_ : Nat) {h N K : Nat} {σ : MS} {η : HV} {I : AH} {x y : Int} (h0 : G a_ = some (.inr (23, [.ref h]))) (hh : sub (hM Y h N σ η) G) (hN : σ.1 0 0 = nI N) (hK : σ.1 4 0 = nI K) (hN2 : N ≤ 12) (hI : sub I G) (h1b : KPy N σ I b x) (h1c_ : KPy N σ I c_ y) : GM Y l yX24_compare (ws_ yX24_compare cX24_compare 3 (some FieldType.int)) 2 42 [.ref a_, .ref b, .ref c_] G n u 0 0 (pI (fun r G' n' u' => (r < 0 ↔ x < y) ∧ (0 < r ↔ y < x) ∧ G = G' ∧ n = n' ∧ u = u')) noX := by
  refine GM.intro (own := RX24) rfl (by decide +kernel) (Nat.le_of_ble_eq_true rfl) ?_
  intro p e s m args below meth c R Q hC hr hnm hF hL hE
  have hE1 := hE.1
  have hE2 := hE.2.1
  have hnz : yz Y ≤ n := by have := hC.z; have := hC.n; omega
  show V Y p l e R s m args below meth c 3 n u G n u Q 0 [(0, .ref a_), (1, .ref b), (2, .ref c_)] []
  refine V.lts (fun hlt => ?_)
  have hl_a_ : a_ < n := hlt _ _ h0
  have hl_h : h + 6 < n := hlt _ _ (hh _ _ (hM_j 6))
  have hIn := sub_none hI hlt
  have h1b_ := h1b
  obtain ⟨qb, hqb, hib, hsb, hxb⟩ := h1b_
  have h1c__ := h1c_
  obtain ⟨qc_, hqc_, hic_, hsc_, hxc_⟩ := h1c__
  refine g_aload_n hC dX24_compare_0 rfl 0 rfl ?_
  refine g_aload_n hC dX24_compare_1 rfl 1 rfl ?_
  refine g_castS hC kc_J12 (hI _ _ hib) q1189 dX24_compare_2 ?_
  refine g_aload_n hC dX24_compare_5 rfl 2 rfl ?_
  refine g_castS hC kc_J12 (hI _ _ hic_) q1189 dX24_compare_6 ?_
  refine V.lts (fun lc_1 => ?_)
  refine g_calli0 hC (g_runV hC (met_X24_compare_2 (G := G) a_ b c_ h0 hh hN hK hN2 hI h1b h1c_) kc_X24 h0 (lw_V q1190 q1191 q1192 q153 q1193) rfl md_X24_compare_2 dX24_compare_9 rfl ⟨by omega, by omega⟩ (by omega) (by omega) rfl (Nat.le_of_ble_eq_true rfl)) (fun r_2 G_2 n_2 u_2 hp_2 hn_2 hm_2 hu_2 => ?_)
  obtain ⟨hr1_2, hr2_2, rfl, rfl, rfl⟩ := hp_2
  refine g_iret hC hr rfl ⟨_, rfl, ?_⟩ (by omega) (by omega) hE dX24_compare_12
  exact ⟨hr1_2, hr2_2, rfl, rfl, rfl⟩
set_option maxHeartbeats 1000000 in
theorem met_X28_compare_2 {Y : YT} {l : Launch} {n u : Nat} {G : AH} (a_ : Nat) (b : Nat) (c_ : Nat) {h N K : Nat} {σ : MS} {η : HV} {I : AH} {x y : Int} (h0 : G a_ = some (.inr (27, [.ref h]))) (hh : sub (hM Y h N σ η) G) (hN : σ.1 0 0 = nI N) (hK : σ.1 4 0 = nI K) (hN2 : N ≤ 12) (hI : sub I G) (h1b : KPh N σ I b x) (h1c_ : KPh N σ I c_ y) : GM Y l yX28_compare_2 (ws_ yX28_compare_2 cX28_compare_2 4 (some FieldType.int)) 0 0 [.ref a_, .ref b, .ref c_] G n u 0 0 (pI (fun r G' n' u' => (r < 0 ↔ x < y) ∧ (0 < r ↔ y < x) ∧ G = G' ∧ n = n' ∧ u = u')) noX := by
  refine GM.intro (own := RX28) rfl (by decide +kernel) (Nat.le_of_ble_eq_true rfl) ?_
  intro p e s m args below meth c R Q hC hr hnm hF hL hE
  have hE1 := hE.1
  have hE2 := hE.2.1
  have hnz : yz Y ≤ n := by have := hC.z; have := hC.n; omega
  show V Y p l e R s m args below meth c 4 n u G n u Q 0 [(0, .ref a_), (1, .ref b), (2, .ref c_)] []
  refine V.lts (fun hlt => ?_)
  have hl_a_ : a_ < n := hlt _ _ h0
  have hl_h : h + 6 < n := hlt _ _ (hh _ _ (hM_j 6))
  have hIn := sub_none hI hlt
  obtain ⟨qb, pb, ptb, prb, fub, kb, hqb, hpb, hib, hrb, hsb, hxb⟩ := h1b
  obtain ⟨qc_, pc_, ptc_, prc_, fuc_, kc_, hqc_, hpc_, hic_, hrc_, hsc_, hxc_⟩ := h1c_
  refine g_aload_n hC dX28_compare_2_0 rfl 1 rfl ?_
  refine g_get (v := .int prb) hC kc_X27 (hI _ _ hib) 3 (by decide) q3076 rfl dX28_compare_2_1 ?_
  refine g_aload_n hC dX28_compare_2_4 rfl 2 rfl ?_
  refine g_get (v := .int prc_) hC kc_X27 (hI _ _ hic_) 3 (by decide) q3076 rfl dX28_compare_2_5 ?_
  refine g_icmp_eq hC dX28_compare_2_8 (tgt := 21) (by decide) (fun c_8 => ?_) (fun c_8 => ?_)
  · refine g_aload_n hC dX28_compare_2_21 rfl 0 rfl ?_
    refine g_get (v := .ref h) hC kc_X28 h0 0 (by decide) q3114 rfl dX28_compare_2_22 ?_
    refine g_get (v := .ref (h + 5)) hC kc_X2 (hh _ _ (hM_0 hN hK)) 8 (by decide) q277 rfl dX28_compare_2_25 ?_
    refine g_aload_n hC dX28_compare_2_28 rfl 1 rfl ?_
    refine g_get (v := .int (nI pb)) hC kc_X27 (hI _ _ hib) 1 (by decide) q3070 rfl dX28_compare_2_29 ?_
    refine g_iald hC (hh _ _ (hM_j 5)) (vin (by omega) (by omega)) dX28_compare_2_32 ?_
    rw [show (nI pb).toNatClampNeg = pb from nI_clamp (by omega)]
    rw [hA_in (by omega)]
    refine g_aload_n hC dX28_compare_2_33 rfl 0 rfl ?_
    refine g_get (v := .ref h) hC kc_X28 h0 0 (by decide) q3114 rfl dX28_compare_2_34 ?_
    refine g_get (v := .ref (h + 5)) hC kc_X2 (hh _ _ (hM_0 hN hK)) 8 (by decide) q277 rfl dX28_compare_2_37 ?_
    refine g_aload_n hC dX28_compare_2_40 rfl 2 rfl ?_
    refine g_get (v := .int (nI pc_)) hC kc_X27 (hI _ _ hic_) 1 (by decide) q3070 rfl dX28_compare_2_41 ?_
    refine g_iald hC (hh _ _ (hM_j 5)) (vin (by omega) (by omega)) dX28_compare_2_44 ?_
    rw [show (nI pc_).toNatClampNeg = pc_ from nI_clamp (by omega)]
    rw [hA_in (by omega)]
    refine g_isub hC dX28_compare_2_45 ?_
    refine g_istore_n (L' := [(3, .int ((tl σ 7 pb) - (tl σ 7 pc_))), (0, .ref a_), (1, .ref b), (2, .ref c_)]) hC dX28_compare_2_46 rfl (by decide) rfl ?_
    refine g_iload_n hC dX28_compare_2_47 rfl 0 rfl ?_
    refine g_if_eq hC dX28_compare_2_48 (tgt := 55) (by decide) (fun c_48 => ?_) (fun c_48 => ?_)
    · refine g_aload_n hC dX28_compare_2_55 rfl 2 rfl ?_
      refine g_get (v := .int (nI qb)) hC kc_X27 (hI _ _ hib) 0 (by decide) q3066 rfl dX28_compare_2_56 ?_
      refine g_aload_n hC dX28_compare_2_59 rfl 3 rfl ?_
      refine g_get (v := .int (nI qc_)) hC kc_X27 (hI _ _ hic_) 0 (by decide) q3066 rfl dX28_compare_2_60 ?_
      refine g_isub hC dX28_compare_2_63 ?_
      refine g_iret hC hr rfl ⟨_, rfl, ?_⟩ (by omega) (by omega) hE dX28_compare_2_64
      rw [c_8] at hxb
      have hd := difI (u := tl σ 7 pc_) (v := tl σ 7 pb) (by omega)
      have hz := hd.2.2.mp c_48
      have hd2 := difI (u := nI qc_) (v := nI qb) (by rw [nI_toInt (by omega), nI_toInt (by omega)]; omega)
      rw [nI_toInt (by omega), nI_toInt (by omega)] at hd2
      exact ⟨by rw [hd2.1]; omega, by rw [hd2.2.1]; omega, rfl, rfl, rfl⟩
    · refine g_iload_n hC dX28_compare_2_51 rfl 0 rfl ?_
      refine g_goto (tgt := 64) hC dX28_compare_2_52 (by decide) ?_
      refine g_iret hC hr rfl ⟨_, rfl, ?_⟩ (by omega) (by omega) hE dX28_compare_2_64
      rw [c_8] at hxb
      have hd := difI (u := tl σ 7 pc_) (v := tl σ 7 pb) (by omega)
      have hz : ¬ (tl σ 7 pc_).toInt = (tl σ 7 pb).toInt := fun e => c_48 (hd.2.2.mpr e)
      exact ⟨by rw [hd.1]; omega, by rw [hd.2.1]; omega, rfl, rfl, rfl⟩
  · refine g_aload_n hC dX28_compare_2_11 rfl 2 rfl ?_
    refine g_get (v := .int prc_) hC kc_X27 (hI _ _ hic_) 3 (by decide) q3076 rfl dX28_compare_2_12 ?_
    refine g_aload_n hC dX28_compare_2_15 rfl 1 rfl ?_
    refine g_get (v := .int prb) hC kc_X27 (hI _ _ hib) 3 (by decide) q3076 rfl dX28_compare_2_16 ?_
    refine g_isub hC dX28_compare_2_19 ?_
    refine g_iret hC hr rfl ⟨_, rfl, ?_⟩ (by omega) (by omega) hE dX28_compare_2_20
    obtain ⟨e1, e2⟩ := cH_1 (x := x) (y := y) hrb hrc_ (a := (tl σ 7 pb).toInt * 1000 + qb) (b := (tl σ 7 pc_).toInt * 1000 + qc_) (by omega) (by omega) (by omega) (by omega) c_8
    exact ⟨e1, e2, rfl, rfl, rfl⟩
set_option maxHeartbeats 1000000 in
theorem met_X28_compare {Y : YT} {l : Launch} {n u : Nat} {G : AH} (a_ : Nat) (b : Nat) (c_ : Nat) {h N K : Nat} {σ : MS} {η : HV} {I : AH} {x y : Int} (h0 : G a_ = some (.inr (27, [.ref h]))) (hh : sub (hM Y h N σ η) G) (hN : σ.1 0 0 = nI N) (hK : σ.1 4 0 = nI K) (hN2 : N ≤ 12) (hI : sub I G) (h1b : KPh N σ I b x) (h1c_ : KPh N σ I c_ y) : GM Y l yX28_compare (ws_ yX28_compare cX28_compare 3 (some FieldType.int)) 1 23 [.ref a_, .ref b, .ref c_] G n u 0 0 (pI (fun r G' n' u' => (r < 0 ↔ x < y) ∧ (0 < r ↔ y < x) ∧ G = G' ∧ n = n' ∧ u = u')) noX := by
  refine GM.intro (own := RX28) rfl (by decide +kernel) (Nat.le_of_ble_eq_true rfl) ?_
  intro p e s m args below meth c R Q hC hr hnm hF hL hE
  have hE1 := hE.1
  have hE2 := hE.2.1
  have hnz : yz Y ≤ n := by have := hC.z; have := hC.n; omega
  show V Y p l e R s m args below meth c 3 n u G n u Q 0 [(0, .ref a_), (1, .ref b), (2, .ref c_)] []
  refine V.lts (fun hlt => ?_)
  have hl_a_ : a_ < n := hlt _ _ h0
  have hl_h : h + 6 < n := hlt _ _ (hh _ _ (hM_j 6))
  have hIn := sub_none hI hlt
  have h1b_ := h1b
  obtain ⟨qb, pb, ptb, prb, fub, kb, hqb, hpb, hib, hrb, hsb, hxb⟩ := h1b_
  have h1c__ := h1c_
  obtain ⟨qc_, pc_, ptc_, prc_, fuc_, kc_, hqc_, hpc_, hic_, hrc_, hsc_, hxc_⟩ := h1c__
  refine g_aload_n hC dX28_compare_0 rfl 0 rfl ?_
  refine g_aload_n hC dX28_compare_1 rfl 1 rfl ?_
  refine g_castS hC kc_X27 (hI _ _ hib) q1008 dX28_compare_2 ?_
  refine g_aload_n hC dX28_compare_5 rfl 2 rfl ?_
  refine g_castS hC kc_X27 (hI _ _ hic_) q1008 dX28_compare_6 ?_
  refine V.lts (fun lc_1 => ?_)
  refine g_calli0 hC (g_runV hC (met_X28_compare_2 (G := G) a_ b c_ h0 hh hN hK hN2 hI h1b h1c_) kc_X28 h0 (lw_V q1009 q1010 q1011 q157 q1012) rfl md_X28_compare_2 dX28_compare_9 rfl ⟨by omega, by omega⟩ (by omega) (by omega) rfl (Nat.le_of_ble_eq_true rfl)) (fun r_2 G_2 n_2 u_2 hp_2 hn_2 hm_2 hu_2 => ?_)
  obtain ⟨hr1_2, hr2_2, rfl, rfl, rfl⟩ := hp_2
  refine g_iret hC hr rfl ⟨_, rfl, ?_⟩ (by omega) (by omega) hE dX28_compare_12
  exact ⟨hr1_2, hr2_2, rfl, rfl, rfl⟩
