set_option maxRecDepth 100000
/-! JDK 6: boxed ints; those of the cache are known cells of the start -/
def stIC : Term := .static "java/lang/Integer$IntegerCache" "cache" "[Ljava/lang/Integer;"
theorem ic_len : Cond.eq (.length stIC) (.int (256 : Int32)) ∈ flatC narrow_1 := by decide +kernel
theorem ic_arr : Cond.arrayOf stIC (.object "java/lang/Integer") ∈ flatC narrow_1 := by decide +kernel
theorem ic_all : Cond.all stIC (.and (.exactly (.elem stIC (.index 0)) "java/lang/Integer") (.eq (.field (.elem stIC (.index 0)) "java/lang/Integer" "value" "I") (.sub (.index 0) (.int 128)))) ∈ flatC narrow_1 := by decide +kernel
theorem KK.ibox {Y : YT} {U : State} (h : KK Y U) : ∃ (t : Nat) (ad : Nat → Nat), va_Z "java/lang/Integer$IntegerCache" "cache" "[Ljava/lang/Integer;" (.ref t) (fun q => yz Y ≤ q) (yS Y) (yH Y) ∧ va_T (.object "java/lang/Integer") t 256 (fun j => .ref (ad j)) (fun q => yz Y ≤ q) (yS Y) (yH Y) ∧ vb_C ad (fun q => yz Y ≤ q) (yS Y) (yH Y) := by
  obtain ⟨b, h1, h2⟩ := h.2.2
  have hs : ∀ w ∈ flatC narrow_1, w.before #[Value.ref b] (yS Y) = true := fun w hw => flat_of_before _ h2 w (show w ∈ flatC given_1 ++ flatC narrow_1 from List.mem_append_right _ hw)
  have hlen : (Term.length stIC).eval #[Value.ref b] (yS Y) none [] (yS Y) = some (.int (Int32.ofNat 256)) := va_eqI (by simpa [Cond.before, Cond.holds] using hs _ ic_len) rfl
  obtain ⟨ad, hA, hel⟩ := vb_Cof (A := fun q => yz Y ≤ q) (st := stIC) rfl hlen (hs _ ic_all) (fun a ha q => absurd ha (Nat.not_lt.mpr q))
  obtain ⟨t, ht, hT⟩ := va_Tof (N := 256) (f := fun j => Value.ref (ad j)) (A := fun q => yz Y ≤ q) (by decide) (hs _ ic_arr) hlen hel (fun a ha q => absurd ha (Nat.not_lt.mpr q))
  exact ⟨t, ad, va_Zof (h1 _ q1492) (h1 _ (lw_all_tbl q123)) ht (fun a ha q => absurd ha (Nat.not_lt.mpr q)), hT, hA⟩
/-- a box of the start -/
def oBx (Y : YT) (a : Nat) (v : Int32) : Prop := gWk Y a (.inr (40, [.int v])) (yH Y)
theorem oBx.uniq {Y : YT} {a : Nat} {v v' : Int32} (h : oBx Y a v) (h' : oBx Y a v') : v = v' := by
  obtain ⟨-, r, e1, cell, c1, -, -, -, c2⟩ := h
  obtain ⟨-, r', e2, cell', d1, -, -, -, d2⟩ := h'
  cases c1.symm.trans d1
  cases e1.symm.trans kc_J12.1
  cases e2.symm.trans kc_J12.1
  have := (c2 0 (by decide)).symm.trans (d2 0 (by decide))
  simpa [vp_V] using this
/-- the boxes of the start, as known cells -/
noncomputable def oM (Y : YT) : AH := fun a => @dite (Option va_E) (∃ v, oBx Y a v) (Classical.propDecidable _) (fun h => some (.inr (40, [.int (Classical.choose h)]))) (fun _ => none)
theorem oM_at {Y : YT} {a : Nat} {v : Int32} (h : oBx Y a v) : oM Y a = some (.inr (40, [.int v])) := by
  have hx : ∃ v, oBx Y a v := ⟨v, h⟩
  unfold oM
  rw [dif_pos hx, (Classical.choose_spec hx).uniq h]
theorem oM_of {Y : YT} {a : Nat} {e : va_E} (h : oM Y a = some e) : ∃ v, e = .inr (40, [.int v]) ∧ oBx Y a v := by
  unfold oM at h
  by_cases hx : ∃ v, oBx Y a v
  · rw [dif_pos hx] at h
    exact ⟨_, (Option.some.inj h).symm, Classical.choose_spec hx⟩
  · rw [dif_neg hx] at h; cases h
theorem KK.box {Y : YT} {U : State} (h : KK Y U) {ad : Nat → Nat} (hA : vb_C ad (fun q => yz Y ≤ q) (yS Y) (yH Y)) {k : Nat} (hk : k < 256) : oBx Y (ad k) (vb_c k) := by
  have hM := vb_C.moved h.2.1.alike hA
  obtain ⟨cell, q1, q2, q3, q4⟩ := hM.1 k hk
  obtain ⟨cf, kf, i, f, cell', r1, r2, r3, r4, r5, r6⟩ := hM.2 k hk
  obtain ⟨hS, hfc, kC, hkC, hkind⟩ := h.1.1 40 _ kc_J12.1
  obtain ⟨cf2, kf2, fi2, f2, hi, hsl⟩ := hS 0 (by decide)
  cases q1.symm.trans r3
  have e : some (cf, kf, i, f) = some (cf2, kf2, fi2, f2) := r1.symm.trans hi
  cases e
  refine ⟨Nat.not_le.mp q4, _, kc_J12.1, cell, q1, Option.some.inj (q3.symm.trans hfc), q2, r4, fun j hj => ?_⟩
  obtain rfl : j = 0 := Nat.lt_one_iff.mp hj
  rw [← hsl, r5]; rfl
section BX
variable {Y : YT} {p : Program} {l : Launch} {e : Env} {R : Room} {s : State} {m : MethodId} {args : Array Value} {below : List Frame} {meth : Method} {c : Code} {nL n0 u0 : Nat} {G : AH} {nn uu : Nat} {Q : State → Prop} {pc : Nat} {L : List (Nat × Value)} {rest : List Value} {cc : ByteArray} {own : String} {hh : List (Nat × Nat × Nat × Nat)}
theorem g_boxld (hC : CX Y p s m args meth c cc nL own hh n0 u0) {t : Nat} {ad : Nat → Nat} (hT : va_T (.object "java/lang/Integer") t 256 (fun j => .ref (ad j)) (fun q => yz Y ≤ q) (yS Y) (yH Y)) {i : Int32} (hin : vp_in i 256) {a : Nat} (ha : ad i.toNatClampNeg = a) (hdg : decode cc pc = .ok (.aaload, 1))
    (kk : V Y p l e R s m args below meth c nL n0 u0 G nn uu Q (pc + 1) L (.ref a :: rest)) : V Y p l e R s m args below meth c nL n0 u0 G nn uu Q pc L (.int i :: .ref t :: rest) := fun H locs ls g aS b =>
  vb_tq hC.x hC.b ((va_T.moved hC.K.2.1.alike hT).kept (fun a ha _ => hC.old a ha)) aS hin (v := .ref a) (by rw [ha]) hdg (kk H locs ls g aS b)
end BX
theorem bxs1 {k : Nat} (h : k < 128) : ¬ nI k < -128 := by
  rw [Int32.lt_iff_toInt_lt, nI_toInt (by omega)]
  show ¬ (k : Int) < -128
  omega
theorem bxs2 {k : Nat} (h : k < 128) : ¬ 127 < nI k := by
  rw [Int32.lt_iff_toInt_lt, nI_toInt (by omega)]
  show ¬ (127 : Int) < k
  omega
set_option maxHeartbeats 1000000 in
theorem met_J11_init {Y : YT} {l : Launch} {n u : Nat} {G : AH} (a_ : Nat)   : GM Y l yJ11_init (ws_ yJ11_init cJ11_init 1 none) 1 24 [.ref a_] G n u 0 0 (pV (fun G' n' u' => G = G' ∧ n = n' ∧ u = u')) noX := by
  refine GM.intro (own := RJ11) rfl (by decide +kernel) (Nat.le_of_ble_eq_true rfl) ?_
  intro p e s m args below meth c R Q hC hr hnm hF hL hE
  have hE1 := hE.1
  have hE2 := hE.2.1
  have hnz : yz Y ≤ n := by have := hC.z; have := hC.n; omega
  show V Y p l e R s m args below meth c 1 n u G n u Q 0 [(0, .ref a_)] []
  refine V.lts (fun hlt => ?_)
  refine g_aload_n hC dJ11_init_0 rfl 0 rfl ?_
  refine V.lts (fun lc_1 => ?_)
  refine g_objInit hC q1500 q178 q179 dJ11_init_1 (by omega) (by first | (simp; omega) | (simp [Value.category]; omega)) ?_
  refine g_vret hC hr ⟨rfl, ?_⟩ (by omega) (by omega) hE dJ11_init_4
  exact ⟨rfl, rfl, rfl⟩
set_option maxHeartbeats 1000000 in
theorem met_J12_init {Y : YT} {l : Launch} {n u : Nat} {G : AH} (a_ : Nat) (x1 : Int32)  (h1 : G a_ = some (.inr (40, [.int 0]))) (hz : yz Y ≤ a_) : GM Y l yJ12_init (ws_ yJ12_init cJ12_init 2 none) 2 44 [.ref a_, .int x1] G n u 0 0 (pV (fun G' n' u' => G' a_ = some (.inr (40, [.int x1])) ∧ FR (fun q_ => q_ = a_) n G G' ∧ n = n' ∧ u = u')) noX := by
  refine GM.intro (own := RJ12) rfl (by decide +kernel) (Nat.le_of_ble_eq_true rfl) ?_
  intro p e s m args below meth c R Q hC hr hnm hF hL hE
  have hE1 := hE.1
  have hE2 := hE.2.1
  have hnz : yz Y ≤ n := by have := hC.z; have := hC.n; omega
  show V Y p l e R s m args below meth c 2 n u G n u Q 0 [(0, .ref a_), (1, .int x1)] []
  refine V.lts (fun hlt => ?_)
  have hl_a_ : a_ < n := hlt _ _ h1
  refine g_aload_n hC dJ12_init_0 rfl 0 rfl ?_
  refine V.lts (fun lc_1 => ?_)
  refine g_callv0 hC (g_runI (ret := none) hC (met_J11_init (G := G) a_  ) (lw_meth q1499) q105 q1497 q1498 rfl md_J11_init dJ12_init_1 rfl ⟨by omega, by omega⟩ (by omega) (by omega) rfl (Nat.le_of_ble_eq_true rfl)) (fun G_2 n_2 u_2 hp_2 hn_2 hm_2 hu_2 => ?_)
  obtain ⟨rfl, rfl, rfl⟩ := hp_2
  refine g_aload_n hC dJ12_init_4 rfl 0 rfl ?_
  refine g_iload_n hC dJ12_init_5 rfl 1 rfl ?_
  obtain ⟨G_3, eG_3⟩ : ∃ G_, gU G a_ (.inr (40, [.int x1])) = G_ := ⟨_, rfl⟩
  have hf_4 : FR (fun q_ => q_ = a_) n G G_3 := by rw [← eG_3]; exact FR.put FR.refl (.inl rfl)
  refine g_putF hC hnm kc_J12 h1 0 (by decide) q1501 rfl rfl rfl rfl (by show 0 < 1; decide) rfl (by omega) (G' := G_3) eG_3 dJ12_init_6 ?_
  have o_5 : G_3 a_ = some (.inr (40, [.int x1])) := by rw [← eG_3]; exact gU_s _ _ _
  refine g_vret hC hr ⟨rfl, ?_⟩ (by omega) (by omega) hE dJ12_init_9
  exact ⟨o_5, hf_4, rfl, rfl⟩
set_option maxHeartbeats 1000000 in
theorem met_J12_valueOf {Y : YT} {l : Launch} {n u : Nat} {G : AH} (v_ : Int32)  (hs : sub (oM Y) G) : GM Y l yJ12_valueOf (ws_ yJ12_valueOf cJ12_valueOf 1 (some (FieldType.object "java/lang/Integer"))) 3 65 [.int v_] G n u 1 1 (pQ (fun r G' n' u' => ∃ a, some a = r ∧ G' a = some (.inr (40, [.int v_])) ∧ FR noD n G G' ∧ n ≤ n' ∧ u ≤ u' ∧ ∀ k, k < 128 → v_ = nI k → G = G' ∧ n = n' ∧ u = u' ∧ oM Y a = some (.inr (40, [.int v_])))) noX := by
  refine GM.intro (own := RJ12) rfl (by decide +kernel) (Nat.le_of_ble_eq_true rfl) ?_
  intro p e s m args below meth c R Q hC hr hnm hF hL hE
  have hE1 := hE.1
  have hE2 := hE.2.1
  have hnz : yz Y ≤ n := by have := hC.z; have := hC.n; omega
  show V Y p l e R s m args below meth c 1 n u G n u Q 0 [(0, .int v_)] []
  refine V.lts (fun hlt => ?_)
  refine g_iload_n hC dJ12_valueOf_0 rfl 0 rfl ?_
  refine g_bipush (v := (-128)) hC dJ12_valueOf_1 (by decide) ?_
  refine g_icmp_lt hC dJ12_valueOf_3 (tgt := 23) (by decide) (fun c_3 => ?_) (fun c_3 => ?_)
  · obtain ⟨G_1, eG_1⟩ : ∃ G_, gU G n (.inr (40, [.int 0])) = G_ := ⟨_, rfl⟩
    refine V.lts (fun ltG_1 => ?_)
    have hf_2 : FR noD n G G_1 := by rw [← eG_1]; exact FR.put FR.refl (.inr (by omega))
    refine g_new hC kc_J12 q1239 q1493 q106 (fs := [.int 0]) rfl (G' := G_1) eG_1 (by omega) (by omega) dJ12_valueOf_23 ?_
    have o_3 : G_1 n = some (.inr (40, [.int 0])) := by rw [← eG_1]; exact gU_s _ _ _
    refine g_dup hC dJ12_valueOf_26 rfl ?_
    refine g_iload_n hC dJ12_valueOf_27 rfl 0 rfl ?_
    refine V.lts (fun lc_4 => ?_)
    refine g_callv0 hC (g_runI (ret := none) hC (met_J12_init (G := G_1) n v_ o_3 (by omega)) (lw_meth q1496) q106 q1494 q1495 rfl md_J12_init dJ12_valueOf_28 rfl ⟨by omega, by omega⟩ (by omega) (by omega) rfl (Nat.le_of_ble_eq_true rfl)) (fun G_5 n_5 u_5 hp_5 hn_5 hm_5 hu_5 => ?_)
    obtain ⟨ho_5, hf_5, rfl, rfl⟩ := hp_5
    have hf_6 : FR noD n G G_5 := hf_2.trans hf_5 (by omega) (fun a_ q_ => by first | exact .inl q_ | exact .inl (.inl q_) | exact .inl (.inr q_) | (subst q_; first | exact .inr (by omega) | exact .inl rfl))
    refine g_aret (v := some n) hC hr (by first | exact Or.inl ⟨_, rfl⟩ | exact Or.inr ⟨_, rfl⟩) ⟨_, rfl, ?_⟩ (by omega) (by omega) hE dJ12_valueOf_31
    exact ⟨n, rfl, ho_5, hf_6, by omega, by omega, fun k_ hk_ e_ => absurd c_3 (by rw [e_]; exact bxs1 hk_)⟩
  · refine g_iload_n hC dJ12_valueOf_6 rfl 0 rfl ?_
    refine g_gets (v := .int 127) hC (hC.K.stI q1490 q123 sn_high) q1489 dJ12_valueOf_7 ?_
    refine g_icmp_gt hC dJ12_valueOf_10 (tgt := 23) (by decide) (fun c_10 => ?_) (fun c_10 => ?_)
    · obtain ⟨G_7, eG_7⟩ : ∃ G_, gU G n (.inr (40, [.int 0])) = G_ := ⟨_, rfl⟩
      refine V.lts (fun ltG_7 => ?_)
      have hf_8 : FR noD n G G_7 := by rw [← eG_7]; exact FR.put FR.refl (.inr (by omega))
      refine g_new hC kc_J12 q1239 q1493 q106 (fs := [.int 0]) rfl (G' := G_7) eG_7 (by omega) (by omega) dJ12_valueOf_23 ?_
      have o_9 : G_7 n = some (.inr (40, [.int 0])) := by rw [← eG_7]; exact gU_s _ _ _
      refine g_dup hC dJ12_valueOf_26 rfl ?_
      refine g_iload_n hC dJ12_valueOf_27 rfl 0 rfl ?_
      refine V.lts (fun lc_10 => ?_)
      refine g_callv0 hC (g_runI (ret := none) hC (met_J12_init (G := G_7) n v_ o_9 (by omega)) (lw_meth q1496) q106 q1494 q1495 rfl md_J12_init dJ12_valueOf_28 rfl ⟨by omega, by omega⟩ (by omega) (by omega) rfl (Nat.le_of_ble_eq_true rfl)) (fun G_11 n_11 u_11 hp_11 hn_11 hm_11 hu_11 => ?_)
      obtain ⟨ho_11, hf_11, rfl, rfl⟩ := hp_11
      have hf_12 : FR noD n G G_11 := hf_8.trans hf_11 (by omega) (fun a_ q_ => by first | exact .inl q_ | exact .inl (.inl q_) | exact .inl (.inr q_) | (subst q_; first | exact .inr (by omega) | exact .inl rfl))
      refine g_aret (v := some n) hC hr (by first | exact Or.inl ⟨_, rfl⟩ | exact Or.inr ⟨_, rfl⟩) ⟨_, rfl, ?_⟩ (by omega) (by omega) hE dJ12_valueOf_31
      exact ⟨n, rfl, ho_11, hf_12, by omega, by omega, fun k_ hk_ e_ => absurd c_10 (by rw [e_]; exact bxs2 hk_)⟩
    · obtain ⟨t_, ad_, hZ_, hT_, hA_⟩ := hC.K.ibox
      refine g_gets (v := .ref t_) hC hZ_ q1491 dJ12_valueOf_13 ?_
      refine g_iload_n hC dJ12_valueOf_16 rfl 0 rfl ?_
      refine g_sipush (v := 128) hC dJ12_valueOf_17 (by decide) ?_
      refine g_iadd hC dJ12_valueOf_20 ?_
      obtain ⟨j_, hj1, hj2, hj3⟩ := bx_small c_3 c_10
      refine g_boxld (a := ad_ j_) hC hT_ (by rw [hj2]; exact vin hj1 (by omega)) (by rw [hj2, nI_clamp (by omega)]) dJ12_valueOf_21 ?_
      refine g_aret (v := some (ad_ j_)) hC hr (by first | exact Or.inl ⟨_, rfl⟩ | exact Or.inr ⟨_, rfl⟩) ⟨_, rfl, ?_⟩ (by omega) (by omega) hE dJ12_valueOf_22
      have hb_ := oM_at (hC.K.box hA_ hj1)
      rw [← hj3] at hb_
      exact ⟨ad_ j_, rfl, hs _ _ hb_, FR.refl, by omega, by omega, fun k_ hk_ e_ => ⟨rfl, rfl, rfl, hb_⟩⟩
def flI (f : Nat → Int32) (k : Nat) (v : Int32) : Nat → Int32 := fun j => if j < k then v else f j
theorem flI_s {f : Nat → Int32} {k : Nat} {v : Int32} : upd (flI f k v) k v = flI f (k + 1) v := by
  funext j
  unfold upd flI
  by_cases h : j = k
  · subst h; simp
  · simp [h]; by_cases h2 : j < k
    · rw [if_pos h2, if_pos (by omega)]
    · rw [if_neg h2, if_neg (by omega)]
theorem flI_0 {f : Nat → Int32} {v : Int32} : flI f 0 v = f := by
  funext j; simp [flI]
set_option maxHeartbeats 1000000 in
theorem met_J18_fill {Y : YT} {l : Launch} {n u : Nat} {G : AH} (a_ : Nat) (v_ : Int32) {N : Nat} {f : Nat → Int32} (h1 : G a_ = some (.inl (yA Y 0, N, .inl f))) (hz : yz Y ≤ a_) (hN : N < 1000000) : GM Y l yJ18_fill (ws_ yJ18_fill cJ18_fill 4 none) 0 0 [.ref a_, .int v_] G n u 0 0 (pV (fun G' n' u' => G' a_ = some (.inl (yA Y 0, N, .inl (flI f N v_))) ∧ FR (fun q_ => q_ = a_) n G G' ∧ n = n' ∧ u = u')) noX := by
  refine GM.intro (own := RJ18) rfl (by decide +kernel) (Nat.le_of_ble_eq_true rfl) ?_
  intro p e s m args below meth c R Q hC hr hnm hF hL hE
  have hE1 := hE.1
  have hE2 := hE.2.1
  have hnz : yz Y ≤ n := by have := hC.z; have := hC.n; omega
  show V Y p l e R s m args below meth c 4 n u G n u Q 0 [(0, .ref a_), (1, .int v_)] []
  refine V.lts (fun hlt => ?_)
  have hl_a_ : a_ < n := hlt _ _ h1
  refine g_iconst (v := 0) hC dJ18_fill_0 rfl ?_
  refine g_istore_n (L' := [(2, .int 0), (0, .ref a_), (1, .int v_)]) hC dJ18_fill_1 rfl (by decide) rfl ?_
  refine g_aload_n hC dJ18_fill_2 rfl 1 rfl ?_
  refine g_alen (v := nI N) hC h1 (t0 := 0) rfl rfl dJ18_fill_3 ?_
  refine g_istore_n (L' := [(3, .int (nI N)), (2, .int 0), (0, .ref a_), (1, .int v_)]) hC dJ18_fill_4 rfl (by decide) rfl ?_
  have hl_5 : ∀ (kf_ : Nat) (Gq : AH) (q : Nat), (Gq a_ = some (.inl (yA Y 0, N, .inl (flI f q v_)))) → (FR (fun q_ => q_ = a_) n G Gq) → (q ≤ N) → N - q < kf_ → V Y p l e R s m args below meth c 4 n u Gq n u Q 5 [(0, .ref a_), (1, .int v_), (3, .int (nI N)), (2, .int (nI q))] [] := by
    intro kf_
    induction kf_ with
    | zero => intro Gq q jb jf jq hk_; exact absurd hk_ (Nat.not_lt_zero _)
    | succ kf_ ih_ =>
      intro Gq q jb jf jq hk_
      refine g_iload_n hC dJ18_fill_5 rfl 3 rfl ?_
      refine g_iload_n hC dJ18_fill_6 rfl 2 rfl ?_
      refine g_icmp_geN hC q N (by omega) (by omega) dJ18_fill_7 (tgt := 20) (by decide) (fun c_7 => ?_) (fun c_7 => ?_)
      · refine g_vret hC hr ⟨rfl, ?_⟩ (by omega) (by omega) hE dJ18_fill_20
        obtain rfl : q = N := by omega
        exact ⟨jb, jf, rfl, rfl⟩
      · refine g_aload_n hC dJ18_fill_10 rfl 0 rfl ?_
        refine g_iload_n hC dJ18_fill_11 rfl 3 rfl ?_
        refine g_iload_n hC dJ18_fill_12 rfl 1 rfl ?_
        obtain ⟨G_1, eG_1⟩ : ∃ G_, gU Gq a_ (.inl (yA Y 0, N, .inl (upd (flI f q v_) q v_))) = G_ := ⟨_, rfl⟩
        have hf_2 : FR (fun q_ => q_ = a_) n G G_1 := by rw [← eG_1]; exact FR.put jf (.inl rfl)
        refine g_iast hC jb (vin (by omega) (by omega)) (by omega) (f' := (upd (flI f q v_) q v_)) (by rw [nI_clamp (by omega)]) (G' := G_1) eG_1 dJ18_fill_13 ?_
        have a_3 : G_1 a_ = some (.inl (yA Y 0, N, .inl (upd (flI f q v_) q v_))) := by rw [← eG_1]; exact gU_s _ _ _
        refine g_iincN (L' := [(2, .int (nI (q + 1))), (0, .ref a_), (1, .int v_), (3, .int (nI N))]) hC 1 q dJ18_fill_14 (k := 3) rfl (by decide) (by decide) rfl ?_
        refine g_goto (tgt := 5) hC dJ18_fill_17 (by decide) ?_
        refine V.sub [1, 2, 3, 0] rfl ?_
        exact ih_ G_1 (q + 1) (by rw [← flI_s]; exact a_3) (hf_2) (by omega) (by omega)
  refine V.sub [2, 3, 0, 1] rfl ?_
  exact hl_5 (N - 0 + 1) G 0 (by rw [flI_0]; exact h1) (FR.refl) (by omega) (by omega)
