set_option maxRecDepth 100000
/-! TREE MAPS, 18: rows beside a map; the key iterator -/
theorem lw_U {own : String} {idx : Nat} {C owner : String} {x y : MethodName} {b : ByteArray} {L : Nat} {r : Option FieldType} (h1 : Cond.methodLink own idx x ∈ lw_all) (h0 : Cond.sameMethod x.cls owner x.name x.desc ∈ lw_all) (h2 : Cond.selects C x y ∈ lw_all) (h3 : Cond.instanceMethod y ∈ lw_all) (h4 : Cond.initialized y.cls ∈ lw_all) (h5 : Cond.code y b L r ∈ lw_all) : GoodIn lw_all (va_wsU own idx C owner x y (ws_ y b L r)) := by
  refine lw_app ?_ (lw_meth h5)
  intro w hw
  simp only [List.mem_cons, List.not_mem_nil, or_false] at hw
  rcases hw with e | e | e | e | e
  · rw [e]; exact h1
  · rw [e]; exact h0
  · rw [e]; exact h2
  · rw [e]; exact h3
  · rw [e]; exact h4
theorem tG_out {t a : Nat} {τ : TS} {B : AH} {e : va_E} (h : a ≠ t ∧ τ.2.2.2 a = false) : gU (tG t τ B) a e = tG t τ (gU B a e) := by
  funext b
  by_cases q : b = a
  · subst q
    rw [gU_s, tG_b h.1 h.2, gU_s]
  · rw [gU_n _ q]
    unfold tG
    rw [gU_n _ q]
section TO
variable {Y : YT} {p : Program} {l : Launch} {e : Env} {R : Room} {s : State} {m : MethodId} {args : Array Value} {below : List Frame} {meth : Method} {c : Code} {nL n0 u0 : Nat} {G : AH} {nn uu : Nat} {Q : State → Prop} {pc : Nat} {L : List (Nat × Value)} {rest : List Value} {cc : ByteArray} {own : String} {hh : List (Nat × Nat × Nat × Nat)} {t a : Nat} {τ : TS} {B : AH}
theorem gk_getN {H : Heap} {locs : List Loc} {cells slots : Nat} {ls : Array Slot} (hC : CX Y p s m args meth c cc nL own hh n0 u0) {C ref host : String} {T : u_T} {N ci index : Nat} {ty : Nat → FieldType} (kc : KCl ci C T N ty) {a : Nat} {fs : List Value} (hg : gAt Y a (.inr (ci, fs)) H) (k : Nat) (hk : k < N) (hlink : (Cond.fieldLinkNest own index ref (T k).2.1 (T k).2.2.1 host).before args s = true) (hsame : ∀ x, s.fieldFound? (T k).1 (T k).2.1 (T k).2.2.1 = some x → s.fieldFound? ref (T k).2.1 (T k).2.2.1 = some x) {v : Value} (hv : fs[k]? = some v) (hdg : decode cc pc = .ok (.getfield index, 3))
    (kk : W p l e R s m args below meth c H locs cells slots Q (F0 m (pc + 3) ls (v :: rest))) : W p l e R s m args below meth c H locs cells slots Q (F0 m pc ls (.ref a :: rest)) := by
  obtain ⟨r, h1, cell, q1, q2, q3, q5, q4⟩ := hg.ob
  have hr : r = (C, T, N) := Option.some.inj (h1.symm.trans kc.1)
  subst hr
  obtain ⟨hS, hfc, kC, hkC, hkind⟩ := hC.K.1.1 ci _ kc.1
  obtain ⟨cf, kf, fi, f, hi, hsl⟩ := hS k hk
  refine va_Wgetf hC.x hC.b hC.own hlink (hsame _ hi) (u_facts hfc hkC (u_lays hC.ts kc.2.1 hk) hi).1 q1 q5 (v := v) ?_ rfl rfl hdg kk
  rw [hsl, q4 k hk]
  simp [vp_V, hv]
theorem g_getN (hC : CX Y p s m args meth c cc nL own hh n0 u0) {C ref host : String} {T : u_T} {N ci index : Nat} {ty : Nat → FieldType} (kc : KCl ci C T N ty) {fs : List Value} (hg : G a = some (.inr (ci, fs))) (k : Nat) (hk : k < N) (hlink : Cond.fieldLinkNest own index ref (T k).2.1 (T k).2.2.1 host ∈ lw_tbl) (hsame : ∀ x, s.fieldFound? (T k).1 (T k).2.1 (T k).2.2.1 = some x → s.fieldFound? ref (T k).2.1 (T k).2.2.1 = some x) {v : Value} (hv : fs[k]? = some v) (hdg : decode cc pc = .ok (.getfield index, 3))
    (kk : V Y p l e R s m args below meth c nL n0 u0 G nn uu Q (pc + 3) L (v :: rest)) : V Y p l e R s m args below meth c nL n0 u0 G nn uu Q pc L (.ref a :: rest) := fun H locs ls g aS b =>
  gk_getN hC kc (g.1 _ _ hg) k hk (va_Nw.use (A := args) rfl (hC.K.nestF hlink)) hsame hv hdg (kk H locs ls g aS b)
theorem t_putO (hC : CX Y p s m args meth c cc nL own hh n0 u0) {C : String} {T : u_T} {N ci index : Nat} {ty : Nat → FieldType} (kc : KCl ci C T N ty) {fs fs' : List Value} (hg : B a = some (.inr (ci, fs))) (ho : a ≠ t ∧ τ.2.2.2 a = false) (k : Nat) (hk : k < N) (hlink : Cond.fieldLink own index (T k).1 (T k).2.1 (T k).2.2.1 ∈ lw_all) (hfin : (T k).2.2.2 = false) {v : Value} (hn : narrow (ty k) v = v) (hfit : fits (ty k) v = true) (hl : k < fs.length) (hfs : fs.set k v = fs') (hz : yz Y ≤ a) (hdg : decode cc pc = .ok (.putfield index, 3))
    (kk : V Y p l e R s m args below meth c nL n0 u0 (tG t τ (gU B a (.inr (ci, fs')))) nn uu Q (pc + 3) L rest) : V Y p l e R s m args below meth c nL n0 u0 (tG t τ B) nn uu Q pc L (v :: .ref a :: rest) :=
  g_put hC kc ((tG_b ho.1 ho.2).trans hg) k hk hlink hfin hn hfit hl hfs hz (tG_out ho) hdg kk
theorem t_putOF (hC : CX Y p s m args meth c cc nL own hh n0 u0) (hin2 : meth.name = "<init>") {C : String} {T : u_T} {N ci index : Nat} {ty : Nat → FieldType} (kc : KCl ci C T N ty) {fs fs' : List Value} (hg : B a = some (.inr (ci, fs))) (ho : a ≠ t ∧ τ.2.2.2 a = false) (k : Nat) (hk : k < N) (hlink : Cond.fieldLink own index (T k).1 (T k).2.1 (T k).2.2.1 ∈ lw_all) (hfin : (T k).2.2.2 = true) (hdecl : (T k).1 = own) {v : Value} (hn : narrow (ty k) v = v) (hfit : fits (ty k) v = true) (hl : k < fs.length) (hfs : fs.set k v = fs') (hz : yz Y ≤ a) (hdg : decode cc pc = .ok (.putfield index, 3))
    (kk : V Y p l e R s m args below meth c nL n0 u0 (tG t τ (gU B a (.inr (ci, fs')))) nn uu Q (pc + 3) L rest) : V Y p l e R s m args below meth c nL n0 u0 (tG t τ B) nn uu Q pc L (v :: .ref a :: rest) :=
  g_putF hC hin2 kc ((tG_b ho.1 ho.2).trans hg) k hk hlink hfin hdecl hn hfit hl hfs hz (tG_out ho) hdg kk
theorem t_newO (hC : CX Y p s m args meth c cc nL own hh n0 u0) {C : String} {T : u_T} {N ci index nS : Nat} {ty : Nat → FieldType} (kc : KCl ci C T N ty) (hcl : Cond.classLink own index C ∈ lw_all) (hinst : Cond.instantiable C nS ∈ lw_all) (hini : Cond.initialized C ∈ lw_all) {fs : List Value} (hfs : (List.range N).map (fun j => defaultValue (ty j)) = fs) (ho : nn ≠ t ∧ τ.2.2.2 nn = false) (hrc : nn + 1 ≤ n0 + R.cells) (hru : uu + nS ≤ u0 + R.slots) (hdg : decode cc pc = .ok (.new index, 3))
    (kk : V Y p l e R s m args below meth c nL n0 u0 (tG t τ (gU B nn (.inr (ci, fs)))) (nn + 1) (uu + nS) Q (pc + 3) L (.ref nn :: rest)) : V Y p l e R s m args below meth c nL n0 u0 (tG t τ B) nn uu Q pc L rest :=
  g_new hC kc hcl hinst hini hfs (tG_out ho) hrc hru hdg kk
end TO
/-- it: a key iterator over t; nx: the next node -/
def itE (t : Nat) (nx lr : Option Nat) (mc : Int32) : va_E := .inr (52, [va_rf nx, va_rf lr, .int mc, .ref t])
set_option maxHeartbeats 1000000 in
theorem met_J39_hasNext {Y : YT} {l : Launch} {t n u : Nat} {τ : TS} {B : AH} (hT : TQ_ Y t τ) (i_ : Nat) {nx lr : Option Nat} {mc : Int32} (h1 : B i_ = some (itE t nx lr mc)) (ho : i_ ≠ t ∧ τ.2.2.2 i_ = false) : GM Y l yJ39_hasNext (ws_ yJ39_hasNext cJ39_hasNext 1 (some FieldType.boolean)) 0 0 [.ref i_] (tG t τ B) n u 0 0 (pI (fun r G' n' u' => b2i nx.isSome = r ∧ tG t τ B = G' ∧ n = n' ∧ u = u')) noX := by
  refine GM.intro (own := RJ39) rfl (by decide +kernel) (Nat.le_of_ble_eq_true rfl) ?_
  intro p e s m args below meth c R Q hC hr hnm hF hL hE
  have hE1 := hE.1
  have hE2 := hE.2.1
  show V Y p l e R s m args below meth c 1 n u (tG t τ B) n u Q 0 [(0, .ref i_)] []
  refine g_aload_n hC dJ39_hasNext_0 rfl 0 rfl ?_
  refine g_get (v := va_rf nx) hC kc_J41 ((tG_b (τ := τ) ho.1 ho.2).trans h1) 0 (by decide) q2672 rfl dJ39_hasNext_1 ?_
  rcases h_4 : nx with _ | s9
  · refine g_ifnullN (tgt := 11) hC dJ39_hasNext_4 (by decide) ?_
    refine g_iconst (v := 0) hC dJ39_hasNext_11 rfl ?_
    refine g_iret hC hr rfl ⟨_, rfl, ?_⟩ (by omega) (by omega) hE dJ39_hasNext_12
    exact ⟨by rw [h_4]; rfl, rfl, rfl, rfl⟩
  · refine g_ifnull hC dJ39_hasNext_4 ?_
    refine g_iconst (v := 1) hC dJ39_hasNext_7 rfl ?_
    refine g_goto (tgt := 12) hC dJ39_hasNext_8 (by decide) ?_
    refine g_iret hC hr rfl ⟨_, rfl, ?_⟩ (by omega) (by omega) hE dJ39_hasNext_12
    exact ⟨by rw [h_4]; rfl, rfl, rfl, rfl⟩
set_option maxHeartbeats 1000000 in
theorem met_J39_nextEntry {Y : YT} {l : Launch} {t n u : Nat} {τ : TS} {B : AH} (hT : TQ_ Y t τ) (i_ : Nat) {q : TQ} {LO HI : Int} {M : MP} {x : Nat} {lr : Option Nat} (hM : TM τ q LO HI M) (hx : τ.2.2.2 x = true) (h1 : B i_ = some (itE t (some x) lr (τ.2.2.1 1))) (ho : i_ ≠ t ∧ τ.2.2.2 i_ = false) (hz : yz Y ≤ i_) : GM Y l yJ39_nextEntry (ws_ yJ39_nextEntry cJ39_nextEntry 2 (some (FieldType.object "java/util/TreeMap$Entry"))) 1 22 [.ref i_] (tG t τ B) n u 0 0 (pQ (fun r G' n' u' => some x = r ∧ ∃ nx, NX τ q (q.1 x) nx ∧ tG t τ (gU (gU B i_ (itE t nx lr (τ.2.2.1 1))) i_ (itE t nx (some x) (τ.2.2.1 1))) = G' ∧ n = n' ∧ u = u')) noX := by
  refine GM.intro (own := RJ39) rfl (by decide +kernel) (Nat.le_of_ble_eq_true rfl) ?_
  intro p e s m args below meth c R Q hC hr hnm hF hL hE
  have hE1 := hE.1
  have hE2 := hE.2.1
  show V Y p l e R s m args below meth c 2 n u (tG t τ B) n u Q 0 [(0, .ref i_)] []
  refine g_aload_n hC dJ39_nextEntry_0 rfl 0 rfl ?_
  refine g_get (v := .ref x) hC kc_J41 ((tG_b (τ := τ) ho.1 ho.2).trans h1) 0 (by decide) q2672 rfl dJ39_nextEntry_1 ?_
  refine g_astore_n (L' := [(1, .ref x), (0, .ref i_)]) hC dJ39_nextEntry_4 rfl (by decide) rfl ?_
  refine g_aload_n hC dJ39_nextEntry_5 rfl 0 rfl ?_
  refine g_ifnonnull (tgt := 17) hC dJ39_nextEntry_6 (by decide) ?_
  refine g_aload_n hC dJ39_nextEntry_17 rfl 1 rfl ?_
  refine g_get (v := .ref t) hC kc_J41 ((tG_b (τ := τ) ho.1 ho.2).trans h1) 3 (by decide) q2675 rfl dJ39_nextEntry_18 ?_
  refine g_getN (v := .int (τ.2.2.1 1)) hC kc_J1 (tG_h (τ := τ)) 5 (by decide) q225 (fun _ h => h) (congrArg (fun z => some (Value.int z)) rfl) dJ39_nextEntry_21 ?_
  refine g_aload_n hC dJ39_nextEntry_24 rfl 1 rfl ?_
  refine g_get (v := .int (τ.2.2.1 1)) hC kc_J41 ((tG_b (τ := τ) ho.1 ho.2).trans h1) 2 (by decide) q2674 rfl dJ39_nextEntry_25 ?_
  refine g_icmp_eq hC dJ39_nextEntry_28 (tgt := 39) (by decide) (fun c_28 => ?_) (fun c_28 => ?_)
  · refine g_aload_n hC dJ39_nextEntry_39 rfl 1 rfl ?_
    refine g_aload_n hC dJ39_nextEntry_40 rfl 0 rfl ?_
    refine g_callq0 hC (g_runS hC (met_J1_successor (τ := τ) (B := B) hT x (q := q) (LO := LO) (HI := HI) hM.tw hx) (lw_S q2266 q2267 q85 q2268) md_J1_successor dJ39_nextEntry_41 rfl ⟨by omega, by omega⟩ (by omega) (by omega) rfl (Nat.le_of_ble_eq_true rfl)) (fun r_1 G_1 n_1 u_1 hp_1 hn_1 hm_1 hu_1 => ?_)
    obtain ⟨hnx, rfl, rfl, rfl⟩ := hp_1
    refine t_putO (τ := τ) hC kc_J41 h1 ho 0 (by decide) q2672 rfl (rf_nar _) (rf_fit _) (by show 0 < 4; decide) rfl (by omega) dJ39_nextEntry_44 ?_
    refine g_aload_n hC dJ39_nextEntry_47 rfl 1 rfl ?_
    refine g_aload_n hC dJ39_nextEntry_48 rfl 0 rfl ?_
    refine t_putO (τ := τ) hC kc_J41 (gU_s _ _ _) ho 1 (by decide) q2673 rfl rfl rfl (by show 1 < 4; decide) rfl (by omega) dJ39_nextEntry_49 ?_
    refine g_aload_n hC dJ39_nextEntry_52 rfl 0 rfl ?_
    refine g_aret (v := some x) hC hr (by first | exact Or.inl ⟨_, rfl⟩ | exact Or.inr ⟨_, rfl⟩) ⟨_, rfl, ?_⟩ (by omega) (by omega) hE dJ39_nextEntry_53
    exact ⟨rfl, _, hnx, rfl, rfl, rfl⟩
  · exact absurd rfl c_28
