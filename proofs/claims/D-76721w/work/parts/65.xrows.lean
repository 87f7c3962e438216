set_option maxRecDepth 100000
/-! ROWS 3: catching; arrays of plug-ins -/
section XR
variable {Y : YT} {p : Program} {l : Launch} {e : Env} {R : Room} {s : State} {m : MethodId} {args : Array Value} {below : List Frame} {meth : Method} {c : Code} {nL n0 u0 : Nat} {G : AH} {nn uu : Nat} {Q : State → Prop} {pc : Nat} {L : List (Nat × Value)} {rest : List Value} {cc : ByteArray} {own : String} {hh : List (Nat × Nat × Nat × Nat)}
theorem vx_catchG {H : Heap} {locs : List Loc} {cells slots : Nat} {ls : Array Slot} {own : String} {E : String} {ce : Cell} {q : Addr} (hown : s.vm.findClass own = some m.cls) (pre : List ExceptionTableEntry) (x : ExceptionTableEntry) (suf : List ExceptionTableEntry) (hsplit : c.exceptionTable.toList = pre ++ x :: suf)
    (hpass : ∀ z ∈ pre, covers z pc = false ∨ (z.catchType ≠ 0 ∧ ∃ nm : String, (Cond.classLink own z.catchType nm).before args s = true ∧ va_Nc E nm s)) (hx : covers x pc = true)
    (hgo : x.catchType = 0 ∨ (x.catchType ≠ 0 ∧ ∃ name : String, (Cond.classLink own x.catchType name).before args s = true ∧ ∀ comp c0 : ClassId, s.vm.findClass name = some comp → s.vm.findClass E = some c0 → s.vm.assignable c0 comp = true)) (hcell : H[q]? = some ce) (hv : ce.vm = .none) (hcl : s.vm.findClass E = some ce.cls)
    (kk : W p l e R s m args below meth c H locs cells slots Q (F0 m x.handlerPc ls [.ref q])) : vx_W p l e R s m args below meth c H locs cells slots Q (F0 m pc ls rest) q := by
  intro T hT X
  have hpl : e.platform.magicAccessors = ({} : Platform).magicAccessors := by rw [X.admits.platform]
  obtain ⟨vm', X', st⟩ := X.thenCaughtThrough q (g := F0 m pc ls rest) rfl (Steps.refl _) (by rw [hT]; exact hcell) (by rw [hv]; rfl) (by obtain ⟨k9, h9, -⟩ := Vm.findClass_spec hcl; exact ⟨k9, h9⟩) pre x suf hsplit
    (fun z hz => by
      rcases hpass z hz with h | ⟨hz0, nm, hl1, hn1⟩
      · exact Or.inl h
      · obtain ⟨c6, hc6, hcl6⟩ := Cond.classLink_spec hown hl1 e.platform hpl
        obtain ⟨a8, b8, h1, h2, h3⟩ := hn1
        cases Option.some.inj (h1.symm.trans hcl)
        cases Option.some.inj (h2.symm.trans hc6)
        exact Or.inr ⟨hz0, _, hcl6, h3⟩) hx (by
      rcases hgo with h0 | ⟨h0, name, hl, hasg⟩
      · exact Or.inl h0
      · obtain ⟨c5, hc5, hcl5⟩ := Cond.classLink_spec hown hl e.platform hpl
        exact Or.inr ⟨h0, c5, hcl5, hasg _ _ hc5 hcl⟩)
  obtain ⟨t, a1, b1⟩ := kk (T.setVm vm') hT X'
  exact ⟨t, st.trans a1, b1⟩
theorem g_catchG {n0 u0 : Nat} {E : String} {q : Nat} (hC : CX Y p s m args meth c cc nL own hh n0 u0) (pre : List ExceptionTableEntry) (x : ExceptionTableEntry) (suf : List ExceptionTableEntry) (hsplit : tableOf hh = pre ++ x :: suf) (hpass : ∀ z ∈ pre, covers z pc = false ∨ (z.catchType ≠ 0 ∧ ∃ nm : String, Cond.classLink own z.catchType nm ∈ lw_all ∧ Cond.not (.castable E nm) ∈ flatC narrow_1)) (hx : covers x pc = true) (hgo : x.catchType = 0 ∨ (x.catchType ≠ 0 ∧ ∃ name : String, Cond.classLink own x.catchType name ∈ lw_all ∧ ∀ comp c0 : ClassId, s.vm.findClass name = some comp → s.vm.findClass E = some c0 → s.vm.assignable c0 comp = true)) {hp : Nat} (hhp : x.handlerPc = hp)
    (kk : V Y p l e R s m args below meth c nL n0 u0 G nn uu Q hp L [.ref q]) : VX Y p l e R s m args below meth c nL n0 u0 G nn uu Q pc L E q := by
  intro H locs ls rest ce g aS b c1 c2 c3
  subst hhp
  exact vx_catchG hC.own pre x suf (by rw [hC.tb]; exact hsplit) (fun z hz => (hpass z hz).imp id (fun ⟨x1, nm, x2, x3⟩ => ⟨x1, nm, hC.ts _ x2, hC.K.nc x3⟩)) hx (hgo.imp id (fun ⟨x1, nm, x2, x3⟩ => ⟨x1, nm, hC.ts _ x2, x3⟩)) c1 c2 c3 (kk H locs ls g aS b)
/-- a plug-in of whatever kind laid into an array -/
theorem g_aastP (hC : CX Y p s m args meth c cc nL own hh n0 u0) {kd a v t0 N : Nat} {fs : List Value} {f f' : Nat → Option Nat} (hk : kd ≤ 4) (hv : G v = some (.inr (11 + kd, fs))) (hg : G a = some (.inl (yA Y t0, N, .inr (.inr (.inr (.inr f)))))) (ht : (t0 = 6 ∧ True = True) ∨ (t0 = 11 ∧ True = True)) {i : Int32} (hin : vp_in i N) (hz : yz Y ≤ a) (hf : va_up f i.toNatClampNeg (some v) = f') {G' : AH} (hG : gU G a (.inl (yA Y t0, N, .inr (.inr (.inr (.inr f'))))) = G') (hdg : decode cc pc = .ok (.aastore, 1))
    (kk : V Y p l e R s m args below meth c nL n0 u0 G' nn uu Q (pc + 1) L rest) : V Y p l e R s m args below meth c nL n0 u0 G nn uu Q pc L (.ref v :: .int i :: .ref a :: rest) := by
  rcases ht with ⟨rfl, -⟩ | ⟨rfl, -⟩
  · rcases kd with _ | _ | _ | _ | _ | kd
    · exact g_aastG (t0 := 6) (E := "PluginChains$Plain") hC kc_X12 hv hg rfl (asgS hC.K kc_X12) hin hz hf hG hdg kk

    · exact g_aastG (t0 := 6) (E := "PluginChains$Plain") hC kc_X13 hv hg rfl (asgY hC.K q4035) hin hz hf hG hdg kk
    · exact g_aastG (t0 := 6) (E := "PluginChains$Plain") hC kc_X14 hv hg rfl (asgY hC.K q4038) hin hz hf hG hdg kk
    · exact g_aastG (t0 := 6) (E := "PluginChains$Plain") hC kc_X15 hv hg rfl (asgY hC.K q4036) hin hz hf hG hdg kk
    · exact g_aastG (t0 := 6) (E := "PluginChains$Plain") hC kc_X16 hv hg rfl (asgY hC.K q4037) hin hz hf hG hdg kk
    · omega
  · rcases kd with _ | _ | _ | _ | _ | kd
    · exact g_aastG (t0 := 11) (E := "java/lang/Object") hC kc_X12 hv hg rfl (asgY hC.K q4046) hin hz hf hG hdg kk
    · exact g_aastG (t0 := 11) (E := "java/lang/Object") hC kc_X13 hv hg rfl (asgY hC.K q4064) hin hz hf hG hdg kk
    · exact g_aastG (t0 := 11) (E := "java/lang/Object") hC kc_X14 hv hg rfl (asgY hC.K q4065) hin hz hf hG hdg kk
    · exact g_aastG (t0 := 11) (E := "java/lang/Object") hC kc_X15 hv hg rfl (asgY hC.K q4066) hin hz hf hG hdg kk
    · exact g_aastG (t0 := 11) (E := "java/lang/Object") hC kc_X16 hv hg rfl (asgY hC.K q4067) hin hz hf hG hdg kk
    · omega
theorem g_castP (hC : CX Y p s m args meth c cc nL own hh n0 u0) {kd a index : Nat} {fs : List Value} (hk : kd ≤ 4) (hg : G a = some (.inr (11 + kd, fs))) (hlink : Cond.classLink own index "PluginChains$Plain" ∈ lw_all) (hdg : decode cc pc = .ok (.checkcast index, 3))
    (kk : V Y p l e R s m args below meth c nL n0 u0 G nn uu Q (pc + 3) L (.ref a :: rest)) : V Y p l e R s m args below meth c nL n0 u0 G nn uu Q pc L (.ref a :: rest) := by
  rcases kd with _ | _ | _ | _ | _ | kd
  · exact g_castS hC kc_X12 hg hlink hdg kk
  · exact g_castY hC kc_X13 hg hlink q4035 hdg kk
  · exact g_castY hC kc_X14 hg hlink q4038 hdg kk
  · exact g_castY hC kc_X15 hg hlink q4036 hdg kk
  · exact g_castY hC kc_X16 hg hlink q4037 hdg kk
  · omega
theorem g_instP (hC : CX Y p s m args meth c cc nL own hh n0 u0) {kd a index : Nat} {fs : List Value} (hk : kd ≤ 4) (hg : G a = some (.inr (11 + kd, fs))) (hlink : Cond.classLink own index "PluginChains$Plain" ∈ lw_all) (hdg : decode cc pc = .ok (.instanceof index, 3))
    (kk : V Y p l e R s m args below meth c nL n0 u0 G nn uu Q (pc + 3) L (.int 1 :: rest)) : V Y p l e R s m args below meth c nL n0 u0 G nn uu Q pc L (.ref a :: rest) := by
  rcases kd with _ | _ | _ | _ | _ | kd
  · exact g_instS hC kc_X12 hg hlink hdg kk
  · exact g_instY hC kc_X13 hg hlink q4035 hdg kk
  · exact g_instY hC kc_X14 hg hlink q4038 hdg kk
  · exact g_instY hC kc_X15 hg hlink q4036 hdg kk
  · exact g_instY hC kc_X16 hg hlink q4037 hdg kk
  · omega
end XR
