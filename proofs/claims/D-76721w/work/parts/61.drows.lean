set_option maxRecDepth 100000
/-! ROWS 4: a call by an interface that lands in a default method (after the rows of part 05) -/
theorem id_lands {s : State} {args : Array Value} {C : String} {x y : MethodName} {c : ClassId} {r m : MethodId} (hc : s.vm.findClass C = some c) (hr : s.methodFound? x.cls x.name x.desc = some r) (hm : s.methodNamed? y = some m) (h : (Cond.landsInDefault C x y).before args s = true) : selectMethod {} s.vm c r = .method m := by
  simp only [Cond.before, Cond.holds, Cond.value, hc, hr, hm] at h
  cases hrm : s.vm.method? r with
  | none => simp [hrm] at h
  | some rm =>
    cases hsel : selectMethod {} s.vm c r with
    | method m' => simp [hrm, hsel] at h; rw [h.1.1.1.1]
    | _ => simp [hrm, hsel] at h
section
variable {p : Program} {l : Launch} {e : Env} {R : Room} {s : State} {m : MethodId} {args : Array Value} {below : List Frame} {meth : Method} {c : Code} {H : Heap} {locs : List Loc} {cells slots : Nat} {Q : State → Prop}
theorem id_call {T : State} (X : Stand p l e R s m args below meth c T locs cells slots) (hexec : p.tables.exec = Jvm.exec) {own C : String} {index count : Nat} {x y : MethodName} {bytes : ByteArray} {maxL : Nat} {ret : Option FieldType}
    (hown : s.vm.findClass own = some m.cls) (hlink : (Cond.methodLink own index x).before args s = true) (hdecl : (Cond.declares x).before args s = true) (hface : (Cond.interfaceMethod x.cls x.cls x.name x.desc).before args s = true)
    {s0 : State} {A0 : Array Value} (hW0 : s0.WarmedH s.vm) (hland : (Cond.landsInDefault C x y).before A0 s0 = true) (hinst : (Cond.instanceMethod y).before args s = true) (hpub : (Cond.publicMethod y).before args s = true) (hunh : (Cond.unhidden C x.name x.desc).before args s = true)
    (hcast : (Cond.castable C x.cls).before args s = true) (hcode : (Cond.code y bytes maxL ret).before args s = true) (hx : x.cls ≠ "java/lang/invoke/MethodHandle" ∧ x.cls ≠ "java/lang/invoke/VarHandle")
    {W9 : Nat} {Pre : Pt → Array Value → Prop} {Post : Pt → Array Value → Option Value → Pt → Prop} {PostX : Pt → Array Value → Addr → Pt → Prop} (hK : vx_Back l R p e below s args y 5 W9 Pre Post PostX)
    {b : Addr} {cellB : Cell} {kB : Class} (hcell : T.heap[b]? = some cellB) (hobj : cellB.vm.isStatics = false) (hcls : s.vm.findClass C = some cellB.cls) (hkB : s.vm.classes[cellB.cls]? = some kB)
    {g : JFrame} (hg : g.method = m) (hsize : g.locals.size = c.maxLocals) {argsL rest : List Value} (hlen : ∀ sig, parseMethodDescriptor x.desc = some sig → argsL.length = sig.parameters.length)
    (hstack : g.stack = argsL.reverse ++ .ref b :: rest) (hW : 2 * g.monitorRoom + (rest.map fun v => v.category).sum ≤ W9) (hdg : decode c.code g.pc = .ok (.invokeinterface index count, 5))
    (hpre : ∀ vm₁, s.WarmedH vm₁ → Pre ⟨T.setVm vm₁, locs, cells, slots⟩ (Value.ref b :: argsL).toArray) :
    (∃ (v : Option Value) (vm₁ : Vm) (B : Pt), s.WarmedH vm₁ ∧ Stand p l e R s m args below meth c B.U B.locs B.cells B.slots ∧ Post ⟨T.setVm vm₁, locs, cells, slots⟩ (Value.ref b :: argsL).toArray v B ∧
      ∀ target, Steps p.tables e below (B.U.setTop { g with pc := g.pc + 5, stack := v.toList ++ rest }) target → Steps p.tables e below (T.setTop g) target) ∨
    (∃ (q : Addr) (vm₁ : Vm) (B : Pt), s.WarmedH vm₁ ∧ Stand p l e R s m args below meth c B.U B.locs B.cells B.slots ∧ PostX ⟨T.setVm vm₁, locs, cells, slots⟩ (Value.ref b :: argsL).toArray q B ∧
      Steps p.tables e below (T.setTop g) ((B.U.setTop { g with stack := rest }).pushFrame (.throwing q))) := by
  obtain ⟨r0, r, hn, hrm, hstR, hsigR⟩ := Cond.declares_spec hdecl
  obtain ⟨cL, kL, r1, hcL, hkL, hiL, hfoundL, hn1⟩ := Cond.interfaceMethod_spec hface
  cases hn.symm.trans hn1
  have hr0cls : r0.cls = cL := Option.some.inj ((findClass_of_methodNamed hn).symm.trans hcL)
  obtain ⟨hnameR, hdescR⟩ := name_of_methodNamed hn hrm
  obtain ⟨mk, methM, hnamed, hmethM, -, habM⟩ := Cond.instanceMethod_spec hinst
  have q4 : selectMethod {} s.vm cellB.cls r0 = .method mk := by
    have e1 : s0.vm.findClass C = some cellB.cls := by rw [← hW0.alike.findClass]; exact hcls
    have e2 : s0.methodNamed? x = some r0 := by rw [← State.methodNamed?_setVm (s := s0) hW0.alike]; exact hn
    have e3 : s0.methodNamed? y = some mk := by rw [← State.methodNamed?_setVm (s := s0) hW0.alike]; exact hnamed
    have e4 : s0.methodFound? x.cls x.name x.desc = some r0 := State.methodFound?_of_named e2 hx
    have e5 := id_lands e1 e4 e3 hland
    exact (hW0.alike.selectMethod _ _ _).trans e5
  have hselP : selectMethod e.platform s.vm cellB.cls r0 = .method mk := by rw [Launch.admits_selectMethod X.admits]; exact q4
  have hpubM : hasFlag methM.accessFlags Acc.public_ = true := Cond.publicMethod_spec hnamed hmethM hpub
  have hway : ((cellB.cls :: s.vm.superclasses cellB.cls).any fun k => (declaredIn s.vm r.name r.desc k).any fun (_, z) => z.isPrivate || z.isStatic) = false := by
    rw [hnameR, hdescR]; exact Cond.unhidden_spec hcls hunh
  obtain ⟨c3, t3, w1, w2, w3⟩ := Cond.castable_spec hcast
  cases hcls.symm.trans w1
  cases hcL.symm.trans w2
  obtain ⟨vm₁, X₁, hstep₁⟩ := X.invokeinterface hexec hown hlink hn hrm hstR (by rw [hr0cls]; exact hkL) hiL hx (a := b) (cell := cellB) (kcell := kB) hcell
    (fun z h => by rw [h] at hobj; cases hobj) hkB (by rw [hr0cls]; exact w3) hselP hmethM hway hpubM habM (g := g) hg (argsL := argsL) (rest := rest) (hlen _ hsigR) hstack hdg
  rcases hK m meth c ⟨T.setVm vm₁, locs, cells, slots⟩ { g with stack := rest } (.invokeinterface index count) mk (Value.ref b :: argsL).toArray X₁ hg hsize hdg hW (X₁.named hnamed) (hpre vm₁ X₁.warmed) with ⟨v, B, X', hpost, hsteps⟩ | ⟨q, B, X', hpost, hsteps⟩
  · exact Or.inl ⟨v, vm₁, B, X₁.warmed, X', hpost, fun target h => hstep₁ _ fun acts => by rw [doInvoke_state]; exact hsteps.trans h⟩
  · exact Or.inr ⟨q, vm₁, B, X₁.warmed, X', hpost, hstep₁ _ fun acts => by rw [doInvoke_state]; exact hsteps⟩
theorem id_run {x y : MethodName} {bytes cc : ByteArray} {maxL nL mc ms n index count : Nat} {ret : Option FieldType} {ws : List Cond} {rm : Room} {Pc : Array Value → State → Prop} {Qc : Array Value → State → Outcome → State → Prop} {XC : String → Addr → State → State → Prop} {free : Addr → Prop} {Ts : List Cond} {own C : String} {cC : ClassId} {b : Addr} {As rest : List Value} {g : JFrame}
    (hat : ClassAt s C cC) (S : CallFix p m c cc nL s args Ts own) (hM : vx_Met l y ws rm Pc Qc XC mc ms free) (back : rm.cells = mc ∧ rm.slots = ms ∧ rm.frames + 1 ≤ R.frames ∧ 8 + (maxL + 11) + rm.locals ≤ R.locals ∧ (∀ w ∈ ws, ∀ (a' : Array Value) (U : State), s.WarmedH U.vm → w.before a' U = true) ∧ Cond.code y bytes maxL ret ∈ ws)
    {s0 : State} {A0 : Array Value} (hW0 : s0.WarmedH s.vm) (hland : (Cond.landsInDefault C x y).before A0 s0 = true) (hlink : (Cond.methodLink own index x).before args s = true) (hface : (Cond.interfaceMethod x.cls x.cls x.name x.desc).before args s = true) (hdecl : (Cond.declares x).before args s = true)
    (hinst : (Cond.instanceMethod y).before args s = true) (hpub : (Cond.publicMethod y).before args s = true) (hunh : (Cond.unhidden C x.name x.desc).before args s = true)
    (hcast : (Cond.castable C x.cls).before args s = true) (hini : (Cond.initialized y.cls).before args s = true) (hcode : (Cond.code y bytes maxL ret).before args s = true) (hnm : x.cls ≠ "java/lang/invoke/MethodHandle" ∧ x.cls ≠ "java/lang/invoke/VarHandle")
    (hlen : ∀ sig, parseMethodDescriptor x.desc = some sig → n = sig.parameters.length) (hp : PreV s H C b Pc As)
    (hg : g.method = m) (hn : As.length = n) (hsize : g.locals.size = nL) (hstack : g.stack = As.reverse ++ .ref b :: rest) (hW : 2 * g.monitorRoom + (rest.map fun v => v.category).sum ≤ 8) (hdg : decode cc g.pc = .ok (.invokeinterface index count, 5)) (hf : cells + mc ≤ R.cells ∧ slots + ms ≤ R.slots) :
    vx_Run5 p l e R s m args below meth c H locs cells slots mc ms g rest (Qc (Value.ref b :: As).toArray) XC free := by
  obtain ⟨hrc, hrs, hfr, hlo, hws, hcw⟩ := back
  have hK : vx_Back l R p e below s args y 5 8 (PreOf R mc ms Pc) (PostOf Qc mc ms free) (vx_Post XC mc ms free) := vx_back (bytes := bytes) (maxL := maxL) (ret := ret) hM hp.1 hrc hrs hfr hlo hws hcw (fun a' U hW => word_at hW (Or.inl (by first | rfl | simp [Cond.onTables, Cond.keeps, Cond.steady])) hini)
  obtain ⟨hx, hb, hml, ho, -⟩ := S
  obtain ⟨-, ⟨cellB, hcB, hoB, hclB⟩, hPc⟩ := hp
  obtain ⟨hfc, kB, hkB, -⟩ := hat
  cases hfc.symm.trans hclB
  intro T hT X
  rcases id_call X hx (C := C) (bytes := bytes) (maxL := maxL) (ret := ret) ho hlink hdecl hface hW0 hland hinst hpub hunh hcast hcode hnm hK (by rw [hT]; exact hcB) hoB hclB hkB hg (hsize.trans hml.symm) (argsL := As) (rest := rest) (fun sig h => hn.trans (hlen sig h)) hstack hW (by rw [hb]; exact hdg)
    (fun vm₁ hW₁ => ⟨hf.1, hf.2, hPc (T.setVm vm₁) hT hW₁⟩) with ⟨v, vm₁, ⟨U', l2, c2, s2⟩, hW₁, X', ⟨g', mk, t, L, e1, e2, hq, h1, hL, h2, h3⟩, st⟩ | ⟨q, vm₁, ⟨U', l2, c2, s2⟩, hW₁, X', ⟨g', mk, t, L, E, ce, e1, e2, hq, hce, hcv, hcl, h1, hL, h2, h3⟩, st⟩
  · dsimp only [Pt.U, Pt.locs, Pt.cells, Pt.slots] at X' e1 e2 h1 h2 h3 st
    subst h1; subst h2; subst h3
    exact Or.inl ⟨v, (T.setVm vm₁).calling g' mk (Value.ref b :: As).toArray, t, U', L, hT, X', hL, e1, e2, hq, st⟩
  · dsimp only [Pt.U, Pt.locs, Pt.cells, Pt.slots] at X' e1 e2 h1 h2 h3 st hcl
    subst h1; subst h2; subst h3
    exact Or.inr ⟨q, (T.setVm vm₁).calling g' mk (Value.ref b :: As).toArray, t, U', L, E, ce, hT, X', hL, e1, e2, hq, hce, hcv, vx_cls hW₁ hcl, st⟩
end
section
variable {Y : YT} {p : Program} {l : Launch} {e : Env} {R : Room} {s : State} {m : MethodId} {args : Array Value} {below : List Frame} {meth : Method} {c : Code} {nL n0 u0 : Nat} {G : AH} {nn uu : Nat} {Q : State → Prop} {pc : Nat} {L : List (Nat × Value)} {rest : List Value} {cc : ByteArray} {own : String} {hh : List (Nat × Nat × Nat × Nat)} {kc ku n : Nat} {PR : Option Value → AH → Nat → Nat → Prop} {PX : String → Nat → AH → Nat → Nat → Prop}
theorem g_runFD {x y : MethodName} {bytes : ByteArray} {maxL index count fr lo : Nat} {ret : Option FieldType} {As st0 : List Value} {C : String} {T : u_T} {N ci b : Nat} {ty : Nat → FieldType} {fs : List Value} (hC : CX Y p s m args meth c cc nL own hh n0 u0) (hM : GM Y l y (ws_ y bytes maxL ret) fr lo (.ref b :: As) G nn uu kc ku PR PX) (kcl : KCl ci C T N ty) (hb : G b = some (.inr (ci, fs)))
    (hl : Cond.methodLink own index x ∈ lw_all) (hla : Cond.landsInDefault C x y ∈ flatC narrow_1) (hin : Cond.instanceMethod y ∈ lw_all) (hini : Cond.initialized y.cls ∈ lw_all) (hco : Cond.code y bytes maxL ret ∈ lw_all)
    (h1 : Cond.declares x ∈ lw_tbl) (h2 : Cond.interfaceMethod x.cls x.cls x.name x.desc ∈ lw_tbl) (h3 : Cond.publicMethod y ∈ lw_tbl) (h4 : Cond.unhidden C x.name x.desc ∈ lw_tbl) (h5 : Cond.castable C x.cls ∈ lw_tbl) (md : mdK x n) (hdg : decode cc pc = .ok (.invokeinterface index count, 5)) (hn : As.length = n) (hR : fr + 1 ≤ R.frames ∧ 8 + (maxL + 11) + lo ≤ R.locals) (hrc : nn + kc ≤ n0 + R.cells) (hru : uu + ku ≤ u0 + R.slots) (hst : As.reverse ++ .ref b :: rest = st0) (hW : (rest.map fun v => v.category).sum ≤ 8) : GRun Y p l e R s m args below meth c nL n0 u0 G nn uu pc 5 L st0 rest kc ku PR PX := by
  subst hst
  refine GRun.of5 (Zc' := R.cells - (nn - n0)) (Zu' := R.slots - (uu - u0)) (a := ((.ref b :: As) : List Value).toArray) hC fun H locs ls g aS b hn0 hu0 => ?_
  obtain ⟨b0, f0⟩ := hC.K.2.2
  have nar : ∀ {w : Cond}, w ∈ flatC narrow_1 → w.before #[Value.ref b0] (yS Y) = true := fun {w} hw => flat_of_before _ f0.2 w (show w ∈ flatC given_1 ++ flatC narrow_1 from List.mem_append_right _ hw)
  have hp2 := md.2.2
  have fc := hC.K.face ⟨md.1, md.2.1⟩ h1 h2 h3 h4 h5
  refine id_run (A0 := #[Value.ref b0]) (g_castat hC.K kcl) hC.fix (hM (R.cells - (nn - n0)) (R.slots - (uu - u0)) (by omega) (by omega)) ⟨rfl, rfl, hR.1, hR.2, pay_in hC.ts (lw_meth hco), by simp [ws_]⟩ hC.K.2.1 (nar hla) (hC.ts _ hl)
    (va_any rfl fc.2.1) (va_any rfl fc.1) (hC.ts _ hin) (va_any rfl fc.2.2.1) (va_any rfl fc.2.2.2.1) (va_any rfl fc.2.2.2.2) (hC.ts _ hini) (hC.ts _ hco) ⟨md.1, md.2.1⟩ (fun sig h => ?_)
    ⟨GPre.blind, g_recv hC.K g kcl hb, g_pre hC g aS⟩ rfl hn b.1 rfl (lv_room hW) hdg ⟨by omega, by omega⟩
  rw [h] at hp2
  exact (Option.some.inj hp2).symm
end
theorem nw_above : Cond.landsInDefault "PluginChains$Runner" ⟨"PluginChains$Strong", "isAbove", "(LPluginChains$Strong;)Z"⟩ ⟨"PluginChains$Strong", "isAbove", "(LPluginChains$Strong;)Z"⟩ ∈ flatC narrow_1 := by decide +kernel
