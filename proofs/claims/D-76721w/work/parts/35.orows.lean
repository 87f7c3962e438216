set_option maxRecDepth 100000
/-! ROWS 2: casts, arrays of references, calls by an interface -/
theorem lw_F {own : String} {idx : Nat} {C : String} {x y : MethodName} {b : ByteArray} {L : Nat} {r : Option FieldType} (h1 : Cond.methodLink own idx x ∈ lw_all) (h2 : Cond.selects C x y ∈ lw_all) (h3 : Cond.instanceMethod y ∈ lw_all) (h4 : Cond.initialized y.cls ∈ lw_all) (h5 : Cond.code y b L r ∈ lw_all) : GoodIn lw_all (va_wsF own idx C x y (ws_ y b L r)) := by
  refine lw_app ?_ (lw_meth h5)
  intro w hw
  simp only [List.mem_cons, List.not_mem_nil, or_false] at hw
  rcases hw with e | e | e | e
  · rw [e]; exact h1
  · rw [e]; exact h2
  · rw [e]; exact h3
  · rw [e]; exact h4
theorem lw_FW {own : String} {idx : Nat} {C : String} {x y : MethodName} {b : ByteArray} {L : Nat} {r : Option FieldType} {hh : List (Nat × Nat × Nat × Nat)} (h1 : Cond.methodLink own idx x ∈ lw_all) (h2 : Cond.selects C x y ∈ lw_all) (h3 : Cond.instanceMethod y ∈ lw_all) (h4 : Cond.initialized y.cls ∈ lw_all) (h5 : Cond.codeWith y b L r hh ∈ lw_all) : GoodIn lw_all (va_wsF own idx C x y (wsW_ y b L r hh)) := by
  refine lw_app ?_ (lw_methW h5)
  intro w hw
  simp only [List.mem_cons, List.not_mem_nil, or_false] at hw
  rcases hw with e | e | e | e
  · rw [e]; exact h1
  · rw [e]; exact h2
  · rw [e]; exact h3
  · rw [e]; exact h4
theorem KK.face {Y : YT} {U : State} (h : KK Y U) {C : String} {x y : MethodName} (hx : x.cls ≠ "java/lang/invoke/MethodHandle" ∧ x.cls ≠ "java/lang/invoke/VarHandle") (h1 : Cond.declares x ∈ lw_tbl) (h2 : Cond.interfaceMethod x.cls x.cls x.name x.desc ∈ lw_tbl) (h3 : Cond.publicMethod y ∈ lw_tbl) (h4 : Cond.unhidden C x.name x.desc ∈ lw_tbl) (h5 : Cond.castable C x.cls ∈ lw_tbl) : va_Fw C x y U := by
  obtain ⟨b, hb, -⟩ := h.2.2
  exact (va_Fw.of (hb _ h1) (hb _ h2) (hb _ h3) (hb _ h4) (hb _ h5)).moved hx h.2.1.alike
section OR
variable {Y : YT} {p : Program} {l : Launch} {e : Env} {R : Room} {s : State} {m : MethodId} {args : Array Value} {below : List Frame} {meth : Method} {c : Code} {nL n0 u0 : Nat} {G : AH} {nn uu : Nat} {Q : State → Prop} {pc : Nat} {L : List (Nat × Value)} {rest : List Value} {cc : ByteArray} {own : String} {hh : List (Nat × Nat × Nat × Nat)} {kc ku n : Nat} {PR : Option Value → AH → Nat → Nat → Prop} {PX : String → Nat → AH → Nat → Nat → Prop}
theorem V.lt {a : Nat} {ex : va_E} (hg : G a = some ex) (k : a < nn → V Y p l e R s m args below meth c nL n0 u0 G nn uu Q pc L rest) : V Y p l e R s m args below meth c nL n0 u0 G nn uu Q pc L rest := fun H locs ls g aS b => k (g.lt hg) H locs ls g aS b
theorem g_castY (hC : CX Y p s m args meth c cc nL own hh n0 u0) {C nm : String} {T : u_T} {N ci a index : Nat} {ty : Nat → FieldType} {fs : List Value} (kc : KCl ci C T N ty) (hg : G a = some (.inr (ci, fs))) (hlink : Cond.classLink own index nm ∈ lw_all) (hca : Cond.castable C nm ∈ lw_tbl) (hdg : decode cc pc = .ok (.checkcast index, 3))
    (kk : V Y p l e R s m args below meth c nL n0 u0 G nn uu Q (pc + 3) L (.ref a :: rest)) : V Y p l e R s m args below meth c nL n0 u0 G nn uu Q pc L (.ref a :: rest) := fun H locs ls g aS b =>
  va_castY hC.x hC.b hC.own (hC.ts _ hlink) (hC.K.cast hca) (g_recv hC.K g kc hg) hdg (kk H locs ls g aS b)
theorem g_castS (hC : CX Y p s m args meth c cc nL own hh n0 u0) {C : String} {T : u_T} {N ci a index : Nat} {ty : Nat → FieldType} {fs : List Value} (kc : KCl ci C T N ty) (hg : G a = some (.inr (ci, fs))) (hlink : Cond.classLink own index C ∈ lw_all) (hdg : decode cc pc = .ok (.checkcast index, 3))
    (kk : V Y p l e R s m args below meth c nL n0 u0 G nn uu Q (pc + 3) L (.ref a :: rest)) : V Y p l e R s m args below meth c nL n0 u0 G nn uu Q pc L (.ref a :: rest) := fun H locs ls g aS b =>
  va_castS hC.x hC.b hC.own (hC.ts _ hlink) (g_castat hC.K kc) (g_recv hC.K g kc hg) hdg (kk H locs ls g aS b)
theorem g_instY (hC : CX Y p s m args meth c cc nL own hh n0 u0) {C nm : String} {T : u_T} {N ci a index : Nat} {ty : Nat → FieldType} {fs : List Value} (kc : KCl ci C T N ty) (hg : G a = some (.inr (ci, fs))) (hlink : Cond.classLink own index nm ∈ lw_all) (hca : Cond.castable C nm ∈ lw_tbl) (hdg : decode cc pc = .ok (.instanceof index, 3))
    (kk : V Y p l e R s m args below meth c nL n0 u0 G nn uu Q (pc + 3) L (.int 1 :: rest)) : V Y p l e R s m args below meth c nL n0 u0 G nn uu Q pc L (.ref a :: rest) := fun H locs ls g aS b =>
  va_instY hC.x hC.b hC.own (hC.ts _ hlink) (hC.K.cast hca) (g_recv hC.K g kc hg) hdg (kk H locs ls g aS b)
theorem g_instS (hC : CX Y p s m args meth c cc nL own hh n0 u0) {C : String} {T : u_T} {N ci a index : Nat} {ty : Nat → FieldType} {fs : List Value} (kc : KCl ci C T N ty) (hg : G a = some (.inr (ci, fs))) (hlink : Cond.classLink own index C ∈ lw_all) (hdg : decode cc pc = .ok (.instanceof index, 3))
    (kk : V Y p l e R s m args below meth c nL n0 u0 G nn uu Q (pc + 3) L (.int 1 :: rest)) : V Y p l e R s m args below meth c nL n0 u0 G nn uu Q pc L (.ref a :: rest) := fun H locs ls g aS b =>
  va_instS hC.x hC.b hC.own (hC.ts _ hlink) (g_castat hC.K kc) (g_recv hC.K g kc hg) hdg (kk H locs ls g aS b)
theorem g_instNo (hC : CX Y p s m args meth c cc nL own hh n0 u0) {C nm : String} {T : u_T} {N ci a index : Nat} {ty : Nat → FieldType} {fs : List Value} (kc : KCl ci C T N ty) (hg : G a = some (.inr (ci, fs))) (hlink : Cond.classLink own index nm ∈ lw_all) (hca : Cond.not (.castable C nm) ∈ flatC narrow_1) (hdg : decode cc pc = .ok (.instanceof index, 3))
    (kk : V Y p l e R s m args below meth c nL n0 u0 G nn uu Q (pc + 3) L (.int 0 :: rest)) : V Y p l e R s m args below meth c nL n0 u0 G nn uu Q pc L (.ref a :: rest) := fun H locs ls g aS b =>
  va_instNo hC.x hC.b hC.own (hC.ts _ hlink) (hC.K.nc hca) (g_recv hC.K g kc hg) hdg (kk H locs ls g aS b)
theorem g_aald (hC : CX Y p s m args meth c cc nL own hh n0 u0) {a t0 N : Nat} {cA : ClassId} {E : String} {f : Nat → Option Nat} (hg : G a = some (.inl (cA, N, .inr (.inr (.inr (.inr f)))))) (ht : (tyA (yA Y))[t0]? = some (cA, .object E)) {i : Int32} (hin : vp_in i N) {r : Option Nat} (hr : f i.toNatClampNeg = r) (hdg : decode cc pc = .ok (.aaload, 1))
    (kk : V Y p l e R s m args below meth c nL n0 u0 G nn uu Q (pc + 1) L (va_rf r :: rest)) : V Y p l e R s m args below meth c nL n0 u0 G nn uu Q pc L (.int i :: .ref a :: rest) := fun H locs ls g aS b => by
  obtain ⟨cell, q1, q2, q3, q4, q5, -⟩ := (g.1 _ _ hg).ar
  have hlt : i.toNatClampNeg < N := Nat.not_le.mp fun q => hin (Or.inr q)
  subst hr
  exact W.aald (v := va_rf (f i.toNatClampNeg)) (ty := .object E) hC.x hC.b q1 (arr_of_cls ((hC.K.1.2 t0 _ ht).1 N (fun j => va_rf (f j))) q2 q3) rfl q4 (by rw [q5]; show ¬ (i < 0 ∨ (arrV _ _ _).slots.size ≤ _); rw [arrV_size]; exact hin) (by rw [q5]; show (arrV _ _ _).slots[_]? = _; rw [arrV_read _ _ hlt]) rfl rfl hdg (kk H locs ls g aS b)
theorem g_aastN (hC : CX Y p s m args meth c cc nL own hh n0 u0) {a t0 N : Nat} {cA : ClassId} {E : String} {f f' : Nat → Option Nat} (hg : G a = some (.inl (cA, N, .inr (.inr (.inr (.inr f)))))) (ht : (tyA (yA Y))[t0]? = some (cA, .object E)) {i : Int32} (hin : vp_in i N) (hz : yz Y ≤ a) (hf : va_up f i.toNatClampNeg none = f') {G' : AH} (hG : gU G a (.inl (cA, N, .inr (.inr (.inr (.inr f'))))) = G') (hdg : decode cc pc = .ok (.aastore, 1))
    (kk : V Y p l e R s m args below meth c nL n0 u0 G' nn uu Q (pc + 1) L rest) : V Y p l e R s m args below meth c nL n0 u0 G nn uu Q pc L (.null :: .int i :: .ref a :: rest) := by
  intro H locs ls g aS b
  subst hf hG
  have hcell : H[a]? = some (vp_cell cA (N, .inr (.inr (.inr (.inr f))))) := (g.1 a _ hg).st hz
  refine va_WaastN (C := E) hC.x hC.b hcell ((hC.K.1.2 t0 _ ht).1 N (fun j => va_rf (f j))) (fun h => by cases h) (by show ¬ (i < 0 ∨ (arrV _ _ _).slots.size ≤ _); rw [arrV_size]; exact hin) rfl rfl hdg fun H1 e1 z1 oq => ?_
  refine kk H1 _ ls (g.put hcell e1 (k2_slotsz _ _ _) z1 oq ?_) (aS.put z1 oq hz) b
  show H1[a]? = some (vp_cell _ _)
  rw [e1]
  rw [vp_cell_q, vp_cell_q, arrV_store]
  congr 2
  funext q
  by_cases hq : q = i.toNatClampNeg
  · subst hq
    simp [updV, va_up, va_rf]
  · simp [updV, va_up, hq]
theorem g_aastG (hC : CX Y p s m args meth c cc nL own hh n0 u0) {a v t0 N ci N2 : Nat} {cA : ClassId} {E C : String} {T : u_T} {ty : Nat → FieldType} {fs : List Value} {f f' : Nat → Option Nat} (kc : KCl ci C T N2 ty) (hv : G v = some (.inr (ci, fs))) (hg : G a = some (.inl (cA, N, .inr (.inr (.inr (.inr f)))))) (ht : (tyA (yA Y))[t0]? = some (cA, .object E)) (hasg : ∀ comp c0 : ClassId, s.vm.findClass E = some comp → s.vm.findClass C = some c0 → s.vm.assignable c0 comp = true) {i : Int32} (hin : vp_in i N) (hz : yz Y ≤ a) (hf : va_up f i.toNatClampNeg (some v) = f') {G' : AH} (hG : gU G a (.inl (cA, N, .inr (.inr (.inr (.inr f'))))) = G') (hdg : decode cc pc = .ok (.aastore, 1))
    (kk : V Y p l e R s m args below meth c nL n0 u0 G' nn uu Q (pc + 1) L rest) : V Y p l e R s m args below meth c nL n0 u0 G nn uu Q pc L (.ref v :: .int i :: .ref a :: rest) := by
  intro H locs ls g aS b
  subst hf hG
  have hcell : H[a]? = some (vp_cell cA (N, .inr (.inr (.inr (.inr f))))) := (g.1 a _ hg).st hz
  have hlt : i.toNatClampNeg < N := Nat.not_le.mp fun q => hin (Or.inr q)
  have h0 : ¬ i < 0 := fun q => hin (Or.inl q)
  obtain ⟨cellV, g1, g3, g2⟩ := g_recv hC.K g kc hv
  obtain ⟨kA, comp, k1, k2, k3, -⟩ := (hC.K.1.2 t0 _ ht).2
  obtain ⟨kE, hkE, -⟩ := Vm.findClass_spec k3
  obtain ⟨kC, hkC, -⟩ := Vm.findClass_spec g2
  refine W.aast hC.x hC.b hcell (fun q h => by cases h) (fun h => by cases h) k1 k2 rfl hkE ⟨h0, by show _ < (arrV _ _ _).slots.size; rw [arrV_size]; exact hlt⟩ g1 (fun q h => by rw [h] at g3; cases g3) hkC (hasg comp _ k3 g2) rfl rfl hdg fun H1 e1 z1 oq => ?_
  refine kk H1 _ ls (g.put hcell e1 (k2_slotsz _ _ _) z1 oq ?_) (aS.put z1 oq hz) b
  show H1[a]? = some (vp_cell _ _)
  rw [e1]
  rw [vp_cell_q, vp_cell_q, arrV_store]
  congr 2
  funext q
  by_cases hq : q = i.toNatClampNeg
  · subst hq
    simp [updV, va_up, va_rf]
  · simp [updV, va_up, hq]
theorem asgY (hK : KK Y s) {C E : String} (hca : Cond.castable C E ∈ lw_tbl) : ∀ comp c0 : ClassId, s.vm.findClass E = some comp → s.vm.findClass C = some c0 → s.vm.assignable c0 comp = true := by
  intro comp c0 h1 h2
  obtain ⟨c1, t1, f1, f2, f3⟩ := Cond.castable_spec (va_Nw.use (A := #[]) rfl (hK.cast hca))
  cases h2.symm.trans f1
  cases h1.symm.trans f2
  exact f3
theorem asgS (hK : KK Y s) {C : String} {T : u_T} {N ci : Nat} {ty : Nat → FieldType} (kc : KCl ci C T N ty) : ∀ comp c0 : ClassId, s.vm.findClass C = some comp → s.vm.findClass C = some c0 → s.vm.assignable c0 comp = true := by
  intro comp c0 h1 h2
  have h := g_castat hK kc
  cases h1.symm.trans h.1
  cases h2.symm.trans h.1
  exact va_assign h
theorem g_anew (hC : CX Y p s m args meth c cc nL own hh n0 u0) {C : String} {index t0 : Nat} {cA : ClassId} (hlink : Cond.classLink own index C ∈ lw_all) (hov : Cond.arrayOver (.object C) ∈ lw_tbl) (ht : (tyA (yA Y))[t0]? = some (cA, .object C)) {k : Int32} {N : Nat} (hn : ¬ k < 0) (hN : k.toNatClampNeg = N) (hbytes : N * 4 ≤ 536870912) {G' : AH} (hG : gU G nn (.inl (cA, N, .inr (.inr (.inr (.inr (fun _ => none)))))) = G') (hrc : nn + 1 ≤ n0 + R.cells) (hru : uu + N ≤ u0 + R.slots) (hdg : decode cc pc = .ok (.anewarray index, 3))
    (kk : V Y p l e R s m args below meth c nL n0 u0 G' (nn + 1) (uu + N) Q (pc + 3) L (.ref nn :: rest)) : V Y p l e R s m args below meth c nL n0 u0 G nn uu Q pc L (.int k :: rest) := by
  refine V.sizes hC fun hn0 hu0 => ?_
  intro H locs ls g aS b
  subst hG hN
  refine W.anew hC.x hC.b hC.own (hC.ts _ hlink) (va_AO.use (hC.K.over hov)) rfl hdg rfl hn hbytes (by omega) (by omega) fun cA' kA comp f1 f2 f3 f4 => ?_
  obtain ⟨kA2, comp2, k1, k2, k3, k4⟩ := (hC.K.1.2 t0 _ ht).2
  have e9 : cA' = cA := Option.some.inj (f1.symm.trans k4)
  subst e9
  generalize hH1 : H.push ({ cls := cA', slots := Array.replicate k.toNatClampNeg .null, vm := .none } : Cell) = H1
  have z1 : H1.size = nn + 1 := by rw [← hH1, Array.size_push, g.2.1]
  have e1 : H1[nn]? = some (arrV cA' k.toNatClampNeg (fun _ => .null)) := by rw [← hH1, ← g.2.1, Array.getElem?_push_size, ← arrV_new]
  have o1 : ∀ q : Nat, q < nn → H1[q]? = H[q]? := fun q hq => by rw [← hH1, Array.getElem?_push, if_neg (by rw [g.2.1]; omega)]
  have hob : va_at (yD Y) clA (nn, .inl (cA', k.toNatClampNeg, .inr (.inr (.inr (.inr (fun _ => none)))))) H1 := by show H1[nn]? = some (vp_cell _ _); rw [vp_cell_q]; exact e1
  have hp := g.push (k := k.toNatClampNeg) e1 (arrV_size _ _ _) z1 o1 hob
  refine W_tight (n := nn + 1) (u := uu + k.toNatClampNeg) z1 hp.2.2 hC.n hC.u ?_
  rw [g.2.1]
  exact kk H1 locs ls hp (aS.grow (by rw [g.2.1, z1]; omega) (by rw [g.2.1]; exact o1)) b
theorem g_runF {x y : MethodName} {bytes : ByteArray} {maxL index count fr lo : Nat} {ret : Option FieldType} {As st0 : List Value} {C : String} {T : u_T} {N ci b : Nat} {ty : Nat → FieldType} {fs : List Value} (hC : CX Y p s m args meth c cc nL own hh n0 u0) (hM : GM Y l y (ws_ y bytes maxL ret) fr lo (.ref b :: As) G nn uu kc ku PR PX) (kcl : KCl ci C T N ty) (hb : G b = some (.inr (ci, fs))) (hws : GoodIn lw_all (va_wsF own index C x y (ws_ y bytes maxL ret))) (h1 : Cond.declares x ∈ lw_tbl) (h2 : Cond.interfaceMethod x.cls x.cls x.name x.desc ∈ lw_tbl) (h3 : Cond.publicMethod y ∈ lw_tbl) (h4 : Cond.unhidden C x.name x.desc ∈ lw_tbl) (h5 : Cond.castable C x.cls ∈ lw_tbl) (md : mdK x n) (hdg : decode cc pc = .ok (.invokeinterface index count, 5)) (hn : As.length = n) (hR : fr + 1 ≤ R.frames ∧ 8 + (maxL + 11) + lo ≤ R.locals) (hrc : nn + kc ≤ n0 + R.cells) (hru : uu + ku ≤ u0 + R.slots) (hst : As.reverse ++ .ref b :: rest = st0) (hW : (rest.map fun v => v.category).sum ≤ 8) : GRun Y p l e R s m args below meth c nL n0 u0 G nn uu pc 5 L st0 rest kc ku PR PX := by
  subst hst
  refine GRun.of5 (Zc' := R.cells - (nn - n0)) (Zu' := R.slots - (uu - u0)) (a := ((.ref b :: As) : List Value).toArray) hC fun H locs ls g aS b hn0 hu0 => ?_
  exact vx_runF (g_castat hC.K kcl) hC.fix (hM (R.cells - (nn - n0)) (R.slots - (uu - u0)) (by omega) (by omega)) (va_cwF n hC.ts hws rfl rfl rfl (hC.K.face ⟨md.1, md.2.1⟩ h1 h2 h3 h4 h5) md hR) ⟨GPre.blind, g_recv hC.K g kcl hb, g_pre hC g aS⟩ rfl hn b.1 rfl (lv_room hW) hdg ⟨by omega, by omega⟩
theorem g_runFW {x y : MethodName} {bytes : ByteArray} {maxL index count fr lo : Nat} {ret : Option FieldType} {As st0 : List Value} {C : String} {T : u_T} {N ci b : Nat} {ty : Nat → FieldType} {fs : List Value} {hh' : List (Nat × Nat × Nat × Nat)} (hC : CX Y p s m args meth c cc nL own hh n0 u0) (hM : GM Y l y (wsW_ y bytes maxL ret hh') fr lo (.ref b :: As) G nn uu kc ku PR PX) (kcl : KCl ci C T N ty) (hb : G b = some (.inr (ci, fs))) (hws : GoodIn lw_all (va_wsF own index C x y (wsW_ y bytes maxL ret hh'))) (h1 : Cond.declares x ∈ lw_tbl) (h2 : Cond.interfaceMethod x.cls x.cls x.name x.desc ∈ lw_tbl) (h3 : Cond.publicMethod y ∈ lw_tbl) (h4 : Cond.unhidden C x.name x.desc ∈ lw_tbl) (h5 : Cond.castable C x.cls ∈ lw_tbl) (md : mdK x n) (hdg : decode cc pc = .ok (.invokeinterface index count, 5)) (hn : As.length = n) (hR : fr + 1 ≤ R.frames ∧ 8 + (maxL + 11) + lo ≤ R.locals) (hrc : nn + kc ≤ n0 + R.cells) (hru : uu + ku ≤ u0 + R.slots) (hst : As.reverse ++ .ref b :: rest = st0) (hW : (rest.map fun v => v.category).sum ≤ 8) : GRun Y p l e R s m args below meth c nL n0 u0 G nn uu pc 5 L st0 rest kc ku PR PX := by
  subst hst
  refine GRun.of5 (Zc' := R.cells - (nn - n0)) (Zu' := R.slots - (uu - u0)) (a := ((.ref b :: As) : List Value).toArray) hC fun H locs ls g aS b hn0 hu0 => ?_
  exact vx_runFW (g_castat hC.K kcl) hC.fix (hM (R.cells - (nn - n0)) (R.slots - (uu - u0)) (by omega) (by omega)) (va_cwFW n hC.ts hws rfl rfl rfl (hC.K.face ⟨md.1, md.2.1⟩ h1 h2 h3 h4 h5) md hR) ⟨GPre.blind, g_recv hC.K g kcl hb, g_pre hC g aS⟩ rfl hn b.1 rfl (lv_room hW) hdg ⟨by omega, by omega⟩
end OR
