set_option maxRecDepth 100000
def pI (P : Int32 → AH → Nat → Nat → Prop) : Option Value → AH → Nat → Nat → Prop := fun v G n u => ∃ r, v = some (.int r) ∧ P r G n u
def pL (P : Int64 → AH → Nat → Nat → Prop) : Option Value → AH → Nat → Nat → Prop := fun v G n u => ∃ r, v = some (.long r) ∧ P r G n u
def pQ (P : Option Nat → AH → Nat → Nat → Prop) : Option Value → AH → Nat → Nat → Prop := fun v G n u => ∃ r, v = some (va_rf r) ∧ P r G n u
def pV (P : AH → Nat → Nat → Prop) : Option Value → AH → Nat → Nat → Prop := fun v G n u => v = none ∧ P G n u
/-- a method that throws nothing -/
def noX : String → Nat → AH → Nat → Nat → Prop := fun _ _ _ _ _ => False
def GQ (Y : YT) (n u kc ku : Nat) (PR : Option Value → AH → Nat → Nat → Prop) : Array Value → State → Outcome → State → Prop := fun _ st o t =>
  ∃ (v : Option Value) (G' : AH) (n' u' : Nat), o = .returned v ∧ PR v G' n' u' ∧ GH Y G' n' u' t.heap ∧ n' ≤ n + kc ∧ u' ≤ u + ku ∧ va_F (fun q => yz Y ≤ q) st t
def GXq (Y : YT) (n u kc ku : Nat) (PX : String → Nat → AH → Nat → Nat → Prop) : String → Addr → State → State → Prop := fun E q st t =>
  ∃ (G' : AH) (n' u' : Nat), PX E q G' n' u' ∧ GH Y G' n' u' t.heap ∧ n' ≤ n + kc ∧ u' ≤ u + ku ∧ va_F (fun q => yz Y ≤ q) st t
def GPre (Y : YT) (G : AH) (n u : Nat) (U : State) : Prop := KK Y U ∧ GH Y G n u U.heap ∧ yz Y ≤ U.heap.size ∧ ∀ q, q < yz Y → U.heap[q]? = (yH Y)[q]?
/-- a contract: called with as in the world G (n cells, u slots), y returns with PR or throws with PX; it makes at most kc cells of ku slots; fr frames, lo words of locals below it -/
def GM (Y : YT) (l : Launch) (y : MethodName) (ws : List Cond) (fr lo : Nat) (as : List Value) (G : AH) (n u kc ku : Nat) (PR : Option Value → AH → Nat → Nat → Prop) (PX : String → Nat → AH → Nat → Nat → Prop) : Prop :=
  ∀ Zc Zu : Nat, kc ≤ Zc → ku ≤ Zu → vx_Met l y ws ({ frames := fr, cells := Zc, slots := Zu, locals := lo } : Room) (va_Pc as (GPre Y G n u)) (GQ Y n u kc ku PR) (GXq Y n u kc ku PX) Zc Zu (fun q => yz Y ≤ q)
/-- what a method's body owes at its end -/
abbrev QM (Y : YT) (below : List Frame) (n u kc ku : Nat) (PR : Option Value → AH → Nat → Nat → Prop) (PX : String → Nat → AH → Nat → Nat → Prop) (args : Array Value) (s : State) (Zc Zu : Nat) : State → Prop := vx_MQ below (GQ Y n u kc ku PR) (GXq Y n u kc ku PX) args s Zc Zu (fun q => yz Y ≤ q)
/-- what a body has of its room and its end -/
def EX (Y : YT) (below : List Frame) (n u kc ku : Nat) (PR : Option Value → AH → Nat → Nat → Prop) (PX : String → Nat → AH → Nat → Nat → Prop) (args : Array Value) (s : State) (R : Room) (Q : State → Prop) : Prop := kc ≤ R.cells ∧ ku ≤ R.slots ∧ Q = QM Y below n u kc ku PR PX args s R.cells R.slots
theorem GM.intro {Y : YT} {l : Launch} {y : MethodName} {cc : ByteArray} {maxL : Nat} {ret : Option FieldType} {own : String} {fr lo : Nat} {as : List Value} {G : AH} {n u kc ku : Nat} {PR : Option Value → AH → Nat → Nat → Prop} {PX : String → Nat → AH → Nat → Nat → Prop} (ho : y.cls = own) (hy : plainFor y = true) (hlen : (lg_sl as).length ≤ maxL)
    (body : ∀ (p : Program) (e : Env) (s : State) (m : MethodId) (args : Array Value) (below : List Frame) (meth : Method) (c : Code) (R : Room) (Q : State → Prop), CX Y p s m args meth c cc maxL own [] n u → meth.sig.returnType = ret → meth.name = y.name → R.frames = fr → R.locals = lo → EX Y below n u kc ku PR PX args s R Q →
      V Y p l e R s m args below meth c maxL n u G n u Q 0 (lv_args 0 as) []) : GM Y l y (ws_ y cc maxL ret) fr lo as G n u kc ku PR PX := by
  intro Zc Zu h1 h2
  refine vx_ofW (cc := cc) (maxL := maxL) (ret := ret) hy rfl ?_
  intro p e s m args below meth c s₁ B hml htab hv
  obtain ⟨rfl, hK, hG, hz, hold⟩ := hv
  have hts := atoms_spec (ws := ws_ y cc maxL ret) B.pre
  have hts : ∀ w ∈ lw_all, w.before _ s = true := fun w h => hts w (List.mem_cons_of_mem _ h)
  have hown : s.vm.findClass own = some m.cls := by rw [← ho]; exact findClass_of_methodNamed B.named
  have htb : c.exceptionTable.toList = tableOf [] := List.eq_nil_iff_forall_not_mem.mpr htab
  have k := body p e s m _ below meth c ({ frames := fr, cells := Zc, slots := Zu, locals := lo } : Room) _ ⟨B.exec, B.bytes, hml, hown, hts, B.notSynchronized, hK, hz, hold, htb, hG.2.1, hG.2.2⟩ B.returns (name_of_methodNamed B.named B.method).1 rfl rfl ⟨h1, h2, rfl⟩ s.heap [] _ hG va_S.rf (lv_entry as hlen)
  rw [Nat.sub_self, Nat.sub_self] at k
  rw [lg_entry_eq]
  exact k
/-- a method with handlers -/
theorem GM.introH {Y : YT} {l : Launch} {y : MethodName} {cc : ByteArray} {maxL : Nat} {ret : Option FieldType} {own : String} {hh : List (Nat × Nat × Nat × Nat)} {fr lo : Nat} {as : List Value} {G : AH} {n u kc ku : Nat} {PR : Option Value → AH → Nat → Nat → Prop} {PX : String → Nat → AH → Nat → Nat → Prop} (ho : y.cls = own) (hy : plainFor y = true) (hlen : (lg_sl as).length ≤ maxL)
    (body : ∀ (p : Program) (e : Env) (s : State) (m : MethodId) (args : Array Value) (below : List Frame) (meth : Method) (c : Code) (R : Room) (Q : State → Prop), CX Y p s m args meth c cc maxL own hh n u → meth.sig.returnType = ret → meth.name = y.name → R.frames = fr → R.locals = lo → EX Y below n u kc ku PR PX args s R Q →
      V Y p l e R s m args below meth c maxL n u G n u Q 0 (lv_args 0 as) []) : GM Y l y (wsW_ y cc maxL ret hh) fr lo as G n u kc ku PR PX := by
  intro Zc Zu h1 h2
  refine vx_ofWH (cc := cc) (maxL := maxL) (ret := ret) (hh := hh) hy rfl ?_
  intro p e s m args below meth c s₁ B hml hv
  obtain ⟨rfl, hK, hG, hz, hold⟩ := hv
  have hts0 := atoms_spec (ws := wsW_ y cc maxL ret hh) B.pre
  have hts : ∀ w ∈ lw_all, w.before _ s = true := fun w h => hts0 w (List.mem_cons_of_mem _ h)
  have hown : s.vm.findClass own = some m.cls := by rw [← ho]; exact findClass_of_methodNamed B.named
  have htb : c.exceptionTable.toList = tableOf hh := vx_table (x := y) B (hts0 _ List.mem_cons_self)
  have k := body p e s m _ below meth c ({ frames := fr, cells := Zc, slots := Zu, locals := lo } : Room) _ ⟨B.exec, B.bytes, hml, hown, hts, B.notSynchronized, hK, hz, hold, htb, hG.2.1, hG.2.2⟩ B.returns (name_of_methodNamed B.named B.method).1 rfl rfl ⟨h1, h2, rfl⟩ s.heap [] _ hG va_S.rf (lv_entry as hlen)
  rw [Nat.sub_self, Nat.sub_self] at k
  rw [lg_entry_eq]
  exact k
/-- another world of the same cells; a weaker end; more room -/
theorem GM.weaken {Y : YT} {l : Launch} {y : MethodName} {ws : List Cond} {fr lo : Nat} {as : List Value} {G : AH} {n u kc ku kc' ku' : Nat} {PR PR' : Option Value → AH → Nat → Nat → Prop} {PX PX' : String → Nat → AH → Nat → Nat → Prop} (h : GM Y l y ws fr lo as G n u kc ku PR PX) (h1 : kc ≤ kc') (h2 : ku ≤ ku') (hr : ∀ v G' n' u', PR v G' n' u' → PR' v G' n' u') (hx : ∀ E q G' n' u', PX E q G' n' u' → PX' E q G' n' u') : GM Y l y ws fr lo as G n u kc' ku' PR' PX' := by
  intro Zc Zu z1 z2
  have k := h Zc Zu (Nat.le_trans h1 z1) (Nat.le_trans h2 z2)
  intro p e ha hc hk s m args below hf hfit hp hK
  obtain ⟨t, o, a1, a2, a3, hq⟩ := k p e ha hc hk s m args below hf hfit hp hK
  refine ⟨t, o, a1, a2, a3, ?_⟩
  rcases hq with ⟨⟨v, G', n', u', b1, b2, b3, b4, b5, b6⟩, hL⟩ | ⟨q, b1, E, ce, L, ⟨G', n', u', c1, c2, c3, c4, c5⟩, b3⟩
  · exact Or.inl ⟨⟨v, G', n', u', b1, hr _ _ _ _ b2, b3, by omega, by omega, b6⟩, hL⟩
  · exact Or.inr ⟨q, b1, E, ce, L, ⟨G', n', u', hx _ _ _ _ _ c1, c2, by omega, by omega, c5⟩, b3⟩
theorem GPre.blind {Y : YT} {as : List Value} {G : AH} {n u : Nat} : FrameBlind (va_Pc as (GPre Y G n u)) := fun a U g mk q => ⟨q.1, KK.moved (s := U) (U := U.calling g mk a) (State.WarmedH.refl U) q.2.1, q.2.2⟩
section G2
variable {Y : YT} {p : Program} {l : Launch} {e : Env} {R : Room} {s : State} {m : MethodId} {args : Array Value} {below : List Frame} {meth : Method} {c : Code} {nL n0 u0 : Nat} {G : AH} {nn uu : Nat} {Q : State → Prop} {pc : Nat} {L : List (Nat × Value)} {rest : List Value} {cc : ByteArray} {own : String} {hh : List (Nat × Nat × Nat × Nat)} {kc ku Zc Zu : Nat} {PR : Option Value → AH → Nat → Nat → Prop} {PX : String → Nat → AH → Nat → Nat → Prop}
theorem CX.fix (hC : CX Y p s m args meth c cc nL own hh n0 u0) : CallFix p m c cc nL s args lw_all own := ⟨hC.x, hC.b, hC.ml, hC.own, hC.ts⟩
theorem g_pre {H : Heap} {locs : List Loc} {as : List Value} (hC : CX Y p s m args meth c cc nL own hh n0 u0) (g : GH Y G nn uu H) (aS : va_S (fun q => yz Y ≤ q) s.heap H locs) : ∀ U : State, U.heap = H → s.WarmedH U.vm → va_Pc as (GPre Y G nn uu) as.toArray U := by
  intro U hU hW
  refine ⟨rfl, hC.K.moved hW, by rw [hU]; exact g, by rw [hU]; exact Nat.le_trans hC.z aS.1, fun q hq => ?_⟩
  rw [hU, aS.2.1 q (Nat.lt_of_lt_of_le hq hC.z) (by omega)]
  exact hC.old q hq
theorem g_recv {H : Heap} {C : String} {T : u_T} {N ci a : Nat} {ty : Nat → FieldType} {fs : List Value} (hK : KK Y s) (g : GH Y G nn uu H) (kc : KCl ci C T N ty) (hg : G a = some (.inr (ci, fs))) : ∃ cell : Cell, H[a]? = some cell ∧ cell.vm.isStatics = false ∧ s.vm.findClass C = some cell.cls := by
  obtain ⟨r, h1, cell, q1, q2, q3, q5, q4⟩ := (g.1 _ _ hg).ob
  have hr : r = (C, T, N) := Option.some.inj (h1.symm.trans kc.1)
  subst hr
  exact ⟨cell, q1, q3, by rw [q2]; exact (hK.1.1 ci _ kc.1).2.1⟩
theorem g_sees {H : Heap} {C : String} {T : u_T} {N ci a : Nat} {ty : Nat → FieldType} {fs : List Value} (hK : KK Y s) (g : GH Y G nn uu H) (kc : KCl ci C T N ty) (hg : G a = some (.inr (ci, fs))) (hz : yz Y ≤ a) : ∃ ce : Cell, H[a]? = some ce ∧ ce.vm = .none ∧ s.vm.findClass C = some ce.cls := by
  obtain ⟨r, h1, cell, q1, q2, q3, q4⟩ := (g.1 a _ hg).st hz
  have hr : r = (C, T, N) := Option.some.inj (h1.symm.trans kc.1)
  subst hr
  exact ⟨cell, q1, q3, by rw [q2]; exact (hK.1.1 ci _ kc.1).2.1⟩
theorem g_castat {C : String} {T : u_T} {N ci : Nat} {ty : Nat → FieldType} (hK : KK Y s) (kc : KCl ci C T N ty) : ClassAt s C ((yD Y).1 ci) := (hK.1.1 ci _ kc.1).2
/-- a call: what comes of it, of which the result rows take their kind -/
def GRun (Y : YT) (p : Program) (l : Launch) (e : Env) (R : Room) (s : State) (m : MethodId) (args : Array Value) (below : List Frame) (meth : Method) (c : Code) (nL n0 u0 : Nat) (G : AH) (nn uu : Nat) (pc len : Nat) (L : List (Nat × Value)) (st0 rest : List Value) (kc ku : Nat) (PR : Option Value → AH → Nat → Nat → Prop) (PX : String → Nat → AH → Nat → Nat → Prop) : Prop :=
  ∀ (H : Heap) (locs : List Loc) (ls : Array Slot), GH Y G nn uu H → va_S (fun q => yz Y ≤ q) s.heap H locs → lv_has ls nL L → ∀ T : State, T.heap = H → Stand p l e R s m args below meth c T locs (nn - n0) (uu - u0) →
    (∃ (v : Option Value) (T' : State) (locs' : List Loc) (G' : AH) (n' u' cells slots : Nat), Stand p l e R s m args below meth c T' locs' cells slots ∧ PR v G' n' u' ∧ GH Y G' n' u' T'.heap ∧ va_S (fun q => yz Y ≤ q) s.heap T'.heap locs' ∧ nn ≤ n' ∧ n' ≤ nn + kc ∧ u' ≤ uu + ku ∧ Goes p e below T (F0 m pc ls st0) T' (F0 m (pc + len) ls (v.toList ++ rest))) ∨
    (∃ (q : Addr) (E : String) (ce : Cell) (T' : State) (locs' : List Loc) (G' : AH) (n' u' cells slots : Nat), Stand p l e R s m args below meth c T' locs' cells slots ∧ PX E q G' n' u' ∧ GH Y G' n' u' T'.heap ∧ va_S (fun q => yz Y ≤ q) s.heap T'.heap locs' ∧ nn ≤ n' ∧ n' ≤ nn + kc ∧ u' ≤ uu + ku ∧ T'.heap[q]? = some ce ∧ ce.vm = .none ∧ s.vm.findClass E = some ce.cls ∧
      Steps p.tables e below (T.setTop (F0 m pc ls st0)) ((T'.setTop (F0 m pc ls rest)).pushFrame (.throwing q)))
theorem g_keep {H : Heap} {A0 free : Nat → Prop} {H0 : Heap} {locs : List Loc} {st₀ t T' : State} {L : List Loc} (h0 : st₀.heap = H) (e1 : T'.heap = t.heap) (hS : va_S A0 H0 H locs) (hf : ∀ q, free q → A0 q) (hL : ∀ q ∈ L, free q.base) (hF : va_F A0 st₀ t) : va_S A0 H0 T'.heap (locs ++ L) := by
  obtain ⟨f1, f2⟩ := hF
  rw [h0] at f1 f2
  refine ⟨by rw [e1]; exact Nat.le_trans hS.1 f1, fun q h1 h2 => ?_, fun q hq => ?_⟩
  · rw [e1, f2 q (Nat.lt_of_lt_of_le h1 hS.1) h2]
    exact hS.2.1 q h1 h2
  · rcases List.mem_append.mp hq with h | h
    · exact hS.2.2 q h
    · exact hf _ (hL q h)
theorem GRun.of3 {st0 : List Value} {Zc' Zu' : Nat} {a : Array Value} (hC : CX Y p s m args meth c cc nL own hh n0 u0)
    (hr : ∀ (H : Heap) (locs : List Loc) (ls : Array Slot), GH Y G nn uu H → va_S (fun q => yz Y ≤ q) s.heap H locs → lv_has ls nL L → n0 ≤ nn → u0 ≤ uu → vx_Run p l e R s m args below meth c H locs (nn - n0) (uu - u0) Zc' Zu' (F0 m pc ls st0) rest (GQ Y nn uu kc ku PR a) (GXq Y nn uu kc ku PX) (fun q => yz Y ≤ q)) :
    GRun Y p l e R s m args below meth c nL n0 u0 G nn uu pc 3 L st0 rest kc ku PR PX := by
  intro H locs ls g aS b T hT X
  have hsz := stand_sizes X
  rw [hT, g.2.1, g.2.2, hC.n, hC.u] at hsz
  rcases hr H locs ls g aS b hsz.1 hsz.2.2.1 T hT X with ⟨v, st₀, t, T', L', h0, X', hL, e1, e2, ⟨v', G', n', u', hv, hp, hG', hn', hu', hF⟩, hg⟩ | ⟨q, st₀, t, T', L', E, ce, h0, X', hL, e1, e2, ⟨G', n', u', hp, hG', hn', hu', hF⟩, hce, hvm, hcl, hg⟩
  · cases hv
    have hF1 : st₀.heap.size ≤ t.heap.size := hF.1
    rw [h0, g.2.1, hG'.2.1] at hF1
    exact Or.inl ⟨v, T', _, G', n', u', _, _, X', hp, by rw [e1]; exact hG', g_keep h0 e1 aS (fun _ h => h) hL hF, hF1, hn', hu', hg⟩
  · have hF1 : st₀.heap.size ≤ t.heap.size := hF.1
    rw [h0, g.2.1, hG'.2.1] at hF1
    exact Or.inr ⟨q, E, ce, T', _, G', n', u', _, _, X', hp, by rw [e1]; exact hG', g_keep h0 e1 aS (fun _ h => h) hL hF, hF1, hn', hu', by rw [e1]; exact hce, hvm, hcl, hg⟩
theorem GRun.of5 {st0 : List Value} {Zc' Zu' : Nat} {a : Array Value} (hC : CX Y p s m args meth c cc nL own hh n0 u0)
    (hr : ∀ (H : Heap) (locs : List Loc) (ls : Array Slot), GH Y G nn uu H → va_S (fun q => yz Y ≤ q) s.heap H locs → lv_has ls nL L → n0 ≤ nn → u0 ≤ uu → vx_Run5 p l e R s m args below meth c H locs (nn - n0) (uu - u0) Zc' Zu' (F0 m pc ls st0) rest (GQ Y nn uu kc ku PR a) (GXq Y nn uu kc ku PX) (fun q => yz Y ≤ q)) :
    GRun Y p l e R s m args below meth c nL n0 u0 G nn uu pc 5 L st0 rest kc ku PR PX := by
  intro H locs ls g aS b T hT X
  have hsz := stand_sizes X
  rw [hT, g.2.1, g.2.2, hC.n, hC.u] at hsz
  rcases hr H locs ls g aS b hsz.1 hsz.2.2.1 T hT X with ⟨v, st₀, t, T', L', h0, X', hL, e1, e2, ⟨v', G', n', u', hv, hp, hG', hn', hu', hF⟩, hg⟩ | ⟨q, st₀, t, T', L', E, ce, h0, X', hL, e1, e2, ⟨G', n', u', hp, hG', hn', hu', hF⟩, hce, hvm, hcl, hg⟩
  · cases hv
    have hF1 : st₀.heap.size ≤ t.heap.size := hF.1
    rw [h0, g.2.1, hG'.2.1] at hF1
    exact Or.inl ⟨v, T', _, G', n', u', _, _, X', hp, by rw [e1]; exact hG', g_keep h0 e1 aS (fun _ h => h) hL hF, hF1, hn', hu', hg⟩
  · have hF1 : st₀.heap.size ≤ t.heap.size := hF.1
    rw [h0, g.2.1, hG'.2.1] at hF1
    exact Or.inr ⟨q, E, ce, T', _, G', n', u', _, _, X', hp, by rw [e1]; exact hG', g_keep h0 e1 aS (fun _ h => h) hL hF, hF1, hn', hu', by rw [e1]; exact hce, hvm, hcl, hg⟩
theorem g_calli {len : Nat} {st0 : List Value} {P : Int32 → AH → Nat → Nat → Prop} (hC : CX Y p s m args meth c cc nL own hh n0 u0) (hr : GRun Y p l e R s m args below meth c nL n0 u0 G nn uu pc len L st0 rest kc ku (pI P) PX)
    (kx : ∀ (E : String) (q : Nat) (G' : AH) (n' u' : Nat), PX E q G' n' u' → nn ≤ n' → n' ≤ nn + kc → u' ≤ uu + ku → VX Y p l e R s m args below meth c nL n0 u0 G' n' u' Q pc L E q)
    (kk : ∀ (r : Int32) (G' : AH) (n' u' : Nat), P r G' n' u' → nn ≤ n' → n' ≤ nn + kc → u' ≤ uu + ku → V Y p l e R s m args below meth c nL n0 u0 G' n' u' Q (pc + len) L (.int r :: rest)) : V Y p l e R s m args below meth c nL n0 u0 G nn uu Q pc L st0 := by
  intro H locs ls g aS b T hT X
  rcases hr H locs ls g aS b T hT X with ⟨v, T', locs', G', n', u', cells', slots', X', hp, hG', hS', hn, hn', hu', hg⟩ | ⟨q, E, ce, T', locs', G', n', u', cells', slots', X', hp, hG', hS', hn, hn', hu', hce, hvm, hcl, hg⟩
  · obtain ⟨r, rfl, hp⟩ := hp
    obtain ⟨t2, a1, b1⟩ := W_tight hG'.2.1 hG'.2.2 hC.n hC.u (kk r G' n' u' hp hn hn' hu' T'.heap locs' ls hG' hS' b) T' rfl X'
    exact ⟨t2, hg t2 a1, b1⟩
  · obtain ⟨t2, a1, b1⟩ := vx_W_tight hG'.2.1 hG'.2.2 hC.n hC.u (kx E q G' n' u' hp hn hn' hu' T'.heap locs' ls rest ce hG' hS' b hce hvm hcl) T' rfl X'
    exact ⟨t2, hg.trans a1, b1⟩
theorem g_calli0 {len : Nat} {st0 : List Value} {P : Int32 → AH → Nat → Nat → Prop} (hC : CX Y p s m args meth c cc nL own hh n0 u0) (hr : GRun Y p l e R s m args below meth c nL n0 u0 G nn uu pc len L st0 rest kc ku (pI P) noX)
    (kk : ∀ (r : Int32) (G' : AH) (n' u' : Nat), P r G' n' u' → nn ≤ n' → n' ≤ nn + kc → u' ≤ uu + ku → V Y p l e R s m args below meth c nL n0 u0 G' n' u' Q (pc + len) L (.int r :: rest)) : V Y p l e R s m args below meth c nL n0 u0 G nn uu Q pc L st0 := g_calli hC hr (fun _ _ _ _ _ h => h.elim) kk
theorem g_calll {len : Nat} {st0 : List Value} {P : Int64 → AH → Nat → Nat → Prop} (hC : CX Y p s m args meth c cc nL own hh n0 u0) (hr : GRun Y p l e R s m args below meth c nL n0 u0 G nn uu pc len L st0 rest kc ku (pL P) PX)
    (kx : ∀ (E : String) (q : Nat) (G' : AH) (n' u' : Nat), PX E q G' n' u' → nn ≤ n' → n' ≤ nn + kc → u' ≤ uu + ku → VX Y p l e R s m args below meth c nL n0 u0 G' n' u' Q pc L E q)
    (kk : ∀ (r : Int64) (G' : AH) (n' u' : Nat), P r G' n' u' → nn ≤ n' → n' ≤ nn + kc → u' ≤ uu + ku → V Y p l e R s m args below meth c nL n0 u0 G' n' u' Q (pc + len) L (.long r :: rest)) : V Y p l e R s m args below meth c nL n0 u0 G nn uu Q pc L st0 := by
  intro H locs ls g aS b T hT X
  rcases hr H locs ls g aS b T hT X with ⟨v, T', locs', G', n', u', cells', slots', X', hp, hG', hS', hn, hn', hu', hg⟩ | ⟨q, E, ce, T', locs', G', n', u', cells', slots', X', hp, hG', hS', hn, hn', hu', hce, hvm, hcl, hg⟩
  · obtain ⟨r, rfl, hp⟩ := hp
    obtain ⟨t2, a1, b1⟩ := W_tight hG'.2.1 hG'.2.2 hC.n hC.u (kk r G' n' u' hp hn hn' hu' T'.heap locs' ls hG' hS' b) T' rfl X'
    exact ⟨t2, hg t2 a1, b1⟩
  · obtain ⟨t2, a1, b1⟩ := vx_W_tight hG'.2.1 hG'.2.2 hC.n hC.u (kx E q G' n' u' hp hn hn' hu' T'.heap locs' ls rest ce hG' hS' b hce hvm hcl) T' rfl X'
    exact ⟨t2, hg.trans a1, b1⟩
theorem g_calll0 {len : Nat} {st0 : List Value} {P : Int64 → AH → Nat → Nat → Prop} (hC : CX Y p s m args meth c cc nL own hh n0 u0) (hr : GRun Y p l e R s m args below meth c nL n0 u0 G nn uu pc len L st0 rest kc ku (pL P) noX)
    (kk : ∀ (r : Int64) (G' : AH) (n' u' : Nat), P r G' n' u' → nn ≤ n' → n' ≤ nn + kc → u' ≤ uu + ku → V Y p l e R s m args below meth c nL n0 u0 G' n' u' Q (pc + len) L (.long r :: rest)) : V Y p l e R s m args below meth c nL n0 u0 G nn uu Q pc L st0 := g_calll hC hr (fun _ _ _ _ _ h => h.elim) kk
theorem g_callq {len : Nat} {st0 : List Value} {P : Option Nat → AH → Nat → Nat → Prop} (hC : CX Y p s m args meth c cc nL own hh n0 u0) (hr : GRun Y p l e R s m args below meth c nL n0 u0 G nn uu pc len L st0 rest kc ku (pQ P) PX)
    (kx : ∀ (E : String) (q : Nat) (G' : AH) (n' u' : Nat), PX E q G' n' u' → nn ≤ n' → n' ≤ nn + kc → u' ≤ uu + ku → VX Y p l e R s m args below meth c nL n0 u0 G' n' u' Q pc L E q)
    (kk : ∀ (r : Option Nat) (G' : AH) (n' u' : Nat), P r G' n' u' → nn ≤ n' → n' ≤ nn + kc → u' ≤ uu + ku → V Y p l e R s m args below meth c nL n0 u0 G' n' u' Q (pc + len) L (va_rf r :: rest)) : V Y p l e R s m args below meth c nL n0 u0 G nn uu Q pc L st0 := by
  intro H locs ls g aS b T hT X
  rcases hr H locs ls g aS b T hT X with ⟨v, T', locs', G', n', u', cells', slots', X', hp, hG', hS', hn, hn', hu', hg⟩ | ⟨q, E, ce, T', locs', G', n', u', cells', slots', X', hp, hG', hS', hn, hn', hu', hce, hvm, hcl, hg⟩
  · obtain ⟨r, rfl, hp⟩ := hp
    obtain ⟨t2, a1, b1⟩ := W_tight hG'.2.1 hG'.2.2 hC.n hC.u (kk r G' n' u' hp hn hn' hu' T'.heap locs' ls hG' hS' b) T' rfl X'
    exact ⟨t2, hg t2 a1, b1⟩
  · obtain ⟨t2, a1, b1⟩ := vx_W_tight hG'.2.1 hG'.2.2 hC.n hC.u (kx E q G' n' u' hp hn hn' hu' T'.heap locs' ls rest ce hG' hS' b hce hvm hcl) T' rfl X'
    exact ⟨t2, hg.trans a1, b1⟩
theorem g_callq0 {len : Nat} {st0 : List Value} {P : Option Nat → AH → Nat → Nat → Prop} (hC : CX Y p s m args meth c cc nL own hh n0 u0) (hr : GRun Y p l e R s m args below meth c nL n0 u0 G nn uu pc len L st0 rest kc ku (pQ P) noX)
    (kk : ∀ (r : Option Nat) (G' : AH) (n' u' : Nat), P r G' n' u' → nn ≤ n' → n' ≤ nn + kc → u' ≤ uu + ku → V Y p l e R s m args below meth c nL n0 u0 G' n' u' Q (pc + len) L (va_rf r :: rest)) : V Y p l e R s m args below meth c nL n0 u0 G nn uu Q pc L st0 := g_callq hC hr (fun _ _ _ _ _ h => h.elim) kk
theorem g_callv {len : Nat} {st0 : List Value} {P : AH → Nat → Nat → Prop} (hC : CX Y p s m args meth c cc nL own hh n0 u0) (hr : GRun Y p l e R s m args below meth c nL n0 u0 G nn uu pc len L st0 rest kc ku (pV P) PX)
    (kx : ∀ (E : String) (q : Nat) (G' : AH) (n' u' : Nat), PX E q G' n' u' → nn ≤ n' → n' ≤ nn + kc → u' ≤ uu + ku → VX Y p l e R s m args below meth c nL n0 u0 G' n' u' Q pc L E q)
    (kk : ∀  (G' : AH) (n' u' : Nat), P G' n' u' → nn ≤ n' → n' ≤ nn + kc → u' ≤ uu + ku → V Y p l e R s m args below meth c nL n0 u0 G' n' u' Q (pc + len) L (rest)) : V Y p l e R s m args below meth c nL n0 u0 G nn uu Q pc L st0 := by
  intro H locs ls g aS b T hT X
  rcases hr H locs ls g aS b T hT X with ⟨v, T', locs', G', n', u', cells', slots', X', hp, hG', hS', hn, hn', hu', hg⟩ | ⟨q, E, ce, T', locs', G', n', u', cells', slots', X', hp, hG', hS', hn, hn', hu', hce, hvm, hcl, hg⟩
  · obtain ⟨rfl, hp⟩ := hp
    obtain ⟨t2, a1, b1⟩ := W_tight hG'.2.1 hG'.2.2 hC.n hC.u (kk G' n' u' hp hn hn' hu' T'.heap locs' ls hG' hS' b) T' rfl X'
    exact ⟨t2, hg t2 a1, b1⟩
  · obtain ⟨t2, a1, b1⟩ := vx_W_tight hG'.2.1 hG'.2.2 hC.n hC.u (kx E q G' n' u' hp hn hn' hu' T'.heap locs' ls rest ce hG' hS' b hce hvm hcl) T' rfl X'
    exact ⟨t2, hg.trans a1, b1⟩
theorem g_callv0 {len : Nat} {st0 : List Value} {P : AH → Nat → Nat → Prop} (hC : CX Y p s m args meth c cc nL own hh n0 u0) (hr : GRun Y p l e R s m args below meth c nL n0 u0 G nn uu pc len L st0 rest kc ku (pV P) noX)
    (kk : ∀  (G' : AH) (n' u' : Nat), P G' n' u' → nn ≤ n' → n' ≤ nn + kc → u' ≤ uu + ku → V Y p l e R s m args below meth c nL n0 u0 G' n' u' Q (pc + len) L (rest)) : V Y p l e R s m args below meth c nL n0 u0 G nn uu Q pc L st0 := g_callv hC hr (fun _ _ _ _ _ h => h.elim) kk
def mdK (y : MethodName) (n : Nat) : Prop := y.cls ≠ "java/lang/invoke/MethodHandle" ∧ y.cls ≠ "java/lang/invoke/VarHandle" ∧ (parseMethodDescriptor y.desc).map (fun d => d.parameters.length) = some n
theorem g_runV {y : MethodName} {bytes : ByteArray} {maxL n index fr lo : Nat} {ret : Option FieldType} {As st0 : List Value} {C : String} {T : u_T} {N ci b : Nat} {ty : Nat → FieldType} {fs : List Value} (hC : CX Y p s m args meth c cc nL own hh n0 u0) (hM : GM Y l y (ws_ y bytes maxL ret) fr lo (.ref b :: As) G nn uu kc ku PR PX) (kcl : KCl ci C T N ty) (hb : G b = some (.inr (ci, fs))) (hws : GoodIn lw_all (wsV own index C y (ws_ y bytes maxL ret))) (hyC : y.cls = C) (md : mdK y n) (hdg : decode cc pc = .ok (.invokevirtual index, 3)) (hn : As.length = n) (hR : fr + 1 ≤ R.frames ∧ 8 + (maxL + 11) + lo ≤ R.locals) (hrc : nn + kc ≤ n0 + R.cells) (hru : uu + ku ≤ u0 + R.slots) (hst : As.reverse ++ .ref b :: rest = st0) (hW : (rest.map fun v => v.category).sum ≤ 8) : GRun Y p l e R s m args below meth c nL n0 u0 G nn uu pc 3 L st0 rest kc ku PR PX := by
  subst hst
  refine GRun.of3 (Zc' := R.cells - (nn - n0)) (Zu' := R.slots - (uu - u0)) (a := ((.ref b :: As) : List Value).toArray) hC fun H locs ls g aS b hn0 hu0 => ?_
  exact vx_runV hC.fix (hM (R.cells - (nn - n0)) (R.slots - (uu - u0)) (by omega) (by omega)) (cwV n hC.ts hws rfl rfl rfl ⟨hyC, md.1, md.2.1, md.2.2⟩ hR) ⟨GPre.blind, g_recv hC.K g kcl hb, g_pre hC g aS⟩ rfl hn b.1 rfl (lv_room hW) hdg ⟨by omega, by omega⟩
theorem g_runVW {y : MethodName} {bytes : ByteArray} {maxL n index fr lo : Nat} {ret : Option FieldType} {As st0 : List Value} {C : String} {T : u_T} {N ci b : Nat} {ty : Nat → FieldType} {fs : List Value} {hh' : List (Nat × Nat × Nat × Nat)} (hC : CX Y p s m args meth c cc nL own hh n0 u0) (hM : GM Y l y (wsW_ y bytes maxL ret hh') fr lo (.ref b :: As) G nn uu kc ku PR PX) (kcl : KCl ci C T N ty) (hb : G b = some (.inr (ci, fs))) (hws : GoodIn lw_all (wsV own index C y (wsW_ y bytes maxL ret hh'))) (hyC : y.cls = C) (md : mdK y n) (hdg : decode cc pc = .ok (.invokevirtual index, 3)) (hn : As.length = n) (hR : fr + 1 ≤ R.frames ∧ 8 + (maxL + 11) + lo ≤ R.locals) (hrc : nn + kc ≤ n0 + R.cells) (hru : uu + ku ≤ u0 + R.slots) (hst : As.reverse ++ .ref b :: rest = st0) (hW : (rest.map fun v => v.category).sum ≤ 8) : GRun Y p l e R s m args below meth c nL n0 u0 G nn uu pc 3 L st0 rest kc ku PR PX := by
  subst hst
  refine GRun.of3 (Zc' := R.cells - (nn - n0)) (Zu' := R.slots - (uu - u0)) (a := ((.ref b :: As) : List Value).toArray) hC fun H locs ls g aS b hn0 hu0 => ?_
  exact vx_runVX hC.fix (hM (R.cells - (nn - n0)) (R.slots - (uu - u0)) (by omega) (by omega)) (vx_cwVW n hC.ts hws rfl rfl rfl ⟨hyC, md.1, md.2.1, md.2.2⟩ hR) ⟨GPre.blind, g_recv hC.K g kcl hb, g_pre hC g aS⟩ rfl hn b.1 rfl (lv_room hW) hdg ⟨by omega, by omega⟩
theorem g_runS {y : MethodName} {bytes : ByteArray} {maxL n index fr lo : Nat} {ret : Option FieldType} {As st0 : List Value}  (hC : CX Y p s m args meth c cc nL own hh n0 u0) (hM : GM Y l y (ws_ y bytes maxL ret) fr lo As G nn uu kc ku PR PX) (hws : GoodIn lw_all (va_wsS own index y (ws_ y bytes maxL ret))) (md : mdK y n) (hdg : decode cc pc = .ok (.invokestatic index, 3)) (hn : As.length = n) (hR : fr + 1 ≤ R.frames ∧ 8 + (maxL + 11) + lo ≤ R.locals) (hrc : nn + kc ≤ n0 + R.cells) (hru : uu + ku ≤ u0 + R.slots) (hst : As.reverse ++ rest = st0) (hW : (rest.map fun v => v.category).sum ≤ 8) : GRun Y p l e R s m args below meth c nL n0 u0 G nn uu pc 3 L st0 rest kc ku PR PX := by
  subst hst
  refine GRun.of3 (Zc' := R.cells - (nn - n0)) (Zu' := R.slots - (uu - u0)) (a := (As : List Value).toArray) hC fun H locs ls g aS b hn0 hu0 => ?_
  exact vx_runS hC.fix (hM (R.cells - (nn - n0)) (R.slots - (uu - u0)) (by omega) (by omega)) (va_cwS n hC.ts hws rfl rfl rfl md hR) ⟨GPre.blind, g_pre hC g aS⟩ rfl hn b.1 rfl (lv_room hW) hdg ⟨by omega, by omega⟩
theorem g_runSW {y : MethodName} {bytes : ByteArray} {maxL n index fr lo : Nat} {ret : Option FieldType} {As st0 : List Value} {hh' : List (Nat × Nat × Nat × Nat)} (hC : CX Y p s m args meth c cc nL own hh n0 u0) (hM : GM Y l y (wsW_ y bytes maxL ret hh') fr lo As G nn uu kc ku PR PX) (hws : GoodIn lw_all (va_wsS own index y (wsW_ y bytes maxL ret hh'))) (md : mdK y n) (hdg : decode cc pc = .ok (.invokestatic index, 3)) (hn : As.length = n) (hR : fr + 1 ≤ R.frames ∧ 8 + (maxL + 11) + lo ≤ R.locals) (hrc : nn + kc ≤ n0 + R.cells) (hru : uu + ku ≤ u0 + R.slots) (hst : As.reverse ++ rest = st0) (hW : (rest.map fun v => v.category).sum ≤ 8) : GRun Y p l e R s m args below meth c nL n0 u0 G nn uu pc 3 L st0 rest kc ku PR PX := by
  subst hst
  refine GRun.of3 (Zc' := R.cells - (nn - n0)) (Zu' := R.slots - (uu - u0)) (a := (As : List Value).toArray) hC fun H locs ls g aS b hn0 hu0 => ?_
  exact vx_runSX hC.fix (hM (R.cells - (nn - n0)) (R.slots - (uu - u0)) (by omega) (by omega)) (vx_cwSW n hC.ts hws rfl rfl rfl md hR) ⟨GPre.blind, g_pre hC g aS⟩ rfl hn b.1 rfl (lv_room hW) hdg ⟨by omega, by omega⟩
theorem g_runI {y : MethodName} {bytes : ByteArray} {maxL n index fr lo : Nat} {ret : Option FieldType} {As st0 : List Value} {b : Nat} (hC : CX Y p s m args meth c cc nL own hh n0 u0) (hM : GM Y l y (ws_ y bytes maxL none) fr lo (.ref b :: As) G nn uu kc ku PR PX) (hws : GoodIn lw_all (ws_ y bytes maxL none)) (hini : Cond.initialized y.cls ∈ lw_all) (hl : Cond.methodLink own index y ∈ lw_all) (hin : Cond.instanceMethod y ∈ lw_all) (hy1 : y.name = "<init>") (md : mdK y n) (hdg : decode cc pc = .ok (.invokespecial index, 3)) (hn : As.length = n) (hR : fr + 1 ≤ R.frames ∧ 8 + (maxL + 11) + lo ≤ R.locals) (hrc : nn + kc ≤ n0 + R.cells) (hru : uu + ku ≤ u0 + R.slots) (hst : As.reverse ++ .ref b :: rest = st0) (hW : (rest.map fun v => v.category).sum ≤ 8) : GRun Y p l e R s m args below meth c nL n0 u0 G nn uu pc 3 L st0 rest kc ku PR PX := by
  subst hst
  refine GRun.of3 (Zc' := R.cells - (nn - n0)) (Zu' := R.slots - (uu - u0)) (a := ((.ref b :: As) : List Value).toArray) hC fun H locs ls g aS b hn0 hu0 => ?_
  exact vx_runI hC.fix (hM (R.cells - (nn - n0)) (R.slots - (uu - u0)) (by omega) (by omega)) (cwI n hC.ts hws rfl rfl rfl (hC.ts _ hini) (hC.ts _ hl) (hC.ts _ hin) hy1 md hR) ⟨GPre.blind, g_pre hC g aS⟩ rfl hn b.1 rfl (lv_room hW) hdg ⟨by omega, by omega⟩
theorem g_runU {y : MethodName} {bytes : ByteArray} {maxL n index fr lo : Nat} {ret : Option FieldType} {As st0 : List Value} {C : String} {T : u_T} {N ci b : Nat} {ty : Nat → FieldType} {fs : List Value} {x : MethodName} {owner : String} (hC : CX Y p s m args meth c cc nL own hh n0 u0) (hM : GM Y l y (ws_ y bytes maxL ret) fr lo (.ref b :: As) G nn uu kc ku PR PX) (kcl : KCl ci C T N ty) (hb : G b = some (.inr (ci, fs))) (hws : GoodIn lw_all (va_wsU own index C owner x y (ws_ y bytes maxL ret))) (hyx : y = ⟨owner, x.name, x.desc⟩) (md : owner ≠ "java/lang/invoke/MethodHandle" ∧ owner ≠ "java/lang/invoke/VarHandle" ∧ (parseMethodDescriptor x.desc).map (fun d => d.parameters.length) = some n) (hdg : decode cc pc = .ok (.invokevirtual index, 3)) (hn : As.length = n) (hR : fr + 1 ≤ R.frames ∧ 8 + (maxL + 11) + lo ≤ R.locals) (hrc : nn + kc ≤ n0 + R.cells) (hru : uu + ku ≤ u0 + R.slots) (hst : As.reverse ++ .ref b :: rest = st0) (hW : (rest.map fun v => v.category).sum ≤ 8) : GRun Y p l e R s m args below meth c nL n0 u0 G nn uu pc 3 L st0 rest kc ku PR PX := by
  subst hst
  refine GRun.of3 (Zc' := R.cells - (nn - n0)) (Zu' := R.slots - (uu - u0)) (a := ((.ref b :: As) : List Value).toArray) hC fun H locs ls g aS b hn0 hu0 => ?_
  exact vx_runU hC.fix (hM (R.cells - (nn - n0)) (R.slots - (uu - u0)) (by omega) (by omega)) (va_cwU n hC.ts hws rfl rfl rfl hyx md hR) ⟨GPre.blind, g_recv hC.K g kcl hb, g_pre hC g aS⟩ rfl hn b.1 rfl (lv_room hW) hdg ⟨by omega, by omega⟩
theorem g_runO {y : MethodName} {bytes : ByteArray} {maxL n index fr lo : Nat} {ret : Option FieldType} {As st0 : List Value} {C : String} {T : u_T} {N ci b : Nat} {ty : Nat → FieldType} {fs : List Value} {x : MethodName} {owner : String} {b0 : ByteArray} {m0 : Nat} {r0 : Option FieldType} (hC : CX Y p s m args meth c cc nL own hh n0 u0) (hM : GM Y l y (ws_ y bytes maxL ret) fr lo (.ref b :: As) G nn uu kc ku PR PX) (kcl : KCl ci C T N ty) (hb : G b = some (.inr (ci, fs))) (hws : GoodIn lw_all (va_wsO own index C owner x y (ws_ y bytes maxL ret))) (h0 : Cond.code ⟨owner, x.name, x.desc⟩ b0 m0 r0 ∈ lw_all) (md : owner ≠ "java/lang/invoke/MethodHandle" ∧ owner ≠ "java/lang/invoke/VarHandle" ∧ (parseMethodDescriptor x.desc).map (fun d => d.parameters.length) = some n) (hdg : decode cc pc = .ok (.invokevirtual index, 3)) (hn : As.length = n) (hR : fr + 1 ≤ R.frames ∧ 8 + (maxL + 11) + lo ≤ R.locals) (hrc : nn + kc ≤ n0 + R.cells) (hru : uu + ku ≤ u0 + R.slots) (hst : As.reverse ++ .ref b :: rest = st0) (hW : (rest.map fun v => v.category).sum ≤ 8) : GRun Y p l e R s m args below meth c nL n0 u0 G nn uu pc 3 L st0 rest kc ku PR PX := by
  subst hst
  refine GRun.of3 (Zc' := R.cells - (nn - n0)) (Zu' := R.slots - (uu - u0)) (a := ((.ref b :: As) : List Value).toArray) hC fun H locs ls g aS b hn0 hu0 => ?_
  exact vx_runU hC.fix (hM (R.cells - (nn - n0)) (R.slots - (uu - u0)) (by omega) (by omega)) (va_cwO n hC.ts hws rfl rfl rfl h0 md hR) ⟨GPre.blind, g_recv hC.K g kcl hb, g_pre hC g aS⟩ rfl hn b.1 rfl (lv_room hW) hdg ⟨by omega, by omega⟩
theorem g_runA {y : MethodName} {bytes : ByteArray} {maxL n index fr lo : Nat} {ret : Option FieldType} {As st0 : List Value} {C : String} {T : u_T} {N ci b : Nat} {ty : Nat → FieldType} {fs : List Value} {x : MethodName} {owner : String} (hC : CX Y p s m args meth c cc nL own hh n0 u0) (hM : GM Y l y (ws_ y bytes maxL ret) fr lo (.ref b :: As) G nn uu kc ku PR PX) (kcl : KCl ci C T N ty) (hb : G b = some (.inr (ci, fs))) (hws : GoodIn lw_all (va_wsU own index C owner x y (ws_ y bytes maxL ret))) (hdl : Cond.declares ⟨owner, x.name, x.desc⟩ ∈ lw_tbl) (md : owner ≠ "java/lang/invoke/MethodHandle" ∧ owner ≠ "java/lang/invoke/VarHandle" ∧ (parseMethodDescriptor x.desc).map (fun d => d.parameters.length) = some n) (hdg : decode cc pc = .ok (.invokevirtual index, 3)) (hn : As.length = n) (hR : fr + 1 ≤ R.frames ∧ 8 + (maxL + 11) + lo ≤ R.locals) (hrc : nn + kc ≤ n0 + R.cells) (hru : uu + ku ≤ u0 + R.slots) (hst : As.reverse ++ .ref b :: rest = st0) (hW : (rest.map fun v => v.category).sum ≤ 8) : GRun Y p l e R s m args below meth c nL n0 u0 G nn uu pc 3 L st0 rest kc ku PR PX := by
  subst hst
  refine GRun.of3 (Zc' := R.cells - (nn - n0)) (Zu' := R.slots - (uu - u0)) (a := ((.ref b :: As) : List Value).toArray) hC fun H locs ls g aS b hn0 hu0 => ?_
  exact vx_runU hC.fix (hM (R.cells - (nn - n0)) (R.slots - (uu - u0)) (by omega) (by omega)) (va_cwA n hC.ts hws rfl rfl rfl (hC.K.decl hdl) md hR) ⟨GPre.blind, g_recv hC.K g kcl hb, g_pre hC g aS⟩ rfl hn b.1 rfl (lv_room hW) hdg ⟨by omega, by omega⟩
theorem g_runSU {y : MethodName} {bytes : ByteArray} {maxL n index fr lo : Nat} {ret : Option FieldType} {As st0 : List Value} {C : String} {T : u_T} {N ci b : Nat} {ty : Nat → FieldType} {fs : List Value} (hC : CX Y p s m args meth c cc nL own hh n0 u0) (hM : GM Y l y (ws_ y bytes maxL ret) fr lo (.ref b :: As) G nn uu kc ku PR PX) (kcl : KCl ci C T N ty) (hb : G b = some (.inr (ci, fs))) (hws : GoodIn lw_all (va_wsSU own index y (ws_ y bytes maxL ret))) (md : y.name ≠ "<init>" ∧ (parseMethodDescriptor y.desc).map (fun d => d.parameters.length) = some n) (hdg : decode cc pc = .ok (.invokespecial index, 3)) (hn : As.length = n) (hR : fr + 1 ≤ R.frames ∧ 8 + (maxL + 11) + lo ≤ R.locals) (hrc : nn + kc ≤ n0 + R.cells) (hru : uu + ku ≤ u0 + R.slots) (hst : As.reverse ++ .ref b :: rest = st0) (hW : (rest.map fun v => v.category).sum ≤ 8) : GRun Y p l e R s m args below meth c nL n0 u0 G nn uu pc 3 L st0 rest kc ku PR PX := by
  subst hst
  refine GRun.of3 (Zc' := R.cells - (nn - n0)) (Zu' := R.slots - (uu - u0)) (a := ((.ref b :: As) : List Value).toArray) hC fun H locs ls g aS b hn0 hu0 => ?_
  exact vx_runSU (g_castat hC.K kcl) hC.fix (hM (R.cells - (nn - n0)) (R.slots - (uu - u0)) (by omega) (by omega)) (va_cwSU n hC.ts hws rfl rfl rfl md hR) ⟨GPre.blind, g_recv hC.K g kcl hb, g_pre hC g aS⟩ rfl hn b.1 rfl (lv_room hW) hdg ⟨by omega, by omega⟩
theorem g_iret {n0 u0 : Nat} {ty : FieldType} {v : Int32} (hC : CX Y p s m args meth c cc nL own hh n0 u0) (hr : meth.sig.returnType = some ty) (hn : narrow ty (.int v) = .int v) (hP : PR (some (.int v)) G nn uu) (h1 : nn ≤ n0 + kc) (h2 : uu ≤ u0 + ku) (hE : EX Y below n0 u0 kc ku PR PX args s R Q) (hdg : decode cc pc = .ok (.ireturn, 1)) : V Y p l e R s m args below meth c nL n0 u0 G nn uu Q pc L [.int v] := by
  obtain ⟨h3, h4, rfl⟩ := hE
  intro H locs ls g aS b
  refine W.widen (k := R.cells) (n := R.slots) (by omega) (by omega) ?_
  exact vx_ret (W.zret hC.x hC.b hr hn (fun t ht hW => ⟨_, G, nn, uu, rfl, hP, by rw [ht]; exact g, h1, h2, aS.F ht⟩) aS.2.2 hdg hC.lk)
theorem g_lret {n0 u0 : Nat} {v : Int64} (hC : CX Y p s m args meth c cc nL own hh n0 u0) (hr : meth.sig.returnType = some .long) (hP : PR (some (.long v)) G nn uu) (h1 : nn ≤ n0 + kc) (h2 : uu ≤ u0 + ku) (hE : EX Y below n0 u0 kc ku PR PX args s R Q) (hdg : decode cc pc = .ok (.lreturn, 1)) : V Y p l e R s m args below meth c nL n0 u0 G nn uu Q pc L [.long v] := by
  obtain ⟨h3, h4, rfl⟩ := hE
  intro H locs ls g aS b
  refine W.widen (k := R.cells) (n := R.slots) (by omega) (by omega) ?_
  exact vx_ret (W.lret hC.x hC.b hr (fun t ht hW => ⟨_, G, nn, uu, rfl, hP, by rw [ht]; exact g, h1, h2, aS.F ht⟩) aS.2.2 hdg hC.lk)
theorem g_aret {n0 u0 : Nat} {rt : FieldType} {v : Option Nat} (hC : CX Y p s m args meth c cc nL own hh n0 u0) (hr : meth.sig.returnType = some rt) (hrt : (∃ n, rt = .object n) ∨ ∃ t, rt = .array t) (hP : PR (some (va_rf v)) G nn uu) (h1 : nn ≤ n0 + kc) (h2 : uu ≤ u0 + ku) (hE : EX Y below n0 u0 kc ku PR PX args s R Q) (hdg : decode cc pc = .ok (.areturn, 1)) : V Y p l e R s m args below meth c nL n0 u0 G nn uu Q pc L [va_rf v] := by
  obtain ⟨h3, h4, rfl⟩ := hE
  intro H locs ls g aS b
  refine W.widen (k := R.cells) (n := R.slots) (by omega) (by omega) ?_
  exact vx_ret (W.aret hC.x hC.b hr hrt (va_rf_or v) (fun t ht hW => ⟨_, G, nn, uu, rfl, hP, by rw [ht]; exact g, h1, h2, aS.F ht⟩) aS.2.2 hdg hC.lk)
theorem g_vret {n0 u0 : Nat} (hC : CX Y p s m args meth c cc nL own hh n0 u0) (hr : meth.sig.returnType = none) (hP : PR none G nn uu) (h1 : nn ≤ n0 + kc) (h2 : uu ≤ u0 + ku) (hE : EX Y below n0 u0 kc ku PR PX args s R Q) (hdg : decode cc pc = .ok (.return_, 1)) : V Y p l e R s m args below meth c nL n0 u0 G nn uu Q pc L [] := by
  obtain ⟨h3, h4, rfl⟩ := hE
  intro H locs ls g aS b
  refine W.widen (k := R.cells) (n := R.slots) (by omega) (by omega) ?_
  exact vx_ret (W.vret hC.x hC.b hr (fun t ht hW => ⟨_, G, nn, uu, rfl, hP, by rw [ht]; exact g, h1, h2, aS.F ht⟩) aS.2.2 hdg hC.lk)
theorem g_objInit (hC : CX Y p s m args meth c cc nL own hh n0 u0) {idx a : Nat} (h1 : Cond.methodLink own idx objectInit ∈ lw_all) (h2 : Cond.instanceMethod objectInit ∈ lw_all) (h3 : Cond.code objectInit ⟨#[0xb1]⟩ 1 none ∈ lw_all) (hd : decode cc pc = .ok (.invokespecial idx, 3)) (hframes : 1 ≤ R.frames) (hlocals : (rest.map fun v => v.category).sum + 12 ≤ R.locals)
    (kk : V Y p l e R s m args below meth c nL n0 u0 G nn uu Q (pc + 3) L rest) : V Y p l e R s m args below meth c nL n0 u0 G nn uu Q pc L (.ref a :: rest) := fun H locs ls g aS b =>
  W.objInit hC.x hC.b hC.own (hC.ts _ h1) (hC.ts _ h2) (hC.ts _ h3) rfl (b.1.trans hC.ml.symm) rfl hd hframes (by simpa [JFrame.monitorRoom] using hlocals) (W.eq rfl (kk H locs ls g aS b))
theorem g_athrow (hC : CX Y p s m args meth c cc nL own hh n0 u0) {C : String} {T : u_T} {N ci q : Nat} {ty : Nat → FieldType} {fs : List Value} (kcl : KCl ci C T N ty) (hb : G q = some (.inr (ci, fs))) (hz : yz Y ≤ q) (hdg : decode cc pc = .ok (.athrow, 1)) (k : VX Y p l e R s m args below meth c nL n0 u0 G nn uu Q pc L C q) : V Y p l e R s m args below meth c nL n0 u0 G nn uu Q pc L (.ref q :: rest) := by
  intro H locs ls g aS b
  obtain ⟨ce, h1, h2, h3⟩ := g_sees hC.K g kcl hb hz
  exact vx_athrow hC.x hC.b hdg (k H locs ls rest ce g aS b h1 h2 h3)
theorem g_out {n0 u0 : Nat} {E : String} {q : Nat} (hC : CX Y p s m args meth c cc nL own hh n0 u0) (hout : ∀ x ∈ tableOf hh, covers x pc = false) (hP : PX E q G nn uu) (h1 : nn ≤ n0 + kc) (h2 : uu ≤ u0 + ku) (hE : EX Y below n0 u0 kc ku PR PX args s R Q) : VX Y p l e R s m args below meth c nL n0 u0 G nn uu Q pc L E q := by
  obtain ⟨h3, h4, rfl⟩ := hE
  intro H locs ls rest ce g aS b c1 c2 c3
  exact vx_out (by rw [hC.tb]; exact hout) hC.lk c1 c2 c3 (fun t ht hW => ⟨G, nn, uu, hP, by rw [ht]; exact g, h1, h2, aS.F ht⟩) aS.2.2 (by omega) (by omega)
/-- out through handlers that don't take it -/
theorem g_outP {n0 u0 : Nat} {E : String} {q : Nat} (hC : CX Y p s m args meth c cc nL own hh n0 u0) (hout : ∀ x ∈ tableOf hh, covers x pc = false ∨ (x.catchType ≠ 0 ∧ ∃ nm : String, Cond.classLink own x.catchType nm ∈ lw_all ∧ Cond.not (.castable E nm) ∈ flatC narrow_1)) (hP : PX E q G nn uu) (h1 : nn ≤ n0 + kc) (h2 : uu ≤ u0 + ku) (hE : EX Y below n0 u0 kc ku PR PX args s R Q) : VX Y p l e R s m args below meth c nL n0 u0 G nn uu Q pc L E q := by
  obtain ⟨h3, h4, rfl⟩ := hE
  intro H locs ls rest ce g aS b c1 c2 c3
  exact vx_outP hC.own hC.lk (by rw [hC.tb]; exact fun z hz => (hout z hz).imp id (fun ⟨x1, nm, x2, x3⟩ => ⟨x1, nm, hC.ts _ x2, hC.K.nc x3⟩)) c1 c2 c3 (fun t ht hW => ⟨G, nn, uu, hP, by rw [ht]; exact g, h1, h2, aS.F ht⟩) aS.2.2 (by omega) (by omega)
theorem g_catch {n0 u0 : Nat} {E name : String} {q : Nat} (hC : CX Y p s m args meth c cc nL own hh n0 u0) (pre : List ExceptionTableEntry) (x : ExceptionTableEntry) (suf : List ExceptionTableEntry) (hsplit : tableOf hh = pre ++ x :: suf) (hpass : ∀ z ∈ pre, covers z pc = false ∨ (z.catchType ≠ 0 ∧ ∃ nm : String, Cond.classLink own z.catchType nm ∈ lw_all ∧ Cond.not (.castable E nm) ∈ flatC narrow_1)) (hx : covers x pc = true) (h0 : x.catchType ≠ 0) (hlink : Cond.classLink own x.catchType name ∈ lw_all) (hcast : Cond.castable E name ∈ lw_tbl) {hp : Nat} (hhp : x.handlerPc = hp)
    (kk : V Y p l e R s m args below meth c nL n0 u0 G nn uu Q hp L [.ref q]) : VX Y p l e R s m args below meth c nL n0 u0 G nn uu Q pc L E q := by
  intro H locs ls rest ce g aS b c1 c2 c3
  subst hhp
  exact vx_catch hC.own pre x suf (by rw [hC.tb]; exact hsplit) (fun z hz => (hpass z hz).imp id (fun ⟨x1, nm, x2, x3⟩ => ⟨x1, nm, hC.ts _ x2, hC.K.nc x3⟩)) hx h0 (hC.ts _ hlink) ((hC.K.cast hcast).use rfl) c1 c2 c3 (kk H locs ls g aS b)
end G2
