set_option maxRecDepth 100000
/-! ROWS 3: calls by an interface of a method that the named interface inherits from another interface -/
section IU
/-- where the lookup from an interface ends -/
def iu_look (vm : Vm) (k : Class) (c : ClassId) (name desc : String) : Option MethodId :=
  match k.findMethod name desc with
  | some i => some ⟨c, i⟩
  | none => ((vm.findClass "java/lang/Object").bind fun o => (vm.classes[o]?).bind fun ko => (ko.findMethod name desc).bind fun i => (vm.method? ⟨o, i⟩).bind fun m => if hasFlag m.accessFlags Acc.public_ && !m.isStatic then some (⟨o, i⟩ : MethodId) else none).or (lookupInSuperinterfaces vm c name desc)
theorem iu_found {s : State} {cls name desc : String} {c : ClassId} {k : Class} (hc : s.vm.findClass cls = some c) (hk : s.vm.classes[c]? = some k) (hi : k.isInterface = true)
    (hpoly : ∀ y, signaturePolymorphic k y = false) (m : MethodId) : s.methodFound? cls name desc = some m ↔ iu_look s.vm k c name desc = some m ∧ ∃ mk, s.vm.classes[m.cls]? = some mk := by
  simp only [State.methodFound?, hc, hk, Option.bind_eq_bind, Option.bind_some, iu_look]
  have hany : ∀ j : Nat, Option.any (signaturePolymorphic k) k.methods[j]? = false := fun j => by cases k.methods[j]? <;> simp [hpoly]
  simp only [methodIn, VmM.ask, VmM.bind_run, getClass, VmM.getVm, hk, VmM.pure_run]
  generalize (List.filter (fun (i : Nat) => Option.any (fun (x_1 : Method) => x_1.name == name) k.methods[i]?) (List.range k.methods.size)) = L
  rcases L with _ | ⟨j, _ | ⟨j', L⟩⟩ <;>
  · simp only [VmM.bind_run, VmM.getVm, hany, hi, bne_self_eq_false, Bool.false_eq_true, if_false, if_true, Option.isSome_none, Option.orElse_eq_or, HOrElse.hOrElse, OrElse.orElse, Option.bind_eq_bind, Option.bind_some]
    cases hfm : k.findMethod name desc with
    | some i =>
      simp only []
      cases hx : s.vm.classes[c]? with
      | none => rw [hk] at hx; cases hx
      | some mk => simp [VmM.bind_run, VmM.getVm, VmM.getEnv, VmM.mark, hx, Except.toOption]; rintro rfl; exact ⟨mk, hx⟩
    | none =>
      simp only []
      generalize (((s.vm.findClass "java/lang/Object").bind fun o => (s.vm.classes[o]?).bind fun ko => (ko.findMethod name desc).bind fun i => (s.vm.method? ⟨o, i⟩).bind fun m => if (hasFlag m.accessFlags Acc.public_ && !m.isStatic) = true then some (⟨o, i⟩ : MethodId) else none).or (lookupInSuperinterfaces s.vm c name desc)) = F
      cases F with
      | none => cases namesTheOthers k name <;> simp [VmM.bind_run, VmM.getEnv, VmM.failAs, VmM.unsupported, VmM.stop, Except.toOption]
      | some x =>
        cases hx : s.vm.classes[x.cls]? with
        | none => simp [VmM.bind_run, VmM.getVm, VmM.getEnv, VmM.stop, hx, Except.toOption]; rintro rfl; simp [hx]
        | some mk => simp [VmM.bind_run, VmM.getVm, VmM.getEnv, VmM.mark, hx, Except.toOption]; rintro rfl; exact ⟨mk, hx⟩
theorem iu_look_alike {vm vm' : Vm} (h : vm.Alike vm') {k k' : Class} (he : k' = { k with resolved := k'.resolved, nestHost := k'.nestHost, nestHostError := k'.nestHostError }) (c : ClassId) (name desc : String) : iu_look vm' k' c name desc = iu_look vm k c name desc := by
  have h1 : k'.findMethod name desc = k.findMethod name desc := by rw [he]; rfl
  unfold iu_look
  rw [h1, h.findClass, h.lookupInSuperinterfaces]
  cases k.findMethod name desc with
  | some i => rfl
  | none =>
    dsimp only
    congr 1
    cases vm.findClass "java/lang/Object" with
    | none => rfl
    | some o =>
      simp only [Option.bind_some, h.method?]
      cases hk : vm.classes[o]? with
      | none => rw [h.none hk]
      | some ko =>
        obtain ⟨ko', hk', he'⟩ := h.2.2 _ _ hk
        rw [hk']
        have h2 : ko'.findMethod name desc = ko.findMethod name desc := by rw [he']; rfl
        simp only [Option.bind_some, h2]
theorem iu_gives {vm : Vm} {c d : Nat} {m : MethodId} {name desc : String} {ck dk mk : Class} {meth : Method} (e : Setting)
    (hc : vm.classes[c]? = some ck) (hd : vm.classes[d]? = some dk) (hvia : ck.isInterface = true) (hpoly : ∀ y, signaturePolymorphic ck y = false)
    (hlook : iu_look vm ck c name desc = some m) (hmk : vm.classes[m.cls]? = some mk) (hm : mk.methods[m.idx]? = some meth) (hl : dk.loader = mk.loader)
    (hacc : vm.Road e.platform meth.accessFlags m.cls mk c ck name d dk) :
    (methodIn c name desc true (some d)).Gives e vm (.ok m) vm := by
  unfold methodIn
  refine (getClass_gives e hc).bind ?_
  have hany : ∀ j : Nat, Option.any (signaturePolymorphic ck) ck.methods[j]? = false := fun j => by cases ck.methods[j]? <;> simp [hpoly]
  have hgm : (getMethod m).Gives e vm (.ok meth) vm := getMethod_gives e hmk hm
  simp only [hvia, bne_self_eq_false, Bool.false_eq_true, if_false, if_true, hany]
  generalize (List.filter (fun i => Option.any (fun x => x.name == name) ck.methods[i]?) (List.range ck.methods.size)) = L
  unfold iu_look at hlook
  cases hfm : ck.findMethod name desc with
  | some i0 =>
    simp only [hfm] at hlook
    obtain rfl : (⟨c, i0⟩ : MethodId) = m := Option.some.inj hlook
    rcases L with _ | ⟨j, _ | ⟨j', L⟩⟩ <;>
    · simp only [Option.isSome_none, Option.isNone_none, Bool.false_eq_true, if_false, if_true, Bool.and_self, Option.bind_eq_bind, Option.bind_some, Option.orElse_eq_or, HOrElse.hOrElse, OrElse.orElse, hfm]
      refine VmM.Gives.getVm.bind ?_
      refine (getEnv_gives e vm).bind ?_
      split
      · rename_i hnot
        have hyes : (memberAccessible meth.accessFlags c c d).Gives e vm (.ok true) vm := by
          rcases hacc with h | h | h | ⟨h1, h2, h3, h4⟩ | ⟨h1, h2, h3⟩
          · exact memberAccessible_plain e hmk hd (Or.inl h)
          · exact memberAccessible_plain e hmk hd (Or.inr (Or.inl h))
          · exact memberAccessible_plain e hmk hd (Or.inr (Or.inr h))
          · exact memberAccessible_protected e hmk hd h1 h2 h3 h4
          · simp [h1, h2, h3] at hnot
        refine hgm.bind ?_
        refine hyes.bind ?_
        simp only [Bool.not_true, Bool.false_eq_true, if_false]
        refine (getClass_gives e hd).bind ?_
        refine (getClass_gives e hmk).bind ?_
        refine VmM.Gives.getVm.bind ?_
        refine hgm.bind ?_
        simp only [hl]
        refine (imposeConstraints_same e vm _ _ _ _).bind ?_
        refine (getClass_gives e hmk).bind ?_
        exact (VmM.Gives.mark _).bind (.pure _)
      · refine (getClass_gives e hd).bind ?_
        refine (getClass_gives e hmk).bind ?_
        refine VmM.Gives.getVm.bind ?_
        refine hgm.bind ?_
        simp only [hl]
        refine (imposeConstraints_same e vm _ _ _ _).bind ?_
        refine (getClass_gives e hmk).bind ?_
        exact (VmM.Gives.mark _).bind (.pure _)
  | none =>
    simp only [hfm] at hlook
    rcases L with _ | ⟨j, _ | ⟨j', L⟩⟩ <;>
    · simp only [Option.isSome_none, Option.isNone_none, Bool.false_eq_true, if_false, if_true, Bool.and_self, Option.bind_eq_bind, Option.bind_some, Option.orElse_eq_or, HOrElse.hOrElse, OrElse.orElse, hfm]
      refine VmM.Gives.getVm.bind ?_
      simp only [hlook]
      refine (getEnv_gives e vm).bind ?_
      split
      · rename_i hnot
        have hyes : (memberAccessible meth.accessFlags m.cls c d).Gives e vm (.ok true) vm := by
          rcases hacc with h | h | h | ⟨h1, h2, h3, h4⟩ | ⟨h1, h2, h3⟩
          · exact memberAccessible_plain e hmk hd (Or.inl h)
          · exact memberAccessible_plain e hmk hd (Or.inr (Or.inl h))
          · exact memberAccessible_plain e hmk hd (Or.inr (Or.inr h))
          · exact memberAccessible_protected e hmk hd h1 h2 h3 h4
          · simp [h1, h2, h3] at hnot
        refine hgm.bind ?_
        refine hyes.bind ?_
        simp only [Bool.not_true, Bool.false_eq_true, if_false]
        refine (getClass_gives e hd).bind ?_
        refine (getClass_gives e hmk).bind ?_
        refine VmM.Gives.getVm.bind ?_
        refine hgm.bind ?_
        simp only [hl]
        refine (imposeConstraints_same e vm _ _ _ _).bind ?_
        refine (getClass_gives e hmk).bind ?_
        exact (VmM.Gives.mark _).bind (.pure _)
      · refine (getClass_gives e hd).bind ?_
        refine (getClass_gives e hmk).bind ?_
        refine VmM.Gives.getVm.bind ?_
        refine hgm.bind ?_
        simp only [hl]
        refine (imposeConstraints_same e vm _ _ _ _).bind ?_
        refine (getClass_gives e hmk).bind ?_
        exact (VmM.Gives.mark _).bind (.pure _)
/-- what the resolution of such an item asks of the tables -/
def iu_Links (vm : Vm) (pl : Platform) (d index ci : Nat) (c : ClassId) (m : MethodId) : Prop :=
  ∃ dk cf nt name desc ck mk meth, vm.classes[d]? = some dk ∧ dk.cf = some cf ∧ cf.constantPool[index]? = some (.interfaceMethodref ci nt) ∧ cf.constantPool.nameAndType? nt = some (name, desc) ∧
    vm.ClassLinks pl d ci c ∧ ci ≠ index ∧ vm.classes[c]? = some ck ∧ ck.isInterface = true ∧ (∀ y, signaturePolymorphic ck y = false) ∧ iu_look vm ck c name desc = some m ∧ vm.classes[m.cls]? = some mk ∧ mk.methods[m.idx]? = some meth ∧ mk.loader = none ∧
    vm.Road pl meth.accessFlags m.cls mk c ck name d dk ∧ (dk.openAt index ∨ dk.resolved[index]? = some (some (.method m)))
theorem iu_resolve {vm : Vm} {d index ci c : Nat} {m : MethodId} (e : Setting) (h : iu_Links vm e.platform d index ci c m) :
    ∃ vm', (resolveMethod d index).Gives e vm (.ok m) vm' ∧ (vm' = vm ∨ vm' = (vm.noted d ci (.cls c)).noted d index (.method m)) ∧ vm.ClassLinks e.platform d ci c ∧ vm'.methodReady d index m := by
  obtain ⟨dk, cf, nt, name, desc, ck, mk, meth, hd, hcf, hcp, hnt, hcl, hne, hc, hvia, hpoly, hlook, hmk, hm, hml, hacc, hres⟩ := h
  have hdl : dk.loader = none := by
    obtain ⟨dk', _, _, _, hd', _, hl', _⟩ := hcl.here
    cases hd.symm.trans hd'; exact hl'
  unfold resolveMethod
  rcases hres with hopen | hdone
  · have hd₁ : (vm.noted d ci (.cls c)).classes[d]? = some (dk.noted ci (.cls c)) := Vm.classes_note_self ci (.cls c) hd
    have hopen₁ : (dk.noted ci (.cls c)).resolved[index]? = some none := by rw [Class.resolved_note_other dk (.cls c) hne]; exact hopen
    refine ⟨_, (resolveOnce_first e hd hopen (r := .method m) (vm₁ := vm.noted d ci (.cls c)) ?_).bind (.pure m), Or.inr rfl, hcl,
      _, Vm.classes_note_self index (.method m) hd₁, Class.resolved_note_self _ hopen₁⟩
    refine (memberRef_method (via := true) e hd hcf (by simpa using hcp) hnt).bind ?_
    refine (resolveClass_links e hcl).bind ?_
    have A : vm.Alike (vm.noted d ci (.cls c)) := (Vm.Alike.refl vm).noted d ci (.cls c)
    obtain ⟨ck', hc', hec⟩ := A.2.2 _ _ hc
    obtain ⟨dk', hd', hed⟩ := A.2.2 _ _ hd
    obtain ⟨mk', hmk', hem⟩ := A.2.2 _ _ hmk
    exact (iu_gives e hc' hd' (by rw [hec]; exact hvia) (by rw [hec]; exact hpoly) (by rw [iu_look_alike A hec]; exact hlook) hmk' (by rw [hem]; exact hm) (by rw [hed, hem]; show dk.loader = mk.loader; rw [hdl, hml]) (hacc.alike A hem hec hed)).bind (.pure _)
  · exact ⟨vm, (resolveOnce_memo e _ hd hdone (by simp) (by simp)).bind (.pure m), Or.inl rfl, hcl, dk, hd, hdone⟩
theorem iu_warmed {s : State} {vm' : Vm} {pl : Platform} (h : s.WarmedH vm') {d index ci c : Nat} {m : MethodId} (hl : iu_Links s.vm pl d index ci c m) : iu_Links vm' pl d index ci c m := by
  obtain ⟨dk, cf, nt, name, desc, ck, mk, meth, hd, hcf, hcp, hnt, hcl, hne, hc, hvia, hpoly, hlook, hmk, hm, hml, hacc, hres⟩ := hl
  obtain ⟨dk', hd', hed⟩ := h.alike.2.2 _ _ hd
  obtain ⟨ck', hc', hec⟩ := h.alike.2.2 _ _ hc
  obtain ⟨mk', hmk', hem⟩ := h.alike.2.2 _ _ hmk
  obtain ⟨ref, hrefn, hreff⟩ : ∃ ref, cf.constantPool.className? ci = some ref ∧ s.vm.findClass ref = some c := by
    obtain ⟨dk₂, cf₂, ref, _, hd₂, hcf₂, _, hn₂, hfind₂, _⟩ := hcl.here
    cases hd.symm.trans hd₂
    cases hcf.symm.trans hcf₂
    exact ⟨ref, hn₂, hfind₂⟩
  refine ⟨dk', cf, nt, name, desc, ck', mk', meth, hd', by rw [hed]; exact hcf, hcp, hnt, h.classLinks hcl, hne, hc', by rw [hec]; exact hvia, by rw [hec]; exact hpoly, by rw [iu_look_alike h.alike hec]; exact hlook, hmk', by rw [hem]; exact hm,
    by rw [hem]; exact hml, hacc.alike h.alike hem hec hed, ?_⟩
  rcases h.entry hd hd' index with e | ⟨-, r, e1, hr⟩
  · rcases hres with hres | hres
    · exact Or.inl (e.trans hres)
    · exact Or.inr (e.trans hres)
  · refine Or.inr ?_
    have hn : namesOf? cf.constantPool index = some (.method ref name desc) := by simp [namesOf?, hcp, hnt, hrefn]
    have hfound : s.methodFound? ref name desc = some m := (iu_found hreff hc hvia hpoly m).mpr ⟨hlook, mk, hmk⟩
    have hr' : r = .method m := by
      simp only [State.rightAt, hd, hcf, Option.bind_some, hn] at hr
      cases r <;> simp [hfound] at hr
      rw [hr]
    rw [e1, hr']
theorem iu_links {s : State} {args : Array Value} {first : State} {o : Option Outcome} {idx : List Nat} {cls : String} {x : MethodName} {index d c : Nat} {ck : Class} {m : MethodId} (hd : s.vm.findClass cls = some d) (hc : s.vm.findClass x.cls = some c) (hck : s.vm.classes[c]? = some ck)
    (hni : ck.isInterface = true) (hf : s.methodFound? x.cls x.name x.desc = some m) (h : (Cond.methodLink cls index x).holds args first o s idx = true) (pl : Platform) (hpl : pl.magicAccessors = ({} : Platform).magicAccessors)
    (hpl2 : pl.arrayCloneIsPublic = true) :
    ∃ ci, iu_Links s.vm pl d index ci c m ∧ s.rightAt d index (.method m) = true := by
  simp only [Cond.holds, Cond.value, hd, hc, hf] at h
  cases hme : s.memberEntry? cls index with
  | none => simp [hme] at h
  | some me =>
    obtain ⟨ci, via⟩ := me
    cases hcl : s.classLinks cls ci x.cls with
    | none => simp [hme, hcl] at h
    | some linked =>
      cases hdk : s.vm.classes[d]? with
      | none => simp [hme, hcl, hdk] at h
      | some dk =>
        cases hmk : s.vm.classes[m.cls]? with
        | none => simp [hme, hcl, hdk, hck, hmk] at h
        | some mk =>
          cases hmeth : s.vm.method? m with
          | none => simp [hme, hcl, hdk, hck, hmk, hmeth] at h
          | some meth =>
            simp only [hme, hcl, hdk, hck, hmk, hmeth, Option.bind_eq_bind, Option.bind_some, Option.pure_def, beq_iff_eq, bne_iff_ne, ne_eq, Option.some.injEq, Bool.and_eq_true, Option.isNone_iff_eq_none] at h
            obtain ⟨⟨⟨⟨⟨⟨⟨rfl, hnm⟩, ho⟩, hvia⟩, hx1⟩, hx2⟩, hml⟩, hacc⟩ := h
            rw [hni] at hvia
            subst hvia
            obtain ⟨cr, hcr, hlinks⟩ := State.classLinks_spec hd hcl pl hpl
            cases hc.symm.trans hcr
            obtain ⟨cp, hcp, hnames⟩ := State.names_spec hnm
            obtain ⟨dk', cf, hdk', hcf, rfl⟩ := State.poolOf?_spec hd hcp
            cases hdk.symm.trans hdk'
            obtain ⟨ci', nt, hent, hnt, -⟩ := namesOf?_method hnames
            have hent' : ci' = ci ∧ cf.constantPool[index]? = some (.interfaceMethodref ci nt) := by
              rcases hent with hent | hent
              · simp only [State.memberEntry?, hcp, Option.bind_eq_bind, Option.bind_some, hent, Option.some.injEq, Prod.mk.injEq] at hme
                exact absurd hme.2 (by simp)
              · simp only [State.memberEntry?, hcp, Option.bind_eq_bind, Option.bind_some, hent, Option.some.injEq, Prod.mk.injEq] at hme
                obtain ⟨rfl, -⟩ := hme
                exact ⟨rfl, hent⟩
            obtain ⟨rfl, hent''⟩ := hent'
            obtain ⟨k₀, hk₀, hname⟩ := Vm.findClass_spec hc
            cases hck.symm.trans hk₀
            have hpoly : ∀ y, signaturePolymorphic ck y = false := fun y => by simp [signaturePolymorphic, hname, hx1, hx2]
            have hmm' : mk.methods[m.idx]? = some meth := by simpa [Vm.method?, hmk] using hmeth
            have hne : ci' ≠ index := by
              intro he
              obtain ⟨_, cf', name', _, hd', hcf', _, hname', _⟩ := hlinks.here
              cases hdk.symm.trans hd'
              cases hcf.symm.trans hcf'
              subst he
              simp [ConstantPool.className?, hent''] at hname'
            refine ⟨ci', ⟨dk, cf, nt, x.name, x.desc, ck, mk, meth, hdk, hcf, hent'', hnt, hlinks, hne, hck, hni, hpoly, ((iu_found hc hck hni hpoly m).mp hf).1, hmk, hmm', hml, ?_, State.openOr_spec hd hdk ho⟩, ?_⟩
            · rcases (Bool.or_eq_true _ _).mp hacc with h | h
              · have h4 : s.vm.Plain meth.accessFlags m.cls mk c d dk := by simpa [Vm.Plain, plainAccess, or_assoc, and_assoc] using h
                rcases h4 with h | h | h | h
                · exact Or.inl h
                · exact Or.inr (Or.inl h)
                · exact Or.inr (Or.inr (Or.inl h))
                · exact Or.inr (Or.inr (Or.inr (Or.inl h)))
              · simp only [Bool.and_eq_true, beq_iff_eq] at h
                exact Or.inr (Or.inr (Or.inr (Or.inr ⟨hpl2, h.1.1, h.1.2⟩)))
            · simp [State.rightAt, hdk, hcf, hnames, hf]
theorem iu_entry {s : State} {e : Env} {vm₀ : Vm} {d index ci c : Nat} {m : MethodId} (hW : s.WarmedH vm₀) (hl : iu_Links s.vm e.platform d index ci c m) (hright : s.rightAt d index (.method m) = true) :
    s.MethodEntryUp e vm₀ d index c m ci := by
  obtain ⟨dk, _, _, _, _, _, _, _, hd, _, _, _, hcl, hne, _, _, _, _, _, _, _, _, hres⟩ := id hl
  have hclopen : dk.openAt ci ∨ dk.resolved[ci]? = some (some (.cls c)) := by
    obtain ⟨dk', _, _, _, hd', _, _, _, _, _, _, h⟩ := hcl.here
    cases hd.symm.trans hd'; exact h
  have hW₁ : s.WarmedH (vm₀.noted d ci (.cls c)) := hW.noted hd hclopen (State.rightAt_cls hcl)
  have hW₂ : s.WarmedH (vm₀.calledUp d ci index c m) := hW₁.noted hd hres hright
  have hcl₀ := hW.classLinks hcl
  have hc2 : (vm₀.noted d ci (.cls c)).classReady d ci c := hcl₀.ready
  obtain ⟨vm', hg, hor, -, hready⟩ := iu_resolve e.toSetting (iu_warmed hW₁ hl)
  have hvm' : vm' = vm₀.calledUp d ci index c m := by
    rcases hor with rfl | rfl
    · exact (Vm.noted_of_methodReady hready).symm
    · rw [Vm.noted_of_classReady hc2]; rfl
  subst hvm'
  have hc3 : (vm₀.calledUp d ci index c m).classReady d ci c := Vm.classReady_noted_other hc2 (Ne.symm hne) _
  obtain ⟨vm₁, hg₁, hor₁, -, hready₁⟩ := iu_resolve e.toSetting (iu_warmed hW hl)
  have hW' : s.WarmedH vm₁ := by
    rcases hor₁ with rfl | rfl
    · exact hW
    · exact hW₂
  have hend : vm₁.noted d ci (.cls c) = vm₀.calledUp d ci index c m := by
    rcases hor₁ with rfl | rfl
    · exact (Vm.noted_of_methodReady (Vm.methodReady_noted_other hready₁ hne _)).symm
    · exact Vm.noted_of_classReady hc3
  exact ⟨hW₂, hready, hc3, ⟨vm₁, hg₁, hready₁, hW', hend ▸ resolveClass_links e.toSetting (hW'.classLinks hcl)⟩, resolveClass_links e.toSetting hcl₀, hc2, hW₁, hg⟩
section
variable {Q : Unit → Pre} {E : CtlPost} {e : Env} {d : Bool} {acts : List Action} {s s₀ : State} {f : JFrame}
theorem iu_wp_cold {index count ci n c : Nat} {m : MethodId} {dk ck : Class} {cf : ClassFile} (hs : s.topJava?.isSome)
    (hW : s₀.WarmedH s.vm) (hE : s₀.MethodEntryUp e s.vm f.method.cls index c m ci) (h1 : s₀.vm.classes[f.method.cls]? = some dk) (h2 : dk.cf = some cf)
    (h3 : cf.constantPool[index]? = some (.methodref ci n) ∨ cf.constantPool[index]? = some (.interfaceMethodref ci n))
    (hck : s₀.vm.classes[c]? = some ck) (hi : ck.isInterface = true) :
    wp (invokeinterface.sem index count) Q E e d acts (s.setTop f) ↔ wp (invokeinterface.sem index count) Q E e d acts ((s.setVm (s.vm.calledUp f.method.cls ci index c m)).setTop f) := by
  obtain ⟨hgc, -, hW₁, hgm⟩ := hE.classFirst
  obtain ⟨k₀, hk₀, he₀⟩ := hW.alike.2.2 _ _ h1
  obtain ⟨k₂, hk₂, he₂⟩ := hE.warmed.alike.2.2 _ _ h1
  obtain ⟨c₁, hc₁, hec₁⟩ := hW₁.alike.2.2 _ _ hck
  obtain ⟨c₂, hc₂, hec₂⟩ := hE.warmed.alike.2.2 _ _ hck
  have hi₁ : c₁.isInterface = true := by rw [hec₁]; exact hi
  have hi₂ : c₂.isInterface = true := by rw [hec₂]; exact hi
  have hs₁ : (s.setVm (s.vm.noted f.method.cls ci (.cls c))).topJava?.isSome := hs
  have hs₂ : (s.setVm (s.vm.calledUp f.method.cls ci index c m)).topJava?.isSome := hs
  have hgsame : (Jvm.resolveClass f.method.cls ci).Gives e.toSetting (s.vm.calledUp f.method.cls ci index c m) (.ok c) (s.vm.calledUp f.method.cls ci index c m) := by
    obtain ⟨k, hk, hr⟩ := hE.classReady
    exact (resolveOnce_memo e.toSetting _ hk hr (by simp) (by simp)).bind (.pure c)
  have hR : ∀ {Q' : ClassId → Pre} {d' : Bool} {acts' : List Action}, wp (Jvm.refClassAt index) Q' E e d' acts' (s.setTop f) ↔ Q' c d' acts' ((s.setVm (s.vm.noted f.method.cls ci (.cls c))).setTop f) :=
    W.refClassAt_links (t := s.setTop f) (State.method?_setTop f hs) hk₀ (by rw [he₀]; exact h2) h3 hgc
  have hR₂ : ∀ {Q' : ClassId → Pre} {d' : Bool} {acts' : List Action}, wp (Jvm.refClassAt index) Q' E e d' acts' ((s.setVm (s.vm.calledUp f.method.cls ci index c m)).setTop f) ↔ Q' c d' acts' ((s.setVm (s.vm.calledUp f.method.cls ci index c m)).setTop f) :=
    W.refClassAt_links (t := (s.setVm (s.vm.calledUp f.method.cls ci index c m)).setTop f) (State.method?_setTop f hs₂) hk₂ (by rw [he₂]; exact h2) h3 hgsame
  have hM : ∀ {Q' : MethodId → Pre} {d' : Bool} {acts' : List Action}, wp (Jvm.resolveMethodAt index) Q' E e d' acts' ((s.setVm (s.vm.noted f.method.cls ci (.cls c))).setTop f) ↔ Q' m d' acts' ((s.setVm (s.vm.calledUp f.method.cls ci index c m)).setTop f) :=
    W.resolveMethodAt_links (t := (s.setVm (s.vm.noted f.method.cls ci (.cls c))).setTop f) (State.method?_setTop f hs₁) hgm
  have hM₂ : ∀ {Q' : MethodId → Pre} {d' : Bool} {acts' : List Action}, wp (Jvm.resolveMethodAt index) Q' E e d' acts' ((s.setVm (s.vm.calledUp f.method.cls ci index c m)).setTop f) ↔ Q' m d' acts' ((s.setVm (s.vm.calledUp f.method.cls ci index c m)).setTop f) :=
    W.resolveMethodAt_ready (s := (s.setVm (s.vm.calledUp f.method.cls ci index c m)).setTop f) (State.method?_setTop f hs₂) hE.ready
  have head : ∀ (rest : MethodId → Sem Unit),
      wp (do let named ← theClass (← refClassAt index)
             if !named.isInterface then
               mark "vm.resolve.imethod/wrong-kind"
               throwNew "java/lang/IncompatibleClassChangeError" (some (Words.wrongKindOfClass named))
             let resolved ← resolveMethodAt index
             rest resolved) Q E e d acts (s.setTop f) ↔
      wp (do let named ← theClass (← refClassAt index)
             if !named.isInterface then
               mark "vm.resolve.imethod/wrong-kind"
               throwNew "java/lang/IncompatibleClassChangeError" (some (Words.wrongKindOfClass named))
             let resolved ← resolveMethodAt index
             rest resolved) Q E e d acts ((s.setVm (s.vm.calledUp f.method.cls ci index c m)).setTop f) := by
    intro rest
    simp only [wp_bind', hR, hR₂, W.theClass, State.vm_setTop, State.vm_setVm, hc₁, hc₂, Option.some.injEq, exists_eq_left', hi₁, hi₂, Bool.not_true, Bool.false_eq_true, if_false, hM, hM₂]
  exact head _
end
theorem iu_right {s : State} {pl : Platform} {d index ci c : Nat} {m : MethodId} (hl : iu_Links s.vm pl d index ci c m) : s.rightAt d index (.method m) = true := by
  obtain ⟨dk, cf, nt, name, desc, ck, mk, meth, hd, hcf, hcp, hnt, hcl, hne, hc, hvia, hpoly, hlook, hmk, hm, hml, hacc, hres⟩ := hl
  obtain ⟨dk₂, cf₂, ref, _, hd₂, hcf₂, _, hrefn, hreff, _⟩ := hcl.here
  cases hd.symm.trans hd₂
  cases hcf.symm.trans hcf₂
  have hn : namesOf? cf.constantPool index = some (.method ref name desc) := by simp [namesOf?, hcp, hnt, hrefn]
  have hfound : s.methodFound? ref name desc = some m := (iu_found hreff hc hvia hpoly m).mpr ⟨hlook, mk, hmk⟩
  simp [State.rightAt, hd, hcf, hn, hfound]
section
variable {p : Program} {l : Launch} {e : Env} {R : Room} {s : State} {m : MethodId} {args : Array Value} {below : List Frame} {meth : Method} {c : Code} {T : State} {locs : List Loc} {cells slots : Nat}
theorem iu_step (X : Stand p l e R s m args below meth c T locs cells slots) (hexec : p.tables.exec = Jvm.exec)
    {index count cn ci : Nat} {r0 : MethodId} {r : Method} (hl : iu_Links s.vm e.platform m.cls index ci cn r0) (hrm : s.vm.method? r0 = some r) (hstatic : r.isStatic = false)
    {a : Addr} {cell : Cell} {kcell : Class} (hcell : T.heap[a]? = some cell) (hobj : ∀ c, cell.vm ≠ .statics c) (hkcell : s.vm.classes[cell.cls]? = some kcell)
    (hinst : s.vm.assignable cell.cls cn = true)
    {m' : MethodId} {meth' : Method} (hsel : selectMethod e.platform s.vm cell.cls r0 = .method m') (hm' : s.vm.method? m' = some meth')
    (hway : ((cell.cls :: s.vm.superclasses cell.cls).any fun k => (declaredIn s.vm r.name r.desc k).any fun (_, y) => y.isPrivate || y.isStatic) = false)
    (hpub : hasFlag meth'.accessFlags Acc.public_ = true) (habs : meth'.isAbstract = false)
    {g : JFrame} (hg : g.method = m) {argsL rest : List Value} (hlen : argsL.length = r.sig.parameters.length) (hstack : g.stack = argsL.reverse ++ .ref a :: rest)
    (hdg : decode c.code g.pc = .ok (.invokeinterface index count, 5)) :
    ∃ vm', Stand p l e R s m args below meth c (T.setVm vm') locs cells slots ∧
      ∀ target, (∀ acts, Steps p.tables e below (doInvoke e ((T.setVm vm').setTop { g with stack := rest }) acts m' (.ref a :: argsL).toArray).1 target) → Steps p.tables e below (T.setTop g) target := by
  have hE : s.MethodEntryUp e T.vm m.cls index cn r0 ci := iu_entry X.warmed hl (iu_right hl)
  obtain ⟨dk, cfile, nt, _, _, ck, _, _, hd, hcf, hcp, -, -, -, hck, hii, -⟩ := id hl
  have alike := hE.warmed.alike
  obtain ⟨dk₂, hdk₂, hres⟩ := hE.classReady
  obtain ⟨dk₃, hdk₃, hed⟩ := alike.2.2 _ _ hd
  cases hdk₂.symm.trans hdk₃
  obtain ⟨ck₂, hck₂, hec⟩ := alike.2.2 _ _ hck
  obtain ⟨kcell₂, hkcell₂, -⟩ := alike.2.2 _ _ hkcell
  refine ⟨T.vm.calledUp m.cls ci index cn r0, X.noted hE.warmed, fun target hrest => ?_⟩
  subst hg
  jvm_step X.here [hexec, hdg, iu_wp_cold (e := e) (s := T) (s₀ := s) (f := g) (count := count) X.here.top X.warmed hE hd hcf (Or.inr hcp) hck hii,
    invokeinterface.wp_ready (e := e) (s := T.setVm (T.vm.calledUp g.method.cls ci index cn r0)) (f := g) (count := count) (r := r) (meth := meth') (m := m') (args := argsL) (rest := rest) (cell := cell) (kcell := kcell₂) (ck := dk₂) (nk := ck₂) (cf := cfile) (ci := ci) (nt := nt) (named := cn)
      X.here.top hE.ready (by show (T.vm.calledUp g.method.cls ci index cn r0).method? r0 = some r; rw [alike.method?]; exact hrm) hstatic hlen hstack hcell hobj hkcell₂ hdk₂ (by rw [hed]; exact hcf) hcp hres hck₂ (by rw [hec]; exact hii)
      (by show (T.vm.calledUp g.method.cls ci index cn r0).assignable cell.cls cn = true; rw [alike.assignable]; exact hinst)
      (by show selectMethod e.platform (T.vm.calledUp g.method.cls ci index cn r0) cell.cls r0 = .method m'; rw [alike.selectMethod]; exact hsel)
      (by show (T.vm.calledUp g.method.cls ci index cn r0).method? m' = some meth'; rw [alike.method?]; exact hm')
      (Or.inr (Or.inr (by show ((cell.cls :: (T.vm.calledUp g.method.cls ci index cn r0).superclasses cell.cls).any fun k => (declaredIn (T.vm.calledUp g.method.cls ci index cn r0) r.name r.desc k).any fun (_, y) => y.isPrivate || y.isStatic) = false; simp only [alike.superclasses, alike.declaredIn]; exact hway)))
      (Or.inl hpub) habs]
  exact hrest
theorem iu_call {T : State} (X : Stand p l e R s m args below meth c T locs cells slots) (hexec : p.tables.exec = Jvm.exec) {own C owner : String} {index count : Nat} {x y : MethodName} {bytes : ByteArray} {maxL : Nat} {ret : Option FieldType}
    {s0 : State} {A0 : Array Value} (hW0 : s0.WarmedH s.vm) (hown : s.vm.findClass own = some m.cls) (hlink : (Cond.methodLink own index x).before A0 s0 = true) (hface : (Cond.interfaceMethod x.cls owner x.name x.desc).before A0 s0 = true) (hdecl : (Cond.declares ⟨owner, x.name, x.desc⟩).before args s = true)
    (hsel : (Cond.selects C ⟨owner, x.name, x.desc⟩ y).before args s = true) (hinst : (Cond.instanceMethod y).before args s = true) (hpub : (Cond.publicMethod y).before args s = true) (hunh : (Cond.unhidden C x.name x.desc).before args s = true)
    (hcast : (Cond.castable C x.cls).before args s = true) (hcode : (Cond.code y bytes maxL ret).before args s = true) (hx : owner ≠ "java/lang/invoke/MethodHandle" ∧ owner ≠ "java/lang/invoke/VarHandle")
    {W9 : Nat} {Pre : Pt → Array Value → Prop} {Post : Pt → Array Value → Option Value → Pt → Prop} {PostX : Pt → Array Value → Addr → Pt → Prop} (hK : vx_Back l R p e below s args y 5 W9 Pre Post PostX)
    {b : Addr} {cellB : Cell} {kB : Class} (hcell : T.heap[b]? = some cellB) (hobj : cellB.vm.isStatics = false) (hcls : s.vm.findClass C = some cellB.cls) (hkB : s.vm.classes[cellB.cls]? = some kB)
    {g : JFrame} (hg : g.method = m) (hsize : g.locals.size = c.maxLocals) {argsL rest : List Value} (hlen : ∀ sig, parseMethodDescriptor x.desc = some sig → argsL.length = sig.parameters.length)
    (hstack : g.stack = argsL.reverse ++ .ref b :: rest) (hW : 2 * g.monitorRoom + (rest.map fun v => v.category).sum ≤ W9) (hdg : decode c.code g.pc = .ok (.invokeinterface index count, 5))
    (hpre : ∀ vm₁, s.WarmedH vm₁ → Pre ⟨T.setVm vm₁, locs, cells, slots⟩ (Value.ref b :: argsL).toArray) :
    (∃ (v : Option Value) (vm₁ : Vm) (B : Pt), s.WarmedH vm₁ ∧ Stand p l e R s m args below meth c B.U B.locs B.cells B.slots ∧ Post ⟨T.setVm vm₁, locs, cells, slots⟩ (Value.ref b :: argsL).toArray v B ∧
      ∀ target, Steps p.tables e below (B.U.setTop { g with pc := g.pc + 5, stack := v.toList ++ rest }) target → Steps p.tables e below (T.setTop g) target) ∨
    (∃ (q : Addr) (vm₁ : Vm) (B : Pt), s.WarmedH vm₁ ∧ Stand p l e R s m args below meth c B.U B.locs B.cells B.slots ∧ PostX ⟨T.setVm vm₁, locs, cells, slots⟩ (Value.ref b :: argsL).toArray q B ∧
      Steps p.tables e below (T.setTop g) ((B.U.setTop { g with stack := rest }).pushFrame (.throwing q))) := by
  have hpl : e.platform.magicAccessors = ({} : Platform).magicAccessors := by rw [X.admits.platform]
  have hpl2 : e.platform.arrayCloneIsPublic = true := by rw [X.admits.platform]
  obtain ⟨cn, ck, r1, hcn, hck, hii, hf, hn1⟩ := Cond.interfaceMethod_spec hface
  obtain ⟨ci, hl0, -⟩ := iu_links (by rw [← hW0.alike.findClass]; exact hown) hcn hck hii hf hlink e.platform hpl hpl2
  have hl := iu_warmed hW0 hl0
  obtain ⟨r0, r, hn, hrm, hstR, hsigR⟩ := Cond.declares_spec hdecl
  have hn0 : s.methodNamed? ⟨owner, x.name, x.desc⟩ = some r1 := by
    have h1 := State.methodNamed?_setVm (s := s0) hW0.alike (⟨owner, x.name, x.desc⟩ : MethodName)
    exact h1.trans hn1
  cases hn.symm.trans hn0
  obtain ⟨hnameR, hdescR⟩ := name_of_methodNamed hn hrm
  obtain ⟨mk, methM, hnamed, hmethM, -, habM⟩ := Cond.instanceMethod_spec hinst
  obtain ⟨c2, r2, m2, q1, q2, q3, q4, -⟩ := Cond.selects_spec hsel
  cases hcls.symm.trans q1
  have hfo : s.methodFound? owner x.name x.desc = some r1 := State.methodFound?_of_named (x := ⟨owner, x.name, x.desc⟩) hn hx
  cases hfo.symm.trans q2
  cases hnamed.symm.trans q3
  have hselP : selectMethod e.platform s.vm cellB.cls r1 = .method mk := by rw [Launch.admits_selectMethod X.admits]; exact q4
  have hpubM : hasFlag methM.accessFlags Acc.public_ = true := Cond.publicMethod_spec hnamed hmethM hpub
  have hway : ((cellB.cls :: s.vm.superclasses cellB.cls).any fun k => (declaredIn s.vm r.name r.desc k).any fun (_, z) => z.isPrivate || z.isStatic) = false := by
    rw [hnameR, hdescR]; exact Cond.unhidden_spec hcls hunh
  obtain ⟨c3, t3, w1, w2, w3⟩ := Cond.castable_spec hcast
  cases hcls.symm.trans w1
  have hcn2 : s.vm.findClass x.cls = some cn := by rw [hW0.alike.findClass]; exact hcn
  cases hcn2.symm.trans w2
  obtain ⟨vm₁, X₁, hstep₁⟩ := iu_step X hexec hl hrm hstR (a := b) (cell := cellB) (kcell := kB) hcell
    (fun z h => by rw [h] at hobj; cases hobj) hkB w3 hselP hmethM hway hpubM habM (g := g) hg (argsL := argsL) (rest := rest) (hlen _ hsigR) hstack hdg
  rcases hK m meth c ⟨T.setVm vm₁, locs, cells, slots⟩ { g with stack := rest } (.invokeinterface index count) mk (Value.ref b :: argsL).toArray X₁ hg hsize hdg hW (X₁.named hnamed) (hpre vm₁ X₁.warmed) with ⟨v, B, X', hpost, hsteps⟩ | ⟨q, B, X', hpost, hsteps⟩
  · exact Or.inl ⟨v, vm₁, B, X₁.warmed, X', hpost, fun target h => hstep₁ _ fun acts => by rw [doInvoke_state]; exact hsteps.trans h⟩
  · exact Or.inr ⟨q, vm₁, B, X₁.warmed, X', hpost, hstep₁ _ fun acts => by rw [doInvoke_state]; exact hsteps⟩
theorem iu_run {H : Heap} {x y : MethodName} {bytes cc : ByteArray} {maxL nL mc ms n index count : Nat} {ret : Option FieldType} {ws : List Cond} {rm : Room} {Pc : Array Value → State → Prop} {Qc : Array Value → State → Outcome → State → Prop} {XC : String → Addr → State → State → Prop} {free : Addr → Prop} {Ts : List Cond} {own C owner : String} {cC : ClassId} {b : Addr} {As rest : List Value} {g : JFrame}
    (hat : ClassAt s C cC) (S : CallFix p m c cc nL s args Ts own) (hM : vx_Met l y ws rm Pc Qc XC mc ms free)
    (back : rm.cells = mc ∧ rm.slots = ms ∧ rm.frames + 1 ≤ R.frames ∧ 8 + (maxL + 11) + rm.locals ≤ R.locals ∧ (∀ w ∈ ws, ∀ (a' : Array Value) (U : State), s.WarmedH U.vm → w.before a' U = true) ∧ Cond.code y bytes maxL ret ∈ ws)
    {s0 : State} {A0 : Array Value} (hW0 : s0.WarmedH s.vm) (hlink : (Cond.methodLink own index x).before A0 s0 = true) (hface : (Cond.interfaceMethod x.cls owner x.name x.desc).before A0 s0 = true) (hdecl : (Cond.declares ⟨owner, x.name, x.desc⟩).before args s = true)
    (hsel : (Cond.selects C ⟨owner, x.name, x.desc⟩ y).before args s = true) (hinst : (Cond.instanceMethod y).before args s = true) (hpub : (Cond.publicMethod y).before args s = true) (hunh : (Cond.unhidden C x.name x.desc).before args s = true)
    (hcast : (Cond.castable C x.cls).before args s = true) (hini : (Cond.initialized y.cls).before args s = true) (hcode : (Cond.code y bytes maxL ret).before args s = true) (hx : owner ≠ "java/lang/invoke/MethodHandle" ∧ owner ≠ "java/lang/invoke/VarHandle")
    (hlen : ∀ sig, parseMethodDescriptor x.desc = some sig → n = sig.parameters.length) (hp : PreV s H C b Pc As)
    (hg : g.method = m) (hn : As.length = n) (hsize : g.locals.size = nL) (hstack : g.stack = As.reverse ++ .ref b :: rest) (hW : 2 * g.monitorRoom + (rest.map fun v => v.category).sum ≤ 8) (hdg : decode cc g.pc = .ok (.invokeinterface index count, 5)) (hf : cells + mc ≤ R.cells ∧ slots + ms ≤ R.slots) :
    vx_Run5 p l e R s m args below meth c H locs cells slots mc ms g rest (Qc (Value.ref b :: As).toArray) XC free := by
  obtain ⟨hrc, hrs, hfr, hlo, hws, hcw⟩ := back
  have hK : vx_Back l R p e below s args y 5 8 (PreOf R mc ms Pc) (PostOf Qc mc ms free) (vx_Post XC mc ms free) := vx_back (bytes := bytes) (maxL := maxL) (ret := ret) hM hp.1 hrc hrs hfr hlo hws hcw (fun a' U hW => word_at hW (Or.inl (by first | rfl | simp [Cond.onTables, Cond.keeps, Cond.steady])) hini)
  obtain ⟨hx9, hb, hml, ho, -⟩ := S
  obtain ⟨-, ⟨cellB, hcB, hoB, hclB⟩, hPc⟩ := hp
  obtain ⟨hfc, kB, hkB, -⟩ := hat
  cases hfc.symm.trans hclB
  intro T hT X
  rcases iu_call X hx9 (C := C) (owner := owner) (bytes := bytes) (maxL := maxL) (ret := ret) hW0 ho hlink hface hdecl hsel hinst hpub hunh hcast hcode hx hK (by rw [hT]; exact hcB) hoB hclB hkB hg (hsize.trans hml.symm) (argsL := As) (rest := rest) (fun sig h => hn.trans (hlen sig h)) hstack hW (by rw [hb]; exact hdg)
    (fun vm₁ hW₁ => ⟨hf.1, hf.2, hPc (T.setVm vm₁) hT hW₁⟩) with ⟨v, vm₁, ⟨U', l2, c2, s2⟩, hW₁, X', ⟨g', mk, t, L, e1, e2, hq, h1, hL, h2, h3⟩, st⟩ | ⟨q, vm₁, ⟨U', l2, c2, s2⟩, hW₁, X', ⟨g', mk, t, L, E, ce, e1, e2, hq, hce, hcv, hcl, h1, hL, h2, h3⟩, st⟩
  · dsimp only [Pt.U, Pt.locs, Pt.cells, Pt.slots] at X' e1 e2 h1 h2 h3 st
    subst h1; subst h2; subst h3
    exact Or.inl ⟨v, (T.setVm vm₁).calling g' mk (Value.ref b :: As).toArray, t, U', L, hT, X', hL, e1, e2, hq, st⟩
  · dsimp only [Pt.U, Pt.locs, Pt.cells, Pt.slots] at X' e1 e2 h1 h2 h3 st hcl
    subst h1; subst h2; subst h3
    exact Or.inr ⟨q, (T.setVm vm₁).calling g' mk (Value.ref b :: As).toArray, t, U', L, E, ce, hT, X', hL, e1, e2, hq, hce, hcv, vx_cls hW₁ hcl, st⟩
end
section
variable {Y : YT} {p : Program} {l : Launch} {e : Env} {R : Room} {s : State} {m : MethodId} {args : Array Value} {below : List Frame} {meth : Method} {c : Code} {nL n0 u0 : Nat} {G : AH} {nn uu : Nat} {Q : State → Prop} {pc : Nat} {L : List (Nat × Value)} {rest : List Value} {cc : ByteArray} {own : String} {hh : List (Nat × Nat × Nat × Nat)} {kc ku n : Nat} {PR : Option Value → AH → Nat → Nat → Prop} {PX : String → Nat → AH → Nat → Nat → Prop}
theorem KK.tmv {U : State} (h : KK Y U) {w : Cond} (hw : w ∈ lw_tbl) (ho : w.onTables = true) (hv : ∀ {A : Array Value} {s : State} {vm' : Vm}, s.vm.Alike vm' → w.before A (s.setVm vm') = w.before A s) (A : Array Value) : w.before A U = true := by
  obtain ⟨b, hb, -⟩ := h.2.2
  have h1 := hb _ hw
  have h2 : w.before #[Value.ref b] ((yS Y).setVm U.vm) = true := by rw [hv h.2.1.alike]; exact h1
  have e := Cond.onTables_vm (A := #[Value.ref b]) (A' := A) (U := yS Y) (U' := U) U.vm w ho
  have hU : U.setVm U.vm = U := rfl
  rw [hU] at e
  rw [← e]
  exact h2
theorem g_runFI {owner : String} {x y : MethodName} {bytes : ByteArray} {maxL index count fr lo : Nat} {ret : Option FieldType} {As st0 : List Value} {C : String} {T : u_T} {N ci b : Nat} {ty : Nat → FieldType} {fs : List Value} (hC : CX Y p s m args meth c cc nL own hh n0 u0) (hM : GM Y l y (ws_ y bytes maxL ret) fr lo (.ref b :: As) G nn uu kc ku PR PX) (kcl : KCl ci C T N ty) (hb : G b = some (.inr (ci, fs)))
    (hl : Cond.methodLink own index x ∈ flatC narrow_1) (hi : Cond.interfaceMethod x.cls owner x.name x.desc ∈ flatC narrow_1) (hse : Cond.selects C ⟨owner, x.name, x.desc⟩ y ∈ lw_all) (hin : Cond.instanceMethod y ∈ lw_all) (hini : Cond.initialized y.cls ∈ lw_all) (hco : Cond.code y bytes maxL ret ∈ lw_all)
    (h1 : Cond.declares ⟨owner, x.name, x.desc⟩ ∈ lw_tbl) (h3 : Cond.publicMethod y ∈ lw_tbl) (h4 : Cond.unhidden C x.name x.desc ∈ lw_tbl) (h5 : Cond.castable C x.cls ∈ lw_tbl) (md : owner ≠ "java/lang/invoke/MethodHandle" ∧ owner ≠ "java/lang/invoke/VarHandle" ∧ (parseMethodDescriptor x.desc).map (fun d => d.parameters.length) = some n) (hdg : decode cc pc = .ok (.invokeinterface index count, 5)) (hn : As.length = n) (hR : fr + 1 ≤ R.frames ∧ 8 + (maxL + 11) + lo ≤ R.locals) (hrc : nn + kc ≤ n0 + R.cells) (hru : uu + ku ≤ u0 + R.slots) (hst : As.reverse ++ .ref b :: rest = st0) (hW : (rest.map fun v => v.category).sum ≤ 8) : GRun Y p l e R s m args below meth c nL n0 u0 G nn uu pc 5 L st0 rest kc ku PR PX := by
  subst hst
  refine GRun.of5 (Zc' := R.cells - (nn - n0)) (Zu' := R.slots - (uu - u0)) (a := ((.ref b :: As) : List Value).toArray) hC fun H locs ls g aS b hn0 hu0 => ?_
  obtain ⟨b0, f0⟩ := hC.K.2.2
  have nar : ∀ {w : Cond}, w ∈ flatC narrow_1 → w.before #[Value.ref b0] (yS Y) = true := fun {w} hw => flat_of_before _ f0.2 w (show w ∈ flatC given_1 ++ flatC narrow_1 from List.mem_append_right _ hw)
  have hp2 := md.2.2
  refine iu_run (A0 := #[Value.ref b0]) (g_castat hC.K kcl) hC.fix (hM (R.cells - (nn - n0)) (R.slots - (uu - u0)) (by omega) (by omega)) ⟨rfl, rfl, hR.1, hR.2, pay_in hC.ts (lw_meth hco), by simp [ws_]⟩ hC.K.2.1 (nar hl) (nar hi)
    (hC.K.tmv h1 rfl (fun h => Cond.declares_setVm h _) _) (hC.ts _ hse) (hC.ts _ hin) (hC.K.tmv h3 rfl (fun h => Cond.publicMethod_setVm h _) _) (hC.K.tmv h4 rfl (fun h => Cond.unhidden_setVm h _ _ _) _) (hC.K.tmv h5 rfl (fun h => Cond.castable_setVm h _ _) _) (hC.ts _ hini) (hC.ts _ hco) ⟨md.1, md.2.1⟩ (fun sig h => ?_)
    ⟨GPre.blind, g_recv hC.K g kcl hb, g_pre hC g aS⟩ rfl hn b.1 rfl (lv_room hW) hdg ⟨by omega, by omega⟩
  rw [h] at hp2
  exact (Option.some.inj hp2).symm
end
end IU

theorem nw_l53 : Cond.methodLink "java/util/TreeSet" 53 ⟨"java/util/NavigableMap", "size", "()I"⟩ ∈ flatC narrow_1 := by decide +kernel
theorem nw_f53 : Cond.interfaceMethod "java/util/NavigableMap" "java/util/Map" "size" "()I" ∈ flatC narrow_1 := by decide +kernel
theorem nw_l57 : Cond.methodLink "java/util/TreeSet" 57 ⟨"java/util/NavigableMap", "isEmpty", "()Z"⟩ ∈ flatC narrow_1 := by decide +kernel
theorem nw_f57 : Cond.interfaceMethod "java/util/NavigableMap" "java/util/Map" "isEmpty" "()Z" ∈ flatC narrow_1 := by decide +kernel
theorem nw_l69 : Cond.methodLink "java/util/TreeSet" 69 ⟨"java/util/NavigableMap", "put", "(Ljava/lang/Object;Ljava/lang/Object;)Ljava/lang/Object;"⟩ ∈ flatC narrow_1 := by decide +kernel
theorem nw_f69 : Cond.interfaceMethod "java/util/NavigableMap" "java/util/Map" "put" "(Ljava/lang/Object;Ljava/lang/Object;)Ljava/lang/Object;" ∈ flatC narrow_1 := by decide +kernel
theorem nw_l77 : Cond.methodLink "java/util/TreeSet" 77 ⟨"java/util/NavigableMap", "clear", "()V"⟩ ∈ flatC narrow_1 := by decide +kernel
theorem nw_f77 : Cond.interfaceMethod "java/util/NavigableMap" "java/util/Map" "clear" "()V" ∈ flatC narrow_1 := by decide +kernel
