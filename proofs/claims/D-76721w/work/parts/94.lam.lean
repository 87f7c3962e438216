set_option maxRecDepth 100000
/-! ROWS 5: lambdas -/
theorem GM.introN {Y : YT} {l : Launch} {y : MethodName} {cc : ByteArray} {maxL : Nat} {ret : Option FieldType} {own : String} {fr lo : Nat} {as : List Value} {G : AH} {n u kc ku : Nat} {PR : Option Value → AH → Nat → Nat → Prop} {PX : String → Nat → AH → Nat → Nat → Prop} (ho : y.cls = own) (hy : plainFor y = true) (hlen : (lg_sl as).length ≤ maxL)
    (body : ∀ (p : Program) (e : Env) (s : State) (m : MethodId) (args : Array Value) (below : List Frame) (meth : Method) (c : Code) (R : Room) (Q : State → Prop), CX Y p s m args meth c cc maxL own [] n u → meth.sig.returnType = ret → meth.name = y.name → s.methodNamed? y = some m → R.frames = fr → R.locals = lo → EX Y below n u kc ku PR PX args s R Q →
      V Y p l e R s m args below meth c maxL n u G n u Q 0 (lv_args 0 as) []) : GM Y l y (ws_ y cc maxL ret) fr lo as G n u kc ku PR PX := by
  intro Zc Zu h1 h2
  refine vx_ofW (cc := cc) (maxL := maxL) (ret := ret) hy rfl ?_
  intro p e s m args below meth c s₁ B hml htab hv
  obtain ⟨rfl, hK, hG, hz, hold⟩ := hv
  have hts := atoms_spec (ws := ws_ y cc maxL ret) B.pre
  have hts : ∀ w ∈ lw_all, w.before _ s = true := fun w h => hts w (List.mem_cons_of_mem _ h)
  have hown : s.vm.findClass own = some m.cls := by rw [← ho]; exact findClass_of_methodNamed B.named
  have htb : c.exceptionTable.toList = tableOf [] := List.eq_nil_iff_forall_not_mem.mpr htab
  have k := body p e s m _ below meth c ({ frames := fr, cells := Zc, slots := Zu, locals := lo } : Room) _ ⟨B.exec, B.bytes, hml, hown, hts, B.notSynchronized, hK, hz, hold, htb, hG.2.1, hG.2.2⟩ B.returns (name_of_methodNamed B.named B.method).1 B.named rfl rfl ⟨h1, h2, rfl⟩ s.heap [] _ hG va_S.rf (lv_entry as hlen)
  rw [Nat.sub_self, Nat.sub_self] at k
  rw [lg_entry_eq]
  exact k
theorem KK.site {Y : YT} {U : State} (h : KK Y U) {x : MethodName} {pc index : Nat} {σ : Jvm.Lambda.Shape} (he : Cond.lambdaSite x pc index σ ∈ flatC narrow_1) : ∃ c one, (yS Y).lambdaAt? x pc index σ = some (c, one) := by
  obtain ⟨b, h1, h2⟩ := h.2.2
  have h3 := flat_of_before _ h2 _ (show Cond.lambdaSite x pc index σ ∈ flatC given_1 ++ flatC narrow_1 from List.mem_append_right _ he)
  exact Cond.lambdaSite_spec (args := #[Value.ref b]) (first := yS Y) (o := none) (s := yS Y) (idx := []) h3
theorem si_1 : siteWord_1_1 ∈ flatC narrow_1 := by decide +kernel
theorem adm_llw {l : Launch} {e : Env} (h : l.admits e) : e.platform.lambdaLinkWords = 3072 := by
  have := h.2.2.2.2.1
  rw [this]
/-- the constant of a lambda's site -/
def LamC (Y : YT) (x : MethodName) (pc index : Nat) (σ : Jvm.Lambda.Shape) (a : Nat) : Prop := ∃ c, (yS Y).lambdaAt? x pc index σ = some (c, some a)
section LR
variable {Y : YT} {p : Program} {l : Launch} {e : Env} {R : Room} {s : State} {m : MethodId} {args : Array Value} {below : List Frame} {meth : Method} {c : Code} {nL n0 u0 : Nat} {G : AH} {nn uu : Nat} {Q : State → Prop} {pc : Nat} {L : List (Nat × Value)} {rest : List Value} {cc : ByteArray} {own : String} {hh : List (Nat × Nat × Nat × Nat)}
theorem g_dyn0 (hC : CX Y p s m args meth c cc nL own hh n0 u0) {x : MethodName} (hmn : s.methodNamed? x = some m) {index : Nat} {σ : Jvm.Lambda.Shape} (hsite : Cond.lambdaSite x pc index σ ∈ flatC narrow_1) (hcap : σ.captured = []) (hdg : decode cc pc = .ok (.invokedynamic index, 5)) (hlo : (rest.map fun v => v.category).sum + 3072 ≤ R.locals)
    (kk : ∀ a, LamC Y x pc index σ a → V Y p l e R s m args below meth c nL n0 u0 G nn uu Q (pc + 5) L (.ref a :: rest)) : V Y p l e R s m args below meth c nL n0 u0 G nn uu Q pc L rest := by
  intro H locs ls g aS b T hT X
  obtain ⟨ci, one, hl⟩ := hC.K.site hsite
  obtain ⟨m', k, cf, i0, p0, lk, hm, hk, hcf, hsh, hin, hfind, hmade, hcall, hw⟩ := State.lambdaAt?_spec hl
  have hA := hC.K.2.1.alike
  have hm' : s.methodNamed? x = some m' := by
    have := State.methodNamed?_setVm (s := yS Y) hA x
    rw [hm] at this
    exact this
  cases hm'.symm.trans hmn
  obtain ⟨k', hk', he⟩ := hA.2.2 _ _ hk
  rcases hw with ⟨a, cell, rfl, rfl, hcap', hcell, hcls, hvm, hsl⟩ | ⟨rfl, rfl, hc9⟩
  · obtain ⟨t, a1, b1⟩ := kk a ⟨ci, hl⟩ H locs ls g aS b T hT X
    refine ⟨t, X.lambdaConstant hC.x rfl (b.1.trans hC.ml.symm) (by rw [hC.b]; exact hdg) hk' (by rw [he]; exact hfind) ?_ a1, b1⟩
    rw [adm_llw X.admits]
    show 2 * JFrame.monitorRoom _ + _ + 3072 ≤ _
    have : JFrame.monitorRoom (F0 m pc ls rest) = 0 := rfl
    have h2 : ((F0 m pc ls rest).stack.map fun v => v.category).sum = (rest.map fun v => v.category).sum := rfl
    rw [this, h2]; omega
  · exact absurd hcap hc9
end LR
