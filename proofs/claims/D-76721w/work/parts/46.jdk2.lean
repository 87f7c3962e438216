set_option maxRecDepth 100000
/-! JDK, 2: statics -/
theorem KK.stI {Y : YT} {U : State} (h : KK Y U) {C n d : String} {z : Int32} (hl : Cond.laysStatic C n d ∈ lw_tbl) (hi : Cond.initialized C ∈ lw_all) (he : Cond.eq (.static C n d) (.int z) ∈ flatC narrow_1) : va_Z C n d (.int z) (fun q => yz Y ≤ q) (yS Y) (yH Y) := by
  obtain ⟨b, h1, h2⟩ := h.2.2
  have h3 := flat_of_before _ h2 _ (show Cond.eq (.static C n d) (.int z) ∈ flatC given_1 ++ flatC narrow_1 from List.mem_append_right _ he)
  exact va_Zof (h1 _ hl) (h1 _ (lw_all_tbl hi)) (va_eqi h3) (fun a ha q => absurd ha (Nat.not_lt.mpr q))
section SR
variable {Y : YT} {p : Program} {l : Launch} {e : Env} {R : Room} {s : State} {m : MethodId} {args : Array Value} {below : List Frame} {meth : Method} {c : Code} {nL n0 u0 : Nat} {G : AH} {nn uu : Nat} {Q : State → Prop} {pc : Nat} {L : List (Nat × Value)} {rest : List Value} {cc : ByteArray} {own : String} {hh : List (Nat × Nat × Nat × Nat)}
theorem g_gets (hC : CX Y p s m args meth c cc nL own hh n0 u0) {C n d : String} {v : Value} {index : Nat} (hZ : va_Z C n d v (fun q => yz Y ≤ q) (yS Y) (yH Y)) (hlink : Cond.fieldLink own index C n d ∈ lw_all) (hdg : decode cc pc = .ok (.getstatic index, 3))
    (kk : V Y p l e R s m args below meth c nL n0 u0 G nn uu Q (pc + 3) L (v :: rest)) : V Y p l e R s m args below meth c nL n0 u0 G nn uu Q pc L rest := fun H locs ls g aS b =>
  va_gets hC.x hC.b ((hZ.moved hC.K.2.1.alike).kept (fun a ha _ => hC.old a ha)) aS hC.own (hC.ts _ hlink) (fun _ h => h) hdg (kk H locs ls g aS b)
end SR
theorem sn_COMPACT_STRINGS : Cond.eq (.static "java/lang/String" "COMPACT_STRINGS" "Z") (.int (1 : Int32)) ∈ flatC narrow_1 := by decide +kernel
theorem sn_high : Cond.eq (.static "java/lang/Integer$IntegerCache" "high" "I") (.int (127 : Int32)) ∈ flatC narrow_1 := by decide +kernel
