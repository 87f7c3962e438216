set_option maxRecDepth 100000
/-! THE G-LAYER: the known heap as one map; rows over the kit's rows -/
def T_none : u_T := fun _ => ("", "", "I", false)
def ty_none : Nat → FieldType := fun _ => .int
abbrev clA : List vw_C := [(RX0, TX0, 12), (RX1, TX1, 2), (RX2, TX2, 11), (RX3, TX3, 1), (RX4, TX4, 1), (RX5, TX5, 37), (RX6, TX6, 7), (RX8, TX8, 1), (RX9, TX9, 1), (RX10, TX10, 1), (RX11, TX11, 1), (RX12, TX12, 5), (RX13, TX13, 5), (RX14, TX14, 5), (RX15, TX15, 5), (RX16, TX16, 5), (RX17, TX17, 3), (RX18, TX18, 7), (RX19, TX19, 1), (RX20, TX20, 3), (RX21, TX21, 5), (RX22, TX22, 9), (RX23, T_none, 0), (RX24, TX24, 1), (RX25, TX25, 1), (RX26, TX26, 3), (RX27, TX27, 6), (RX28, TX28, 1), (RX29, TX29, 6), (RX30, TX30, 7), (RX31, TX31, 6), (RX32, TX32, 1), (RX33, TX33, 1), (RX34, T_none, 0), (RJ1, TJ1, 9), (RJ3, TJ3, 5), (RJ7, TJ7, 6), (RJ8, TJ8, 4), (RJ9, TJ9, 6), (RJ10, TJ10, 6), (RJ12, TJ12, 1), (RJ14, TJ14, 4), (RJ23, TJ23, 6), (RJ26, TJ26, 4), (RJ27, TJ27, 3), (RJ29, TJ29, 5), (RJ30, TJ30, 5), (RJ35, TJ35, 1), (RJ36, TJ36, 1), (RJ37, TJ37, 4), (RJ38, TJ38, 6), (RJ40, TJ40, 4), (RJ41, TJ41, 4), (RJ43, TJ43, 5), (RJ44, TJ44, 1), (RJ46, TJ46, 13), (RJ51, TJ51, 1), (RJ52, TJ52, 12), (RJ53, T_none, 0)]
def KCl (ci : Nat) (C : String) (T : u_T) (N : Nat) (ty : Nat → FieldType) : Prop := clA[ci]? = some (C, T, N) ∧ (∀ w ∈ u_ws C T N, w ∈ lw_all) ∧ (∀ k, k < N → parseFieldDescriptor (T k).2.2.1 = some (ty k)) ∧ (∀ a, a < N → ∀ b, b < N → a ≠ b → (T a).2.1 ≠ (T b).2.1)
theorem kc_X0 : KCl 0 RX0 TX0 12 tyX0 := ⟨rfl, in_X0, tyX0_ok, nmX0⟩
theorem kc_X1 : KCl 1 RX1 TX1 2 tyX1 := ⟨rfl, in_X1, tyX1_ok, nmX1⟩
theorem kc_X2 : KCl 2 RX2 TX2 11 tyX2 := ⟨rfl, in_X2, tyX2_ok, nmX2⟩
theorem kc_X3 : KCl 3 RX3 TX3 1 tyX3 := ⟨rfl, in_X3, tyX3_ok, nmX3⟩
theorem kc_X4 : KCl 4 RX4 TX4 1 tyX4 := ⟨rfl, in_X4, tyX4_ok, nmX4⟩
theorem kc_X5 : KCl 5 RX5 TX5 37 tyX5 := ⟨rfl, in_X5, tyX5_ok, nmX5⟩
theorem kc_X6 : KCl 6 RX6 TX6 7 tyX6 := ⟨rfl, in_X6, tyX6_ok, nmX6⟩
theorem kc_X8 : KCl 7 RX8 TX8 1 tyX8 := ⟨rfl, in_X8, tyX8_ok, nmX8⟩
theorem kc_X9 : KCl 8 RX9 TX9 1 tyX9 := ⟨rfl, in_X9, tyX9_ok, nmX9⟩
theorem kc_X10 : KCl 9 RX10 TX10 1 tyX10 := ⟨rfl, in_X10, tyX10_ok, nmX10⟩
theorem kc_X11 : KCl 10 RX11 TX11 1 tyX11 := ⟨rfl, in_X11, tyX11_ok, nmX11⟩
theorem kc_X12 : KCl 11 RX12 TX12 5 tyX12 := ⟨rfl, in_X12, tyX12_ok, nmX12⟩
theorem kc_X13 : KCl 12 RX13 TX13 5 tyX13 := ⟨rfl, in_X13, tyX13_ok, nmX13⟩
theorem kc_X14 : KCl 13 RX14 TX14 5 tyX14 := ⟨rfl, in_X14, tyX14_ok, nmX14⟩
theorem kc_X15 : KCl 14 RX15 TX15 5 tyX15 := ⟨rfl, in_X15, tyX15_ok, nmX15⟩
theorem kc_X16 : KCl 15 RX16 TX16 5 tyX16 := ⟨rfl, in_X16, tyX16_ok, nmX16⟩
theorem kc_X17 : KCl 16 RX17 TX17 3 tyX17 := ⟨rfl, in_X17, tyX17_ok, nmX17⟩
theorem kc_X18 : KCl 17 RX18 TX18 7 tyX18 := ⟨rfl, in_X18, tyX18_ok, nmX18⟩
theorem kc_X19 : KCl 18 RX19 TX19 1 tyX19 := ⟨rfl, in_X19, tyX19_ok, nmX19⟩
theorem kc_X20 : KCl 19 RX20 TX20 3 tyX20 := ⟨rfl, in_X20, tyX20_ok, nmX20⟩
theorem kc_X21 : KCl 20 RX21 TX21 5 tyX21 := ⟨rfl, in_X21, tyX21_ok, nmX21⟩
theorem kc_X22 : KCl 21 RX22 TX22 9 tyX22 := ⟨rfl, in_X22, tyX22_ok, nmX22⟩
theorem kc_X23 : KCl 22 RX23 T_none 0 ty_none := ⟨rfl, fun w h => absurd h List.not_mem_nil, fun k h => absurd h (Nat.not_lt_zero k), fun a h => absurd h (Nat.not_lt_zero a)⟩
theorem kc_X24 : KCl 23 RX24 TX24 1 tyX24 := ⟨rfl, in_X24, tyX24_ok, nmX24⟩
theorem kc_X25 : KCl 24 RX25 TX25 1 tyX25 := ⟨rfl, in_X25, tyX25_ok, nmX25⟩
theorem kc_X26 : KCl 25 RX26 TX26 3 tyX26 := ⟨rfl, in_X26, tyX26_ok, nmX26⟩
theorem kc_X27 : KCl 26 RX27 TX27 6 tyX27 := ⟨rfl, in_X27, tyX27_ok, nmX27⟩
theorem kc_X28 : KCl 27 RX28 TX28 1 tyX28 := ⟨rfl, in_X28, tyX28_ok, nmX28⟩
theorem kc_X29 : KCl 28 RX29 TX29 6 tyX29 := ⟨rfl, in_X29, tyX29_ok, nmX29⟩
theorem kc_X30 : KCl 29 RX30 TX30 7 tyX30 := ⟨rfl, in_X30, tyX30_ok, nmX30⟩
theorem kc_X31 : KCl 30 RX31 TX31 6 tyX31 := ⟨rfl, in_X31, tyX31_ok, nmX31⟩
theorem kc_X32 : KCl 31 RX32 TX32 1 tyX32 := ⟨rfl, in_X32, tyX32_ok, nmX32⟩
theorem kc_X33 : KCl 32 RX33 TX33 1 tyX33 := ⟨rfl, in_X33, tyX33_ok, nmX33⟩
theorem kc_X34 : KCl 33 RX34 T_none 0 ty_none := ⟨rfl, fun w h => absurd h List.not_mem_nil, fun k h => absurd h (Nat.not_lt_zero k), fun a h => absurd h (Nat.not_lt_zero a)⟩
theorem kc_J1 : KCl 34 RJ1 TJ1 9 tyJ1 := ⟨rfl, in_J1, tyJ1_ok, nmJ1⟩
theorem kc_J3 : KCl 35 RJ3 TJ3 5 tyJ3 := ⟨rfl, in_J3, tyJ3_ok, nmJ3⟩
theorem kc_J7 : KCl 36 RJ7 TJ7 6 tyJ7 := ⟨rfl, in_J7, tyJ7_ok, nmJ7⟩
theorem kc_J8 : KCl 37 RJ8 TJ8 4 tyJ8 := ⟨rfl, in_J8, tyJ8_ok, nmJ8⟩
theorem kc_J9 : KCl 38 RJ9 TJ9 6 tyJ9 := ⟨rfl, in_J9, tyJ9_ok, nmJ9⟩
theorem kc_J10 : KCl 39 RJ10 TJ10 6 tyJ10 := ⟨rfl, in_J10, tyJ10_ok, nmJ10⟩
theorem kc_J12 : KCl 40 RJ12 TJ12 1 tyJ12 := ⟨rfl, in_J12, tyJ12_ok, nmJ12⟩
theorem kc_J14 : KCl 41 RJ14 TJ14 4 tyJ14 := ⟨rfl, in_J14, tyJ14_ok, nmJ14⟩
theorem kc_J23 : KCl 42 RJ23 TJ23 6 tyJ23 := ⟨rfl, in_J23, tyJ23_ok, nmJ23⟩
theorem kc_J26 : KCl 43 RJ26 TJ26 4 tyJ26 := ⟨rfl, in_J26, tyJ26_ok, nmJ26⟩
theorem kc_J27 : KCl 44 RJ27 TJ27 3 tyJ27 := ⟨rfl, in_J27, tyJ27_ok, nmJ27⟩
theorem kc_J29 : KCl 45 RJ29 TJ29 5 tyJ29 := ⟨rfl, in_J29, tyJ29_ok, nmJ29⟩
theorem kc_J30 : KCl 46 RJ30 TJ30 5 tyJ30 := ⟨rfl, in_J30, tyJ30_ok, nmJ30⟩
theorem kc_J35 : KCl 47 RJ35 TJ35 1 tyJ35 := ⟨rfl, in_J35, tyJ35_ok, nmJ35⟩
theorem kc_J36 : KCl 48 RJ36 TJ36 1 tyJ36 := ⟨rfl, in_J36, tyJ36_ok, nmJ36⟩
theorem kc_J37 : KCl 49 RJ37 TJ37 4 tyJ37 := ⟨rfl, in_J37, tyJ37_ok, nmJ37⟩
theorem kc_J38 : KCl 50 RJ38 TJ38 6 tyJ38 := ⟨rfl, in_J38, tyJ38_ok, nmJ38⟩
theorem kc_J40 : KCl 51 RJ40 TJ40 4 tyJ40 := ⟨rfl, in_J40, tyJ40_ok, nmJ40⟩
theorem kc_J41 : KCl 52 RJ41 TJ41 4 tyJ41 := ⟨rfl, in_J41, tyJ41_ok, nmJ41⟩
theorem kc_J43 : KCl 53 RJ43 TJ43 5 tyJ43 := ⟨rfl, in_J43, tyJ43_ok, nmJ43⟩
theorem kc_J44 : KCl 54 RJ44 TJ44 1 tyJ44 := ⟨rfl, in_J44, tyJ44_ok, nmJ44⟩
theorem kc_J46 : KCl 55 RJ46 TJ46 13 tyJ46 := ⟨rfl, in_J46, tyJ46_ok, nmJ46⟩
theorem kc_J51 : KCl 56 RJ51 TJ51 1 tyJ51 := ⟨rfl, in_J51, tyJ51_ok, nmJ51⟩
theorem kc_J52 : KCl 57 RJ52 TJ52 12 tyJ52 := ⟨rfl, in_J52, tyJ52_ok, nmJ52⟩
theorem kc_J53 : KCl 58 RJ53 T_none 0 ty_none := ⟨rfl, fun w h => absurd h List.not_mem_nil, fun k h => absurd h (Nat.not_lt_zero k), fun a h => absurd h (Nat.not_lt_zero a)⟩
abbrev tyA (A : Nat → ClassId) : List (ClassId × FieldType) := [(A 0, .int), (A 1, .long), (A 2, .byte), (A 3, .short), (A 4, .char), (A 5, .boolean), (A 6, .object "PluginChains$Plain"), (A 7, .object "PluginChains$Hook"), (A 8, .object "PluginChains$Shelf"), (A 9, .object "PluginChains$Doing"), (A 10, .object "PluginChains$StartFailed"), (A 11, .object "java/lang/Object")]
abbrev AH : Type := Nat → Option va_E
/-- the classes' numbers and slots, the array classes, the state at the law's start -/
abbrev YT : Type := va_G × (Nat → ClassId) × State
abbrev yD (Y : YT) : va_G := Y.1
abbrev yA (Y : YT) : Nat → ClassId := Y.2.1
abbrev yS (Y : YT) : State := Y.2.2
abbrev yz (Y : YT) : Nat := Y.2.2.heap.size
abbrev yH (Y : YT) : Heap := Y.2.2.heap
def hu (H : Heap) : Nat := (H.toList.map (·.slots.size)).sum
def gU (G : AH) (a : Nat) (e : va_E) : AH := fun b => if b = a then some e else G b
theorem gU_s (G : AH) (a : Nat) (e : va_E) : gU G a e a = some e := by simp [gU]
theorem gU_n {G : AH} {a b : Nat} (e : va_E) (h : b ≠ a) : gU G a e b = G b := by simp [gU, h]
theorem gU_u (G : AH) (a : Nat) (e e' : va_E) : gU (gU G a e) a e' = gU G a e' := by
  funext b
  by_cases h : b = a <;> simp [gU, h]
theorem gU_c {G : AH} {a b : Nat} (e e' : va_E) (h : a ≠ b) : gU (gU G a e) b e' = gU (gU G b e') a e := by
  funext q
  by_cases h1 : q = a
  · subst h1; simp [gU, h]
  · by_cases h2 : q = b
    · subst h2; simp [gU, h1]
    · simp [gU, h1, h2]
theorem hu_push {H H' : Heap} {cell : Cell} {n : Nat} (h0 : H.size = n) (h1 : H'.size = n + 1) (h2 : H'[n]? = some cell) (h3 : ∀ q, q < n → H'[q]? = H[q]?) : hu H' = hu H + cell.slots.size := by
  have h : H' = H.push cell := by
    apply Array.ext_getElem?
    intro i
    by_cases hi : i < n
    · rw [h3 i hi, Array.getElem?_push]
      rw [if_neg (by omega)]
    · by_cases hi2 : i = n
      · subst hi2; rw [h2, Array.getElem?_push, if_pos h0.symm]
      · rw [Array.getElem?_eq_none (by omega), Array.getElem?_eq_none (by simp; omega)]
  subst h
  simp [hu]
theorem hu_put {H H' : Heap} {a : Nat} {c c' : Cell} (h0 : H[a]? = some c) (h1 : H'[a]? = some c') (h2 : c'.slots.size = c.slots.size) (h3 : ∀ q, q ≠ a → H'[q]? = H[q]?) : hu H' = hu H := by
  have h : H'.toList.map (·.slots.size) = H.toList.map (·.slots.size) := by
    apply List.ext_getElem?
    intro i
    simp only [List.getElem?_map, Array.getElem?_toList]
    by_cases hi : i = a
    · subst hi; rw [h1, h0]; simp [h2]
    · rw [h3 i hi]
  simp [hu, h]
/-- a cell of the start that nobody writes: what can be read of it -/
def gWk (Y : YT) (a : Nat) (e : va_E) (H : Heap) : Prop := a < yz Y ∧ match e with
  | .inl x => ∃ cell : Cell, H[a]? = some cell ∧ cell.cls = x.1 ∧ cell.vm.isStatics = false ∧ cell.vm ≠ .unknown ∧ cell.slots = (vp_cell x.1 x.2).slots ∧ ((∃ f, x.2.2 = .inr (.inr (.inr (.inr f)))) → cell.vm = .none)
  | .inr o => ∃ r : vw_C, clA[o.1]? = some r ∧ ∃ cell : Cell, H[a]? = some cell ∧ cell.cls = (yD Y).1 o.1 ∧ cell.vm.isStatics = false ∧ cell.vm ≠ .unknown ∧ ∀ k, k < r.2.2 → cell.slots[(yD Y).2 o.1 k]? = some (vp_V o.2 k)
def gAt (Y : YT) (a : Nat) (e : va_E) (H : Heap) : Prop := va_at (yD Y) clA (a, e) H ∨ gWk Y a e H
theorem gAt.kept {Y : YT} {a : Nat} {e : va_E} {H H1 : Heap} (h : gAt Y a e H) (hq : H1[a]? = H[a]?) : gAt Y a e H1 := by
  rcases h with h | ⟨h0, h⟩
  · exact Or.inl (va_at.kept h hq)
  · refine Or.inr ⟨h0, ?_⟩
    cases e with
    | inl x => obtain ⟨cell, h1, h2⟩ := h; exact ⟨cell, hq.trans h1, h2⟩
    | inr o => obtain ⟨r, h3, cell, h1, h2⟩ := h; exact ⟨r, h3, cell, hq.trans h1, h2⟩
theorem gAt.lt {Y : YT} {a : Nat} {e : va_E} {H : Heap} (h : gAt Y a e H) : a < H.size := by
  rcases h with h | ⟨h0, h⟩
  · exact va_at.lt h
  · cases e with
    | inl x => obtain ⟨cell, h1, h2⟩ := h; exact (Array.getElem?_eq_some_iff.mp h1).1
    | inr o => obtain ⟨r, h3, cell, h1, h2⟩ := h; exact (Array.getElem?_eq_some_iff.mp h1).1
theorem gAt.st {Y : YT} {a : Nat} {e : va_E} {H : Heap} (h : gAt Y a e H) (hz : yz Y ≤ a) : va_at (yD Y) clA (a, e) H := h.elim id fun h => absurd h.1 (Nat.not_lt.mpr hz)
theorem gAt.ob {Y : YT} {a ci : Nat} {fs : List Value} {H : Heap} (h : gAt Y a (.inr (ci, fs)) H) : ∃ r : vw_C, clA[ci]? = some r ∧ ∃ cell : Cell, H[a]? = some cell ∧ cell.cls = (yD Y).1 ci ∧ cell.vm.isStatics = false ∧ cell.vm ≠ .unknown ∧ ∀ k, k < r.2.2 → cell.slots[(yD Y).2 ci k]? = some (vp_V fs k) := by
  rcases h with h | ⟨h0, h⟩
  · obtain ⟨r, h1, cell, q1, q2, q3, q4⟩ := h
    exact ⟨r, h1, cell, q1, q2, by rw [q3]; rfl, by rw [q3]; exact (fun h => nomatch h), q4⟩
  · exact h
theorem vp_cell_cv (cA : ClassId) (x : vp_A) : (vp_cell cA x).cls = cA ∧ (vp_cell cA x).vm = .none := by
  obtain ⟨N, f | f | f | f | f⟩ := x <;> exact ⟨rfl, rfl⟩
theorem gAt.ar {Y : YT} {a : Nat} {cA : ClassId} {x : vp_A} {H : Heap} (h : gAt Y a (.inl (cA, x)) H) : ∃ cell : Cell, H[a]? = some cell ∧ cell.cls = cA ∧ cell.vm.isStatics = false ∧ cell.vm ≠ .unknown ∧ cell.slots = (vp_cell cA x).slots ∧ ((∃ f, x.2 = .inr (.inr (.inr (.inr f)))) → cell.vm = .none) := by
  rcases h with h | ⟨h0, h⟩
  · obtain ⟨e1, e2⟩ := vp_cell_cv cA x
    exact ⟨_, h, e1, by rw [e2]; rfl, by rw [e2]; exact (fun h => nomatch h), rfl, fun _ => e2⟩
  · exact h
theorem arr_of_cls {s : State} {c c' : Cell} {ty : FieldType} (h : s.isArrayOf c ty) (e : c'.cls = c.cls) (hv : c'.vm.isStatics = false) : s.isArrayOf c' ty := by
  unfold State.isArrayOf at h ⊢
  rw [e]
  exact ⟨fun k q => Bool.noConfusion ((congrArg VmData.isStatics q).symm.trans hv), h.2⟩
def GH (Y : YT) (G : AH) (n u : Nat) (H : Heap) : Prop := (∀ a e, G a = some e → gAt Y a e H) ∧ H.size = n ∧ hu H = u
/-- what the Statement gives of the law's start -/
def Start0 (s0 : State) : Prop := ∃ b : Addr, (∀ w ∈ lw_tbl, w.before #[Value.ref b] s0 = true) ∧ (Jvm.Cond.and given_1 narrow_1).before #[Value.ref b] s0 = true
def KK (Y : YT) (U : State) : Prop := va_K (yD Y) clA (tyA (yA Y)) U ∧ (yS Y).WarmedH U.vm ∧ Start0 (yS Y)
theorem KK.moved {Y : YT} {s U : State} (hW : s.WarmedH U.vm) (h : KK Y s) : KK Y U := ⟨h.1.moved hW.alike, State.WarmedH.trans h.2.1 hW, h.2.2⟩
theorem KK.tab {Y : YT} {U : State} (h : KK Y U) {w : Cond} (hw : w ∈ lw_tbl) (ho : w.onTables = true) : va_Nw w (yS Y) := by
  obtain ⟨b, h1, -⟩ := h.2.2
  exact va_Nw.of ho (h1 w hw)
theorem KK.nar {Y : YT} {U : State} (h : KK Y U) {w : Cond} (hw : w ∈ flatC narrow_1) : ∃ b : Addr, w.before #[Value.ref b] (yS Y) = true := by
  obtain ⟨b, -, h2⟩ := h.2.2
  exact ⟨b, flat_of_before _ h2 w (show w ∈ flatC given_1 ++ flatC narrow_1 from List.mem_append_right _ hw)⟩
theorem KK.cast {Y : YT} {U : State} (h : KK Y U) {C T : String} (hw : Cond.castable C T ∈ lw_tbl) : va_Nw (.castable C T) U := va_Nw.warmC h.2.1 (h.tab hw rfl)
theorem KK.decl {Y : YT} {U : State} (h : KK Y U) {x : MethodName} (hw : Cond.declares x ∈ lw_tbl) : va_Nw (.declares x) U := va_Nw.warmD h.2.1 (h.tab hw rfl)
theorem KK.nestF {Y : YT} {U : State} (h : KK Y U) {a : String} {i : Nat} {b n d hh : String} (hw : Cond.fieldLinkNest a i b n d hh ∈ lw_tbl) : va_Nw (.fieldLinkNest a i b n d hh) U := va_Nw.warmF h.2.1 (h.tab hw rfl)
theorem KK.nestM {Y : YT} {U : State} (h : KK Y U) {a : String} {i : Nat} {x : MethodName} {hh : String} (hw : Cond.methodLinkNest a i x hh ∈ lw_tbl) : va_Nw (.methodLinkNest a i x hh) U := va_Nw.warmM h.2.1 (h.tab hw rfl)
theorem KK.over {Y : YT} {U : State} (h : KK Y U) {C : String} (hw : Cond.arrayOver (.object C) ∈ lw_tbl) : va_AO C U := by
  obtain ⟨b, h1, -⟩ := h.2.2
  exact (va_AO.of (h1 _ hw)).moved h.2.1.alike
theorem KK.nc {Y : YT} {U : State} (h : KK Y U) {C T : String} (hw : Cond.not (.castable C T) ∈ flatC narrow_1) : va_Nc C T U := by
  obtain ⟨b, h1⟩ := h.nar hw
  exact (va_Nc.of h1).moved h.2.1.alike
def CX (Y : YT) (p : Program) (s : State) (m : MethodId) (args : Array Value) (meth : Method) (c : Code) (cc : ByteArray) (nL : Nat) (own : String) (hh : List (Nat × Nat × Nat × Nat)) (n0 u0 : Nat) : Prop :=
  p.tables.exec = Jvm.exec ∧ c.code = cc ∧ c.maxLocals = nL ∧ s.vm.findClass own = some m.cls ∧ (∀ w ∈ lw_all, w.before args s = true) ∧ meth.locks = false ∧ KK Y s ∧ yz Y ≤ s.heap.size ∧ (∀ q, q < yz Y → s.heap[q]? = (yH Y)[q]?) ∧ c.exceptionTable.toList = tableOf hh ∧ s.heap.size = n0 ∧ hu s.heap = u0
def V (Y : YT) (p : Program) (l : Launch) (e : Env) (R : Room) (s : State) (m : MethodId) (args : Array Value) (below : List Frame) (meth : Method) (c : Code) (nL n0 u0 : Nat) (G : AH) (n u : Nat) (Q : State → Prop) (pc : Nat) (L : List (Nat × Value)) (st : List Value) : Prop :=
  ∀ (H : Heap) (locs : List Loc) (ls : Array Slot), GH Y G n u H → va_S (fun q => yz Y ≤ q) s.heap H locs → lv_has ls nL L → W p l e R s m args below meth c H locs (n - n0) (u - u0) Q (F0 m pc ls st)
/-- the method with q of class E thrown over it -/
def VX (Y : YT) (p : Program) (l : Launch) (e : Env) (R : Room) (s : State) (m : MethodId) (args : Array Value) (below : List Frame) (meth : Method) (c : Code) (nL n0 u0 : Nat) (G : AH) (n u : Nat) (Q : State → Prop) (pc : Nat) (L : List (Nat × Value)) (E : String) (q : Nat) : Prop :=
  ∀ (H : Heap) (locs : List Loc) (ls : Array Slot) (rest : List Value) (ce : Cell), GH Y G n u H → va_S (fun q => yz Y ≤ q) s.heap H locs → lv_has ls nL L → H[q]? = some ce → ce.vm = .none → s.vm.findClass E = some ce.cls → vx_W p l e R s m args below meth c H locs (n - n0) (u - u0) Q (F0 m pc ls rest) q
section G0
variable {Y : YT} {p : Program} {l : Launch} {e : Env} {R : Room} {s : State} {m : MethodId} {args : Array Value} {below : List Frame} {meth : Method} {c : Code} {Q : State → Prop} {locs : List Loc} {cells slots : Nat} {H : Heap}
theorem hu_drop {h h' : Heap} (hle : h.size ≤ h'.size) (hk : ∀ (a : Nat) (c : Cell), h[a]? = some c → ∃ c' : Cell, h'[a]? = some c' ∧ c'.slots.size = c.slots.size) : ((h'.toList.drop h.size).map (·.slots.size)).sum = hu h' - hu h ∧ hu h ≤ hu h' := by
  have e1 : (h'.toList.take h.size).map (·.slots.size) = h.toList.map (·.slots.size) := by
    apply List.ext_getElem?
    intro i
    simp only [List.getElem?_map, List.getElem?_take, Array.getElem?_toList]
    by_cases hi : i < h.size
    · rw [if_pos hi]
      obtain ⟨c', x1, x2⟩ := hk i _ (Array.getElem?_eq_getElem hi)
      rw [x1, Array.getElem?_eq_getElem hi]
      simp [x2]
    · rw [if_neg hi, Array.getElem?_eq_none (by omega)]
  have e2 : hu h' = hu h + ((h'.toList.drop h.size).map (·.slots.size)).sum := by
    unfold hu
    rw [← e1, ← List.sum_append, ← List.map_append, List.take_append_drop]
  omega
theorem stand_tight {T : State} (X : Stand p l e R s m args below meth c T locs cells slots) : Stand p l e R s m args below meth c T locs (T.heap.size - s.heap.size) (hu T.heap - hu s.heap) := by
  obtain ⟨h1, h2, h3, h4, h5, h6⟩ := X.same
  have h2' : s.heap.size ≤ T.heap.size := h2
  have hd := (hu_drop (h := s.heap) (h' := T.heap) h2' (fun a c hc => by
    obtain ⟨c', x1, -, x3, -⟩ := h6 a c hc
    exact ⟨c', x1, x3⟩)).1
  have h5' : ((T.heap.toList.drop s.heap.size).map (·.slots.size)).sum ≤ hu T.heap - hu s.heap := by rw [hd]; exact Nat.le_refl _
  have h3' : T.heap.size ≤ s.heap.size + (T.heap.size - s.heap.size) := by omega
  exact { X with same := ⟨h1, h2, h3', h4, h5', h6⟩ }
theorem stand_sizes {T : State} (X : Stand p l e R s m args below meth c T locs cells slots) : s.heap.size ≤ T.heap.size ∧ T.heap.size ≤ s.heap.size + cells ∧ hu s.heap ≤ hu T.heap ∧ hu T.heap ≤ hu s.heap + slots := by
  obtain ⟨h1, h2, h3, h4, h5, h6⟩ := X.same
  have h2' : s.heap.size ≤ T.heap.size := h2
  obtain ⟨hd, hd2⟩ := hu_drop (h := s.heap) (h' := T.heap) h2' (fun a c hc => by
    obtain ⟨c', x1, -, x3, -⟩ := h6 a c hc
    exact ⟨c', x1, x3⟩)
  have h5' : ((T.heap.toList.drop s.heap.size).map (·.slots.size)).sum ≤ slots := h5
  rw [hd] at h5'
  exact ⟨h2, h3, hd2, by omega⟩
theorem W_tight {g : JFrame} {n u n0 u0 : Nat} (e1 : H.size = n) (e2 : hu H = u) (e3 : s.heap.size = n0) (e4 : hu s.heap = u0) (k : W p l e R s m args below meth c H locs (n - n0) (u - u0) Q g) : W p l e R s m args below meth c H locs cells slots Q g := fun T hT X => by
  refine k T hT ?_
  subst hT e1 e2 e3 e4
  exact stand_tight X
theorem vx_W_tight {g : JFrame} {q : Nat} {n u n0 u0 : Nat} (e1 : H.size = n) (e2 : hu H = u) (e3 : s.heap.size = n0) (e4 : hu s.heap = u0) (k : vx_W p l e R s m args below meth c H locs (n - n0) (u - u0) Q g q) : vx_W p l e R s m args below meth c H locs cells slots Q g q := fun T hT X => by
  refine k T hT ?_
  subst hT e1 e2 e3 e4
  exact stand_tight X
end G0
theorem CX.x {Y : YT} {p : Program} {s : State} {m : MethodId} {args : Array Value} {meth : Method} {c : Code} {cc : ByteArray} {nL : Nat} {own : String} {hh : List (Nat × Nat × Nat × Nat)} {n0 u0 : Nat} (h : CX Y p s m args meth c cc nL own hh n0 u0) : p.tables.exec = Jvm.exec := h.1
theorem CX.b {Y : YT} {p : Program} {s : State} {m : MethodId} {args : Array Value} {meth : Method} {c : Code} {cc : ByteArray} {nL : Nat} {own : String} {hh : List (Nat × Nat × Nat × Nat)} {n0 u0 : Nat} (h : CX Y p s m args meth c cc nL own hh n0 u0) : c.code = cc := h.2.1
theorem CX.ml {Y : YT} {p : Program} {s : State} {m : MethodId} {args : Array Value} {meth : Method} {c : Code} {cc : ByteArray} {nL : Nat} {own : String} {hh : List (Nat × Nat × Nat × Nat)} {n0 u0 : Nat} (h : CX Y p s m args meth c cc nL own hh n0 u0) : c.maxLocals = nL := h.2.2.1
theorem CX.own {Y : YT} {p : Program} {s : State} {m : MethodId} {args : Array Value} {meth : Method} {c : Code} {cc : ByteArray} {nL : Nat} {own : String} {hh : List (Nat × Nat × Nat × Nat)} {n0 u0 : Nat} (h : CX Y p s m args meth c cc nL own hh n0 u0) : s.vm.findClass own = some m.cls := h.2.2.2.1
theorem CX.ts {Y : YT} {p : Program} {s : State} {m : MethodId} {args : Array Value} {meth : Method} {c : Code} {cc : ByteArray} {nL : Nat} {own : String} {hh : List (Nat × Nat × Nat × Nat)} {n0 u0 : Nat} (h : CX Y p s m args meth c cc nL own hh n0 u0) : ∀ w ∈ lw_all, w.before args s = true := h.2.2.2.2.1
theorem CX.lk {Y : YT} {p : Program} {s : State} {m : MethodId} {args : Array Value} {meth : Method} {c : Code} {cc : ByteArray} {nL : Nat} {own : String} {hh : List (Nat × Nat × Nat × Nat)} {n0 u0 : Nat} (h : CX Y p s m args meth c cc nL own hh n0 u0) : meth.locks = false := h.2.2.2.2.2.1
theorem CX.K {Y : YT} {p : Program} {s : State} {m : MethodId} {args : Array Value} {meth : Method} {c : Code} {cc : ByteArray} {nL : Nat} {own : String} {hh : List (Nat × Nat × Nat × Nat)} {n0 u0 : Nat} (h : CX Y p s m args meth c cc nL own hh n0 u0) : KK Y s := h.2.2.2.2.2.2.1
theorem CX.z {Y : YT} {p : Program} {s : State} {m : MethodId} {args : Array Value} {meth : Method} {c : Code} {cc : ByteArray} {nL : Nat} {own : String} {hh : List (Nat × Nat × Nat × Nat)} {n0 u0 : Nat} (h : CX Y p s m args meth c cc nL own hh n0 u0) : yz Y ≤ s.heap.size := h.2.2.2.2.2.2.2.1
theorem CX.old {Y : YT} {p : Program} {s : State} {m : MethodId} {args : Array Value} {meth : Method} {c : Code} {cc : ByteArray} {nL : Nat} {own : String} {hh : List (Nat × Nat × Nat × Nat)} {n0 u0 : Nat} (h : CX Y p s m args meth c cc nL own hh n0 u0) : ∀ q, q < yz Y → s.heap[q]? = (yH Y)[q]? := h.2.2.2.2.2.2.2.2.1
theorem CX.tb {Y : YT} {p : Program} {s : State} {m : MethodId} {args : Array Value} {meth : Method} {c : Code} {cc : ByteArray} {nL : Nat} {own : String} {hh : List (Nat × Nat × Nat × Nat)} {n0 u0 : Nat} (h : CX Y p s m args meth c cc nL own hh n0 u0) : c.exceptionTable.toList = tableOf hh := h.2.2.2.2.2.2.2.2.2.1
theorem CX.n {Y : YT} {p : Program} {s : State} {m : MethodId} {args : Array Value} {meth : Method} {c : Code} {cc : ByteArray} {nL : Nat} {own : String} {hh : List (Nat × Nat × Nat × Nat)} {n0 u0 : Nat} (h : CX Y p s m args meth c cc nL own hh n0 u0) : s.heap.size = n0 := h.2.2.2.2.2.2.2.2.2.2.1
theorem CX.u {Y : YT} {p : Program} {s : State} {m : MethodId} {args : Array Value} {meth : Method} {c : Code} {cc : ByteArray} {nL : Nat} {own : String} {hh : List (Nat × Nat × Nat × Nat)} {n0 u0 : Nat} (h : CX Y p s m args meth c cc nL own hh n0 u0) : hu s.heap = u0 := h.2.2.2.2.2.2.2.2.2.2.2
section G1
variable {Y : YT} {p : Program} {l : Launch} {e : Env} {R : Room} {s : State} {m : MethodId} {args : Array Value} {below : List Frame} {meth : Method} {c : Code} {nL n0 u0 : Nat} {G : AH} {nn uu : Nat} {Q : State → Prop} {pc : Nat} {L : List (Nat × Value)} {rest : List Value} {cc : ByteArray} {own : String} {hh : List (Nat × Nat × Nat × Nat)}
theorem g_iconst (hC : CX Y p s m args meth c cc nL own hh n0 u0) {n : Int} {v : Int32} (hdg : decode cc pc = .ok (.iconst n, 1)) (hv : Int32.ofInt n = v) (k : V Y p l e R s m args below meth c nL n0 u0 G nn uu Q (pc + 1) L (.int v :: rest)) : V Y p l e R s m args below meth c nL n0 u0 G nn uu Q pc L (rest) := fun H locs ls g a b => lv_iconst hC.x hC.b hdg hv (k H locs ls g a b)
theorem g_bipush (hC : CX Y p s m args meth c cc nL own hh n0 u0) {n : Int} {v : Int32} (hdg : decode cc pc = .ok (.bipush n, 2)) (hv : (Int8.ofInt n).toInt32 = v) (k : V Y p l e R s m args below meth c nL n0 u0 G nn uu Q (pc + 2) L (.int v :: rest)) : V Y p l e R s m args below meth c nL n0 u0 G nn uu Q pc L (rest) := fun H locs ls g a b => lv_bipush hC.x hC.b hdg hv (k H locs ls g a b)
theorem g_sipush (hC : CX Y p s m args meth c cc nL own hh n0 u0) {n : Int} {v : Int32} (hdg : decode cc pc = .ok (.sipush n, 3)) (hv : (Int16.ofInt n).toInt32 = v) (k : V Y p l e R s m args below meth c nL n0 u0 G nn uu Q (pc + 3) L (.int v :: rest)) : V Y p l e R s m args below meth c nL n0 u0 G nn uu Q pc L (rest) := fun H locs ls g a b => lv_sipush hC.x hC.b hdg hv (k H locs ls g a b)
theorem g_lconst (hC : CX Y p s m args meth c cc nL own hh n0 u0) {n : Fin 2} {v : Int64} (hdg : decode cc pc = .ok (.lconst n, 1)) (hv : Int64.ofNat (n : Nat) = v) (k : V Y p l e R s m args below meth c nL n0 u0 G nn uu Q (pc + 1) L (.long v :: rest)) : V Y p l e R s m args below meth c nL n0 u0 G nn uu Q pc L (rest) := fun H locs ls g a b => lv_lconst hC.x hC.b hdg hv (k H locs ls g a b)
theorem g_iload_n (hC : CX Y p s m args meth c cc nL own hh n0 u0) {k : Fin 4} {i : Nat} {x : Int32} (hdg : decode cc pc = .ok (.iload_n k, 1)) (hi : (k : Nat) = i) (j : Nat) (hl : L[j]? = some (i, (.int x))) (k : V Y p l e R s m args below meth c nL n0 u0 G nn uu Q (pc + 1) L (.int x :: rest)) : V Y p l e R s m args below meth c nL n0 u0 G nn uu Q pc L (rest) := fun H locs ls g a b => lv_iload_n hC.x hC.b hdg hi (lv_at b j hl) (k H locs ls g a b)
theorem g_iload (hC : CX Y p s m args meth c cc nL own hh n0 u0) {i : Nat} {x : Int32} (hdg : decode cc pc = .ok (.iload i, 2)) (j : Nat) (hl : L[j]? = some (i, (.int x))) (k : V Y p l e R s m args below meth c nL n0 u0 G nn uu Q (pc + 2) L (.int x :: rest)) : V Y p l e R s m args below meth c nL n0 u0 G nn uu Q pc L (rest) := fun H locs ls g a b => lv_iload hC.x hC.b hdg (lv_at b j hl) (k H locs ls g a b)
theorem g_lload_n (hC : CX Y p s m args meth c cc nL own hh n0 u0) {k : Fin 4} {i : Nat} {x : Int64} (hdg : decode cc pc = .ok (.lload_n k, 1)) (hi : (k : Nat) = i) (j : Nat) (hl : L[j]? = some (i, (.long x))) (k : V Y p l e R s m args below meth c nL n0 u0 G nn uu Q (pc + 1) L (.long x :: rest)) : V Y p l e R s m args below meth c nL n0 u0 G nn uu Q pc L (rest) := fun H locs ls g a b => lv_lload_n hC.x hC.b hdg hi (lv_at b j hl) (k H locs ls g a b)
theorem g_lload (hC : CX Y p s m args meth c cc nL own hh n0 u0) {i : Nat} {x : Int64} (hdg : decode cc pc = .ok (.lload i, 2)) (j : Nat) (hl : L[j]? = some (i, (.long x))) (k : V Y p l e R s m args below meth c nL n0 u0 G nn uu Q (pc + 2) L (.long x :: rest)) : V Y p l e R s m args below meth c nL n0 u0 G nn uu Q pc L (rest) := fun H locs ls g a b => lv_lload hC.x hC.b hdg (lv_at b j hl) (k H locs ls g a b)
theorem g_aload_n (hC : CX Y p s m args meth c cc nL own hh n0 u0) {k : Fin 4} {i : Nat} {x : Nat} (hdg : decode cc pc = .ok (.aload_n k, 1)) (hi : (k : Nat) = i) (j : Nat) (hl : L[j]? = some (i, (.ref x))) (k : V Y p l e R s m args below meth c nL n0 u0 G nn uu Q (pc + 1) L (.ref x :: rest)) : V Y p l e R s m args below meth c nL n0 u0 G nn uu Q pc L (rest) := fun H locs ls g a b => lv_aload_n hC.x hC.b hdg hi (lv_at b j hl) (k H locs ls g a b)
theorem g_aload (hC : CX Y p s m args meth c cc nL own hh n0 u0) {i : Nat} {x : Nat} (hdg : decode cc pc = .ok (.aload i, 2)) (j : Nat) (hl : L[j]? = some (i, (.ref x))) (k : V Y p l e R s m args below meth c nL n0 u0 G nn uu Q (pc + 2) L (.ref x :: rest)) : V Y p l e R s m args below meth c nL n0 u0 G nn uu Q pc L (rest) := fun H locs ls g a b => lv_aload hC.x hC.b hdg (lv_at b j hl) (k H locs ls g a b)
theorem g_istore_n (hC : CX Y p s m args meth c cc nL own hh n0 u0) {k : Fin 4} {i : Nat} {x : Int32} {L' : List (Nat × Value)} (hdg : decode cc pc = .ok (.istore_n k, 1)) (hi : (k : Nat) = i) (hn : i < nL) (hl : (i, Value.int x) :: L.filter (fun q => !(q.1 == i) && !(q.1 + 1 == i && q.2.category == 2)) = L') (kk : V Y p l e R s m args below meth c nL n0 u0 G nn uu Q (pc + 1) L' rest) : V Y p l e R s m args below meth c nL n0 u0 G nn uu Q pc L (.int x :: rest) := fun H locs ls g a b => lv_istore_n hC.x hC.b hdg hi b hn hl (fun ls' b' => kk H locs ls' g a b')
theorem g_istore (hC : CX Y p s m args meth c cc nL own hh n0 u0) {i : Nat} {x : Int32} {L' : List (Nat × Value)} (hdg : decode cc pc = .ok (.istore i, 2)) (hn : i < nL) (hl : (i, Value.int x) :: L.filter (fun q => !(q.1 == i) && !(q.1 + 1 == i && q.2.category == 2)) = L') (kk : V Y p l e R s m args below meth c nL n0 u0 G nn uu Q (pc + 2) L' rest) : V Y p l e R s m args below meth c nL n0 u0 G nn uu Q pc L (.int x :: rest) := fun H locs ls g a b => lv_istore hC.x hC.b hdg b hn hl (fun ls' b' => kk H locs ls' g a b')
theorem g_lstore_n (hC : CX Y p s m args meth c cc nL own hh n0 u0) {k : Fin 4} {i : Nat} {x : Int64} {L' : List (Nat × Value)} (hdg : decode cc pc = .ok (.lstore_n k, 1)) (hi : (k : Nat) = i) (hn : i + 1 < nL) (hl : (i, Value.long x) :: L.filter (fun q => !(q.1 == i) && (!(q.1 == i + 1) && !(q.1 + 1 == i && q.2.category == 2))) = L') (kk : V Y p l e R s m args below meth c nL n0 u0 G nn uu Q (pc + 1) L' rest) : V Y p l e R s m args below meth c nL n0 u0 G nn uu Q pc L (.long x :: rest) := fun H locs ls g a b => lv_lstore_n hC.x hC.b hdg hi b hn hl (fun ls' b' => kk H locs ls' g a b')
theorem g_lstore (hC : CX Y p s m args meth c cc nL own hh n0 u0) {i : Nat} {x : Int64} {L' : List (Nat × Value)} (hdg : decode cc pc = .ok (.lstore i, 2)) (hn : i + 1 < nL) (hl : (i, Value.long x) :: L.filter (fun q => !(q.1 == i) && (!(q.1 == i + 1) && !(q.1 + 1 == i && q.2.category == 2))) = L') (kk : V Y p l e R s m args below meth c nL n0 u0 G nn uu Q (pc + 2) L' rest) : V Y p l e R s m args below meth c nL n0 u0 G nn uu Q pc L (.long x :: rest) := fun H locs ls g a b => lv_lstore hC.x hC.b hdg b hn hl (fun ls' b' => kk H locs ls' g a b')
theorem g_astore_n (hC : CX Y p s m args meth c cc nL own hh n0 u0) {k : Fin 4} {i : Nat} {x : Nat} {L' : List (Nat × Value)} (hdg : decode cc pc = .ok (.astore_n k, 1)) (hi : (k : Nat) = i) (hn : i < nL) (hl : (i, Value.ref x) :: L.filter (fun q => !(q.1 == i) && !(q.1 + 1 == i && q.2.category == 2)) = L') (kk : V Y p l e R s m args below meth c nL n0 u0 G nn uu Q (pc + 1) L' rest) : V Y p l e R s m args below meth c nL n0 u0 G nn uu Q pc L (.ref x :: rest) := fun H locs ls g a b => lv_astore_n hC.x hC.b hdg hi b hn hl (fun ls' b' => kk H locs ls' g a b')
theorem g_astore (hC : CX Y p s m args meth c cc nL own hh n0 u0) {i : Nat} {x : Nat} {L' : List (Nat × Value)} (hdg : decode cc pc = .ok (.astore i, 2)) (hn : i < nL) (hl : (i, Value.ref x) :: L.filter (fun q => !(q.1 == i) && !(q.1 + 1 == i && q.2.category == 2)) = L') (kk : V Y p l e R s m args below meth c nL n0 u0 G nn uu Q (pc + 2) L' rest) : V Y p l e R s m args below meth c nL n0 u0 G nn uu Q pc L (.ref x :: rest) := fun H locs ls g a b => lv_astore hC.x hC.b hdg b hn hl (fun ls' b' => kk H locs ls' g a b')
theorem g_iinc (hC : CX Y p s m args meth c cc nL own hh n0 u0) {i k : Nat} {n : Int} {x v : Int32} {L' : List (Nat × Value)} (hdg : decode cc pc = .ok (.iinc i n, 3)) (hk : L[k]? = some (i, .int x)) (hv : x + Int32.ofInt n = v) (hn : i < nL) (hl : (i, Value.int v) :: L.filter (fun q => !(q.1 == i) && !(q.1 + 1 == i && q.2.category == 2)) = L') (kk : V Y p l e R s m args below meth c nL n0 u0 G nn uu Q (pc + 3) L' rest) : V Y p l e R s m args below meth c nL n0 u0 G nn uu Q pc L rest := fun H locs ls g a b => lv_iinc hC.x hC.b hdg b hk hv hn hl (fun ls' b' => kk H locs ls' g a b')
theorem g_iadd (hC : CX Y p s m args meth c cc nL own hh n0 u0) {x y : Int32} (hdg : decode cc pc = .ok (.iadd, 1)) (k : V Y p l e R s m args below meth c nL n0 u0 G nn uu Q (pc + 1) L (.int (x + y) :: rest)) : V Y p l e R s m args below meth c nL n0 u0 G nn uu Q pc L (.int y :: .int x :: rest) := fun H locs ls g a b => lv_iadd hC.x hC.b hdg (k H locs ls g a b)
theorem g_isub (hC : CX Y p s m args meth c cc nL own hh n0 u0) {x y : Int32} (hdg : decode cc pc = .ok (.isub, 1)) (k : V Y p l e R s m args below meth c nL n0 u0 G nn uu Q (pc + 1) L (.int (x - y) :: rest)) : V Y p l e R s m args below meth c nL n0 u0 G nn uu Q pc L (.int y :: .int x :: rest) := fun H locs ls g a b => lv_isub hC.x hC.b hdg (k H locs ls g a b)
theorem g_imul (hC : CX Y p s m args meth c cc nL own hh n0 u0) {x y : Int32} (hdg : decode cc pc = .ok (.imul, 1)) (k : V Y p l e R s m args below meth c nL n0 u0 G nn uu Q (pc + 1) L (.int (x * y) :: rest)) : V Y p l e R s m args below meth c nL n0 u0 G nn uu Q pc L (.int y :: .int x :: rest) := fun H locs ls g a b => lv_imul hC.x hC.b hdg (k H locs ls g a b)
theorem g_iand (hC : CX Y p s m args meth c cc nL own hh n0 u0) {x y : Int32} (hdg : decode cc pc = .ok (.iand, 1)) (k : V Y p l e R s m args below meth c nL n0 u0 G nn uu Q (pc + 1) L (.int (x &&& y) :: rest)) : V Y p l e R s m args below meth c nL n0 u0 G nn uu Q pc L (.int y :: .int x :: rest) := fun H locs ls g a b => lv_iand hC.x hC.b hdg (k H locs ls g a b)
theorem g_ior (hC : CX Y p s m args meth c cc nL own hh n0 u0) {x y : Int32} (hdg : decode cc pc = .ok (.ior, 1)) (k : V Y p l e R s m args below meth c nL n0 u0 G nn uu Q (pc + 1) L (.int (x ||| y) :: rest)) : V Y p l e R s m args below meth c nL n0 u0 G nn uu Q pc L (.int y :: .int x :: rest) := fun H locs ls g a b => lv_ior hC.x hC.b hdg (k H locs ls g a b)
theorem g_ixor (hC : CX Y p s m args meth c cc nL own hh n0 u0) {x y : Int32} (hdg : decode cc pc = .ok (.ixor, 1)) (k : V Y p l e R s m args below meth c nL n0 u0 G nn uu Q (pc + 1) L (.int (x ^^^ y) :: rest)) : V Y p l e R s m args below meth c nL n0 u0 G nn uu Q pc L (.int y :: .int x :: rest) := fun H locs ls g a b => lv_ixor hC.x hC.b hdg (k H locs ls g a b)
theorem g_idiv (hC : CX Y p s m args meth c cc nL own hh n0 u0) {x y : Int32} (hdg : decode cc pc = .ok (.idiv, 1)) (hne : ¬ y = 0) (k : V Y p l e R s m args below meth c nL n0 u0 G nn uu Q (pc + 1) L (.int (x / y) :: rest)) : V Y p l e R s m args below meth c nL n0 u0 G nn uu Q pc L (.int y :: .int x :: rest) := fun H locs ls g a b => lv_idiv hC.x hC.b hdg hne (k H locs ls g a b)
theorem g_irem (hC : CX Y p s m args meth c cc nL own hh n0 u0) {x y : Int32} (hdg : decode cc pc = .ok (.irem, 1)) (hne : ¬ y = 0) (k : V Y p l e R s m args below meth c nL n0 u0 G nn uu Q (pc + 1) L (.int (x - x / y * y) :: rest)) : V Y p l e R s m args below meth c nL n0 u0 G nn uu Q pc L (.int y :: .int x :: rest) := fun H locs ls g a b => lv_irem hC.x hC.b hdg hne (k H locs ls g a b)
theorem g_ineg (hC : CX Y p s m args meth c cc nL own hh n0 u0) {x : Int32} (hdg : decode cc pc = .ok (.ineg, 1)) (k : V Y p l e R s m args below meth c nL n0 u0 G nn uu Q (pc + 1) L (.int (-x) :: rest)) : V Y p l e R s m args below meth c nL n0 u0 G nn uu Q pc L (.int x :: rest) := fun H locs ls g a b => lv_ineg hC.x hC.b hdg (k H locs ls g a b)
theorem g_ladd (hC : CX Y p s m args meth c cc nL own hh n0 u0) {x y : Int64} (hdg : decode cc pc = .ok (.ladd, 1)) (k : V Y p l e R s m args below meth c nL n0 u0 G nn uu Q (pc + 1) L (.long (x + y) :: rest)) : V Y p l e R s m args below meth c nL n0 u0 G nn uu Q pc L (.long y :: .long x :: rest) := fun H locs ls g a b => lv_ladd hC.x hC.b hdg (k H locs ls g a b)
theorem g_lsub (hC : CX Y p s m args meth c cc nL own hh n0 u0) {x y : Int64} (hdg : decode cc pc = .ok (.lsub, 1)) (k : V Y p l e R s m args below meth c nL n0 u0 G nn uu Q (pc + 1) L (.long (x - y) :: rest)) : V Y p l e R s m args below meth c nL n0 u0 G nn uu Q pc L (.long y :: .long x :: rest) := fun H locs ls g a b => lv_lsub hC.x hC.b hdg (k H locs ls g a b)
theorem g_lmul (hC : CX Y p s m args meth c cc nL own hh n0 u0) {x y : Int64} (hdg : decode cc pc = .ok (.lmul, 1)) (k : V Y p l e R s m args below meth c nL n0 u0 G nn uu Q (pc + 1) L (.long (x * y) :: rest)) : V Y p l e R s m args below meth c nL n0 u0 G nn uu Q pc L (.long y :: .long x :: rest) := fun H locs ls g a b => lv_lmul hC.x hC.b hdg (k H locs ls g a b)
theorem g_land (hC : CX Y p s m args meth c cc nL own hh n0 u0) {x y : Int64} (hdg : decode cc pc = .ok (.land, 1)) (k : V Y p l e R s m args below meth c nL n0 u0 G nn uu Q (pc + 1) L (.long (x &&& y) :: rest)) : V Y p l e R s m args below meth c nL n0 u0 G nn uu Q pc L (.long y :: .long x :: rest) := fun H locs ls g a b => lv_land hC.x hC.b hdg (k H locs ls g a b)
theorem g_lor (hC : CX Y p s m args meth c cc nL own hh n0 u0) {x y : Int64} (hdg : decode cc pc = .ok (.lor, 1)) (k : V Y p l e R s m args below meth c nL n0 u0 G nn uu Q (pc + 1) L (.long (x ||| y) :: rest)) : V Y p l e R s m args below meth c nL n0 u0 G nn uu Q pc L (.long y :: .long x :: rest) := fun H locs ls g a b => lv_lor hC.x hC.b hdg (k H locs ls g a b)
theorem g_lxor (hC : CX Y p s m args meth c cc nL own hh n0 u0) {x y : Int64} (hdg : decode cc pc = .ok (.lxor, 1)) (k : V Y p l e R s m args below meth c nL n0 u0 G nn uu Q (pc + 1) L (.long (x ^^^ y) :: rest)) : V Y p l e R s m args below meth c nL n0 u0 G nn uu Q pc L (.long y :: .long x :: rest) := fun H locs ls g a b => lv_lxor hC.x hC.b hdg (k H locs ls g a b)
theorem g_lneg (hC : CX Y p s m args meth c cc nL own hh n0 u0) {x : Int64} (hdg : decode cc pc = .ok (.lneg, 1)) (k : V Y p l e R s m args below meth c nL n0 u0 G nn uu Q (pc + 1) L (.long (-x) :: rest)) : V Y p l e R s m args below meth c nL n0 u0 G nn uu Q pc L (.long x :: rest) := fun H locs ls g a b => lv_lneg hC.x hC.b hdg (k H locs ls g a b)
theorem g_ishl (hC : CX Y p s m args meth c cc nL own hh n0 u0) {x y : Int32} (hdg : decode cc pc = .ok (.ishl, 1)) (k : V Y p l e R s m args below meth c nL n0 u0 G nn uu Q (pc + 1) L (.int (x <<< (y &&& 31)) :: rest)) : V Y p l e R s m args below meth c nL n0 u0 G nn uu Q pc L (.int y :: .int x :: rest) := fun H locs ls g a b => lv_ishl hC.x hC.b hdg (k H locs ls g a b)
theorem g_ishr (hC : CX Y p s m args meth c cc nL own hh n0 u0) {x y : Int32} (hdg : decode cc pc = .ok (.ishr, 1)) (k : V Y p l e R s m args below meth c nL n0 u0 G nn uu Q (pc + 1) L (.int (x >>> (y &&& 31)) :: rest)) : V Y p l e R s m args below meth c nL n0 u0 G nn uu Q pc L (.int y :: .int x :: rest) := fun H locs ls g a b => lv_ishr hC.x hC.b hdg (k H locs ls g a b)
theorem g_i2l (hC : CX Y p s m args meth c cc nL own hh n0 u0) {x : Int32} {v : Int64} (hdg : decode cc pc = .ok (.i2l, 1)) (hv : x.toInt64 = v) (k : V Y p l e R s m args below meth c nL n0 u0 G nn uu Q (pc + 1) L (.long v :: rest)) : V Y p l e R s m args below meth c nL n0 u0 G nn uu Q pc L (.int x :: rest) := fun H locs ls g a b => lv_i2l hC.x hC.b hdg hv (k H locs ls g a b)
theorem g_l2i (hC : CX Y p s m args meth c cc nL own hh n0 u0) {x : Int64} {v : Int32} (hdg : decode cc pc = .ok (.l2i, 1)) (hv : x.toInt32 = v) (k : V Y p l e R s m args below meth c nL n0 u0 G nn uu Q (pc + 1) L (.int v :: rest)) : V Y p l e R s m args below meth c nL n0 u0 G nn uu Q pc L (.long x :: rest) := fun H locs ls g a b => lv_l2i hC.x hC.b hdg hv (k H locs ls g a b)
theorem g_i2b (hC : CX Y p s m args meth c cc nL own hh n0 u0) {x : Int32} {v : Int32} (hdg : decode cc pc = .ok (.i2b, 1)) (hv : x.toInt8.toInt32 = v) (k : V Y p l e R s m args below meth c nL n0 u0 G nn uu Q (pc + 1) L (.int v :: rest)) : V Y p l e R s m args below meth c nL n0 u0 G nn uu Q pc L (.int x :: rest) := fun H locs ls g a b => lv_i2b hC.x hC.b hdg hv (k H locs ls g a b)
theorem g_i2s (hC : CX Y p s m args meth c cc nL own hh n0 u0) {x : Int32} {v : Int32} (hdg : decode cc pc = .ok (.i2s, 1)) (hv : x.toInt16.toInt32 = v) (k : V Y p l e R s m args below meth c nL n0 u0 G nn uu Q (pc + 1) L (.int v :: rest)) : V Y p l e R s m args below meth c nL n0 u0 G nn uu Q pc L (.int x :: rest) := fun H locs ls g a b => lv_i2s hC.x hC.b hdg hv (k H locs ls g a b)
theorem g_i2c (hC : CX Y p s m args meth c cc nL own hh n0 u0) {x : Int32} {v : Int32} (hdg : decode cc pc = .ok (.i2c, 1)) (hv : (x.toUInt32 % 65536).toInt32 = v) (k : V Y p l e R s m args below meth c nL n0 u0 G nn uu Q (pc + 1) L (.int v :: rest)) : V Y p l e R s m args below meth c nL n0 u0 G nn uu Q pc L (.int x :: rest) := fun H locs ls g a b => lv_i2c hC.x hC.b hdg hv (k H locs ls g a b)
theorem g_iushr (hC : CX Y p s m args meth c cc nL own hh n0 u0) {x y v : Int32} (hdg : decode cc pc = .ok (.iushr, 1)) (hv : (x.toUInt32 >>> (y.toUInt32 &&& Int32.toUInt32 31)).toInt32 = v) (k : V Y p l e R s m args below meth c nL n0 u0 G nn uu Q (pc + 1) L (.int v :: rest)) : V Y p l e R s m args below meth c nL n0 u0 G nn uu Q pc L (.int y :: .int x :: rest) := fun H locs ls g a b => lv_iushr hC.x hC.b hdg hv (k H locs ls g a b)
theorem g_lushr (hC : CX Y p s m args meth c cc nL own hh n0 u0) {x v : Int64} {y : Int32} (hdg : decode cc pc = .ok (.lushr, 1)) (hv : (x.toUInt64 >>> (y.toInt64.toUInt64 &&& Int64.toUInt64 63)).toInt64 = v) (k : V Y p l e R s m args below meth c nL n0 u0 G nn uu Q (pc + 1) L (.long v :: rest)) : V Y p l e R s m args below meth c nL n0 u0 G nn uu Q pc L (.int y :: .long x :: rest) := fun H locs ls g a b => lv_lushr hC.x hC.b hdg hv (k H locs ls g a b)
theorem g_lshl (hC : CX Y p s m args meth c cc nL own hh n0 u0) {x v : Int64} {y : Int32} (hdg : decode cc pc = .ok (.lshl, 1)) (hv : x <<< (y.toInt64 &&& 63) = v) (k : V Y p l e R s m args below meth c nL n0 u0 G nn uu Q (pc + 1) L (.long v :: rest)) : V Y p l e R s m args below meth c nL n0 u0 G nn uu Q pc L (.int y :: .long x :: rest) := fun H locs ls g a b => lv_lshl hC.x hC.b hdg hv (k H locs ls g a b)
theorem g_lshr (hC : CX Y p s m args meth c cc nL own hh n0 u0) {x v : Int64} {y : Int32} (hdg : decode cc pc = .ok (.lshr, 1)) (hv : x >>> (y.toInt64 &&& 63) = v) (k : V Y p l e R s m args below meth c nL n0 u0 G nn uu Q (pc + 1) L (.long v :: rest)) : V Y p l e R s m args below meth c nL n0 u0 G nn uu Q pc L (.int y :: .long x :: rest) := fun H locs ls g a b => lv_lshr hC.x hC.b hdg hv (k H locs ls g a b)
theorem g_dup (hC : CX Y p s m args meth c cc nL own hh n0 u0) {va : Value} (hdg : decode cc pc = .ok (.dup, 1)) (hva : va.category = 1) (k : V Y p l e R s m args below meth c nL n0 u0 G nn uu Q (pc + 1) L (va :: va :: rest)) : V Y p l e R s m args below meth c nL n0 u0 G nn uu Q pc L (va :: rest) := fun H locs ls g a b => lv_dup hC.x hC.b hdg hva (k H locs ls g a b)
theorem g_pop (hC : CX Y p s m args meth c cc nL own hh n0 u0) {va : Value} (hdg : decode cc pc = .ok (.pop, 1)) (hva : va.category = 1) (k : V Y p l e R s m args below meth c nL n0 u0 G nn uu Q (pc + 1) L (rest)) : V Y p l e R s m args below meth c nL n0 u0 G nn uu Q pc L (va :: rest) := fun H locs ls g a b => lv_pop hC.x hC.b hdg hva (k H locs ls g a b)
theorem g_dup_x1 (hC : CX Y p s m args meth c cc nL own hh n0 u0) {va vb : Value} (hdg : decode cc pc = .ok (.dup_x1, 1)) (hva : va.category = 1) (hvb : vb.category = 1) (k : V Y p l e R s m args below meth c nL n0 u0 G nn uu Q (pc + 1) L (va :: vb :: va :: rest)) : V Y p l e R s m args below meth c nL n0 u0 G nn uu Q pc L (va :: vb :: rest) := fun H locs ls g a b => lv_dup_x1 hC.x hC.b hdg hva hvb (k H locs ls g a b)
theorem g_dup_x2 (hC : CX Y p s m args meth c cc nL own hh n0 u0) {va vb vd : Value} (hdg : decode cc pc = .ok (.dup_x2, 1)) (hva : va.category = 1) (hvb : vb.category = 1) (hvd : vd.category = 1) (k : V Y p l e R s m args below meth c nL n0 u0 G nn uu Q (pc + 1) L (va :: vb :: vd :: va :: rest)) : V Y p l e R s m args below meth c nL n0 u0 G nn uu Q pc L (va :: vb :: vd :: rest) := fun H locs ls g a b => lv_dup_x2 hC.x hC.b hdg hva hvb hvd (k H locs ls g a b)
theorem g_dup2_11 (hC : CX Y p s m args meth c cc nL own hh n0 u0) {va vb : Value} (hdg : decode cc pc = .ok (.dup2, 1)) (hva : va.category = 1) (hvb : vb.category = 1) (k : V Y p l e R s m args below meth c nL n0 u0 G nn uu Q (pc + 1) L (va :: vb :: va :: vb :: rest)) : V Y p l e R s m args below meth c nL n0 u0 G nn uu Q pc L (va :: vb :: rest) := fun H locs ls g a b => lv_dup2_11 hC.x hC.b hdg hva hvb (k H locs ls g a b)
theorem g_dup2_2 (hC : CX Y p s m args meth c cc nL own hh n0 u0) {va : Value} (hdg : decode cc pc = .ok (.dup2, 1)) (hva : va.category = 2) (k : V Y p l e R s m args below meth c nL n0 u0 G nn uu Q (pc + 1) L (va :: va :: rest)) : V Y p l e R s m args below meth c nL n0 u0 G nn uu Q pc L (va :: rest) := fun H locs ls g a b => lv_dup2_2 hC.x hC.b hdg hva (k H locs ls g a b)
theorem g_pop2_2 (hC : CX Y p s m args meth c cc nL own hh n0 u0) {va : Value} (hdg : decode cc pc = .ok (.pop2, 1)) (hva : va.category = 2) (k : V Y p l e R s m args below meth c nL n0 u0 G nn uu Q (pc + 1) L (rest)) : V Y p l e R s m args below meth c nL n0 u0 G nn uu Q pc L (va :: rest) := fun H locs ls g a b => lv_pop2_2 hC.x hC.b hdg hva (k H locs ls g a b)
theorem g_pop2_11 (hC : CX Y p s m args meth c cc nL own hh n0 u0) {va vb : Value} (hdg : decode cc pc = .ok (.pop2, 1)) (hva : va.category = 1) (hvb : vb.category = 1) (k : V Y p l e R s m args below meth c nL n0 u0 G nn uu Q (pc + 1) L (rest)) : V Y p l e R s m args below meth c nL n0 u0 G nn uu Q pc L (va :: vb :: rest) := fun H locs ls g a b => lv_pop2_11 hC.x hC.b hdg hva hvb (k H locs ls g a b)
theorem g_if_eq (hC : CX Y p s m args meth c cc nL own hh n0 u0) {x : Int32} {off : Int} {tgt : Nat} (hdg : decode cc pc = .ok (.ifCond .eq off, 3)) (ht : (pc : Int) + off = (tgt : Int)) (kt : x = 0 → V Y p l e R s m args below meth c nL n0 u0 G nn uu Q tgt L rest) (kf : ¬ x = 0 → V Y p l e R s m args below meth c nL n0 u0 G nn uu Q (pc + 3) L rest) : V Y p l e R s m args below meth c nL n0 u0 G nn uu Q pc L (.int x :: rest) := fun H locs ls g a b => lv_if_eq hC.x hC.b hdg ht (fun z => kt z H locs ls g a b) (fun z => kf z H locs ls g a b)
theorem g_icmp_eq (hC : CX Y p s m args meth c cc nL own hh n0 u0) {x y : Int32} {off : Int} {tgt : Nat} (hdg : decode cc pc = .ok (.if_icmp .eq off, 3)) (ht : (pc : Int) + off = (tgt : Int)) (kt : x = y → V Y p l e R s m args below meth c nL n0 u0 G nn uu Q tgt L rest) (kf : ¬ x = y → V Y p l e R s m args below meth c nL n0 u0 G nn uu Q (pc + 3) L rest) : V Y p l e R s m args below meth c nL n0 u0 G nn uu Q pc L (.int y :: .int x :: rest) := fun H locs ls g a b => lv_icmp_eq hC.x hC.b hdg ht (fun z => kt z H locs ls g a b) (fun z => kf z H locs ls g a b)
theorem g_if_ne (hC : CX Y p s m args meth c cc nL own hh n0 u0) {x : Int32} {off : Int} {tgt : Nat} (hdg : decode cc pc = .ok (.ifCond .ne off, 3)) (ht : (pc : Int) + off = (tgt : Int)) (kt : ¬ x = 0 → V Y p l e R s m args below meth c nL n0 u0 G nn uu Q tgt L rest) (kf : x = 0 → V Y p l e R s m args below meth c nL n0 u0 G nn uu Q (pc + 3) L rest) : V Y p l e R s m args below meth c nL n0 u0 G nn uu Q pc L (.int x :: rest) := fun H locs ls g a b => lv_if_ne hC.x hC.b hdg ht (fun z => kt z H locs ls g a b) (fun z => kf z H locs ls g a b)
theorem g_icmp_ne (hC : CX Y p s m args meth c cc nL own hh n0 u0) {x y : Int32} {off : Int} {tgt : Nat} (hdg : decode cc pc = .ok (.if_icmp .ne off, 3)) (ht : (pc : Int) + off = (tgt : Int)) (kt : ¬ x = y → V Y p l e R s m args below meth c nL n0 u0 G nn uu Q tgt L rest) (kf : x = y → V Y p l e R s m args below meth c nL n0 u0 G nn uu Q (pc + 3) L rest) : V Y p l e R s m args below meth c nL n0 u0 G nn uu Q pc L (.int y :: .int x :: rest) := fun H locs ls g a b => lv_icmp_ne hC.x hC.b hdg ht (fun z => kt z H locs ls g a b) (fun z => kf z H locs ls g a b)
theorem g_if_lt (hC : CX Y p s m args meth c cc nL own hh n0 u0) {x : Int32} {off : Int} {tgt : Nat} (hdg : decode cc pc = .ok (.ifCond .lt off, 3)) (ht : (pc : Int) + off = (tgt : Int)) (kt : x < 0 → V Y p l e R s m args below meth c nL n0 u0 G nn uu Q tgt L rest) (kf : ¬ x < 0 → V Y p l e R s m args below meth c nL n0 u0 G nn uu Q (pc + 3) L rest) : V Y p l e R s m args below meth c nL n0 u0 G nn uu Q pc L (.int x :: rest) := fun H locs ls g a b => lv_if_lt hC.x hC.b hdg ht (fun z => kt z H locs ls g a b) (fun z => kf z H locs ls g a b)
theorem g_icmp_lt (hC : CX Y p s m args meth c cc nL own hh n0 u0) {x y : Int32} {off : Int} {tgt : Nat} (hdg : decode cc pc = .ok (.if_icmp .lt off, 3)) (ht : (pc : Int) + off = (tgt : Int)) (kt : x < y → V Y p l e R s m args below meth c nL n0 u0 G nn uu Q tgt L rest) (kf : ¬ x < y → V Y p l e R s m args below meth c nL n0 u0 G nn uu Q (pc + 3) L rest) : V Y p l e R s m args below meth c nL n0 u0 G nn uu Q pc L (.int y :: .int x :: rest) := fun H locs ls g a b => lv_icmp_lt hC.x hC.b hdg ht (fun z => kt z H locs ls g a b) (fun z => kf z H locs ls g a b)
theorem g_if_ge (hC : CX Y p s m args meth c cc nL own hh n0 u0) {x : Int32} {off : Int} {tgt : Nat} (hdg : decode cc pc = .ok (.ifCond .ge off, 3)) (ht : (pc : Int) + off = (tgt : Int)) (kt : 0 ≤ x → V Y p l e R s m args below meth c nL n0 u0 G nn uu Q tgt L rest) (kf : ¬ 0 ≤ x → V Y p l e R s m args below meth c nL n0 u0 G nn uu Q (pc + 3) L rest) : V Y p l e R s m args below meth c nL n0 u0 G nn uu Q pc L (.int x :: rest) := fun H locs ls g a b => lv_if_ge hC.x hC.b hdg ht (fun z => kt z H locs ls g a b) (fun z => kf z H locs ls g a b)
theorem g_icmp_ge (hC : CX Y p s m args meth c cc nL own hh n0 u0) {x y : Int32} {off : Int} {tgt : Nat} (hdg : decode cc pc = .ok (.if_icmp .ge off, 3)) (ht : (pc : Int) + off = (tgt : Int)) (kt : y ≤ x → V Y p l e R s m args below meth c nL n0 u0 G nn uu Q tgt L rest) (kf : ¬ y ≤ x → V Y p l e R s m args below meth c nL n0 u0 G nn uu Q (pc + 3) L rest) : V Y p l e R s m args below meth c nL n0 u0 G nn uu Q pc L (.int y :: .int x :: rest) := fun H locs ls g a b => lv_icmp_ge hC.x hC.b hdg ht (fun z => kt z H locs ls g a b) (fun z => kf z H locs ls g a b)
theorem g_if_gt (hC : CX Y p s m args meth c cc nL own hh n0 u0) {x : Int32} {off : Int} {tgt : Nat} (hdg : decode cc pc = .ok (.ifCond .gt off, 3)) (ht : (pc : Int) + off = (tgt : Int)) (kt : 0 < x → V Y p l e R s m args below meth c nL n0 u0 G nn uu Q tgt L rest) (kf : ¬ 0 < x → V Y p l e R s m args below meth c nL n0 u0 G nn uu Q (pc + 3) L rest) : V Y p l e R s m args below meth c nL n0 u0 G nn uu Q pc L (.int x :: rest) := fun H locs ls g a b => lv_if_gt hC.x hC.b hdg ht (fun z => kt z H locs ls g a b) (fun z => kf z H locs ls g a b)
theorem g_icmp_gt (hC : CX Y p s m args meth c cc nL own hh n0 u0) {x y : Int32} {off : Int} {tgt : Nat} (hdg : decode cc pc = .ok (.if_icmp .gt off, 3)) (ht : (pc : Int) + off = (tgt : Int)) (kt : y < x → V Y p l e R s m args below meth c nL n0 u0 G nn uu Q tgt L rest) (kf : ¬ y < x → V Y p l e R s m args below meth c nL n0 u0 G nn uu Q (pc + 3) L rest) : V Y p l e R s m args below meth c nL n0 u0 G nn uu Q pc L (.int y :: .int x :: rest) := fun H locs ls g a b => lv_icmp_gt hC.x hC.b hdg ht (fun z => kt z H locs ls g a b) (fun z => kf z H locs ls g a b)
theorem g_if_le (hC : CX Y p s m args meth c cc nL own hh n0 u0) {x : Int32} {off : Int} {tgt : Nat} (hdg : decode cc pc = .ok (.ifCond .le off, 3)) (ht : (pc : Int) + off = (tgt : Int)) (kt : x ≤ 0 → V Y p l e R s m args below meth c nL n0 u0 G nn uu Q tgt L rest) (kf : ¬ x ≤ 0 → V Y p l e R s m args below meth c nL n0 u0 G nn uu Q (pc + 3) L rest) : V Y p l e R s m args below meth c nL n0 u0 G nn uu Q pc L (.int x :: rest) := fun H locs ls g a b => lv_if_le hC.x hC.b hdg ht (fun z => kt z H locs ls g a b) (fun z => kf z H locs ls g a b)
theorem g_icmp_le (hC : CX Y p s m args meth c cc nL own hh n0 u0) {x y : Int32} {off : Int} {tgt : Nat} (hdg : decode cc pc = .ok (.if_icmp .le off, 3)) (ht : (pc : Int) + off = (tgt : Int)) (kt : x ≤ y → V Y p l e R s m args below meth c nL n0 u0 G nn uu Q tgt L rest) (kf : ¬ x ≤ y → V Y p l e R s m args below meth c nL n0 u0 G nn uu Q (pc + 3) L rest) : V Y p l e R s m args below meth c nL n0 u0 G nn uu Q pc L (.int y :: .int x :: rest) := fun H locs ls g a b => lv_icmp_le hC.x hC.b hdg ht (fun z => kt z H locs ls g a b) (fun z => kf z H locs ls g a b)
theorem g_goto (hC : CX Y p s m args meth c cc nL own hh n0 u0) {off : Int} {tgt : Nat} (hdg : decode cc pc = .ok (.goto off, 3)) (ht : (pc : Int) + off = (tgt : Int)) (k : V Y p l e R s m args below meth c nL n0 u0 G nn uu Q tgt L rest) : V Y p l e R s m args below meth c nL n0 u0 G nn uu Q pc L rest := fun H locs ls g a b => lv_goto hC.x hC.b hdg ht (k H locs ls g a b)
theorem g_ifnonnull (hC : CX Y p s m args meth c cc nL own hh n0 u0) {x : Nat} {off : Int} {tgt : Nat} (hdg : decode cc pc = .ok (.ifnonnull off, 3)) (ht : (pc : Int) + off = (tgt : Int)) (k : V Y p l e R s m args below meth c nL n0 u0 G nn uu Q tgt L rest) : V Y p l e R s m args below meth c nL n0 u0 G nn uu Q pc L (.ref x :: rest) := fun H locs ls g a b => lv_ifnonnull hC.x hC.b hdg ht (k H locs ls g a b)
theorem g_ifnull (hC : CX Y p s m args meth c cc nL own hh n0 u0) {x : Nat} {off : Int} (hdg : decode cc pc = .ok (.ifnull off, 3)) (k : V Y p l e R s m args below meth c nL n0 u0 G nn uu Q (pc + 3) L rest) : V Y p l e R s m args below meth c nL n0 u0 G nn uu Q pc L (.ref x :: rest) := fun H locs ls g a b => lv_ifnull hC.x hC.b hdg (k H locs ls g a b)
theorem g_null (hC : CX Y p s m args meth c cc nL own hh n0 u0) (hdg : decode cc pc = .ok (.aconst_null, 1)) (k : V Y p l e R s m args below meth c nL n0 u0 G nn uu Q (pc + 1) L (.null :: rest)) : V Y p l e R s m args below meth c nL n0 u0 G nn uu Q pc L rest := fun H locs ls g a b => lv_null hC.x hC.b hdg (k H locs ls g a b)
theorem g_ifnullN (hC : CX Y p s m args meth c cc nL own hh n0 u0) {off : Int} {tgt : Nat} (hdg : decode cc pc = .ok (.ifnull off, 3)) (ht : (pc : Int) + off = (tgt : Int)) (k : V Y p l e R s m args below meth c nL n0 u0 G nn uu Q tgt L rest) : V Y p l e R s m args below meth c nL n0 u0 G nn uu Q pc L (.null :: rest) := fun H locs ls g a b => lv_ifnullN hC.x hC.b hdg ht (k H locs ls g a b)
theorem g_ifnonnullN (hC : CX Y p s m args meth c cc nL own hh n0 u0) {off : Int} (hdg : decode cc pc = .ok (.ifnonnull off, 3)) (k : V Y p l e R s m args below meth c nL n0 u0 G nn uu Q (pc + 3) L rest) : V Y p l e R s m args below meth c nL n0 u0 G nn uu Q pc L (.null :: rest) := fun H locs ls g a b => lv_ifnonnullN hC.x hC.b hdg (k H locs ls g a b)
theorem g_aload_nN (hC : CX Y p s m args meth c cc nL own hh n0 u0) {k : Fin 4} {i : Nat} (hdg : decode cc pc = .ok (.aload_n k, 1)) (hi : (k : Nat) = i) (j : Nat) (hl : L[j]? = some (i, (.null))) (k : V Y p l e R s m args below meth c nL n0 u0 G nn uu Q (pc + 1) L (.null :: rest)) : V Y p l e R s m args below meth c nL n0 u0 G nn uu Q pc L (rest) := fun H locs ls g a b => lv_aload_nN hC.x hC.b hdg hi (lv_at b j hl) (k H locs ls g a b)
theorem g_aloadN (hC : CX Y p s m args meth c cc nL own hh n0 u0) {i : Nat} (hdg : decode cc pc = .ok (.aload i, 2)) (j : Nat) (hl : L[j]? = some (i, (.null))) (k : V Y p l e R s m args below meth c nL n0 u0 G nn uu Q (pc + 2) L (.null :: rest)) : V Y p l e R s m args below meth c nL n0 u0 G nn uu Q pc L (rest) := fun H locs ls g a b => lv_aloadN hC.x hC.b hdg (lv_at b j hl) (k H locs ls g a b)
theorem g_astore_nN (hC : CX Y p s m args meth c cc nL own hh n0 u0) {k : Fin 4} {i : Nat} {L' : List (Nat × Value)} (hdg : decode cc pc = .ok (.astore_n k, 1)) (hi : (k : Nat) = i) (hn : i < nL) (hl : (i, Value.null) :: L.filter (fun q => !(q.1 == i) && !(q.1 + 1 == i && q.2.category == 2)) = L') (kk : V Y p l e R s m args below meth c nL n0 u0 G nn uu Q (pc + 1) L' rest) : V Y p l e R s m args below meth c nL n0 u0 G nn uu Q pc L (.null :: rest) := fun H locs ls g a b => lv_astore_nN hC.x hC.b hdg hi b hn hl (fun ls' b' => kk H locs ls' g a b')
theorem g_astoreN (hC : CX Y p s m args meth c cc nL own hh n0 u0) {i : Nat} {L' : List (Nat × Value)} (hdg : decode cc pc = .ok (.astore i, 2)) (hn : i < nL) (hl : (i, Value.null) :: L.filter (fun q => !(q.1 == i) && !(q.1 + 1 == i && q.2.category == 2)) = L') (kk : V Y p l e R s m args below meth c nL n0 u0 G nn uu Q (pc + 2) L' rest) : V Y p l e R s m args below meth c nL n0 u0 G nn uu Q pc L (.null :: rest) := fun H locs ls g a b => lv_astoreN hC.x hC.b hdg b hn hl (fun ls' b' => kk H locs ls' g a b')
theorem g_acmp_eq (hC : CX Y p s m args meth c cc nL own hh n0 u0) {rx ry : Option Nat} {off : Int} {tgt : Nat} (hdg : decode cc pc = .ok (.if_acmp .eq off, 3)) (ht : (pc : Int) + off = (tgt : Int)) (kt : rx = ry → V Y p l e R s m args below meth c nL n0 u0 G nn uu Q tgt L rest) (kf : ¬ rx = ry → V Y p l e R s m args below meth c nL n0 u0 G nn uu Q (pc + 3) L rest) : V Y p l e R s m args below meth c nL n0 u0 G nn uu Q pc L (va_rf ry :: va_rf rx :: rest) := fun H locs ls g a b => lv_acmp_eq hC.x hC.b hdg ht (fun z => kt z H locs ls g a b) (fun z => kf z H locs ls g a b)
theorem g_acmp_ne (hC : CX Y p s m args meth c cc nL own hh n0 u0) {rx ry : Option Nat} {off : Int} {tgt : Nat} (hdg : decode cc pc = .ok (.if_acmp .ne off, 3)) (ht : (pc : Int) + off = (tgt : Int)) (kt : ¬ rx = ry → V Y p l e R s m args below meth c nL n0 u0 G nn uu Q tgt L rest) (kf : rx = ry → V Y p l e R s m args below meth c nL n0 u0 G nn uu Q (pc + 3) L rest) : V Y p l e R s m args below meth c nL n0 u0 G nn uu Q pc L (va_rf ry :: va_rf rx :: rest) := fun H locs ls g a b => lv_acmp_ne hC.x hC.b hdg ht (fun z => kt z H locs ls g a b) (fun z => kf z H locs ls g a b)
theorem g_lookup (hC : CX Y p s m args meth c cc nL own hh n0 u0) {dflt : Int} {ps : Array (Int × Int)} {len : Nat} {x : Int32} {off : Int} {tgt : Nat} (hdg : decode cc pc = .ok (.lookupswitch dflt ps, len)) (hp : (ps.toList.zip (ps.toList.drop 1)).all (fun (a, next) => a.1 < next.1) = true) (ho : Op.lookupswitch.offset ps.toList dflt x.toInt = off) (ht : (pc : Int) + off = (tgt : Int)) (k : V Y p l e R s m args below meth c nL n0 u0 G nn uu Q tgt L rest) : V Y p l e R s m args below meth c nL n0 u0 G nn uu Q pc L (.int x :: rest) := fun H locs ls g a b => lv_lookup hC.x hC.b hdg hp ho ht (k H locs ls g a b)
theorem g_tableOut (hC : CX Y p s m args meth c cc nL own hh n0 u0) {dflt lo hi : Int} {offs : Array Int} {len : Nat} {x : Int32} {tgt : Nat} (hdg : decode cc pc = .ok (.tableswitch dflt lo hi offs, len)) (h : x.toInt < lo ∨ hi < x.toInt) (ht : (pc : Int) + dflt = (tgt : Int)) (k : V Y p l e R s m args below meth c nL n0 u0 G nn uu Q tgt L rest) : V Y p l e R s m args below meth c nL n0 u0 G nn uu Q pc L (.int x :: rest) := fun H locs ls g a b => lv_tableOut hC.x hC.b hdg h ht (k H locs ls g a b)
theorem g_tableIn (hC : CX Y p s m args meth c cc nL own hh n0 u0) {dflt lo hi : Int} {offs : Array Int} {len : Nat} {x : Int32} {off : Int} {tgt : Nat} (hdg : decode cc pc = .ok (.tableswitch dflt lo hi offs, len)) (h1 : ¬ x.toInt < lo) (h2 : ¬ hi < x.toInt) (ho : offs[(x.toInt - lo).toNat]? = some off) (ht : (pc : Int) + off = (tgt : Int)) (k : V Y p l e R s m args below meth c nL n0 u0 G nn uu Q tgt L rest) : V Y p l e R s m args below meth c nL n0 u0 G nn uu Q pc L (.int x :: rest) := fun H locs ls g a b => lv_tableIn hC.x hC.b hdg h1 h2 ho ht (k H locs ls g a b)
theorem g_castN (hC : CX Y p s m args meth c cc nL own hh n0 u0) {index : Nat} (hdg : decode cc pc = .ok (.checkcast index, 3)) (k : V Y p l e R s m args below meth c nL n0 u0 G nn uu Q (pc + 3) L (.null :: rest)) : V Y p l e R s m args below meth c nL n0 u0 G nn uu Q pc L (.null :: rest) := fun H locs ls g a b => lv_castN hC.x hC.b hdg (k H locs ls g a b)
theorem g_instN (hC : CX Y p s m args meth c cc nL own hh n0 u0) {index : Nat} (hdg : decode cc pc = .ok (.instanceof index, 3)) (k : V Y p l e R s m args below meth c nL n0 u0 G nn uu Q (pc + 3) L (.int 0 :: rest)) : V Y p l e R s m args below meth c nL n0 u0 G nn uu Q pc L (.null :: rest) := fun H locs ls g a b => lv_instN hC.x hC.b hdg (k H locs ls g a b)
theorem g_ldc (hC : CX Y p s m args meth c cc nL own hh n0 u0) {index : Nat} {v : Int32} (hconst : Jvm.Cond.constant own index v ∈ lw_all) (hdg : decode cc pc = .ok (.ldc index, 2)) (k : V Y p l e R s m args below meth c nL n0 u0 G nn uu Q (pc + 2) L (.int v :: rest)) : V Y p l e R s m args below meth c nL n0 u0 G nn uu Q pc L rest := fun H locs ls g a b => lv_ldc hC.x hC.b hC.own (hC.ts _ hconst) hdg (k H locs ls g a b)
theorem g_ldc2 (hC : CX Y p s m args meth c cc nL own hh n0 u0) {index : Nat} {v : Int64} (hconst : Jvm.Cond.constantLong own index v ∈ lw_all) (hdg : decode cc pc = .ok (.ldc2_w index, 3)) (k : V Y p l e R s m args below meth c nL n0 u0 G nn uu Q (pc + 3) L (.long v :: rest)) : V Y p l e R s m args below meth c nL n0 u0 G nn uu Q pc L rest := fun H locs ls g a b => lv_ldc2 hC.x hC.b hC.own (hC.ts _ hconst) hdg (k H locs ls g a b)
theorem g_lcmp (hC : CX Y p s m args meth c cc nL own hh n0 u0) {x y : Int64} (hdg : decode cc pc = .ok (.lcmp, 1)) (k : V Y p l e R s m args below meth c nL n0 u0 G nn uu Q (pc + 1) L (.int (lg_cmp x y) :: rest)) : V Y p l e R s m args below meth c nL n0 u0 G nn uu Q pc L (.long y :: .long x :: rest) := fun H locs ls g a b => W.lcmp hC.x hC.b hdg (k H locs ls g a b)
theorem g_nm {x : Int32} (k : ∀ y : Int32, y = x → V Y p l e R s m args below meth c nL n0 u0 G nn uu Q pc L (.int y :: rest)) : V Y p l e R s m args below meth c nL n0 u0 G nn uu Q pc L (.int x :: rest) := k x rfl
theorem g_nml {x : Int64} (k : ∀ y : Int64, y = x → V Y p l e R s m args below meth c nL n0 u0 G nn uu Q pc L (.long y :: rest)) : V Y p l e R s m args below meth c nL n0 u0 G nn uu Q pc L (.long x :: rest) := k x rfl
theorem V.sub {L' : List (Nat × Value)} (ks : List Nat) (hl : lv_pick L ks = L') (k : V Y p l e R s m args below meth c nL n0 u0 G nn uu Q pc L' rest) : V Y p l e R s m args below meth c nL n0 u0 G nn uu Q pc L rest := fun H locs ls g a b => k H locs ls g a (lv_sub b ks hl)
theorem V.to {G' : AH} {n' u' pc' : Nat} {L' : List (Nat × Value)} {st' : List Value} (h1 : G = G') (h2 : nn = n') (h3 : uu = u') (h4 : L = L') (h5 : rest = st') (h6 : pc = pc') (k : V Y p l e R s m args below meth c nL n0 u0 G' n' u' Q pc' L' st') : V Y p l e R s m args below meth c nL n0 u0 G nn uu Q pc L rest := by
  subst h1 h2 h3 h4 h5 h6; exact k
/-- what stands of the heap may be told by fewer cells -/
theorem V.less {G' : AH} (h : ∀ a e, G' a = some e → G a = some e) (k : V Y p l e R s m args below meth c nL n0 u0 G' nn uu Q pc L rest) : V Y p l e R s m args below meth c nL n0 u0 G nn uu Q pc L rest := fun H locs ls g a b => k H locs ls ⟨fun x e q => g.1 x e (h x e q), g.2⟩ a b
theorem V.sizes (hC : CX Y p s m args meth c cc nL own hh n0 u0) (k : n0 ≤ nn → u0 ≤ uu → V Y p l e R s m args below meth c nL n0 u0 G nn uu Q pc L rest) : V Y p l e R s m args below meth c nL n0 u0 G nn uu Q pc L rest := fun H locs ls g a b T hT X => by
  have h := stand_sizes X
  rw [hT, g.2.1, g.2.2, hC.n, hC.u] at h
  exact k h.1 h.2.2.1 H locs ls g a b T hT X

/-! heap rows -/
theorem GH.lt {a : Nat} {ex : va_E} {H : Heap} (h : GH Y G nn uu H) (hg : G a = some ex) : a < nn := by
  rw [← h.2.1]; exact (h.1 a ex hg).lt
theorem GH.put {a : Nat} {ex' : va_E} {H H1 : Heap} {cell cell' : Cell} (h : GH Y G nn uu H) (h0 : H[a]? = some cell) (h1 : H1[a]? = some cell') (h2 : cell'.slots.size = cell.slots.size) (hs : H1.size = H.size) (ho : ∀ q, q ≠ a → H1[q]? = H[q]?) (he : va_at (yD Y) clA (a, ex') H1) : GH Y (gU G a ex') nn uu H1 := by
  refine ⟨fun b eb hb => ?_, hs.trans h.2.1, (hu_put h0 h1 h2 ho).trans h.2.2⟩
  by_cases hba : b = a
  · subst hba
    rw [gU_s] at hb
    cases hb
    exact Or.inl he
  · rw [gU_n _ hba] at hb
    exact (h.1 b eb hb).kept (ho b hba)
theorem GH.push {ex : va_E} {H H1 : Heap} {cell : Cell} {k : Nat} (h : GH Y G nn uu H) (h1 : H1[nn]? = some cell) (h2 : cell.slots.size = k) (hs : H1.size = nn + 1) (ho : ∀ q, q < nn → H1[q]? = H[q]?) (he : va_at (yD Y) clA (nn, ex) H1) : GH Y (gU G nn ex) (nn + 1) (uu + k) H1 := by
  refine ⟨fun b eb hb => ?_, hs, (hu_push h.2.1 hs h1 ho).trans (by rw [h.2.2, h2])⟩
  by_cases hba : b = nn
  · subst hba
    rw [gU_s] at hb
    cases hb
    exact Or.inl he
  · rw [gU_n _ hba] at hb
    exact (h.1 b eb hb).kept (ho b (h.lt hb))
theorem va_S.grow {A : Nat → Prop} {H0 H H1 : Heap} {locs : List Loc} (hS : va_S A H0 H locs) (hz : H.size ≤ H1.size) (ho : ∀ q, q < H.size → H1[q]? = H[q]?) : va_S A H0 H1 locs :=
  ⟨Nat.le_trans hS.1 hz, fun q h1 h2 => (ho q (Nat.lt_of_lt_of_le h1 hS.1)).trans (hS.2.1 q h1 h2), hS.2.2⟩
theorem gk_get {H : Heap} {locs : List Loc} {cells slots : Nat} {ls : Array Slot} (hC : CX Y p s m args meth c cc nL own hh n0 u0) {C ref : String} {T : u_T} {N ci index : Nat} {ty : Nat → FieldType} (kc : KCl ci C T N ty) {a : Nat} {fs : List Value} (hg : gAt Y a (.inr (ci, fs)) H) (k : Nat) (hk : k < N) (hlink : (Cond.fieldLink own index ref (T k).2.1 (T k).2.2.1).before args s = true) (hsame : ∀ x, s.fieldFound? (T k).1 (T k).2.1 (T k).2.2.1 = some x → s.fieldFound? ref (T k).2.1 (T k).2.2.1 = some x) {v : Value} (hv : fs[k]? = some v) (hdg : decode cc pc = .ok (.getfield index, 3))
    (kk : W p l e R s m args below meth c H locs cells slots Q (F0 m (pc + 3) ls (v :: rest))) : W p l e R s m args below meth c H locs cells slots Q (F0 m pc ls (.ref a :: rest)) := by
  obtain ⟨r, h1, cell, q1, q2, q3, q5, q4⟩ := hg.ob
  have hr : r = (C, T, N) := Option.some.inj (h1.symm.trans kc.1)
  subst hr
  obtain ⟨hS, hfc, kC, hkC, hkind⟩ := hC.K.1.1 ci _ kc.1
  obtain ⟨cf, kf, fi, f, hi, hsl⟩ := hS k hk
  refine W.getf hC.x hC.b hC.own hlink (hsame _ hi) (u_facts hfc hkC (u_lays hC.ts kc.2.1 hk) hi).1 q1 q5 (v := v) ?_ rfl rfl hdg kk
  rw [hsl, q4 k hk]
  simp [vp_V, hv]
theorem g_get (hC : CX Y p s m args meth c cc nL own hh n0 u0) {C : String} {T : u_T} {N ci index : Nat} {ty : Nat → FieldType} (kc : KCl ci C T N ty) {a : Nat} {fs : List Value} (hg : G a = some (.inr (ci, fs))) (k : Nat) (hk : k < N) (hlink : Cond.fieldLink own index (T k).1 (T k).2.1 (T k).2.2.1 ∈ lw_all) {v : Value} (hv : fs[k]? = some v) (hdg : decode cc pc = .ok (.getfield index, 3))
    (kk : V Y p l e R s m args below meth c nL n0 u0 G nn uu Q (pc + 3) L (v :: rest)) : V Y p l e R s m args below meth c nL n0 u0 G nn uu Q pc L (.ref a :: rest) := fun H locs ls g aS b =>
  gk_get hC kc (g.1 _ _ hg) k hk (hC.ts _ hlink) (fun _ h => h) hv hdg (kk H locs ls g aS b)
/-- an inherited field under the class's own name -/
theorem g_getS (hC : CX Y p s m args meth c cc nL own hh n0 u0) {C ref : String} {T : u_T} {N ci index : Nat} {ty : Nat → FieldType} (kc : KCl ci C T N ty) {a : Nat} {fs : List Value} (hg : G a = some (.inr (ci, fs))) (k : Nat) (hk : k < N) (hlink : Cond.fieldLink own index ref (T k).2.1 (T k).2.2.1 ∈ lw_all) (hsame : Cond.sameField ref (T k).1 (T k).2.1 (T k).2.2.1 ∈ lw_all) {v : Value} (hv : fs[k]? = some v) (hdg : decode cc pc = .ok (.getfield index, 3))
    (kk : V Y p l e R s m args below meth c nL n0 u0 G nn uu Q (pc + 3) L (v :: rest)) : V Y p l e R s m args below meth c nL n0 u0 G nn uu Q pc L (.ref a :: rest) := fun H locs ls g aS b =>
  gk_get hC kc (g.1 _ _ hg) k hk (hC.ts _ hlink) (u_same (hC.ts _ hsame)) hv hdg (kk H locs ls g aS b)
theorem g_putG (hC : CX Y p s m args meth c cc nL own hh n0 u0) {C ref : String} {T : u_T} {N ci index : Nat} {ty : Nat → FieldType} (kc : KCl ci C T N ty) {a : Nat} {fs fs' : List Value} (hg : G a = some (.inr (ci, fs))) (k : Nat) (hk : k < N) (hlink : Cond.fieldLink own index ref (T k).2.1 (T k).2.2.1 ∈ lw_all) (hsame : ∀ x, s.fieldFound? (T k).1 (T k).2.1 (T k).2.2.1 = some x → s.fieldFound? ref (T k).2.1 (T k).2.2.1 = some x) (hfin : (T k).2.2.2 = false) {v : Value} (hn : narrow (ty k) v = v) (hfit : fits (ty k) v = true) (hl : k < fs.length) (hfs : fs.set k v = fs') (hz : yz Y ≤ a) {G' : AH} (hG : gU G a (.inr (ci, fs')) = G') (hdg : decode cc pc = .ok (.putfield index, 3))
    (kk : V Y p l e R s m args below meth c nL n0 u0 G' nn uu Q (pc + 3) L rest) : V Y p l e R s m args below meth c nL n0 u0 G nn uu Q pc L (v :: .ref a :: rest) := by
  intro H locs ls g aS b
  subst hfs hG
  have hK := hC.K.1
  have hts := hC.ts
  have hap := va_apart (own := own) hts kc.2.1 ty kc.2.2.1 kc.2.2.2 hK kc.1
  obtain ⟨r, h1, cell, q1, q2, q3, q4⟩ := (g.1 a _ hg).st hz
  have hr : r = (C, T, N) := Option.some.inj (h1.symm.trans kc.1)
  subst hr
  obtain ⟨hS, hfc, kC, hkC, hkind⟩ := hK.1 ci _ kc.1
  obtain ⟨cf, kf, fi, f, hi, hsl⟩ := hS k hk
  have hlay := hts _ (kc.2.1 _ (u_in_lay hk))
  unfold u_lay at hlay
  rw [if_neg (by rw [hfin]; decide)] at hlay
  have hst := (u_facts hfc hkC (u_lays hts kc.2.1 hk) hi).1
  have h6 := u_store hfc hkC hkind hlay hi (kc.2.2.1 k hk) hn hfit
  refine W.putK hC.x hC.b (f := f) ⟨hC.own, hts _ hlink, ⟨_, _, _, hsame _ hi⟩, hst⟩ (by rw [q2]; exact h6) q1 q3 (by rw [hsl]; exact k2_hasslot (q4 k hk)) rfl rfl hdg fun H' e1 e2 e3 => ?_
  rw [hsl] at e1 ⊢
  refine kk H' _ ls (g.put q1 e1 (k2_slotsz _ _ _) e2 e3 ⟨_, kc.1, t_OB.to (V := updV (vp_V fs) k v) ⟨_, e1, q2, q3, t_set q4 hap hk v⟩ (fun j _ => vp_updV_set hl v j)⟩) (aS.put e2 e3 hz) b
theorem g_put (hC : CX Y p s m args meth c cc nL own hh n0 u0) {C : String} {T : u_T} {N ci index : Nat} {ty : Nat → FieldType} (kc : KCl ci C T N ty) {a : Nat} {fs fs' : List Value} (hg : G a = some (.inr (ci, fs))) (k : Nat) (hk : k < N) (hlink : Cond.fieldLink own index (T k).1 (T k).2.1 (T k).2.2.1 ∈ lw_all) (hfin : (T k).2.2.2 = false) {v : Value} (hn : narrow (ty k) v = v) (hfit : fits (ty k) v = true) (hl : k < fs.length) (hfs : fs.set k v = fs') (hz : yz Y ≤ a) {G' : AH} (hG : gU G a (.inr (ci, fs')) = G') (hdg : decode cc pc = .ok (.putfield index, 3))
    (kk : V Y p l e R s m args below meth c nL n0 u0 G' nn uu Q (pc + 3) L rest) : V Y p l e R s m args below meth c nL n0 u0 G nn uu Q pc L (v :: .ref a :: rest) :=
  g_putG hC kc hg k hk hlink (fun _ h => h) hfin hn hfit hl hfs hz hG hdg kk
theorem g_putF (hC : CX Y p s m args meth c cc nL own hh n0 u0) (hin2 : meth.name = "<init>") {C : String} {T : u_T} {N ci index : Nat} {ty : Nat → FieldType} (kc : KCl ci C T N ty) {a : Nat} {fs fs' : List Value} (hg : G a = some (.inr (ci, fs))) (k : Nat) (hk : k < N) (hlink : Cond.fieldLink own index (T k).1 (T k).2.1 (T k).2.2.1 ∈ lw_all) (hfin : (T k).2.2.2 = true) (hdecl : (T k).1 = own) {v : Value} (hn : narrow (ty k) v = v) (hfit : fits (ty k) v = true) (hl : k < fs.length) (hfs : fs.set k v = fs') (hz : yz Y ≤ a) {G' : AH} (hG : gU G a (.inr (ci, fs')) = G') (hdg : decode cc pc = .ok (.putfield index, 3))
    (kk : V Y p l e R s m args below meth c nL n0 u0 G' nn uu Q (pc + 3) L rest) : V Y p l e R s m args below meth c nL n0 u0 G nn uu Q pc L (v :: .ref a :: rest) := by
  intro H locs ls g aS b
  subst hfs hG
  have hK := hC.K.1
  have hts := hC.ts
  have hap := va_apart (own := own) hts kc.2.1 ty kc.2.2.1 kc.2.2.2 hK kc.1
  obtain ⟨r, h1, cell, q1, q2, q3, q4⟩ := (g.1 a _ hg).st hz
  have hr : r = (C, T, N) := Option.some.inj (h1.symm.trans kc.1)
  subst hr
  obtain ⟨hS, hfc, kC, hkC, hkind⟩ := hK.1 ci _ kc.1
  obtain ⟨cf, kf, fi, f, hi, hsl⟩ := hS k hk
  have hlay := hts _ (kc.2.1 _ (u_in_lay hk))
  unfold u_lay at hlay
  rw [if_pos hfin] at hlay
  have hst := (u_facts hfc hkC (u_lays hts kc.2.1 hk) hi).1
  have hcf : m.cls = cf := by
    obtain ⟨_, _, c', _, _, _, -, -, hf', -, -, -, hown2, -⟩ := Cond.laysFinal_spec hlay
    have e1 : c' = cf := by have := hi.symm.trans hf'; simp at this; exact this.1.symm
    rw [hdecl] at hown2
    rw [← e1]; exact Option.some.inj (hC.own.symm.trans hown2)
  have h6 := u_fits hfc hkC hkind (Or.inr hlay) hi (kc.2.2.1 k hk) hn hfit
  refine W.putFinK hC.x hC.b hC.own (hts _ hlink) hi hst hcf hin2 (by rw [q2]; exact h6) q1 q3 (by rw [hsl]; exact k2_hasslot (q4 k hk)) rfl rfl hdg fun H' e1 e2 e3 => ?_
  rw [hsl] at e1 ⊢
  refine kk H' _ ls (g.put q1 e1 (k2_slotsz _ _ _) e2 e3 ⟨_, kc.1, t_OB.to (V := updV (vp_V fs) k v) ⟨_, e1, q2, q3, t_set q4 hap hk v⟩ (fun j _ => vp_updV_set hl v j)⟩) (aS.put e2 e3 hz) b
theorem g_new (hC : CX Y p s m args meth c cc nL own hh n0 u0) {C : String} {T : u_T} {N ci index nS : Nat} {ty : Nat → FieldType} (kc : KCl ci C T N ty) (hcl : Cond.classLink own index C ∈ lw_all) (hinst : Cond.instantiable C nS ∈ lw_all) (hini : Cond.initialized C ∈ lw_all) {fs : List Value} (hfs : (List.range N).map (fun j => defaultValue (ty j)) = fs) {G' : AH} (hG : gU G nn (.inr (ci, fs)) = G') (hrc : nn + 1 ≤ n0 + R.cells) (hru : uu + nS ≤ u0 + R.slots) (hdg : decode cc pc = .ok (.new index, 3))
    (kk : V Y p l e R s m args below meth c nL n0 u0 G' (nn + 1) (uu + nS) Q (pc + 3) L (.ref nn :: rest)) : V Y p l e R s m args below meth c nL n0 u0 G nn uu Q pc L rest := by
  refine V.sizes hC fun hn0 hu0 => ?_
  intro H locs ls g aS b
  subst hG
  have hK := hC.K.1
  have hts := hC.ts
  have hKn := hK.1 ci _ kc.1
  refine W.newcK hC.x hC.b hC.own (hts _ hcl) (hts _ hinst) (hts _ hini) rfl hdg (by omega) (by omega) hKn.2.1 g.2.1 fun H1 kC hkC e1 z1 o1 => ?_
  have hsz : (blank (( yD Y).1 ci) kC).slots.size = nS := by
    obtain ⟨cC, kC', hfc, hk, hkind, -, hsz⟩ := Cond.instantiable_spec (hts _ hinst)
    have e9 : cC = (yD Y).1 ci := Option.some.inj (hfc.symm.trans hKn.2.1)
    subst e9
    cases hk.symm.trans hkC
    show (kC.instanceTypes.map defaultValue).size = nS
    rw [Array.size_map]; first | exact hsz | exact hsz.1 | exact hsz.2
  have hob : va_at (yD Y) clA (nn, .inr (ci, fs)) H1 := ⟨_, kc.1, (u_born ty hts kc.2.1 hKn hkC e1 kc.2.2.1).to (fun j hj => by
    rw [← hfs]
    simp [vp_V, hj])⟩
  refine W_tight (n := nn + 1) (u := uu + nS) z1 (g.push e1 hsz z1 o1 hob).2.2 hC.n hC.u ?_
  exact kk H1 locs ls (g.push e1 hsz z1 o1 hob) (aS.grow (by rw [g.2.1, z1]; omega) (by rw [g.2.1]; exact o1)) b
theorem aty {i : Nat} {q : ClassId × FieldType} {s : State} (h : KK Y s) (hi : (tyA (yA Y))[i]? = some q) : ArrOfT s q.1 q.2 := (h.1.2 i q hi).1
theorem g_newa (hC : CX Y p s m args meth c cc nL own hh n0 u0) {atype : ArrayType} (t0 : Nat) {cA : ClassId} {ty : FieldType} (ht : (tyA (yA Y))[t0]? = some (cA, ty)) (hty : newarray.typeOf atype = ty) (hRA : va_RA s cA ty = (s.vm.findClass ("[" ++ ty.toString) = some cA)) (harr : Cond.arrayClass (newarray.typeOf atype) ∈ lw_all) {k : Int32} {N : Nat} {a0 : vp_A} (ha : ∀ cA : ClassId, vp_cell cA a0 = arrV cA N (fun _ => defaultValue ty)) (hn : ¬ k < 0) (hN : k.toNatClampNeg = N) (hbytes : N * componentBytes ty ≤ 536870912) {G' : AH} (hG : gU G nn (.inl (cA, a0)) = G') (hrc : nn + 1 ≤ n0 + R.cells) (hru : uu + N ≤ u0 + R.slots) (hdg : decode cc pc = .ok (.newarray atype, 2))
    (kk : V Y p l e R s m args below meth c nL n0 u0 G' (nn + 1) (uu + N) Q (pc + 2) L (.ref nn :: rest)) : V Y p l e R s m args below meth c nL n0 u0 G nn uu Q pc L (.int k :: rest) := by
  refine V.sizes hC fun hn0 hu0 => ?_
  intro H locs ls g aS b
  subst hG hty
  refine va_newaK hC.x hC.b (hC.ts _ harr) rfl hdg rfl hn hN hbytes (by omega) (by omega) g.2.1 fun H1 cA' e1 z1 o1 _ hnm => ?_
  have hR := (hC.K.1.2 t0 _ ht).2
  dsimp only at hR
  rw [hRA] at hR
  have e9 : cA' = cA := Option.some.inj (hnm.symm.trans hR)
  subst e9
  have hob : va_at (yD Y) clA (nn, .inl (cA', a0)) H1 := by show H1[nn]? = some (vp_cell _ _); rw [ha]; exact e1
  have hp := g.push (k := N) e1 (arrV_size _ _ _) z1 o1 hob
  refine W_tight (n := nn + 1) (u := uu + N) z1 hp.2.2 hC.n hC.u ?_
  exact kk H1 locs ls hp (aS.grow (by rw [g.2.1, z1]; omega) (by rw [g.2.1]; exact o1)) b
theorem gk_alen {H : Heap} {locs : List Loc} {cells slots : Nat} {ls : Array Slot} (hC : CX Y p s m args meth c cc nL own hh n0 u0) {a t0 : Nat} {cA : ClassId} {x : vp_A} (hg : gAt Y a (.inl (cA, x)) H) {ty : FieldType} (ht : (tyA (yA Y))[t0]? = some (cA, ty)) {v : Int32} (hv : Int32.ofNat x.1 = v) (hdg : decode cc pc = .ok (.arraylength, 1))
    (kk : W p l e R s m args below meth c H locs cells slots Q (F0 m (pc + 1) ls (.int v :: rest))) : W p l e R s m args below meth c H locs cells slots Q (F0 m pc ls (.ref a :: rest)) := by
  subst hv
  obtain ⟨cell, q1, q2, q3, q4, q5, -⟩ := hg.ar
  obtain ⟨n, f | f | f | f | f⟩ := x
  · exact W.alen (n := Int32.ofNat n) hC.x hC.b q1 (arr_of_cls ((hC.K.1.2 t0 _ ht).1 n (fun j => .int (f j))) q2 q3) (by rw [q5, vp_cell_i, arrV_size] <;> rfl) rfl rfl hdg kk
  · exact W.alen (n := Int32.ofNat n) hC.x hC.b q1 (arr_of_cls ((hC.K.1.2 t0 _ ht).1 n (fun j => .long (f j))) q2 q3) (by rw [q5, vp_cell_l, arrV_size] <;> rfl) rfl rfl hdg kk
  · exact W.alen (n := Int32.ofNat n) hC.x hC.b q1 (arr_of_cls ((hC.K.1.2 t0 _ ht).1 n (fun j => .float (f j))) q2 q3) (by rw [q5, vp_cell_f, arrV_size] <;> rfl) rfl rfl hdg kk
  · exact W.alen (n := Int32.ofNat n) hC.x hC.b q1 (arr_of_cls ((hC.K.1.2 t0 _ ht).1 n (fun j => .double (f j))) q2 q3) (by rw [q5, vp_cell_d, arrV_size] <;> rfl) rfl rfl hdg kk
  · exact W.alen (n := Int32.ofNat n) hC.x hC.b q1 (arr_of_cls ((hC.K.1.2 t0 _ ht).1 n (fun j => va_rf (f j))) q2 q3) (by rw [q5, vp_cell_q, arrV_size] <;> rfl) rfl rfl hdg kk
theorem g_alen (hC : CX Y p s m args meth c cc nL own hh n0 u0) {a t0 : Nat} {cA : ClassId} {x : vp_A} (hg : G a = some (.inl (cA, x))) {ty : FieldType} (ht : (tyA (yA Y))[t0]? = some (cA, ty)) {v : Int32} (hv : Int32.ofNat x.1 = v) (hdg : decode cc pc = .ok (.arraylength, 1))
    (kk : V Y p l e R s m args below meth c nL n0 u0 G nn uu Q (pc + 1) L (.int v :: rest)) : V Y p l e R s m args below meth c nL n0 u0 G nn uu Q pc L (.ref a :: rest) := fun H locs ls g aS b =>
  gk_alen hC (g.1 _ _ hg) ht hv hdg (kk H locs ls g aS b)
theorem g_iald (hC : CX Y p s m args meth c cc nL own hh n0 u0) {a N : Nat} {f : Nat → Int32} (hg : G a = some (.inl (yA Y 0, N, .inl f))) {i : Int32} (hin : vp_in i N) (hdg : decode cc pc = .ok (.iaload, 1))
    (kk : V Y p l e R s m args below meth c nL n0 u0 G nn uu Q (pc + 1) L (.int (f i.toNatClampNeg) :: rest)) : V Y p l e R s m args below meth c nL n0 u0 G nn uu Q pc L (.int i :: .ref a :: rest) := fun H locs ls g aS b => by
  obtain ⟨cell, q1, q2, q3, q4, q5, -⟩ := (g.1 _ _ hg).ar
  have hlt : i.toNatClampNeg < N := Nat.not_le.mp fun q => hin (Or.inr q)
  exact W.iald (v := .int (f i.toNatClampNeg)) hC.x hC.b q1 (arr_of_cls ((hC.K.1.2 0 _ rfl).1 N (fun j => .int (f j))) q2 q3) q4 (by rw [q5]; show ¬ (i < 0 ∨ (arrV _ _ _).slots.size ≤ _); rw [arrV_size]; exact hin) (by rw [q5]; show (arrV _ _ _).slots[_]? = _; rw [arrV_read _ _ hlt]) rfl rfl hdg (kk H locs ls g aS b)
theorem g_bald (hC : CX Y p s m args meth c cc nL own hh n0 u0) {a N : Nat} {f : Nat → Int32} (hg : G a = some (.inl (yA Y 2, N, .inl f))) {i : Int32} (hin : vp_in i N) (hdg : decode cc pc = .ok (.baload, 1))
    (kk : V Y p l e R s m args below meth c nL n0 u0 G nn uu Q (pc + 1) L (.int (f i.toNatClampNeg) :: rest)) : V Y p l e R s m args below meth c nL n0 u0 G nn uu Q pc L (.int i :: .ref a :: rest) := fun H locs ls g aS b => by
  obtain ⟨cell, q1, q2, q3, q4, q5, -⟩ := (g.1 _ _ hg).ar
  have hlt : i.toNatClampNeg < N := Nat.not_le.mp fun q => hin (Or.inr q)
  exact W.bald (v := .int (f i.toNatClampNeg)) hC.x hC.b q1 (arr_of_cls ((hC.K.1.2 2 _ rfl).1 N (fun j => .int (f j))) q2 q3) q4 (by rw [q5]; show ¬ (i < 0 ∨ (arrV _ _ _).slots.size ≤ _); rw [arrV_size]; exact hin) (by rw [q5]; show (arrV _ _ _).slots[_]? = _; rw [arrV_read _ _ hlt]) rfl rfl hdg (kk H locs ls g aS b)
theorem g_zald (hC : CX Y p s m args meth c cc nL own hh n0 u0) {a N : Nat} {f : Nat → Int32} (hg : G a = some (.inl (yA Y 5, N, .inl f))) {i : Int32} (hin : vp_in i N) (hdg : decode cc pc = .ok (.baload, 1))
    (kk : V Y p l e R s m args below meth c nL n0 u0 G nn uu Q (pc + 1) L (.int (f i.toNatClampNeg) :: rest)) : V Y p l e R s m args below meth c nL n0 u0 G nn uu Q pc L (.int i :: .ref a :: rest) := fun H locs ls g aS b => by
  obtain ⟨cell, q1, q2, q3, q4, q5, -⟩ := (g.1 _ _ hg).ar
  have hlt : i.toNatClampNeg < N := Nat.not_le.mp fun q => hin (Or.inr q)
  exact W.zald (v := .int (f i.toNatClampNeg)) hC.x hC.b q1 (arr_of_cls ((hC.K.1.2 5 _ rfl).1 N (fun j => .int (f j))) q2 q3) q4 (by rw [q5]; show ¬ (i < 0 ∨ (arrV _ _ _).slots.size ≤ _); rw [arrV_size]; exact hin) (by rw [q5]; show (arrV _ _ _).slots[_]? = _; rw [arrV_read _ _ hlt]) rfl rfl hdg (kk H locs ls g aS b)
theorem g_cald (hC : CX Y p s m args meth c cc nL own hh n0 u0) {a N : Nat} {f : Nat → Int32} (hg : G a = some (.inl (yA Y 4, N, .inl f))) {i : Int32} (hin : vp_in i N) (hdg : decode cc pc = .ok (.caload, 1))
    (kk : V Y p l e R s m args below meth c nL n0 u0 G nn uu Q (pc + 1) L (.int (f i.toNatClampNeg) :: rest)) : V Y p l e R s m args below meth c nL n0 u0 G nn uu Q pc L (.int i :: .ref a :: rest) := fun H locs ls g aS b => by
  obtain ⟨cell, q1, q2, q3, q4, q5, -⟩ := (g.1 _ _ hg).ar
  have hlt : i.toNatClampNeg < N := Nat.not_le.mp fun q => hin (Or.inr q)
  exact W.cald (v := .int (f i.toNatClampNeg)) hC.x hC.b q1 (arr_of_cls ((hC.K.1.2 4 _ rfl).1 N (fun j => .int (f j))) q2 q3) q4 (by rw [q5]; show ¬ (i < 0 ∨ (arrV _ _ _).slots.size ≤ _); rw [arrV_size]; exact hin) (by rw [q5]; show (arrV _ _ _).slots[_]? = _; rw [arrV_read _ _ hlt]) rfl rfl hdg (kk H locs ls g aS b)
theorem g_sald (hC : CX Y p s m args meth c cc nL own hh n0 u0) {a N : Nat} {f : Nat → Int32} (hg : G a = some (.inl (yA Y 3, N, .inl f))) {i : Int32} (hin : vp_in i N) (hdg : decode cc pc = .ok (.saload, 1))
    (kk : V Y p l e R s m args below meth c nL n0 u0 G nn uu Q (pc + 1) L (.int (f i.toNatClampNeg) :: rest)) : V Y p l e R s m args below meth c nL n0 u0 G nn uu Q pc L (.int i :: .ref a :: rest) := fun H locs ls g aS b => by
  obtain ⟨cell, q1, q2, q3, q4, q5, -⟩ := (g.1 _ _ hg).ar
  have hlt : i.toNatClampNeg < N := Nat.not_le.mp fun q => hin (Or.inr q)
  exact W.sald (v := .int (f i.toNatClampNeg)) hC.x hC.b q1 (arr_of_cls ((hC.K.1.2 3 _ rfl).1 N (fun j => .int (f j))) q2 q3) q4 (by rw [q5]; show ¬ (i < 0 ∨ (arrV _ _ _).slots.size ≤ _); rw [arrV_size]; exact hin) (by rw [q5]; show (arrV _ _ _).slots[_]? = _; rw [arrV_read _ _ hlt]) rfl rfl hdg (kk H locs ls g aS b)
theorem g_lald (hC : CX Y p s m args meth c cc nL own hh n0 u0) {a N : Nat} {f : Nat → Int64} (hg : G a = some (.inl (yA Y 1, N, .inr (.inl f)))) {i : Int32} (hin : vp_in i N) (hdg : decode cc pc = .ok (.laload, 1))
    (kk : V Y p l e R s m args below meth c nL n0 u0 G nn uu Q (pc + 1) L (.long (f i.toNatClampNeg) :: rest)) : V Y p l e R s m args below meth c nL n0 u0 G nn uu Q pc L (.int i :: .ref a :: rest) := fun H locs ls g aS b => by
  obtain ⟨cell, q1, q2, q3, q4, q5, -⟩ := (g.1 _ _ hg).ar
  have hlt : i.toNatClampNeg < N := Nat.not_le.mp fun q => hin (Or.inr q)
  exact W.lald (v := .long (f i.toNatClampNeg)) hC.x hC.b q1 (arr_of_cls ((hC.K.1.2 1 _ rfl).1 N (fun j => .long (f j))) q2 q3) q4 (by rw [q5]; show ¬ (i < 0 ∨ (arrV _ _ _).slots.size ≤ _); rw [arrV_size]; exact hin) (by rw [q5]; show (arrV _ _ _).slots[_]? = _; rw [arrV_read _ _ hlt]) rfl rfl hdg (kk H locs ls g aS b)
theorem g_iast (hC : CX Y p s m args meth c cc nL own hh n0 u0) {a N : Nat} {f f' : Nat → Int32} (hg : G a = some (.inl (yA Y 0, N, .inl f))) {i : Int32} {x : Int32} (hin : vp_in i N) (hz : yz Y ≤ a) (hf : upd f i.toNatClampNeg x = f') {G' : AH} (hG : gU G a (.inl (yA Y 0, N, .inl f')) = G') (hdg : decode cc pc = .ok (.iastore, 1))
    (kk : V Y p l e R s m args below meth c nL n0 u0 G' nn uu Q (pc + 1) L rest) : V Y p l e R s m args below meth c nL n0 u0 G nn uu Q pc L (.int x :: .int i :: .ref a :: rest) := by
  intro H locs ls g aS b
  subst hf hG
  have hcell : H[a]? = some (vp_cell (yA Y 0) (N, .inl f)) := (g.1 a _ hg).st hz
  refine W.iast hC.x hC.b hcell ((hC.K.1.2 0 _ rfl).1 N (fun j => .int (f j))) (fun q => by cases q) (by show ¬ (i < 0 ∨ (arrV _ _ _).slots.size ≤ _); rw [arrV_size]; exact hin) rfl rfl hdg fun H1 e1 z1 oq => ?_
  refine kk H1 _ ls (g.put hcell e1 (k2_slotsz _ _ _) z1 oq ?_) (aS.put z1 oq hz) b
  show H1[a]? = some (vp_cell _ _)
  rw [e1]
  rw [vp_cell_i, vp_cell_i, arrV_store]
  congr 2
  funext q
  by_cases hq : q = i.toNatClampNeg
  · subst hq
    simp [updV, upd]
    try rfl
  · simp [updV, upd, hq]
theorem g_bast (hC : CX Y p s m args meth c cc nL own hh n0 u0) {a N : Nat} {f f' : Nat → Int32} (hg : G a = some (.inl (yA Y 2, N, .inl f))) {i : Int32} {x : Int32} (hin : vp_in i N) (hz : yz Y ≤ a) (hf : upd f i.toNatClampNeg (vp_nar .byte x) = f') {G' : AH} (hG : gU G a (.inl (yA Y 2, N, .inl f')) = G') (hdg : decode cc pc = .ok (.bastore, 1))
    (kk : V Y p l e R s m args below meth c nL n0 u0 G' nn uu Q (pc + 1) L rest) : V Y p l e R s m args below meth c nL n0 u0 G nn uu Q pc L (.int x :: .int i :: .ref a :: rest) := by
  intro H locs ls g aS b
  subst hf hG
  have hcell : H[a]? = some (vp_cell (yA Y 2) (N, .inl f)) := (g.1 a _ hg).st hz
  refine W.bast hC.x hC.b hcell ((hC.K.1.2 2 _ rfl).1 N (fun j => .int (f j))) (fun q => by cases q) (by show ¬ (i < 0 ∨ (arrV _ _ _).slots.size ≤ _); rw [arrV_size]; exact hin) rfl rfl hdg fun H1 e1 z1 oq => ?_
  refine kk H1 _ ls (g.put hcell e1 (k2_slotsz _ _ _) z1 oq ?_) (aS.put z1 oq hz) b
  show H1[a]? = some (vp_cell _ _)
  rw [e1]
  rw [vp_cell_i, vp_cell_i, arrV_store]
  congr 2
  funext q
  by_cases hq : q = i.toNatClampNeg
  · subst hq
    simp [updV, upd, vp_nar]
    try rfl
  · simp [updV, upd, hq]
theorem g_zast (hC : CX Y p s m args meth c cc nL own hh n0 u0) {a N : Nat} {f f' : Nat → Int32} (hg : G a = some (.inl (yA Y 5, N, .inl f))) {i : Int32} {x : Int32} (hin : vp_in i N) (hz : yz Y ≤ a) (hf : upd f i.toNatClampNeg (vp_nar .boolean x) = f') {G' : AH} (hG : gU G a (.inl (yA Y 5, N, .inl f')) = G') (hdg : decode cc pc = .ok (.bastore, 1))
    (kk : V Y p l e R s m args below meth c nL n0 u0 G' nn uu Q (pc + 1) L rest) : V Y p l e R s m args below meth c nL n0 u0 G nn uu Q pc L (.int x :: .int i :: .ref a :: rest) := by
  intro H locs ls g aS b
  subst hf hG
  have hcell : H[a]? = some (vp_cell (yA Y 5) (N, .inl f)) := (g.1 a _ hg).st hz
  refine W.zast hC.x hC.b hcell ((hC.K.1.2 5 _ rfl).1 N (fun j => .int (f j))) (fun q => by cases q) (by show ¬ (i < 0 ∨ (arrV _ _ _).slots.size ≤ _); rw [arrV_size]; exact hin) rfl rfl hdg fun H1 e1 z1 oq => ?_
  refine kk H1 _ ls (g.put hcell e1 (k2_slotsz _ _ _) z1 oq ?_) (aS.put z1 oq hz) b
  show H1[a]? = some (vp_cell _ _)
  rw [e1]
  rw [vp_cell_i, vp_cell_i, arrV_store]
  congr 2
  funext q
  by_cases hq : q = i.toNatClampNeg
  · subst hq
    simp [updV, upd, vp_nar]
    try rfl
  · simp [updV, upd, hq]
theorem g_cast (hC : CX Y p s m args meth c cc nL own hh n0 u0) {a N : Nat} {f f' : Nat → Int32} (hg : G a = some (.inl (yA Y 4, N, .inl f))) {i : Int32} {x : Int32} (hin : vp_in i N) (hz : yz Y ≤ a) (hf : upd f i.toNatClampNeg (vp_nar .char x) = f') {G' : AH} (hG : gU G a (.inl (yA Y 4, N, .inl f')) = G') (hdg : decode cc pc = .ok (.castore, 1))
    (kk : V Y p l e R s m args below meth c nL n0 u0 G' nn uu Q (pc + 1) L rest) : V Y p l e R s m args below meth c nL n0 u0 G nn uu Q pc L (.int x :: .int i :: .ref a :: rest) := by
  intro H locs ls g aS b
  subst hf hG
  have hcell : H[a]? = some (vp_cell (yA Y 4) (N, .inl f)) := (g.1 a _ hg).st hz
  refine W.cast hC.x hC.b hcell ((hC.K.1.2 4 _ rfl).1 N (fun j => .int (f j))) (fun q => by cases q) (by show ¬ (i < 0 ∨ (arrV _ _ _).slots.size ≤ _); rw [arrV_size]; exact hin) rfl rfl hdg fun H1 e1 z1 oq => ?_
  refine kk H1 _ ls (g.put hcell e1 (k2_slotsz _ _ _) z1 oq ?_) (aS.put z1 oq hz) b
  show H1[a]? = some (vp_cell _ _)
  rw [e1]
  rw [vp_cell_i, vp_cell_i, arrV_store]
  congr 2
  funext q
  by_cases hq : q = i.toNatClampNeg
  · subst hq
    simp [updV, upd, vp_nar]
    try rfl
  · simp [updV, upd, hq]
theorem g_sast (hC : CX Y p s m args meth c cc nL own hh n0 u0) {a N : Nat} {f f' : Nat → Int32} (hg : G a = some (.inl (yA Y 3, N, .inl f))) {i : Int32} {x : Int32} (hin : vp_in i N) (hz : yz Y ≤ a) (hf : upd f i.toNatClampNeg (vp_nar .short x) = f') {G' : AH} (hG : gU G a (.inl (yA Y 3, N, .inl f')) = G') (hdg : decode cc pc = .ok (.sastore, 1))
    (kk : V Y p l e R s m args below meth c nL n0 u0 G' nn uu Q (pc + 1) L rest) : V Y p l e R s m args below meth c nL n0 u0 G nn uu Q pc L (.int x :: .int i :: .ref a :: rest) := by
  intro H locs ls g aS b
  subst hf hG
  have hcell : H[a]? = some (vp_cell (yA Y 3) (N, .inl f)) := (g.1 a _ hg).st hz
  refine W.sast hC.x hC.b hcell ((hC.K.1.2 3 _ rfl).1 N (fun j => .int (f j))) (fun q => by cases q) (by show ¬ (i < 0 ∨ (arrV _ _ _).slots.size ≤ _); rw [arrV_size]; exact hin) rfl rfl hdg fun H1 e1 z1 oq => ?_
  refine kk H1 _ ls (g.put hcell e1 (k2_slotsz _ _ _) z1 oq ?_) (aS.put z1 oq hz) b
  show H1[a]? = some (vp_cell _ _)
  rw [e1]
  rw [vp_cell_i, vp_cell_i, arrV_store]
  congr 2
  funext q
  by_cases hq : q = i.toNatClampNeg
  · subst hq
    simp [updV, upd, vp_nar]
    try rfl
  · simp [updV, upd, hq]
theorem g_last (hC : CX Y p s m args meth c cc nL own hh n0 u0) {a N : Nat} {f f' : Nat → Int64} (hg : G a = some (.inl (yA Y 1, N, .inr (.inl f)))) {i : Int32} {x : Int64} (hin : vp_in i N) (hz : yz Y ≤ a) (hf : vp_updL f i.toNatClampNeg x = f') {G' : AH} (hG : gU G a (.inl (yA Y 1, N, .inr (.inl f'))) = G') (hdg : decode cc pc = .ok (.lastore, 1))
    (kk : V Y p l e R s m args below meth c nL n0 u0 G' nn uu Q (pc + 1) L rest) : V Y p l e R s m args below meth c nL n0 u0 G nn uu Q pc L (.long x :: .int i :: .ref a :: rest) := by
  intro H locs ls g aS b
  subst hf hG
  have hcell : H[a]? = some (vp_cell (yA Y 1) (N, .inr (.inl f))) := (g.1 a _ hg).st hz
  refine W.last hC.x hC.b hcell ((hC.K.1.2 1 _ rfl).1 N (fun j => .long (f j))) (fun q => by cases q) (by show ¬ (i < 0 ∨ (arrV _ _ _).slots.size ≤ _); rw [arrV_size]; exact hin) rfl rfl hdg fun H1 e1 z1 oq => ?_
  refine kk H1 _ ls (g.put hcell e1 (k2_slotsz _ _ _) z1 oq ?_) (aS.put z1 oq hz) b
  show H1[a]? = some (vp_cell _ _)
  rw [e1]
  rw [vp_cell_l, vp_cell_l, arrV_store]
  congr 2
  funext q
  by_cases hq : q = i.toNatClampNeg
  · subst hq
    simp [updV, vp_updL]
    try rfl
  · simp [updV, vp_updL, hq]
end G1
