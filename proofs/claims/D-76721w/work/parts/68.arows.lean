set_option maxRecDepth 100000
/-! ROWS 4: System.arraycopy, getClass of an array, class constants -/
section AR
variable {Y : YT} {p : Program} {l : Launch} {e : Env} {R : Room} {s : State} {m : MethodId} {args : Array Value} {below : List Frame} {meth : Method} {c : Code} {nL n0 u0 : Nat} {G : AH} {nn uu : Nat} {Q : State → Prop} {pc : Nat} {L : List (Nat × Value)} {rest : List Value} {cc : ByteArray} {own : String} {hh : List (Nat × Nat × Nat × Nat)}
theorem GH.two {H : Heap} {a0 a : Nat} {e0 e1 : va_E} (h : GH Y G nn uu H) (h0 : G a0 = some e0) (h1 : G a = some e1) (z0 : yz Y ≤ a0) (z1 : yz Y ≤ a) : va_P (yD Y) clA [(a0, e0), (a, e1)] H := by
  intro k q hq
  match k, hq with
  | 0, hq => cases hq; exact (h.1 _ _ h0).st z0
  | 1, hq => cases hq; exact (h.1 _ _ h1).st z1
  | _ + 2, hq => cases hq
theorem va_D.two {a0 a : Nat} {e0 e1 : va_E} (hne : a0 ≠ a) (z0 : yz Y ≤ a0) (z1 : yz Y ≤ a) : va_D (fun q => yz Y ≤ q) [(a0, e0), (a, e1)] := by
  refine ⟨fun i j p q hi hj e => ?_, fun k q hq => ?_⟩
  · match i, j, hi, hj with
    | 0, 0, _, _ => rfl
    | 1, 1, _, _ => rfl
    | 0, 1, hi, hj => cases hi; cases hj; exact absurd e hne
    | 1, 0, hi, hj => cases hi; cases hj; exact absurd e.symm hne
    | _ + 2, _, hi, _ => cases hi
    | 0, _ + 2, _, hj => cases hj
    | 1, _ + 2, _, hj => cases hj
  · match k, hq with
    | 0, hq => cases hq; exact z0
    | 1, hq => cases hq; exact z1
    | _ + 2, hq => cases hq
theorem GH.of2 {H H1 : Heap} {a0 a : Nat} {e0 e1 e1' : va_E} {locs1 : List Loc} (h : GH Y G nn uu H) (h1 : G a = some e1) (hP : va_P (yD Y) clA [(a0, e0), (a, e1')] H1) (hz : H1.size = H.size) (hu1 : hu H1 = hu H) (ho : ∀ q, q ≠ a → H1[q]? = H[q]?) : GH Y (gU G a e1') nn uu H1 := by
  refine ⟨fun b eb hb => ?_, hz.trans h.2.1, hu1.trans h.2.2⟩
  by_cases hba : b = a
  · subst hba
    rw [gU_s] at hb
    cases hb
    exact Or.inl (hP 1 _ rfl)
  · rw [gU_n _ hba] at hb
    exact (h.1 b eb hb).kept (ho b hba)
theorem g_copyi (hC : CX Y p s m args meth c cc nL own hh n0 u0) {a0 a t0 N0 N1 index : Nat} {f g f' : Nat → Int32} {cA cB : ClassId} {ty ty' : FieldType} (ht : (tyA (yA Y))[t0]? = some (cA, ty)) {t1 : Nat} (ht1 : (tyA (yA Y))[t1]? = some (cB, ty')) (hty : ty = ty') (hpr : refKind ty' = false) (h0 : G a0 = some (.inl (cA, N0, .inl f))) (h1 : G a = some (.inl (cB, N1, .inl g))) (hz : yz Y ≤ a) {sp dp k : Nat} (h4 : sp + k ≤ N0) (h5 : dp + k ≤ N1) (hb1 : N0 < 2 ^ 30) (hb2 : N1 < 2 ^ 30) (hfit : ∀ i, i < k → fits ty' (.int (f (sp + i))) = true) (hf : va_cpy f g sp dp k = f') {G' : AH} (hG : gU G a (.inl (cB, N1, .inl f')) = G') (hlink : Cond.methodLink own index arraycopyName ∈ lw_all) (hdg : decode cc pc = .ok (.invokestatic index, 3)) (hframes : 1 ≤ R.frames) (hlocals : (rest.map fun v => v.category).sum + 40 ≤ R.locals)
    (kk : V Y p l e R s m args below meth c nL n0 u0 G' nn uu Q (pc + 3) L rest) : V Y p l e R s m args below meth c nL n0 u0 G nn uu Q pc L (.int (nI k) :: .int (nI dp) :: .ref a :: .int (nI sp) :: .ref a0 :: rest) := by
  intro H locs ls gg aS b T hT X
  subst hf hG
  obtain ⟨cell0, q1, q2, q3, q4, q5, -⟩ := (gg.1 _ _ h0).ar
  have hc1 : H[a]? = some (vp_cell cB (N1, .inl g)) := (gg.1 _ _ h1).st hz
  obtain ⟨-, k0, hk0, cm0, hkk0⟩ := (hC.K.1.2 t0 _ ht).1 N0 (fun j => .int (f j))
  obtain ⟨-, k1, hk1, cm1, hkk1⟩ := (hC.K.1.2 t1 _ ht1).1 N1 (fun j => .int (g j))
  have e0 : cell0.slots = (arrV cA N0 (fun j => .int (f j))).slots := q5
  have nw : nativeFrameWords "java/lang/System" "arraycopy" 5 = 5 ∨ nativeFrameWords "java/lang/System" "arraycopy" 5 ≤ 20 := by right; decide
  have nw2 : nativeFrameWords "java/lang/System" "arraycopy" 5 ≤ 20 := by decide
  have hcl : ∀ z : Nat, z < 2 ^ 30 → (nI z).toNatClampNeg = z := fun z hz => nI_clamp (by omega)
  obtain ⟨vm', X', step⟩ := X.arraycopy hC.x hC.own (hC.ts _ hlink) (hC.ts _ q680) (hC.ts _ q679) (hC.ts _ q104) (src := a0) (dst := a) (cs := cell0) (cd := vp_cell cB (N1, .inl g)) (srcPos := nI sp) (destPos := nI dp) (n := nI k) (by rw [hT]; exact q1) (by rw [hT]; exact hc1)
    (fun z h => by rw [h] at q3; cases q3) (fun _ h => by cases h) q4 (fun h => by cases h) (by rw [q2]; exact hk0) hk1 hkk0 hkk1 (by rw [hty]; simp [hpr]) (nI_pos (by omega)) (nI_pos (by omega)) (nI_pos (by omega))
    (by rw [nI_toInt (by omega), nI_toInt (by omega), e0, arrV_size]; omega)
    (by rw [nI_toInt (by omega), nI_toInt (by omega)]; show ¬ _ > ((arrV cB N1 (fun j => .int (g j))).slots.size : Int); rw [arrV_size]; omega)
    (fun vm₁ hal i hi => by
      rw [hcl k (by omega)] at hi
      rw [hcl sp (by omega)]
      have e : cell0.slots.getD (sp + i) .null = .int (f (sp + i)) := by
        rw [e0, Array.getD_eq_getD_getElem?, arrV_read _ _ (by omega)]
        rfl
      rw [e]
      exact ⟨hfit i hi, trivial⟩)
    (g := F0 m pc ls (.int (nI k) :: .int (nI dp) :: .ref a :: .int (nI sp) :: .ref a0 :: rest)) rfl (by show ls.size = c.maxLocals; rw [hC.ml]; exact b.1) (rest := rest) rfl (by rw [hC.b]; exact hdg) hframes (by show 2 * 0 + _ + _ ≤ _; omega)
  have e1 : copied cell0 (vp_cell cB (N1, .inl g)) (nI sp) (nI dp) (nI k) = vp_cell cB (N1, .inl (va_cpy f g sp dp k)) := by
    have h := va_copied (fun z => .int z) cA cB (n0 := N0) (n1 := N1) (sp := sp) (dp := dp) (n := k) f g h4
    have hst : cell0.stretch sp k = (arrV cA N0 (fun j => .int (f j))).stretch sp k := by unfold Cell.stretch; rw [e0]
    show (vp_cell cB (N1, .inl g)).storeRun (nI dp).toNatClampNeg (cell0.stretch (nI sp).toNatClampNeg (nI k).toNatClampNeg) = _
    rw [hcl sp (by omega), hcl dp (by omega), hcl k (by omega), hst]
    exact h
  rw [e1] at X' step
  have hl : a < H.size := (Array.getElem?_eq_some_iff.mp hc1).1
  have hheap : ((T.setVm vm').setCell a (vp_cell cB (N1, .inl (va_cpy f g sp dp k)))).heap = H.setIfInBounds a (vp_cell cB (N1, .inl (va_cpy f g sp dp k))) := by rw [← hT]; rfl
  have oq : ∀ q : Nat, q ≠ a → (H.setIfInBounds a (vp_cell cB (N1, .inl (va_cpy f g sp dp k))))[q]? = H[q]? := fun q hq => by simp [Array.getElem?_setIfInBounds, Ne.symm hq]
  have hat : (H.setIfInBounds a (vp_cell cB (N1, .inl (va_cpy f g sp dp k))))[a]? = some (vp_cell cB (N1, .inl (va_cpy f g sp dp k))) := by simp [Array.getElem?_setIfInBounds, hl]
  have hg' := gg.put hc1 hat (by show (arrV _ _ _).slots.size = (arrV _ _ _).slots.size; rw [arrV_size, arrV_size]) (by simp) oq (show va_at (yD Y) clA (a, .inl (cB, N1, .inl (va_cpy f g sp dp k))) _ from hat)
  obtain ⟨t, a1, b1⟩ := kk _ _ ls hg' ⟨by simp; exact aS.1, fun q g1 g2 => by
      rw [oq q (fun e => g2 (by rw [e]; exact hz))]
      exact aS.2.1 q g1 g2, fun q hq => by
      rcases List.mem_append.mp hq with h | h
      · exact aS.2.2 q h
      · obtain ⟨z, -, hz'⟩ := List.mem_map.mp h
        rw [← hz']
        exact hz⟩ b _ hheap X'
  exact ⟨t, step t a1, b1⟩
theorem g_copyl (hC : CX Y p s m args meth c cc nL own hh n0 u0) {a0 a t0 N0 N1 index : Nat} {f g f' : Nat → Int64} {cA cB : ClassId} {ty ty' : FieldType} (ht : (tyA (yA Y))[t0]? = some (cA, ty)) {t1 : Nat} (ht1 : (tyA (yA Y))[t1]? = some (cB, ty')) (hty : ty = ty') (hpr : refKind ty' = false) (h0 : G a0 = some (.inl (cA, N0, .inr (.inl f)))) (h1 : G a = some (.inl (cB, N1, .inr (.inl g)))) (hz : yz Y ≤ a) {sp dp k : Nat} (h4 : sp + k ≤ N0) (h5 : dp + k ≤ N1) (hb1 : N0 < 2 ^ 30) (hb2 : N1 < 2 ^ 30) (hfit : ∀ i, i < k → fits ty' (.long (f (sp + i))) = true) (hf : va_cpy f g sp dp k = f') {G' : AH} (hG : gU G a (.inl (cB, N1, .inr (.inl f'))) = G') (hlink : Cond.methodLink own index arraycopyName ∈ lw_all) (hdg : decode cc pc = .ok (.invokestatic index, 3)) (hframes : 1 ≤ R.frames) (hlocals : (rest.map fun v => v.category).sum + 40 ≤ R.locals)
    (kk : V Y p l e R s m args below meth c nL n0 u0 G' nn uu Q (pc + 3) L rest) : V Y p l e R s m args below meth c nL n0 u0 G nn uu Q pc L (.int (nI k) :: .int (nI dp) :: .ref a :: .int (nI sp) :: .ref a0 :: rest) := by
  intro H locs ls gg aS b T hT X
  subst hf hG
  obtain ⟨cell0, q1, q2, q3, q4, q5, -⟩ := (gg.1 _ _ h0).ar
  have hc1 : H[a]? = some (vp_cell cB (N1, .inr (.inl g))) := (gg.1 _ _ h1).st hz
  obtain ⟨-, k0, hk0, cm0, hkk0⟩ := (hC.K.1.2 t0 _ ht).1 N0 (fun j => .long (f j))
  obtain ⟨-, k1, hk1, cm1, hkk1⟩ := (hC.K.1.2 t1 _ ht1).1 N1 (fun j => .long (g j))
  have e0 : cell0.slots = (arrV cA N0 (fun j => .long (f j))).slots := q5
  have nw : nativeFrameWords "java/lang/System" "arraycopy" 5 = 5 ∨ nativeFrameWords "java/lang/System" "arraycopy" 5 ≤ 20 := by right; decide
  have nw2 : nativeFrameWords "java/lang/System" "arraycopy" 5 ≤ 20 := by decide
  have hcl : ∀ z : Nat, z < 2 ^ 30 → (nI z).toNatClampNeg = z := fun z hz => nI_clamp (by omega)
  obtain ⟨vm', X', step⟩ := X.arraycopy hC.x hC.own (hC.ts _ hlink) (hC.ts _ q680) (hC.ts _ q679) (hC.ts _ q104) (src := a0) (dst := a) (cs := cell0) (cd := vp_cell cB (N1, .inr (.inl g))) (srcPos := nI sp) (destPos := nI dp) (n := nI k) (by rw [hT]; exact q1) (by rw [hT]; exact hc1)
    (fun z h => by rw [h] at q3; cases q3) (fun _ h => by cases h) q4 (fun h => by cases h) (by rw [q2]; exact hk0) hk1 hkk0 hkk1 (by rw [hty]; simp [hpr]) (nI_pos (by omega)) (nI_pos (by omega)) (nI_pos (by omega))
    (by rw [nI_toInt (by omega), nI_toInt (by omega), e0, arrV_size]; omega)
    (by rw [nI_toInt (by omega), nI_toInt (by omega)]; show ¬ _ > ((arrV cB N1 (fun j => .long (g j))).slots.size : Int); rw [arrV_size]; omega)
    (fun vm₁ hal i hi => by
      rw [hcl k (by omega)] at hi
      rw [hcl sp (by omega)]
      have e : cell0.slots.getD (sp + i) .null = .long (f (sp + i)) := by
        rw [e0, Array.getD_eq_getD_getElem?, arrV_read _ _ (by omega)]
        rfl
      rw [e]
      exact ⟨hfit i hi, trivial⟩)
    (g := F0 m pc ls (.int (nI k) :: .int (nI dp) :: .ref a :: .int (nI sp) :: .ref a0 :: rest)) rfl (by show ls.size = c.maxLocals; rw [hC.ml]; exact b.1) (rest := rest) rfl (by rw [hC.b]; exact hdg) hframes (by show 2 * 0 + _ + _ ≤ _; omega)
  have e1 : copied cell0 (vp_cell cB (N1, .inr (.inl g))) (nI sp) (nI dp) (nI k) = vp_cell cB (N1, .inr (.inl (va_cpy f g sp dp k))) := by
    have h := va_copied (fun z => .long z) cA cB (n0 := N0) (n1 := N1) (sp := sp) (dp := dp) (n := k) f g h4
    have hst : cell0.stretch sp k = (arrV cA N0 (fun j => .long (f j))).stretch sp k := by unfold Cell.stretch; rw [e0]
    show (vp_cell cB (N1, .inr (.inl g))).storeRun (nI dp).toNatClampNeg (cell0.stretch (nI sp).toNatClampNeg (nI k).toNatClampNeg) = _
    rw [hcl sp (by omega), hcl dp (by omega), hcl k (by omega), hst]
    exact h
  rw [e1] at X' step
  have hl : a < H.size := (Array.getElem?_eq_some_iff.mp hc1).1
  have hheap : ((T.setVm vm').setCell a (vp_cell cB (N1, .inr (.inl (va_cpy f g sp dp k))))).heap = H.setIfInBounds a (vp_cell cB (N1, .inr (.inl (va_cpy f g sp dp k)))) := by rw [← hT]; rfl
  have oq : ∀ q : Nat, q ≠ a → (H.setIfInBounds a (vp_cell cB (N1, .inr (.inl (va_cpy f g sp dp k)))))[q]? = H[q]? := fun q hq => by simp [Array.getElem?_setIfInBounds, Ne.symm hq]
  have hat : (H.setIfInBounds a (vp_cell cB (N1, .inr (.inl (va_cpy f g sp dp k)))))[a]? = some (vp_cell cB (N1, .inr (.inl (va_cpy f g sp dp k)))) := by simp [Array.getElem?_setIfInBounds, hl]
  have hg' := gg.put hc1 hat (by show (arrV _ _ _).slots.size = (arrV _ _ _).slots.size; rw [arrV_size, arrV_size]) (by simp) oq (show va_at (yD Y) clA (a, .inl (cB, N1, .inr (.inl (va_cpy f g sp dp k)))) _ from hat)
  obtain ⟨t, a1, b1⟩ := kk _ _ ls hg' ⟨by simp; exact aS.1, fun q g1 g2 => by
      rw [oq q (fun e => g2 (by rw [e]; exact hz))]
      exact aS.2.1 q g1 g2, fun q hq => by
      rcases List.mem_append.mp hq with h | h
      · exact aS.2.2 q h
      · obtain ⟨z, -, hz'⟩ := List.mem_map.mp h
        rw [← hz']
        exact hz⟩ b _ hheap X'
  exact ⟨t, step t a1, b1⟩
theorem g_copyq (hC : CX Y p s m args meth c cc nL own hh n0 u0) {a0 a t0 N0 N1 index : Nat} {f g f' : Nat → Option Nat} {cA cB : ClassId} {ty ty' : FieldType} (ht : (tyA (yA Y))[t0]? = some (cA, ty)) {t1 : Nat} (ht1 : (tyA (yA Y))[t1]? = some (cB, ty')) {E0 E1 : String} (hty : ty = .object E0) (hty' : ty' = .object E1) (h0 : G a0 = some (.inl (cA, N0, .inr (.inr (.inr (.inr f)))))) (h1 : G a = some (.inl (cB, N1, .inr (.inr (.inr (.inr g)))))) (hz : yz Y ≤ a) {sp dp k : Nat} (h4 : sp + k ≤ N0) (h5 : dp + k ≤ N1) (hb1 : N0 < 2 ^ 30) (hb2 : N1 < 2 ^ 30) (hel : ∀ H, GH Y G nn uu H → ∀ i, i < k → ∀ y, f (sp + i) = some y → va_Any E1 s H y) (hf : va_cpy f g sp dp k = f') {G' : AH} (hG : gU G a (.inl (cB, N1, .inr (.inr (.inr (.inr f'))))) = G') (hlink : Cond.methodLink own index arraycopyName ∈ lw_all) (hdg : decode cc pc = .ok (.invokestatic index, 3)) (hframes : 1 ≤ R.frames) (hlocals : (rest.map fun v => v.category).sum + 40 ≤ R.locals)
    (kk : V Y p l e R s m args below meth c nL n0 u0 G' nn uu Q (pc + 3) L rest) : V Y p l e R s m args below meth c nL n0 u0 G nn uu Q pc L (.int (nI k) :: .int (nI dp) :: .ref a :: .int (nI sp) :: .ref a0 :: rest) := by
  intro H locs ls gg aS b T hT X
  subst hf hG hty hty'
  obtain ⟨cell0, q1, q2, q3, q4, q5, -⟩ := (gg.1 _ _ h0).ar
  have hc1 : H[a]? = some (vp_cell cB (N1, .inr (.inr (.inr (.inr g))))) := (gg.1 _ _ h1).st hz
  obtain ⟨-, k0, hk0, cm0, hkk0⟩ := (hC.K.1.2 t0 _ ht).1 N0 (fun j => va_rf (f j))
  obtain ⟨-, k1, hk1, cm1, hkk1⟩ := (hC.K.1.2 t1 _ ht1).1 N1 (fun j => va_rf (g j))
  have e0 : cell0.slots = (arrV cA N0 (fun j => va_rf (f j))).slots := q5
  have nw : nativeFrameWords "java/lang/System" "arraycopy" 5 = 5 ∨ nativeFrameWords "java/lang/System" "arraycopy" 5 ≤ 20 := by right; decide
  have nw2 : nativeFrameWords "java/lang/System" "arraycopy" 5 ≤ 20 := by decide
  have hcl : ∀ z : Nat, z < 2 ^ 30 → (nI z).toNatClampNeg = z := fun z hz => nI_clamp (by omega)
  obtain ⟨vm', X', step⟩ := X.arraycopy hC.x hC.own (hC.ts _ hlink) (hC.ts _ q680) (hC.ts _ q679) (hC.ts _ q104) (src := a0) (dst := a) (cs := cell0) (cd := vp_cell cB (N1, .inr (.inr (.inr (.inr g))))) (srcPos := nI sp) (destPos := nI dp) (n := nI k) (by rw [hT]; exact q1) (by rw [hT]; exact hc1)
    (fun z h => by rw [h] at q3; cases q3) (fun _ h => by cases h) q4 (fun h => by cases h) (by rw [q2]; exact hk0) hk1 hkk0 hkk1 rfl (nI_pos (by omega)) (nI_pos (by omega)) (nI_pos (by omega))
    (by rw [nI_toInt (by omega), nI_toInt (by omega), e0, arrV_size]; omega)
    (by rw [nI_toInt (by omega), nI_toInt (by omega)]; show ¬ _ > ((arrV cB N1 (fun j => va_rf (g j))).slots.size : Int); rw [arrV_size]; omega)
    (fun vm₁ hal i hi => by
      rw [hcl k (by omega)] at hi
      rw [hcl sp (by omega)]
      have e : cell0.slots.getD (sp + i) .null = va_rf (f (sp + i)) := by
        rw [e0, Array.getD_eq_getD_getElem?, arrV_read _ _ (by omega)]
        rfl
      rw [e]
      cases hy : f (sp + i) with
      | none => exact ⟨rfl, trivial⟩
      | some y =>
        obtain ⟨cellV, g1, g2, ⟨kC, hkC⟩, g3⟩ := hel H gg i hi y hy
        obtain ⟨kA, comp, r1, r2, r3, -⟩ := (hC.K.1.2 t1 _ ht1).2
        cases hk1.symm.trans r1
        cases hkk1.symm.trans r2
        obtain ⟨kE, hkE, -⟩ := Vm.findClass_spec r3
        obtain ⟨kC', hkC', -⟩ := hal.2.2 _ _ hkC
        obtain ⟨kE', hkE', -⟩ := hal.2.2 _ _ hkE
        refine ⟨rfl, cellV, by rw [show (T.setVm vm₁).heap = T.heap from rfl, hT]; exact g1, (fun q h => by rw [h] at g2; cases g2), ⟨kC', hkC'⟩, ⟨kE', hkE'⟩, ?_⟩
        show vm₁.assignable _ _ = true
        rw [hal.assignable]
        exact g3 _ r3)
    (g := F0 m pc ls (.int (nI k) :: .int (nI dp) :: .ref a :: .int (nI sp) :: .ref a0 :: rest)) rfl (by show ls.size = c.maxLocals; rw [hC.ml]; exact b.1) (rest := rest) rfl (by rw [hC.b]; exact hdg) hframes (by show 2 * 0 + _ + _ ≤ _; omega)
  have e1 : copied cell0 (vp_cell cB (N1, .inr (.inr (.inr (.inr g))))) (nI sp) (nI dp) (nI k) = vp_cell cB (N1, .inr (.inr (.inr (.inr (va_cpy f g sp dp k))))) := by
    have h := va_copied (fun z => va_rf z) cA cB (n0 := N0) (n1 := N1) (sp := sp) (dp := dp) (n := k) f g h4
    have hst : cell0.stretch sp k = (arrV cA N0 (fun j => va_rf (f j))).stretch sp k := by unfold Cell.stretch; rw [e0]
    show (vp_cell cB (N1, .inr (.inr (.inr (.inr g))))).storeRun (nI dp).toNatClampNeg (cell0.stretch (nI sp).toNatClampNeg (nI k).toNatClampNeg) = _
    rw [hcl sp (by omega), hcl dp (by omega), hcl k (by omega), hst]
    exact h
  rw [e1] at X' step
  have hl : a < H.size := (Array.getElem?_eq_some_iff.mp hc1).1
  have hheap : ((T.setVm vm').setCell a (vp_cell cB (N1, .inr (.inr (.inr (.inr (va_cpy f g sp dp k))))))).heap = H.setIfInBounds a (vp_cell cB (N1, .inr (.inr (.inr (.inr (va_cpy f g sp dp k)))))) := by rw [← hT]; rfl
  have oq : ∀ q : Nat, q ≠ a → (H.setIfInBounds a (vp_cell cB (N1, .inr (.inr (.inr (.inr (va_cpy f g sp dp k)))))))[q]? = H[q]? := fun q hq => by simp [Array.getElem?_setIfInBounds, Ne.symm hq]
  have hat : (H.setIfInBounds a (vp_cell cB (N1, .inr (.inr (.inr (.inr (va_cpy f g sp dp k)))))))[a]? = some (vp_cell cB (N1, .inr (.inr (.inr (.inr (va_cpy f g sp dp k)))))) := by simp [Array.getElem?_setIfInBounds, hl]
  have hg' := gg.put hc1 hat (by show (arrV _ _ _).slots.size = (arrV _ _ _).slots.size; rw [arrV_size, arrV_size]) (by simp) oq (show va_at (yD Y) clA (a, .inl (cB, N1, .inr (.inr (.inr (.inr (va_cpy f g sp dp k)))))) _ from hat)
  obtain ⟨t, a1, b1⟩ := kk _ _ ls hg' ⟨by simp; exact aS.1, fun q g1 g2 => by
      rw [oq q (fun e => g2 (by rw [e]; exact hz))]
      exact aS.2.1 q g1 g2, fun q hq => by
      rcases List.mem_append.mp hq with h | h
      · exact aS.2.2 q h
      · obtain ⟨z, -, hz'⟩ := List.mem_map.mp h
        rw [← hz']
        exact hz⟩ b _ hheap X'
  exact ⟨t, step t a1, b1⟩
theorem any_o {H : Heap} {C E : String} {T : u_T} {N ci a : Nat} {ty : Nat → FieldType} {fs : List Value} (hK : KK Y s) (g : GH Y G nn uu H) (kc : KCl ci C T N ty) (hg : G a = some (.inr (ci, fs))) (hasg : ∀ comp c0 : ClassId, s.vm.findClass E = some comp → s.vm.findClass C = some c0 → s.vm.assignable c0 comp = true) : va_Any E s H a := by
  obtain ⟨cell, h1, h2, h3⟩ := g_recv hK g kc hg
  obtain ⟨kC, hkC, -⟩ := Vm.findClass_spec h3
  exact ⟨cell, h1, h2, ⟨kC, hkC⟩, fun comp h => hasg comp _ h h3⟩
theorem any_P {H : Heap} {kd a : Nat} {fs : List Value} (hC : CX Y p s m args meth c cc nL own hh n0 u0) (g : GH Y G nn uu H) (hk : kd ≤ 4) (hg : G a = some (.inr (11 + kd, fs))) : va_Any "PluginChains$Plain" s H a := by
  rcases kd with _ | _ | _ | _ | _ | kd
  · exact any_o hC.K g kc_X12 hg (asgS hC.K kc_X12)
  · exact any_o hC.K g kc_X13 hg (asgY hC.K q4035)
  · exact any_o hC.K g kc_X14 hg (asgY hC.K q4038)
  · exact any_o hC.K g kc_X15 hg (asgY hC.K q4036)
  · exact any_o hC.K g kc_X16 hg (asgY hC.K q4037)
  · omega
theorem mi_OA : Cond.isRef (.mirror "[Ljava/lang/Object;") ∈ flatC narrow_1 := by decide +kernel
theorem KK.mir {U : State} (h : KK Y U) : ∃ mi : Nat, va_Mi "[Ljava/lang/Object;" mi (yS Y) := by
  obtain ⟨b, h1, h2⟩ := h.2.2
  obtain ⟨mi, h3⟩ := va_Mi.of (flat_of_before _ h2 _ (show Cond.isRef (.mirror "[Ljava/lang/Object;") ∈ flatC given_1 ++ flatC narrow_1 from List.mem_append_right _ mi_OA))
  exact ⟨mi, h3⟩
theorem g_ldcM (hC : CX Y p s m args meth c cc nL own hh n0 u0) {C : String} {index mi : Nat} (hM : va_Mi C mi s) (hlink : Cond.classLink own index C ∈ lw_all) (hdg : decode cc pc = .ok (.ldc index, 2))
    (kk : V Y p l e R s m args below meth c nL n0 u0 G nn uu Q (pc + 2) L (.ref mi :: rest)) : V Y p l e R s m args below meth c nL n0 u0 G nn uu Q pc L rest := fun H locs ls g aS b =>
  va_ldcM hC.x hC.b hC.own (hC.ts _ hlink) hM hdg (kk H locs ls g aS b)
theorem g_getCo (hC : CX Y p s m args meth c cc nL own hh n0 u0) {index mi a N : Nat} {f : Nat → Option Nat} (hM : va_Mi "[Ljava/lang/Object;" mi s) (hg : G a = some (.inl (yA Y 11, N, .inr (.inr (.inr (.inr f)))))) (hlink : Cond.methodLink own index ⟨"java/lang/Object", "getClass", "()Ljava/lang/Class;"⟩ ∈ lw_all) (hsel : Cond.selects "[Ljava/lang/Object;" ⟨"java/lang/Object", "getClass", "()Ljava/lang/Class;"⟩ ⟨"java/lang/Object", "getClass", "()Ljava/lang/Class;"⟩ ∈ lw_all) (hframes : 1 ≤ R.frames) (hlocals : (rest.map fun v => v.category).sum + 14 ≤ R.locals) (hdg : decode cc pc = .ok (.invokevirtual index, 3))
    (kk : V Y p l e R s m args below meth c nL n0 u0 G nn uu Q (pc + 3) L (.ref mi :: rest)) : V Y p l e R s m args below meth c nL n0 u0 G nn uu Q pc L (.ref a :: rest) := fun H locs ls g aS b => by
  obtain ⟨cell, q1, q2, q3, q4, q5, -⟩ := (g.1 _ _ hg).ar
  obtain ⟨kA, comp, r1, r2, r3, r4⟩ := (hC.K.1.2 11 _ rfl).2
  exact va_getC hC.x hC.b (hC.ml.trans b.1.symm) hC.own (hC.ts _ hlink) (va_Dc.use (A := args) (U := s) (by
    obtain ⟨b0, hb0, -⟩ := hC.K.2.2
    exact (va_Dc.of (hb0 _ q4109)).moved hC.K.2.1.alike)) (hC.ts _ hsel) (hC.ts _ q1298) (hC.ts _ q1363) hM ⟨cell, q1, q3, by rw [q2]; exact r4⟩ hframes hlocals hdg (kk H locs ls g aS b)
end AR
