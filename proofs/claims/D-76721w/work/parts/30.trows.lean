set_option maxRecDepth 100000
/-! TREE MAPS, 2: their cells, rows over them -/
def tNl (τ : TS) (a : Nat) : List Value := [va_rf (τ.1 0 a), va_rf (τ.1 1 a), va_rf (τ.1 2 a), va_rf (τ.1 3 a), va_rf (τ.1 4 a), .int (b2i (τ.2.1 a))]
def tHl (τ : TS) : List Value := [.null, .null, va_rf (τ.1 6 0), va_rf (τ.1 5 0), .int (τ.2.2.1 0), .int (τ.2.2.1 1), .null, va_rf (τ.1 7 0), va_rf (τ.1 8 0)]
def tG (t : Nat) (τ : TS) (B : AH) : AH := fun a => if a = t then some (.inr (34, tHl τ)) else if τ.2.2.2 a = true then some (.inr (42, tNl τ a)) else B a
theorem tG_h {t : Nat} {τ : TS} {B : AH} : tG t τ B t = some (.inr (34, tHl τ)) := if_pos rfl
theorem tG_ne {t a : Nat} {τ : TS} (hS : τ.2.2.2 a = true) (ht : τ.2.2.2 t = false) : a ≠ t := fun q => by subst q; rw [ht] at hS; cases hS
theorem tG_n {t a : Nat} {τ : TS} {B : AH} (hS : τ.2.2.2 a = true) (ht : τ.2.2.2 t = false) : tG t τ B a = some (.inr (42, tNl τ a)) := by
  unfold tG; rw [if_neg (tG_ne hS ht), if_pos hS]
theorem tG_b {t a : Nat} {τ : TS} {B : AH} (h1 : a ≠ t) (h2 : τ.2.2.2 a = false) : tG t τ B a = B a := by
  unfold tG; rw [if_neg h1, if_neg (by rw [h2]; decide)]
theorem tG_up {t a : Nat} {τ τ' : TS} {B : AH} (hS : τ.2.2.2 a = true) (ht : τ.2.2.2 t = false) (e0 : τ'.2.2.2 = τ.2.2.2) (e1 : tHl τ' = tHl τ) (e2 : ∀ b, b ≠ a → tNl τ' b = tNl τ b) : gU (tG t τ B) a (.inr (42, tNl τ' a)) = tG t τ' B := by
  funext b
  by_cases h : b = a
  · subst h; rw [gU_s, tG_n (by rw [e0]; exact hS) (by rw [e0]; exact ht)]
  · rw [gU_n _ h]
    unfold tG
    rw [e0, e1, e2 b h]
theorem tG_uh {t : Nat} {τ τ' : TS} {B : AH} (e0 : τ'.2.2.2 = τ.2.2.2) (e2 : ∀ b, tNl τ' b = tNl τ b) : gU (tG t τ B) t (.inr (34, tHl τ')) = tG t τ' B := by
  funext b
  by_cases h : b = t
  · subst h; rw [gU_s, tG_h]
  · rw [gU_n _ h]
    unfold tG
    rw [e0, e2 b, if_neg h, if_neg h]
theorem tHl_r {τ : TS} {k a : Nat} {v : Option Nat} (h : k < 5) : tHl (tr τ k a v) = tHl τ := by
  unfold tHl; rw [tr_nk (by omega), tr_nk (by omega), tr_nk (by omega), tr_nk (by omega)]; rfl
theorem tNl_r {τ : TS} {k a b : Nat} {v : Option Nat} (h : b ≠ a) : tNl (tr τ k a v) b = tNl τ b := by
  unfold tNl; rw [tr_na h, tr_na h, tr_na h, tr_na h, tr_na h]; rfl
theorem tNl_h {τ : TS} {k a b : Nat} {v : Option Nat} (h : 5 ≤ k) : tNl (tr τ k a v) b = tNl τ b := by
  unfold tNl; rw [tr_nk (by omega), tr_nk (by omega), tr_nk (by omega), tr_nk (by omega), tr_nk (by omega)]; rfl
theorem tNl_c {τ : TS} {a b : Nat} {v : Bool} (h : b ≠ a) : tNl (tc τ a v) b = tNl τ b := by
  unfold tNl; rw [show (tc τ a v).2.1 b = τ.2.1 b from if_neg h]; rfl
theorem tc_na {τ : TS} {a b : Nat} {v : Bool} (h : b ≠ a) : (tc τ a v).2.1 b = τ.2.1 b := if_neg h
theorem tc_hit {τ : TS} {a : Nat} {v : Bool} : (tc τ a v).2.1 a = v := if_pos rfl
theorem ti_hit {τ : TS} {i : Nat} {x : Int32} : (ti τ i x).2.2.1 i = x := if_pos rfl
theorem ti_n {τ : TS} {i j : Nat} {x : Int32} (h : j ≠ i) : (ti τ i x).2.2.1 j = τ.2.2.1 j := if_neg h
theorem rf_nar {n : String} : ∀ v : Option Nat, narrow (.object n) (va_rf v) = va_rf v := fun v => by cases v <;> rfl
theorem rf_fit {n : String} : ∀ v : Option Nat, fits (.object n) (va_rf v) = true := fun v => by cases v <;> rfl
def TQ_ (Y : YT) (t : Nat) (τ : TS) : Prop := τ.2.2.2 t = false ∧ yz Y ≤ t ∧ ∀ a, τ.2.2.2 a = true → yz Y ≤ a
/-- a node's refs, the header's -/
def tRk (k : Nat) : Nat := match k with | 5 => 3 | 7 => 7 | _ => 8
section TR
variable {Y : YT} {p : Program} {l : Launch} {e : Env} {R : Room} {s : State} {m : MethodId} {args : Array Value} {below : List Frame} {meth : Method} {c : Code} {nL n0 u0 : Nat} {nn uu : Nat} {Q : State → Prop} {pc : Nat} {L : List (Nat × Value)} {rest : List Value} {cc : ByteArray} {own : String} {hh : List (Nat × Nat × Nat × Nat)} {t a : Nat} {τ : TS} {B : AH}
theorem t_getN (hC : CX Y p s m args meth c cc nL own hh n0 u0) (hT : TQ_ Y t τ) {index : Nat} (k : Nat) (hk : k < 6) (hS : τ.2.2.2 a = true) (hlink : Cond.fieldLink own index (TJ23 k).1 (TJ23 k).2.1 (TJ23 k).2.2.1 ∈ lw_all) {v : Value} (hv : (tNl τ a)[k]? = some v) (hdg : decode cc pc = .ok (.getfield index, 3))
    (kk : V Y p l e R s m args below meth c nL n0 u0 (tG t τ B) nn uu Q (pc + 3) L (v :: rest)) : V Y p l e R s m args below meth c nL n0 u0 (tG t τ B) nn uu Q pc L (.ref a :: rest) := g_get hC kc_J23 (tG_n hS hT.1) k hk hlink hv hdg kk
theorem t_getH (hC : CX Y p s m args meth c cc nL own hh n0 u0) {index : Nat} (k : Nat) (hk : k < 9) (hlink : Cond.fieldLink own index (TJ1 k).1 (TJ1 k).2.1 (TJ1 k).2.2.1 ∈ lw_all) {v : Value} (hv : (tHl τ)[k]? = some v) (hdg : decode cc pc = .ok (.getfield index, 3))
    (kk : V Y p l e R s m args below meth c nL n0 u0 (tG t τ B) nn uu Q (pc + 3) L (v :: rest)) : V Y p l e R s m args below meth c nL n0 u0 (tG t τ B) nn uu Q pc L (.ref t :: rest) := g_get hC kc_J1 tG_h k hk hlink hv hdg kk
theorem t_putN (hC : CX Y p s m args meth c cc nL own hh n0 u0) (hT : TQ_ Y t τ) {index : Nat} (k : Nat) (hk : k < 5) (v : Option Nat) (hS : τ.2.2.2 a = true) (hlink : Cond.fieldLink own index (TJ23 k).1 (TJ23 k).2.1 (TJ23 k).2.2.1 ∈ lw_all) (hdg : decode cc pc = .ok (.putfield index, 3))
    (kk : V Y p l e R s m args below meth c nL n0 u0 (tG t (tr τ k a v) B) nn uu Q (pc + 3) L rest) : V Y p l e R s m args below meth c nL n0 u0 (tG t τ B) nn uu Q pc L (va_rf v :: .ref a :: rest) := by
  have hset : (tNl τ a).set k (va_rf v) = tNl (tr τ k a v) a := by
    rcases (show k = 0 ∨ k = 1 ∨ k = 2 ∨ k = 3 ∨ k = 4 by omega) with q | q | q | q | q <;> subst q <;> simp [tNl, tr]
  have hn : narrow (tyJ23 k) (va_rf v) = va_rf v := by
    rcases (show k = 0 ∨ k = 1 ∨ k = 2 ∨ k = 3 ∨ k = 4 by omega) with q | q | q | q | q <;> subst q <;> exact rf_nar v
  have hf : fits (tyJ23 k) (va_rf v) = true := by
    rcases (show k = 0 ∨ k = 1 ∨ k = 2 ∨ k = 3 ∨ k = 4 by omega) with q | q | q | q | q <;> subst q <;> exact rf_fit v
  have hfin : (TJ23 k).2.2.2 = false := by
    rcases (show k = 0 ∨ k = 1 ∨ k = 2 ∨ k = 3 ∨ k = 4 by omega) with q | q | q | q | q <;> subst q <;> rfl
  exact g_put hC kc_J23 (tG_n hS hT.1) k (by omega) hlink hfin hn hf (by show k < 6; omega) hset (hT.2.2 a hS) (tG_up hS hT.1 rfl (tHl_r hk) (fun b hb => tNl_r hb)) hdg kk
theorem t_putC (hC : CX Y p s m args meth c cc nL own hh n0 u0) (hT : TQ_ Y t τ) {index : Nat} (v : Bool) (hS : τ.2.2.2 a = true) (hlink : Cond.fieldLink own index (TJ23 5).1 (TJ23 5).2.1 (TJ23 5).2.2.1 ∈ lw_all) (hdg : decode cc pc = .ok (.putfield index, 3))
    (kk : V Y p l e R s m args below meth c nL n0 u0 (tG t (tc τ a v) B) nn uu Q (pc + 3) L rest) : V Y p l e R s m args below meth c nL n0 u0 (tG t τ B) nn uu Q pc L (.int (b2i v) :: .ref a :: rest) := by
  have hset : (tNl τ a).set 5 (.int (b2i v)) = tNl (tc τ a v) a := by simp [tNl, tc]
  exact g_put hC kc_J23 (tG_n hS hT.1) 5 (by decide) hlink rfl (by cases v <;> rfl) (by cases v <;> rfl) (by show 5 < 6; decide) hset (hT.2.2 a hS) (tG_up hS hT.1 rfl rfl (fun b hb => tNl_c hb)) hdg kk
theorem t_putR (hC : CX Y p s m args meth c cc nL own hh n0 u0) (hT : TQ_ Y t τ) {index : Nat} (k : Nat) (hk : k = 5 ∨ k = 7 ∨ k = 8) (v : Option Nat) (hlink : Cond.fieldLink own index (TJ1 (tRk k)).1 (TJ1 (tRk k)).2.1 (TJ1 (tRk k)).2.2.1 ∈ lw_all) (hdg : decode cc pc = .ok (.putfield index, 3))
    (kk : V Y p l e R s m args below meth c nL n0 u0 (tG t (tr τ k 0 v) B) nn uu Q (pc + 3) L rest) : V Y p l e R s m args below meth c nL n0 u0 (tG t τ B) nn uu Q pc L (va_rf v :: .ref t :: rest) := by
  have hset : (tHl τ).set (tRk k) (va_rf v) = tHl (tr τ k 0 v) := by
    rcases hk with q | q | q <;> subst q <;> simp [tHl, tr, tRk]
  have hn : narrow (tyJ1 (tRk k)) (va_rf v) = va_rf v := by
    rcases hk with q | q | q <;> subst q <;> exact rf_nar v
  have hf : fits (tyJ1 (tRk k)) (va_rf v) = true := by
    rcases hk with q | q | q <;> subst q <;> exact rf_fit v
  have hfin : (TJ1 (tRk k)).2.2.2 = false := by
    rcases hk with q | q | q <;> subst q <;> rfl
  have hlt : tRk k < 9 := by rcases hk with q | q | q <;> subst q <;> decide
  exact g_put hC kc_J1 tG_h (tRk k) hlt hlink hfin hn hf hlt hset hT.2.1 (tG_uh rfl (fun b => tNl_h (by omega))) hdg kk
theorem t_putI (hC : CX Y p s m args meth c cc nL own hh n0 u0) (hT : TQ_ Y t τ) {index : Nat} (i : Nat) (hi : i < 2) (x : Int32) (hlink : Cond.fieldLink own index (TJ1 (4 + i)).1 (TJ1 (4 + i)).2.1 (TJ1 (4 + i)).2.2.1 ∈ lw_all) (hdg : decode cc pc = .ok (.putfield index, 3))
    (kk : V Y p l e R s m args below meth c nL n0 u0 (tG t (ti τ i x) B) nn uu Q (pc + 3) L rest) : V Y p l e R s m args below meth c nL n0 u0 (tG t τ B) nn uu Q pc L (.int x :: .ref t :: rest) := by
  have hset : (tHl τ).set (4 + i) (.int x) = tHl (ti τ i x) := by
    rcases (show i = 0 ∨ i = 1 by omega) with q | q <;> subst q <;> simp [tHl, ti]
  have hn : narrow (tyJ1 (4 + i)) (.int x) = .int x := by
    rcases (show i = 0 ∨ i = 1 by omega) with q | q <;> subst q <;> rfl
  have hf : fits (tyJ1 (4 + i)) (.int x) = true := by
    rcases (show i = 0 ∨ i = 1 by omega) with q | q <;> subst q <;> rfl
  have hfin : (TJ1 (4 + i)).2.2.2 = false := by
    rcases (show i = 0 ∨ i = 1 by omega) with q | q <;> subst q <;> rfl
  exact g_put hC kc_J1 tG_h (4 + i) (by omega) hlink hfin hn hf (by show 4 + i < 9; omega) hset hT.2.1 (tG_uh rfl (fun b => rfl)) hdg kk
end TR
def tO (τ : TS) (k : Nat) (r : Option Nat) : Option Nat := match r with | none => none | some a => τ.1 k a
def cO (τ : TS) (r : Option Nat) : Bool := match r with | none => true | some a => τ.2.1 a
def tcO (τ : TS) (r : Option Nat) (b : Bool) : TS := match r with | none => τ | some a => tc τ a b
