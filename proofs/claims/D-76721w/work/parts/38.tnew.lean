set_option maxRecDepth 100000
/-! TREE MAPS, 8: a new entry -/
def tnew (τ : TS) (a : Nat) : TS := ((fun k b => if b = a ∧ k < 5 then none else τ.1 k b), (fun b => if b = a then false else τ.2.1 b), τ.2.2.1, fun b => b == a || τ.2.2.2 b)
theorem tnew_hit {τ : TS} {a k : Nat} (h : k < 5) : (tnew τ a).1 k a = none := if_pos ⟨rfl, h⟩
theorem tnew_na {τ : TS} {a b k : Nat} (h : b ≠ a) : (tnew τ a).1 k b = τ.1 k b := if_neg (fun q => h q.1)
theorem tnew_h {τ : TS} {a b k : Nat} (h : 5 ≤ k) : (tnew τ a).1 k b = τ.1 k b := if_neg (fun q => by omega)
theorem tnew_chit {τ : TS} {a : Nat} : (tnew τ a).2.1 a = false := if_pos rfl
theorem tnew_cna {τ : TS} {a b : Nat} (h : b ≠ a) : (tnew τ a).2.1 b = τ.2.1 b := if_neg h
theorem tnew_S {τ : TS} {a : Nat} : (tnew τ a).2.2.2 a = true := by simp [tnew]
theorem tnew_in {τ : TS} {a b : Nat} (h : τ.2.2.2 b = true) : (tnew τ a).2.2.2 b = true := by simp [tnew, h]
theorem tnew_T {Y : YT} {t a : Nat} {τ : TS} (h : TQ_ Y t τ) (ht : a ≠ t) (hz : yz Y ≤ a) : TQ_ Y t (tnew τ a) := by
  obtain ⟨h1, h2, h3⟩ := h
  refine ⟨?_, h2, fun b hb => ?_⟩
  · simp [tnew, h1, Ne.symm ht]
  · by_cases q : b = a
    · rw [q]; exact hz
    · refine h3 b ?_
      simpa [tnew, q] using hb
theorem tG_new {t a : Nat} {τ : TS} {B : AH} (h : a ≠ t) : gU (tG t τ B) a (.inr (42, [.null, .null, .null, .null, .null, .int 0])) = tG t (tnew τ a) B := by
  funext b
  by_cases q : b = a
  · subst q
    rw [gU_s]
    unfold tG
    rw [if_neg h, if_pos tnew_S]
    unfold tNl
    rw [tnew_hit (by decide), tnew_hit (by decide), tnew_hit (by decide), tnew_hit (by decide), tnew_hit (by decide), tnew_chit]
    rfl
  · rw [gU_n _ q]
    have e1 : tHl (tnew τ a) = tHl τ := by
      unfold tHl
      rw [tnew_h (by decide), tnew_h (by decide), tnew_h (by decide), tnew_h (by decide)]
      rfl
    have e2 : tNl (tnew τ a) b = tNl τ b := by
      unfold tNl
      rw [tnew_na q, tnew_na q, tnew_na q, tnew_na q, tnew_na q, tnew_cna q]
    have e3 : (tnew τ a).2.2.2 b = τ.2.2.2 b := by simp [tnew, q]
    unfold tG
    rw [e1, e2, e3]
section TR2
variable {Y : YT} {p : Program} {l : Launch} {e : Env} {R : Room} {s : State} {m : MethodId} {args : Array Value} {below : List Frame} {meth : Method} {c : Code} {nL n0 u0 : Nat} {nn uu : Nat} {Q : State → Prop} {pc : Nat} {L : List (Nat × Value)} {rest : List Value} {cc : ByteArray} {own : String} {hh : List (Nat × Nat × Nat × Nat)} {t a : Nat} {τ : TS} {B : AH}
theorem t_new (hC : CX Y p s m args meth c cc nL own hh n0 u0) (hnt : nn ≠ t) {index nS : Nat} (hcl : Cond.classLink own index RJ23 ∈ lw_all) (hinst : Cond.instantiable RJ23 nS ∈ lw_all) (hini : Cond.initialized RJ23 ∈ lw_all) (hrc : nn + 1 ≤ n0 + R.cells) (hru : uu + nS ≤ u0 + R.slots) (hdg : decode cc pc = .ok (.new index, 3))
    (kk : V Y p l e R s m args below meth c nL n0 u0 (tG t (tnew τ nn) B) (nn + 1) (uu + nS) Q (pc + 3) L (.ref nn :: rest)) : V Y p l e R s m args below meth c nL n0 u0 (tG t τ B) nn uu Q pc L rest :=
  g_new hC kc_J23 hcl hinst hini (fs := [.null, .null, .null, .null, .null, .int 0]) rfl (tG_new hnt) hrc hru hdg kk
end TR2
set_option maxHeartbeats 1000000 in
theorem met_J1_J23init {Y : YT} {l : Launch} {t n u : Nat} {τ : TS} {B : AH} (hT : TQ_ Y t τ) (a_ : Nat) (k_ : Nat) (v_ : Nat) (g_ : Option Nat)  (ha : τ.2.2.2 a_ = true) : GM Y l yJ23_init (ws_ yJ23_init cJ23_init 4 none) 1 24 [.ref a_, .ref k_, .ref v_, va_rf g_] (tG t τ B) n u 0 0 (pV (fun G' n' u' => tG t (tr (tr (tr (tc τ a_ true) 0 a_ (some k_)) 1 a_ (some v_)) 4 a_ g_) B = G' ∧ n = n' ∧ u = u')) noX := by
  rcases g_ with _ | g_
  · refine GM.intro (own := RJ23) rfl (by decide +kernel) (Nat.le_of_ble_eq_true rfl) ?_
    intro p e s m args below meth c R Q hC hr hnm hF hL hE
    have hE1 := hE.1
    have hE2 := hE.2.1
    show V Y p l e R s m args below meth c 4 n u (tG t τ B) n u Q 0 [(0, .ref a_), (1, .ref k_), (2, .ref v_), (3, .null)] []
    refine g_aload_n hC dJ23_init_0 rfl 0 rfl ?_
    refine g_objInit hC q1526 q178 q179 dJ23_init_1 (by omega) (by first | (simp; omega) | (simp [Value.category]; omega)) ?_
    refine g_aload_n hC dJ23_init_4 rfl 0 rfl ?_
    refine g_iconst (v := 1) hC dJ23_init_5 rfl ?_
    refine t_putC (τ := τ) hC hT true ha q1545 dJ23_init_6 ?_
    refine g_aload_n hC dJ23_init_9 rfl 0 rfl ?_
    refine g_aload_n hC dJ23_init_10 rfl 1 rfl ?_
    refine t_putN (τ := (tc τ a_ true)) hC hT 0 (by decide) (some k_) ha q1527 dJ23_init_11 ?_
    refine g_aload_n hC dJ23_init_14 rfl 0 rfl ?_
    refine g_aload_n hC dJ23_init_15 rfl 2 rfl ?_
    refine t_putN (τ := (tr (tc τ a_ true) 0 a_ (some k_))) hC hT 1 (by decide) (some v_) ha q1535 dJ23_init_16 ?_
    refine g_aload_n hC dJ23_init_19 rfl 0 rfl ?_
    refine g_aload_nN hC dJ23_init_20 rfl 3 rfl ?_
    refine t_putN (τ := (tr (tr (tc τ a_ true) 0 a_ (some k_)) 1 a_ (some v_))) hC hT 4 (by decide) none ha q1543 dJ23_init_21 ?_
    refine g_vret hC hr ⟨rfl, ?_⟩ (by omega) (by omega) hE dJ23_init_24
    exact ⟨rfl, rfl, rfl⟩
  · refine GM.intro (own := RJ23) rfl (by decide +kernel) (Nat.le_of_ble_eq_true rfl) ?_
    intro p e s m args below meth c R Q hC hr hnm hF hL hE
    have hE1 := hE.1
    have hE2 := hE.2.1
    show V Y p l e R s m args below meth c 4 n u (tG t τ B) n u Q 0 [(0, .ref a_), (1, .ref k_), (2, .ref v_), (3, .ref g_)] []
    refine g_aload_n hC dJ23_init_0 rfl 0 rfl ?_
    refine g_objInit hC q1526 q178 q179 dJ23_init_1 (by omega) (by first | (simp; omega) | (simp [Value.category]; omega)) ?_
    refine g_aload_n hC dJ23_init_4 rfl 0 rfl ?_
    refine g_iconst (v := 1) hC dJ23_init_5 rfl ?_
    refine t_putC (τ := τ) hC hT true ha q1545 dJ23_init_6 ?_
    refine g_aload_n hC dJ23_init_9 rfl 0 rfl ?_
    refine g_aload_n hC dJ23_init_10 rfl 1 rfl ?_
    refine t_putN (τ := (tc τ a_ true)) hC hT 0 (by decide) (some k_) ha q1527 dJ23_init_11 ?_
    refine g_aload_n hC dJ23_init_14 rfl 0 rfl ?_
    refine g_aload_n hC dJ23_init_15 rfl 2 rfl ?_
    refine t_putN (τ := (tr (tc τ a_ true) 0 a_ (some k_))) hC hT 1 (by decide) (some v_) ha q1535 dJ23_init_16 ?_
    refine g_aload_n hC dJ23_init_19 rfl 0 rfl ?_
    refine g_aload_n hC dJ23_init_20 rfl 3 rfl ?_
    refine t_putN (τ := (tr (tr (tc τ a_ true) 0 a_ (some k_)) 1 a_ (some v_))) hC hT 4 (by decide) (some g_) ha q1543 dJ23_init_21 ?_
    refine g_vret hC hr ⟨rfl, ?_⟩ (by omega) (by omega) hE dJ23_init_24
    exact ⟨rfl, rfl, rfl⟩
set_option maxHeartbeats 1000000 in
theorem met_J1_J23init0 {Y : YT} {l : Launch} {t n u : Nat} {τ : TS} {B : AH} (hT : TQ_ Y t τ) (a_ : Nat) (k_ : Nat) (g_ : Option Nat)  (ha : τ.2.2.2 a_ = true) : GM Y l yJ23_init (ws_ yJ23_init cJ23_init 4 none) 1 24 [.ref a_, .ref k_, .null, va_rf g_] (tG t τ B) n u 0 0 (pV (fun G' n' u' => tG t (tr (tr (tr (tc τ a_ true) 0 a_ (some k_)) 1 a_ (none)) 4 a_ g_) B = G' ∧ n = n' ∧ u = u')) noX := by
  rcases g_ with _ | g_
  · refine GM.intro (own := RJ23) rfl (by decide +kernel) (Nat.le_of_ble_eq_true rfl) ?_
    intro p e s m args below meth c R Q hC hr hnm hF hL hE
    have hE1 := hE.1
    have hE2 := hE.2.1
    show V Y p l e R s m args below meth c 4 n u (tG t τ B) n u Q 0 [(0, .ref a_), (1, .ref k_), (2, .null), (3, .null)] []
    refine g_aload_n hC dJ23_init_0 rfl 0 rfl ?_
    refine g_objInit hC q1526 q178 q179 dJ23_init_1 (by omega) (by first | (simp; omega) | (simp [Value.category]; omega)) ?_
    refine g_aload_n hC dJ23_init_4 rfl 0 rfl ?_
    refine g_iconst (v := 1) hC dJ23_init_5 rfl ?_
    refine t_putC (τ := τ) hC hT true ha q1545 dJ23_init_6 ?_
    refine g_aload_n hC dJ23_init_9 rfl 0 rfl ?_
    refine g_aload_n hC dJ23_init_10 rfl 1 rfl ?_
    refine t_putN (τ := (tc τ a_ true)) hC hT 0 (by decide) (some k_) ha q1527 dJ23_init_11 ?_
    refine g_aload_n hC dJ23_init_14 rfl 0 rfl ?_
    refine g_aload_nN hC dJ23_init_15 rfl 2 rfl ?_
    refine t_putN (τ := (tr (tc τ a_ true) 0 a_ (some k_))) hC hT 1 (by decide) none ha q1535 dJ23_init_16 ?_
    refine g_aload_n hC dJ23_init_19 rfl 0 rfl ?_
    refine g_aload_nN hC dJ23_init_20 rfl 3 rfl ?_
    refine t_putN (τ := (tr (tr (tc τ a_ true) 0 a_ (some k_)) 1 a_ none)) hC hT 4 (by decide) none ha q1543 dJ23_init_21 ?_
    refine g_vret hC hr ⟨rfl, ?_⟩ (by omega) (by omega) hE dJ23_init_24
    exact ⟨rfl, rfl, rfl⟩
  · refine GM.intro (own := RJ23) rfl (by decide +kernel) (Nat.le_of_ble_eq_true rfl) ?_
    intro p e s m args below meth c R Q hC hr hnm hF hL hE
    have hE1 := hE.1
    have hE2 := hE.2.1
    show V Y p l e R s m args below meth c 4 n u (tG t τ B) n u Q 0 [(0, .ref a_), (1, .ref k_), (2, .null), (3, .ref g_)] []
    refine g_aload_n hC dJ23_init_0 rfl 0 rfl ?_
    refine g_objInit hC q1526 q178 q179 dJ23_init_1 (by omega) (by first | (simp; omega) | (simp [Value.category]; omega)) ?_
    refine g_aload_n hC dJ23_init_4 rfl 0 rfl ?_
    refine g_iconst (v := 1) hC dJ23_init_5 rfl ?_
    refine t_putC (τ := τ) hC hT true ha q1545 dJ23_init_6 ?_
    refine g_aload_n hC dJ23_init_9 rfl 0 rfl ?_
    refine g_aload_n hC dJ23_init_10 rfl 1 rfl ?_
    refine t_putN (τ := (tc τ a_ true)) hC hT 0 (by decide) (some k_) ha q1527 dJ23_init_11 ?_
    refine g_aload_n hC dJ23_init_14 rfl 0 rfl ?_
    refine g_aload_nN hC dJ23_init_15 rfl 2 rfl ?_
    refine t_putN (τ := (tr (tc τ a_ true) 0 a_ (some k_))) hC hT 1 (by decide) none ha q1535 dJ23_init_16 ?_
    refine g_aload_n hC dJ23_init_19 rfl 0 rfl ?_
    refine g_aload_n hC dJ23_init_20 rfl 3 rfl ?_
    refine t_putN (τ := (tr (tr (tc τ a_ true) 0 a_ (some k_)) 1 a_ none)) hC hT 4 (by decide) (some g_) ha q1543 dJ23_init_21 ?_
    refine g_vret hC hr ⟨rfl, ?_⟩ (by omega) (by omega) hE dJ23_init_24
    exact ⟨rfl, rfl, rfl⟩
