set_option maxRecDepth 100000
/-! COMPONENT, 1: what is known of the heap, frames, the host's picture -/
def sub (M G : AH) : Prop := ∀ a e, M a = some e → G a = some e
theorem sub.refl {G : AH} : sub G G := fun _ _ h => h
theorem sub.trans {A B C : AH} (h : sub A B) (k : sub B C) : sub A C := fun a e q => k a e (h a e q)
theorem sub_away {M G : AH} {a : Nat} {e : va_E} (h : sub M G) (hn : M a = none) : sub M (gU G a e) := fun b x hb => by
  by_cases q : b = a
  · subst q; rw [hn] at hb; cases hb
  · rw [gU_n e q]; exact h b x hb
theorem sub_new {M G : AH} {n : Nat} {e : va_E} (h : sub M G) (hlt : ∀ a e, G a = some e → a < n) : sub M (gU G n e) := fun b x hb => by
  have := hlt b x (h b x hb)
  rw [gU_n e (by omega)]
  exact h b x hb
theorem sub_none {M G : AH} {n : Nat} (h : sub M G) (hlt : ∀ a e, G a = some e → a < n) : ∀ a, n ≤ a → M a = none := fun a ha => by
  cases q : M a with
  | none => rfl
  | some e => have := hlt a e (h a e q); omega
theorem sub_put {M M' G : AH} {a : Nat} {e : va_E} (h : sub M G) (h1 : M' a = some e) (h2 : ∀ b, b ≠ a → M' b = M b) : sub M' (gU G a e) := fun b x hb => by
  by_cases q : b = a
  · subst q; rw [h1] at hb; cases hb; exact gU_s _ _ _
  · rw [gU_n e q]; exact h b x ((h2 b q).symm.trans hb)
def FR (D : Nat → Prop) (n : Nat) (G G' : AH) : Prop := ∀ a, a < n → ¬ D a → G' a = G a
def noD : Nat → Prop := fun _ => False
theorem FR.refl {D : Nat → Prop} {n : Nat} {G : AH} : FR D n G G := fun _ _ _ => rfl
theorem FR.put {D : Nat → Prop} {n a : Nat} {e : va_E} {G G' : AH} (h : FR D n G G') (ha : D a ∨ n ≤ a) : FR D n G (gU G' a e) := fun b hb hd => by
  rw [gU_n e (fun q => by subst q; rcases ha with ha | ha; exact hd ha; omega)]
  exact h b hb hd
theorem FR.trans {D D' : Nat → Prop} {n n1 : Nat} {G G1 G2 : AH} (h : FR D n G G1) (k : FR D' n1 G1 G2) (hn : n ≤ n1) (hD : ∀ a, D' a → D a ∨ n ≤ a) : FR D n G G2 := fun a ha hd =>
  (k a (by omega) (fun q => by rcases hD a q with q | q; exact hd q; omega)).trans (h a ha hd)
theorem FR.mono {D D' : Nat → Prop} {n : Nat} {G G' : AH} (h : FR D n G G') (hD : ∀ a, D a → D' a) : FR D' n G G' := fun a ha hd => h a ha (fun q => hd (hD a q))
theorem FR.subs {D : Nat → Prop} {n : Nat} {G G' M : AH} (h : FR D n G G') (hs : sub M G) (hlt : ∀ a e, G a = some e → a < n) (hd : ∀ a, D a → M a = none) : sub M G' := fun a e q => by
  have h1 := hs a e q
  rw [h a (hlt a e h1) (fun k => by rw [hd a k] at q; cases q)]
  exact h1
section CB
variable {Y : YT} {p : Program} {l : Launch} {e : Env} {R : Room} {s : State} {m : MethodId} {args : Array Value} {below : List Frame} {meth : Method} {c : Code} {nL n0 u0 : Nat} {G : AH} {nn uu : Nat} {Q : State → Prop} {pc : Nat} {L : List (Nat × Value)} {rest : List Value} {cc : ByteArray} {own : String} {hh : List (Nat × Nat × Nat × Nat)} {kc ku n : Nat} {PR : Option Value → AH → Nat → Nat → Prop} {PX : String → Nat → AH → Nat → Nat → Prop}
theorem V.lts (k : (∀ a e, G a = some e → a < nn) → V Y p l e R s m args below meth c nL n0 u0 G nn uu Q pc L rest) : V Y p l e R s m args below meth c nL n0 u0 G nn uu Q pc L rest := fun H locs ls g aS b => k (fun _ _ h => g.lt h) H locs ls g aS b
/-- a field of a plug-in, of whatever kind -/
theorem g_getP (hC : CX Y p s m args meth c cc nL own hh n0 u0) {kd a index : Nat} {fs : List Value} (hk : kd ≤ 4) (hg : G a = some (.inr (11 + kd, fs))) (k : Nat) (hk2 : k < 5) (hlink : Cond.fieldLink own index (TX12 k).1 (TX12 k).2.1 (TX12 k).2.2.1 ∈ lw_all) {v : Value} (hv : fs[k]? = some v) (hdg : decode cc pc = .ok (.getfield index, 3))
    (kk : V Y p l e R s m args below meth c nL n0 u0 G nn uu Q (pc + 3) L (v :: rest)) : V Y p l e R s m args below meth c nL n0 u0 G nn uu Q pc L (.ref a :: rest) := by
  rcases kd with _ | _ | _ | _ | _ | kd
  · exact g_get hC kc_X12 hg k hk2 hlink hv hdg kk
  · exact g_get hC kc_X13 hg k hk2 hlink hv hdg kk
  · exact g_get hC kc_X14 hg k hk2 hlink hv hdg kk
  · exact g_get hC kc_X15 hg k hk2 hlink hv hdg kk
  · exact g_get hC kc_X16 hg k hk2 hlink hv hdg kk
  · omega
end CB
theorem lw_SU {own : String} {idx : Nat} {y : MethodName} {b : ByteArray} {L : Nat} {r : Option FieldType} (h1 : Cond.methodLink own idx y ∈ lw_all) (h2 : Cond.sameMethod y.cls y.cls y.name y.desc ∈ lw_all) (h3 : Cond.superclass own y.cls ∈ lw_all) (h4 : Cond.instanceMethod y ∈ lw_all) (h5 : Cond.initialized y.cls ∈ lw_all) (hz : Cond.code y b L r ∈ lw_all) : GoodIn lw_all (va_wsSU own idx y (ws_ y b L r)) := by
  refine lw_app ?_ (lw_meth hz)
  intro w hw
  simp only [List.mem_cons, List.not_mem_nil, or_false] at hw
  rcases hw with e | e | e | e | e
  · rw [e]; exact h1
  · rw [e]; exact h2
  · rw [e]; exact h3
  · rw [e]; exact h4
  · rw [e]; exact h5
theorem lw_O {own : String} {idx : Nat} {C owner : String} {x y : MethodName} {b : ByteArray} {L : Nat} {r : Option FieldType} (h1 : Cond.methodLink own idx x ∈ lw_all) (h2 : Cond.sameMethod x.cls owner x.name x.desc ∈ lw_all) (h3 : Cond.instanceMethod ⟨owner, x.name, x.desc⟩ ∈ lw_all) (h4 : Cond.selects C x y ∈ lw_all) (h5 : Cond.instanceMethod y ∈ lw_all) (h6 : Cond.initialized y.cls ∈ lw_all) (hz : Cond.code y b L r ∈ lw_all) : GoodIn lw_all (va_wsO own idx C owner x y (ws_ y b L r)) := by
  refine lw_app ?_ (lw_meth hz)
  intro w hw
  simp only [List.mem_cons, List.not_mem_nil, or_false] at hw
  rcases hw with e | e | e | e | e | e
  · rw [e]; exact h1
  · rw [e]; exact h2
  · rw [e]; exact h3
  · rw [e]; exact h4
  · rw [e]; exact h5
  · rw [e]; exact h6
theorem rf_narA {ty : FieldType} (r : Option Nat) : narrow (.array ty) (va_rf r) = va_rf r := by cases r <;> rfl
theorem rf_fitA {ty : FieldType} (r : Option Nat) : fits (.array ty) (va_rf r) = true := by cases r <;> rfl
theorem KK.stR {Y : YT} {U : State} (h : KK Y U) {C n d : String} (hl : Cond.laysStatic C n d ∈ lw_tbl) (hi : Cond.initialized C ∈ lw_all) (he : Cond.isRef (.static C n d) ∈ flatC narrow_1) : ∃ r : Option Nat, va_Z C n d (va_rf r) (fun q => yz Y ≤ q) (yS Y) (yH Y) := by
  obtain ⟨b, h1, h2⟩ := h.2.2
  have h3 := flat_of_before _ h2 _ (show Cond.isRef (.static C n d) ∈ flatC given_1 ++ flatC narrow_1 from List.mem_append_right _ he)
  have h4 : ∃ r : Option Nat, (Term.static C n d).eval #[Value.ref b] (yS Y) none [] (yS Y) = some (va_rf r) := by
    simp only [Cond.before, Cond.holds, Cond.value] at h3
    cases q : (Term.static C n d).eval #[Value.ref b] (yS Y) none [] (yS Y) with
    | none => rw [q] at h3; simp at h3
    | some v => rw [q] at h3; cases v <;> simp at h3 <;> first | exact ⟨none, rfl⟩ | exact ⟨some _, rfl⟩
  obtain ⟨a, q1⟩ := h4
  exact ⟨a, va_Zof (h1 _ hl) (h1 _ (lw_all_tbl hi)) q1 (fun a ha q => absurd ha (Nat.not_lt.mpr q))⟩
theorem sn_UNASSIGNED_STACK : Cond.isRef (.static "java/lang/Throwable" "UNASSIGNED_STACK" "[Ljava/lang/StackTraceElement;") ∈ flatC narrow_1 := by decide +kernel
theorem sn_SUPPRESSED_SENTINEL : Cond.isRef (.static "java/lang/Throwable" "SUPPRESSED_SENTINEL" "Ljava/util/List;") ∈ flatC narrow_1 := by decide +kernel
/-! the host: h the object, h+1 .. h+6 its arrays, h+7 the names; N plug-ins; σ what the model holds; η: what stands behind, the references -/
abbrev HV : Type := (Nat → Nat → Int32) × (Nat → Nat → Option Nat)
def hD (h a : Nat) : Prop := h ≤ a ∧ a < h + 7
def hA (N wh : Nat) (σ : MS) (g : Nat → Nat → Int32) (i : Nat) : Int32 := if i < N then tl σ wh i else g wh i
def hE (Y : YT) (h N : Nat) (σ : MS) (η : HV) (j : Nat) : Option va_E := match j with
  | 0 => some (.inr (2, [.int (σ.1 0 0), .int (σ.1 4 0), .int (σ.1 2 0), .int (σ.1 3 0), .ref (h + 1), .ref (h + 2), .ref (h + 3), .ref (h + 4), .ref (h + 5), .ref (h + 6), .ref (h + 7)]))
  | 1 => some (.inl (yA Y 6, 12, .inr (.inr (.inr (.inr (η.2 0))))))
  | 2 => some (.inl (yA Y 0, 12, .inl (hA N 0 σ η.1)))
  | 3 => some (.inl (yA Y 0, 12, .inl (hA N 5 σ η.1)))
  | 4 => some (.inl (yA Y 0, 12, .inl (hA N 8 σ η.1)))
  | 5 => some (.inl (yA Y 0, 12, .inl (hA N 7 σ η.1)))
  | 6 => some (.inl (yA Y 7, 24, .inr (.inr (.inr (.inr (η.2 1))))))
  | _ => none
def hM (Y : YT) (h N : Nat) (σ : MS) (η : HV) : AH := fun a => if h ≤ a then hE Y h N σ η (a - h) else none
theorem hM_j {Y : YT} {h N : Nat} {σ : MS} {η : HV} (j : Nat) : hM Y h N σ η (h + j) = hE Y h N σ η j := by
  unfold hM
  rw [if_pos (Nat.le_add_right h j), Nat.add_sub_cancel_left]
theorem hM_0 {Y : YT} {h N K : Nat} {σ : MS} {η : HV} (hN : σ.1 0 0 = nI N) (hK : σ.1 4 0 = nI K) : hM Y h N σ η h = some (.inr (2, [.int (nI N), .int (nI K), .int (σ.1 2 0), .int (σ.1 3 0), .ref (h + 1), .ref (h + 2), .ref (h + 3), .ref (h + 4), .ref (h + 5), .ref (h + 6), .ref (h + 7)])) := by
  rw [← hN, ← hK]; exact hM_j 0
theorem hM_none {Y : YT} {h N : Nat} {σ : MS} {η : HV} {a : Nat} (ha : ¬ hD h a) : hM Y h N σ η a = none := by
  unfold hM
  by_cases q : h ≤ a
  · rw [if_pos q]
    obtain ⟨j, rfl⟩ : ∃ j, a = h + j := ⟨a - h, by omega⟩
    rw [Nat.add_sub_cancel_left]
    unfold hD at ha
    match j, ha with
    | 0, ha | 1, ha | 2, ha | 3, ha | 4, ha | 5, ha | 6, ha => exact absurd ⟨by omega, by omega⟩ ha
    | _ + 7, _ => rfl
  · rw [if_neg q]
theorem hA_in {N wh i : Nat} {σ : MS} {g : Nat → Nat → Int32} (h : i < N) : hA N wh σ g i = tl σ wh i := if_pos h
theorem hA_put {N wh q i : Nat} {σ : MS} {g : Nat → Nat → Int32} {x : Int32} (h : q < N) (hi : i = 12 * wh + q) : upd (hA N wh σ g) q x = hA N wh (mu σ 1 i x) g := by
  funext j
  by_cases hj : j = q
  · subst hj; subst hi; simp [upd, hA, h, tl, mu_at]
  · have : ¬ 12 * wh + j = i := by omega
    simp [upd, hA, tl, mu_at, hj, this]
theorem hA_oth {N wh wh' q i : Nat} {σ : MS} {g : Nat → Nat → Int32} {x : Int32} (h : q < N) (hN : N ≤ 12) (hi : i = 12 * wh + q) (hw : wh' ≠ wh) : hA N wh' (mu σ 1 i x) g = hA N wh' σ g := by
  funext j
  unfold hA
  by_cases hj : j < N
  · have : ¬ 12 * wh' + j = i := by omega
    rw [if_pos hj, if_pos hj]; simp [tl, mu_at, this]
  · rw [if_neg hj, if_neg hj]
theorem hA_k {N wh k i : Nat} {σ : MS} {g : Nat → Nat → Int32} {x : Int32} (hk : k ≠ 1) : hA N wh (mu σ k i x) g = hA N wh σ g := by
  funext j
  unfold hA
  by_cases hj : j < N
  · rw [if_pos hj, if_pos hj]; exact mu_nk (Ne.symm hk)
  · rw [if_neg hj, if_neg hj]
theorem hM_ext {Y : YT} {h N N' : Nat} {σ σ' : MS} {η η' : HV} (j : Nat) (hj : ∀ i, i ≠ j → hE Y h N' σ' η' i = hE Y h N σ η i) : ∀ b, b ≠ h + j → hM Y h N' σ' η' b = hM Y h N σ η b := fun b hb => by
  unfold hM
  by_cases q : h ≤ b
  · rw [if_pos q, if_pos q]; exact hj _ (by omega)
  · rw [if_neg q, if_neg q]

theorem hM_w0 {Y : YT} {h N q i : Nat} {σ : MS} {η : HV} {G : AH} {x : Int32} (hs : sub (hM Y h N σ η) G) (hq : q < N) (hN : N ≤ 12) (hi : i = 12 * 0 + q) : sub (hM Y h N (mu σ 1 i x) η) (gU G (h + 2) (.inl (yA Y 0, 12, .inl (upd (hA N 0 σ η.1) q x)))) := by
  refine sub_put hs ((hM_j 2).trans (by rw [hA_put hq hi]; rfl)) (hM_ext 2 fun k hk => ?_)
  match k, hk with
  | 0, _ => simp only [hE, mu_nk (show 0 ≠ 1 by decide), mu_nk (show 4 ≠ 1 by decide), mu_nk (show 2 ≠ 1 by decide), mu_nk (show 3 ≠ 1 by decide)]
  | 1, _ => rfl
  | 6, _ => rfl
  | 2, hk => exact absurd rfl hk
  | 3, _ => simp only [hE, hA_oth (wh' := 5) hq hN hi (by decide)]
  | 4, _ => simp only [hE, hA_oth (wh' := 8) hq hN hi (by decide)]
  | 5, _ => simp only [hE, hA_oth (wh' := 7) hq hN hi (by decide)]
  | _ + 7, _ => rfl
theorem hM_w5 {Y : YT} {h N q i : Nat} {σ : MS} {η : HV} {G : AH} {x : Int32} (hs : sub (hM Y h N σ η) G) (hq : q < N) (hN : N ≤ 12) (hi : i = 12 * 5 + q) : sub (hM Y h N (mu σ 1 i x) η) (gU G (h + 3) (.inl (yA Y 0, 12, .inl (upd (hA N 5 σ η.1) q x)))) := by
  refine sub_put hs ((hM_j 3).trans (by rw [hA_put hq hi]; rfl)) (hM_ext 3 fun k hk => ?_)
  match k, hk with
  | 0, _ => simp only [hE, mu_nk (show 0 ≠ 1 by decide), mu_nk (show 4 ≠ 1 by decide), mu_nk (show 2 ≠ 1 by decide), mu_nk (show 3 ≠ 1 by decide)]
  | 1, _ => rfl
  | 6, _ => rfl
  | 2, _ => simp only [hE, hA_oth (wh' := 0) hq hN hi (by decide)]
  | 3, hk => exact absurd rfl hk
  | 4, _ => simp only [hE, hA_oth (wh' := 8) hq hN hi (by decide)]
  | 5, _ => simp only [hE, hA_oth (wh' := 7) hq hN hi (by decide)]
  | _ + 7, _ => rfl
theorem hM_w8 {Y : YT} {h N q i : Nat} {σ : MS} {η : HV} {G : AH} {x : Int32} (hs : sub (hM Y h N σ η) G) (hq : q < N) (hN : N ≤ 12) (hi : i = 12 * 8 + q) : sub (hM Y h N (mu σ 1 i x) η) (gU G (h + 4) (.inl (yA Y 0, 12, .inl (upd (hA N 8 σ η.1) q x)))) := by
  refine sub_put hs ((hM_j 4).trans (by rw [hA_put hq hi]; rfl)) (hM_ext 4 fun k hk => ?_)
  match k, hk with
  | 0, _ => simp only [hE, mu_nk (show 0 ≠ 1 by decide), mu_nk (show 4 ≠ 1 by decide), mu_nk (show 2 ≠ 1 by decide), mu_nk (show 3 ≠ 1 by decide)]
  | 1, _ => rfl
  | 6, _ => rfl
  | 2, _ => simp only [hE, hA_oth (wh' := 0) hq hN hi (by decide)]
  | 3, _ => simp only [hE, hA_oth (wh' := 5) hq hN hi (by decide)]
  | 4, hk => exact absurd rfl hk
  | 5, _ => simp only [hE, hA_oth (wh' := 7) hq hN hi (by decide)]
  | _ + 7, _ => rfl
theorem hM_w7 {Y : YT} {h N q i : Nat} {σ : MS} {η : HV} {G : AH} {x : Int32} (hs : sub (hM Y h N σ η) G) (hq : q < N) (hN : N ≤ 12) (hi : i = 12 * 7 + q) : sub (hM Y h N (mu σ 1 i x) η) (gU G (h + 5) (.inl (yA Y 0, 12, .inl (upd (hA N 7 σ η.1) q x)))) := by
  refine sub_put hs ((hM_j 5).trans (by rw [hA_put hq hi]; rfl)) (hM_ext 5 fun k hk => ?_)
  match k, hk with
  | 0, _ => simp only [hE, mu_nk (show 0 ≠ 1 by decide), mu_nk (show 4 ≠ 1 by decide), mu_nk (show 2 ≠ 1 by decide), mu_nk (show 3 ≠ 1 by decide)]
  | 1, _ => rfl
  | 6, _ => rfl
  | 2, _ => simp only [hE, hA_oth (wh' := 0) hq hN hi (by decide)]
  | 3, _ => simp only [hE, hA_oth (wh' := 5) hq hN hi (by decide)]
  | 4, _ => simp only [hE, hA_oth (wh' := 8) hq hN hi (by decide)]
  | 5, hk => exact absurd rfl hk
  | _ + 7, _ => rfl
theorem hM_f2 {Y : YT} {h N : Nat} {σ : MS} {η : HV} {G : AH} {x : Int32} {fs : List Value} (hs : sub (hM Y h N σ η) G) (hf : fs = [.int (σ.1 0 0), .int (σ.1 4 0), .int x, .int (σ.1 3 0), .ref (h + 1), .ref (h + 2), .ref (h + 3), .ref (h + 4), .ref (h + 5), .ref (h + 6), .ref (h + 7)]) : sub (hM Y h N (mu σ 2 0 x) η) (gU G h (.inr (2, fs))) := by
  subst hf
  refine sub_put (a := h) hs ((hM_j 0).trans (by simp [hE, mu_at])) (hM_ext 0 fun k hk => ?_)
  match k, hk with
  | 0, hk => exact absurd rfl hk
  | 1, _ => rfl
  | 2, _ | 3, _ | 4, _ | 5, _ => simp only [hE, hA_k (show 2 ≠ 1 by decide)]
  | 6, _ => rfl
  | _ + 7, _ => rfl
theorem hM_f3 {Y : YT} {h N : Nat} {σ : MS} {η : HV} {G : AH} {x : Int32} {fs : List Value} (hs : sub (hM Y h N σ η) G) (hf : fs = [.int (σ.1 0 0), .int (σ.1 4 0), .int (σ.1 2 0), .int x, .ref (h + 1), .ref (h + 2), .ref (h + 3), .ref (h + 4), .ref (h + 5), .ref (h + 6), .ref (h + 7)]) : sub (hM Y h N (mu σ 3 0 x) η) (gU G h (.inr (2, fs))) := by
  subst hf
  refine sub_put (a := h) hs ((hM_j 0).trans (by simp [hE, mu_at])) (hM_ext 0 fun k hk => ?_)
  match k, hk with
  | 0, hk => exact absurd rfl hk
  | 1, _ => rfl
  | 2, _ | 3, _ | 4, _ | 5, _ => simp only [hE, hA_k (show 3 ≠ 1 by decide)]
  | 6, _ => rfl
  | _ + 7, _ => rfl
theorem hM_f4 {Y : YT} {h N : Nat} {σ : MS} {η : HV} {G : AH} {x : Int32} {fs : List Value} (hs : sub (hM Y h N σ η) G) (hf : fs = [.int (σ.1 0 0), .int x, .int (σ.1 2 0), .int (σ.1 3 0), .ref (h + 1), .ref (h + 2), .ref (h + 3), .ref (h + 4), .ref (h + 5), .ref (h + 6), .ref (h + 7)]) : sub (hM Y h N (mu σ 4 0 x) η) (gU G h (.inr (2, fs))) := by
  subst hf
  refine sub_put (a := h) hs ((hM_j 0).trans (by simp [hE, mu_at])) (hM_ext 0 fun k hk => ?_)
  match k, hk with
  | 0, hk => exact absurd rfl hk
  | 1, _ => rfl
  | 2, _ | 3, _ | 4, _ | 5, _ => simp only [hE, hA_k (show 4 ≠ 1 by decide)]
  | 6, _ => rfl
  | _ + 7, _ => rfl
/-- letters and the number that they tell -/
def numD (d : Nat → Nat) (N : Nat) : Nat := foldN (fun a i => 27 * a + d i) 0 N
def NK (Y : YT) (G : AH) (k : Nat) (x : Int32) : Prop := ∃ (va N : Nat) (f : Nat → Int32) (d : Nat → Nat) (x1 x2 : Int32), G k = some (.inr (37, [.ref va, .int 0, .int x1, .int x2])) ∧ G va = some (.inl (yA Y 2, N, .inl f)) ∧ 1 ≤ N ∧ N ≤ 4 ∧ (∀ i, i < N → f i = nI (96 + d i) ∧ 1 ≤ d i ∧ d i ≤ 26) ∧ x = nI (numD d N)
theorem NK.subs {Y : YT} {I G : AH} (hs : sub I G) {k : Nat} {x : Int32} (h : NK Y I k x) : NK Y G k x := by
  obtain ⟨va, N, f, d, x1, x2, h1, h2, h3⟩ := h
  exact ⟨va, N, f, d, x1, x2, hs _ _ h1, hs _ _ h2, h3⟩
/-- the plug-ins: what a host's array refers to, as the model tells -/
def PLs (Y : YT) (N : Nat) (σ : MS) (I : AH) (pr : Nat → Option Nat) : Prop := ∀ q, q < N → ∃ a nm kd, pr q = some a ∧ kd ≤ 4 ∧ tl σ 1 q = nI kd ∧ I a = some (.inr (11 + kd, [.int (nI q), .ref nm, .int (tl σ 2 q), .int (tl σ 3 q), .int (tl σ 4 q)])) ∧ NK Y I nm (tl σ 6 q)
/-- the hooks -/
def HKs (K : Nat) (σ : MS) (I : AH) (hr : Nat → Option Nat) : Prop := ∀ q, q < K → ∃ a, hr q = some a ∧ I a = some (.inr (26, [.int (nI q), .int (hkF σ 0 q), .int (hkF σ 1 q), .int (hkF σ 2 q), .int (hkF σ 3 q), .int (hkF σ 4 q)]))
