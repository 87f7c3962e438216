set_option maxRecDepth 100000
/-! COMPONENT, 15: stopping in waves -/
def rkY (σ : MS) (I : AH) (a : Nat) : Int := match I a with
  | some (.inr (_, .int v :: _)) => -(tl σ 7 v.toNatClampNeg).toInt
  | _ => 0
theorem rkY_at {σ : MS} {I : AH} {a q : Nat} (h : I a = some (.inr (40, [.int (nI q)]))) (hq : q < 2 ^ 31) : rkY σ I a = -(tl σ 7 q).toInt := by
  unfold rkY; rw [h]; simp only; rw [nI_clamp hq]
theorem rkY_cg {a b : MS} {I : AH} (h : ∀ q, tl a 7 q = tl b 7 q) : rkY a I = rkY b I := by
  funext x; unfold rkY; split
  · rw [h]
  · rfl
/-- the boxes of the plug-ins chosen, below i -/
def Sx (P : Nat → Prop) (ba : Nat → Nat) (i : Nat) (b : Nat) : Prop := ∃ q, q < i ∧ P q ∧ ba q = b
abbrev BA (I : AH) (ba : Nat → Nat) (P : Nat → Prop) (i : Nat) : Prop := ∀ q, q < i → P q → I (ba q) = some (.inr (40, [.int (nI q)]))
theorem box_inj {x y : Int32} (h : (some (Sum.inr (40, [Value.int x])) : Option va_E) = some (Sum.inr (40, [Value.int y]))) : x = y := by
  injection h with h; injection h with h; injection h with _ h; injection h with h; injection h
theorem BA_inj {I : AH} {ba : Nat → Nat} {P : Nat → Prop} {i q q' : Nat} (h : BA I ba P i) (hi : i < 1000) (h1 : q < i) (h2 : q' < i) (p1 : P q) (p2 : P q') (e : ba q = ba q') : q = q' := by
  have a := h q h1 p1; have b := h q' h2 p2
  rw [e, b] at a
  exact (nI_eq (by omega) (by omega)).mp (box_inj a).symm
def upN (f : Nat → Nat) (k x : Nat) : Nat → Nat := fun j => if j = k then x else f j
theorem upN_at {f : Nat → Nat} {k x : Nat} : upN f k x k = x := if_pos rfl
theorem upN_ne {f : Nat → Nat} {k i x : Nat} (h : i ≠ k) : upN f k x i = f i := if_neg h
theorem BA_s {I : AH} {ba : Nat → Nat} {P : Nat → Prop} {i b : Nat} (h : BA I ba P i) (hb : I b = some (.inr (40, [.int (nI i)]))) : BA I (upN ba i b) P (i + 1) := fun q hq hp => by
  by_cases e : q = i
  · subst e; rw [upN_at]; exact hb
  · rw [upN_ne e]; exact h q (by omega) hp
theorem BA_n {I : AH} {ba : Nat → Nat} {P : Nat → Prop} {i : Nat} (h : BA I ba P i) (hp : ¬ P i) : BA I ba P (i + 1) := fun q hq hq2 => by
  by_cases e : q = i
  · subst e; exact absurd hq2 hp
  · exact h q (by omega) hq2
theorem Sx_s {P : Nat → Prop} {ba : Nat → Nat} {i b : Nat} (hp : P i) (a : Nat) : Sx P (upN ba i b) (i + 1) a ↔ (Sx P ba i a ∨ a = b) := by
  constructor
  · rintro ⟨q, h1, h2, h3⟩
    by_cases e : q = i
    · subst e; rw [upN_at] at h3; exact .inr h3.symm
    · rw [upN_ne e] at h3; exact .inl ⟨q, by omega, h2, h3⟩
  · rintro (⟨q, h1, h2, h3⟩ | rfl)
    · exact ⟨q, by omega, h2, by rw [upN_ne (by omega)]; exact h3⟩
    · exact ⟨i, by omega, hp, upN_at⟩
theorem Sx_n {P : Nat → Prop} {ba : Nat → Nat} {i : Nat} (hp : ¬ P i) (a : Nat) : Sx P ba (i + 1) a ↔ Sx P ba i a := by
  constructor
  · rintro ⟨q, h1, h2, h3⟩
    by_cases e : q = i
    · subst e; exact absurd h2 hp
    · exact ⟨q, by omega, h2, h3⟩
  · rintro ⟨q, h1, h2, h3⟩; exact ⟨q, by omega, h2, h3⟩
theorem PE_iff {S S' : Nat → Prop} {f : Nat → Option Nat} {n : Nat} (h : PE S f n) (e : ∀ a, S a ↔ S' a) : PE S' f n := ⟨fun i hi => by obtain ⟨b, b1, b2⟩ := h.1 i hi; exact ⟨b, b1, (e b).mp b2⟩, fun b hb => h.2.1 b ((e b).mpr hb), h.2.2⟩
theorem PE_zero {S : Nat → Prop} {f : Nat → Option Nat} (h : PE S f 0) : ∀ a, ¬ S a := fun a ha => by obtain ⟨i, hi, -⟩ := h.2.1 a ha; omega
/-- waves are given to runners alone -/
def stC (z : MS) (q : Nat) : Bool := decide (tl z 0 q = 1) && decide (¬ z.1 22 q = -1)
theorem last_sp {z : MS} : ∀ n, match foldN (lsS z) none n with
    | none => ∀ q, q < n → stC z q = false
    | some g => g < n ∧ stC z g = true ∧ ∀ q, q < n → stC z q = true → (tl z 7 q).toInt ≤ (tl z 7 g).toInt := by
  intro n
  induction n with
  | zero => intro q hq; omega
  | succ n ih =>
    rw [foldN_sc]
    cases q0 : foldN (lsS z) none n with
    | none =>
      rw [q0] at ih
      unfold lsS
      have e : (decide (tl z 0 n = 1) && decide (¬ z.1 22 n = -1) && lsB z none n) = stC z n := by unfold stC lsB; simp
      rw [e]
      cases hc : stC z n with
      | true =>
        rw [if_pos rfl]
        refine ⟨by omega, hc, fun q hq hq2 => ?_⟩
        by_cases e : q = n
        · subst e; exact Int.le_refl _
        · rw [ih q (by omega)] at hq2; cases hq2
      | false =>
        rw [if_neg (by decide)]
        intro q hq
        by_cases e : q = n
        · subst e; exact hc
        · exact ih q (by omega)
    | some g =>
      rw [q0] at ih
      obtain ⟨i1, i2, i3⟩ := ih
      unfold lsS
      have e : (decide (tl z 0 n = 1) && decide (¬ z.1 22 n = -1) && lsB z (some g) n) = (stC z n && oldF z g n) := by unfold stC lsB; rfl
      rw [e]
      by_cases hc : (stC z n && oldF z g n) = true
      · rw [if_pos hc]
        rw [Bool.and_eq_true] at hc
        have hlt : (tl z 7 g).toInt < (tl z 7 n).toInt := by
          have := hc.2; unfold oldF at this; exact Int32.lt_iff_toInt_lt.mp (of_decide_eq_true this)
        refine ⟨by omega, hc.1, fun q hq hq2 => ?_⟩
        by_cases e : q = n
        · subst e; exact Int.le_refl _
        · have := i3 q (by omega) hq2; omega
      · rw [if_neg hc]
        refine ⟨by omega, i2, fun q hq hq2 => ?_⟩
        by_cases e : q = n
        · subst e
          rw [hq2, Bool.true_and] at hc
          unfold oldF at hc
          exact Int.not_lt.mp (fun h => hc (decide_eq_true (Int32.lt_iff_toInt_lt.mpr h)))
        · exact i3 q (by omega) hq2
theorem last_none {N : Nat} {z : MS} (h : ∀ q, q < N → stC z q = false) : lastF N z = none := by
  have := last_sp (z := z) N
  unfold lastF
  cases e : foldN (lsS z) none N with
  | none => rfl
  | some g =>
    rw [e] at this
    have h2 := this.2.1
    rw [h g this.1] at h2; cases h2
theorem last_some {N g : Nat} {z : MS} (hd : ∀ q q', q < N → q' < N → tl z 0 q = 1 → tl z 0 q' = 1 → tl z 7 q = tl z 7 q' → q = q') (hg : g < N) (h1 : stC z g = true) (h2 : ∀ q, q < N → stC z q = true → (tl z 7 q).toInt ≤ (tl z 7 g).toInt) : lastF N z = some g := by
  have := last_sp (z := z) N
  unfold lastF
  cases e : foldN (lsS z) none N with
  | none => rw [e] at this; rw [this g hg] at h1; cases h1
  | some g' =>
    rw [e] at this
    obtain ⟨a1, a2, a3⟩ := this
    have r : ∀ x, stC z x = true → tl z 0 x = 1 := fun x hx => by unfold stC at hx; simp at hx; exact hx.1
    have := h2 g' a1 a2; have := a3 g hg h1
    rw [hd g' g a1 hg (r _ a2) (r _ h1) (Int32.toInt_inj.mp (by omega))]
theorem wv_run {N p : Nat} {σ : MS} (hN : N ≤ 12) (hr : tl σ 0 p = 1) : ∀ f k z, (∀ q, q < 12 → ¬ z.1 22 q = -1 → tl z 0 q = 1) → ∀ q, q < 12 → ¬ (wvI N f k z).1 22 q = -1 → tl (wvI N f k z) 0 q = 1 := by
  intro f
  induction f with
  | zero => intro k z h; exact h
  | succ f ih =>
    intro k z h
    unfold wvI
    split
    · refine ih (k + 1) (rnd N z k) (fun q hq hw => ?_)
      rw [rnd_at] at hw
      rw [show tl (rnd N z k) 0 q = tl z 0 q from rnd_ne (by decide)]
      split at hw
      · next c => have := c.2; unfold PW at this; simp at this; exact this.1.1
      · exact h q hq hw
    · exact h
theorem waves_run {N p : Nat} {σ : MS} (hN : N ≤ 12) (hr : tl σ 0 p = 1) : ∀ q, q < 12 → ¬ (wavesF N σ p).1 22 q = -1 → tl (wavesF N σ p) 0 q = 1 := wv_run hN hr 13 1 (wv0 σ p) (fun q hq hw => by
  rw [show tl (wv0 σ p) 0 q = tl σ 0 q from wv0_ne (by decide)]
  rw [wv0_at hq] at hw
  by_cases e : q = p
  · rw [e]; exact hr
  · rw [show upd (flI (fun _ => 0) 12 (-1)) p 0 q = flI (fun _ => 0) 12 (-1) q from if_neg e] at hw; unfold flI at hw; rw [if_pos hq] at hw; exact absurd rfl hw)
/-- one stopped -/
theorem HL.st {Y : YT} {h N K : Nat} {η : HV} {lg ka : Nat} {y : MS} {q g : Nat} {G : AH} {f1 : Nat → Int32} (h19 : y.1 19 0 = 0) (h0 : y.1 0 0 = nI N) (h4 : y.1 4 0 = nI K) (h20 : y.1 20 0 = nI g) (hg : g < 1000000000) (h1 : sub (hM Y h N (mu y 1 q 0) η) G) (h5 : G lg = some (.inr (1, [.ref ka, .int (nI (g + 1))]))) (h6 : G ka = some (.inl (yA Y 0, 40, .inl (upd f1 (g % 40) (nI (200 + q)))))) (e6 : f1 = y.1 21) : HL Y h N K η lg ka (stS y q) (g + 1) G := by
  unfold stS
  rw [lgG_on (g := g) ((mu_nk (by decide)).trans h19) ((mu_nk (by decide)).trans h20) (by omega)]
  refine ⟨?_, ⟨?_, ?_, mu_hit⟩, h5, ?_⟩
  · rw [hM_cg (b := mu y 1 q 0) (fun k' i hk' => ?_)]; exact h1
    rw [mu_nk (by omega), mu_nk (by omega)]
  · rw [mu_nk (by decide), mu_nk (by decide), mu_nk (by decide)]; exact h0
  · rw [mu_nk (by decide), mu_nk (by decide), mu_nk (by decide)]; exact h4
  · rw [h6, e6]
    refine congrArg (fun f => some (Sum.inl (yA Y 0, 40, Sum.inl f))) (funext fun i => ?_)
    unfold upd
    rw [mu_nk (by decide)]
    by_cases e : i = g % 40
    · rw [if_pos e, e, mu_hit]
    · rw [if_neg e, mu_ni e, mu_nk (by decide)]
theorem stS_ne {y : MS} {q k i : Nat} (h1 : k ≠ 1) (h2 : k ≠ 20) (h3 : k ≠ 21) : (stS y q).1 k i = y.1 k i := (lgG_ne h2 h3).trans (mu_nk h1)
theorem stS_7 {y : MS} {q i : Nat} (hq : q < 12) : tl (stS y q) 7 i = tl y 7 i := tl_lg.trans (tl_mu (by omega))
def stP (y : MS) (q : Nat) : Prop := tl y 0 q = 1 ∧ ¬ y.1 22 q = -1
theorem stP_C {y : MS} {q : Nat} : stC y q = true ↔ stP y q := by unfold stC stP; simp
theorem Sx_st {N q : Nat} {y : MS} {ba : Nat → Nat} {I : AH} (hN : N ≤ 12) (hB : BA I ba (stP y) N) (hq : q < N) (hp : stP y q) (a : Nat) : (Sx (stP y) ba N a ∧ a ≠ ba q) ↔ Sx (stP (stS y q)) ba N a := by
  have e : ∀ x, stP (stS y q) x ↔ (stP y x ∧ x ≠ q) := fun x => by
    unfold stP
    rw [tl_st, stS_ne (by decide) (by decide) (by decide)]
    by_cases c : x = q
    · subst c; simp
    · simp [c]
  constructor
  · rintro ⟨⟨x, h1, h2, h3⟩, h4⟩
    exact ⟨x, h1, (e x).mpr ⟨h2, fun c => h4 (by rw [← h3, c])⟩, h3⟩
  · rintro ⟨x, h1, h2, h3⟩
    obtain ⟨p1, p2⟩ := (e x).mp h2
    exact ⟨⟨x, h1, p1, h3⟩, fun c => p2 (BA_inj hB (by omega) h1 hq p1 hp (h3.trans c))⟩
theorem HL.y19 {Y : YT} {h N K : Nat} {η : HV} {lg ka : Nat} {y : MS} {g : Nat} {G : AH} (H : HL Y h N K η lg ka y g G) : sub (hM Y h N y η) G := H.1
abbrev AGd (N : Nat) (σ : MS) : Prop := (∀ q, q < N → 0 ≤ (tl σ 7 q).toInt ∧ (tl σ 7 q).toInt < 100000000) ∧ (∀ q q', q < N → q' < N → tl σ 0 q = 1 → tl σ 0 q' = 1 → tl σ 7 q = tl σ 7 q' → q = q')
theorem KPy_at {N q a : Nat} {σ : MS} {I : AH} (h : I a = some (.inr (40, [.int (nI q)]))) (hq : q < N) (hN : N ≤ 12) (hA : 0 ≤ (tl σ 7 q).toInt ∧ (tl σ 7 q).toInt < 100000000) : KPy N σ I a (rkY σ I a) := ⟨q, hq, h, hA, rkY_at h (by omega)⟩
set_option maxHeartbeats 1000000 in
theorem met_X0_stopWaves {Y : YT} {l : Launch} {n u : Nat} {G : AH} (h : Nat) (lg : Nat) (p_ : Nat) {N K : Nat} {σ : MS} {η : HV} {I : AH} {ka g : Nat} (hh : sub (hM Y h N σ η) G) (hN : σ.1 0 0 = nI N) (hK : σ.1 4 0 = nI K) (hN2 : N ≤ 12) (hI : sub I G) (hIh_h : ∀ a, hD h a → I a = none) (hpl : PLs Y N σ I (η.2 0)) (hIo : sub (oM Y) I) (hp : p_ < N) (hrun : tl σ 0 p_ = 1) (hAg : AGd N σ) (h19 : σ.1 19 0 = 0) (h20 : σ.1 20 0 = nI g) (hzh : yz Y ≤ h) (hl1 : G lg = some (.inr (1, [.ref ka, .int (nI g)]))) (hl2 : G ka = some (.inl (yA Y 0, 40, .inl (σ.1 21)))) (hzl : yz Y ≤ lg) (hzk : yz Y ≤ ka) (hg : g + 50 < 100000000) (hlh : ¬ hD h lg) (hkh : ¬ hD h ka) (hIl : I lg = none) (hIk : I ka = none) : GM Y l yX0_stopWaves (ws_ yX0_stopWaves cX0_stopWaves 6 (some FieldType.int)) 9 205 [.ref h, .ref lg, .int (nI p_)] G n u 60 1300 (pI (fun r G' n' u' => nI (stopsF N σ p_).1 = r ∧ (∃ g', g' ≤ g + 12 ∧ HL Y h N K η lg ka (stopsF N σ p_).2 g' G') ∧ FR (fun a => hD h a ∨ a = lg ∨ a = ka) n G G' ∧ n ≤ n')) noX := by
  refine GM.intro (own := RX0) rfl (by decide +kernel) (Nat.le_of_ble_eq_true rfl) ?_
  intro p e s m args below meth c R Q hC hr hnm hF hL hE
  have hE1 := hE.1
  have hE2 := hE.2.1
  have hnz : yz Y ≤ n := by have := hC.z; have := hC.n; omega
  show V Y p l e R s m args below meth c 6 n u G n u Q 0 [(0, .ref h), (1, .ref lg), (2, .int (nI p_))] []
  refine V.lts (fun hlt => ?_)
  have hl_lg : lg < n := hlt _ _ hl1
  have hl_ka : ka < n := hlt _ _ hl2
  have hl_h : h + 6 < n := hlt _ _ (hh _ _ (hM_j 6))
  have hIn := sub_none hI hlt
  refine g_aload_n hC dX0_stopWaves_0 rfl 0 rfl ?_
  refine g_iload_n hC dX0_stopWaves_1 rfl 2 rfl ?_
  refine V.lts (fun lc_1 => ?_)
  refine g_callq0 hC (g_runV hC (met_X2_waves (G := G) h p_ hh hN hK hN2 hI hIh_h hpl hIo hp) kc_X2 (hh _ _ (hM_0 hN hK)) (lw_V q2470 q2471 q2472 q83 q2473) rfl md_X2_waves dX0_stopWaves_2 rfl ⟨by omega, by omega⟩ (by omega) (by omega) rfl (Nat.le_of_ble_eq_true rfl)) (fun r_2 G_2 n_2 u_2 hp_2 hn_2 hm_2 hu_2 => ?_)
  obtain ⟨a_2, wv_2, rfl, haw_2, hwv_2, han_2, hf_2, hnn_2⟩ := hp_2
  have o_3 : G_2 lg = some (.inr (1, [.ref ka, .int (nI g)])) := (hf_2 _ (lc_1 _ _ hl1) (fun q => q)).trans hl1
  have a_4 : G_2 ka = some (.inl (yA Y 0, 40, .inl (σ.1 21))) := (hf_2 _ (lc_1 _ _ hl2) (fun q => q)).trans hl2
  have hs_5 : sub (hM Y h N σ η) G_2 := hf_2.subs hh lc_1 (fun a q => False.elim q)
  have hi_6 : sub I G_2 := hf_2.subs hI lc_1 (fun a q => False.elim q)
  have hf_7 : FR (fun a => hD h a ∨ a = lg ∨ a = ka) n G G_2 := FR.refl.trans hf_2 (by omega) (fun a_ q_ => by first | exact .inl q_ | exact False.elim q_ | exact .inl (.inl q_) | exact .inl (.inr q_) | (subst q_; first | exact .inr (by omega) | exact .inl rfl))
  refine V.lts (fun ltw_2 => ?_)
  have hal_2 : a_2 < n_2 := ltw_2 _ _ haw_2
  refine g_astore_n (L' := [(3, .ref a_2), (0, .ref h), (1, .ref lg), (2, .int (nI p_))]) hC dX0_stopWaves_5 rfl (by decide) rfl ?_
  obtain ⟨G_8, eG_8⟩ : ∃ G_, gU G_2 n_2 (.inr (43, [.null, .int 0, .null, .int 0])) = G_ := ⟨_, rfl⟩
  refine V.lts (fun ltG_8 => ?_)
  have o_9 : G_8 lg = some (.inr (1, [.ref ka, .int (nI g)])) := by rw [← eG_8]; exact (gU_n _ (Nat.ne_of_lt (ltG_8 _ _ o_3))).trans o_3
  have a_10 : G_8 ka = some (.inl (yA Y 0, 40, .inl (σ.1 21))) := by rw [← eG_8]; exact (gU_n _ (Nat.ne_of_lt (ltG_8 _ _ a_4))).trans a_4
  have a_11 : G_8 a_2 = some (.inl (yA Y 0, 12, .inl wv_2)) := by rw [← eG_8]; exact (gU_n _ (Nat.ne_of_lt (ltG_8 _ _ haw_2))).trans haw_2
  have hs_12 : sub (hM Y h N σ η) G_8 := by rw [← eG_8]; exact sub_new hs_5 ltG_8
  have hi_13 : sub I G_8 := by rw [← eG_8]; exact sub_new hi_6 ltG_8
  have hf_14 : FR (fun a => hD h a ∨ a = lg ∨ a = ka) n G G_8 := by rw [← eG_8]; exact FR.put hf_7 (.inr (by omega))
  refine g_new hC kc_J26 q2958 q1935 q133 (fs := [.null, .int 0, .null, .int 0]) rfl (G' := G_8) eG_8 (by omega) (by omega) dX0_stopWaves_6 ?_
  have o_15 : G_8 n_2 = some (.inr (43, [.null, .int 0, .null, .int 0])) := by rw [← eG_8]; exact gU_s _ _ _
  refine g_dup hC dX0_stopWaves_9 rfl ?_
  obtain ⟨G_16, eG_16⟩ : ∃ G_, gU G_8 (n_2 + 1) (.inr (23, [.null])) = G_ := ⟨_, rfl⟩
  refine V.lts (fun ltG_16 => ?_)
  have o_17 : G_16 lg = some (.inr (1, [.ref ka, .int (nI g)])) := by rw [← eG_16]; exact (gU_n _ (Nat.ne_of_lt (ltG_16 _ _ o_9))).trans o_9
  have o_18 : G_16 n_2 = some (.inr (43, [.null, .int 0, .null, .int 0])) := by rw [← eG_16]; exact (gU_n _ (Nat.ne_of_lt (ltG_16 _ _ o_15))).trans o_15
  have a_19 : G_16 ka = some (.inl (yA Y 0, 40, .inl (σ.1 21))) := by rw [← eG_16]; exact (gU_n _ (Nat.ne_of_lt (ltG_16 _ _ a_10))).trans a_10
  have a_20 : G_16 a_2 = some (.inl (yA Y 0, 12, .inl wv_2)) := by rw [← eG_16]; exact (gU_n _ (Nat.ne_of_lt (ltG_16 _ _ a_11))).trans a_11
  have hs_21 : sub (hM Y h N σ η) G_16 := by rw [← eG_16]; exact sub_new hs_12 ltG_16
  have hi_22 : sub I G_16 := by rw [← eG_16]; exact sub_new hi_13 ltG_16
  have hf_23 : FR (fun a => hD h a ∨ a = lg ∨ a = ka) n G G_16 := by rw [← eG_16]; exact FR.put hf_14 (.inr (by omega))
  refine g_new hC kc_X24 q2959 q2960 q153 (fs := [.null]) rfl (G' := G_16) eG_16 (by omega) (by omega) dX0_stopWaves_10 ?_
  have o_24 : G_16 (n_2 + 1) = some (.inr (23, [.null])) := by rw [← eG_16]; exact gU_s _ _ _
  refine g_dup hC dX0_stopWaves_13 rfl ?_
  refine g_aload_n hC dX0_stopWaves_14 rfl 1 rfl ?_
  refine V.lts (fun lc_25 => ?_)
  refine g_callv0 hC (g_runI (ret := none) hC (met_X24_init (G := G_16) (n_2 + 1) h o_24 (by omega)) (lw_meth q2963) q153 q2961 q2962 rfl md_X24_init dX0_stopWaves_15 rfl ⟨by omega, by omega⟩ (by omega) (by omega) rfl (Nat.le_of_ble_eq_true rfl)) (fun G_26 n_26 u_26 hp_26 hn_26 hm_26 hu_26 => ?_)
  obtain ⟨ho_26, hf_26, rfl, rfl⟩ := hp_26
  have o_27 : G_26 lg = some (.inr (1, [.ref ka, .int (nI g)])) := (hf_26 _ (lc_25 _ _ o_17) (fun q => (gne_c o_17 o_24 (by decide)) q)).trans o_17
  have o_28 : G_26 n_2 = some (.inr (43, [.null, .int 0, .null, .int 0])) := (hf_26 _ (lc_25 _ _ o_18) (fun q => (gne_c o_18 o_24 (by decide)) q)).trans o_18
  have a_29 : G_26 ka = some (.inl (yA Y 0, 40, .inl (σ.1 21))) := (hf_26 _ (lc_25 _ _ a_19) (fun q => (gne_ao a_19 o_24) q)).trans a_19
  have a_30 : G_26 a_2 = some (.inl (yA Y 0, 12, .inl wv_2)) := (hf_26 _ (lc_25 _ _ a_20) (fun q => (gne_ao a_20 o_24) q)).trans a_20
  have hs_31 : sub (hM Y h N σ η) G_26 := hf_26.subs hs_21 lc_25 (fun a q => by subst q; exact hM_none (by unfold hD; omega))
  have hi_32 : sub I G_26 := hf_26.subs hi_22 lc_25 (fun a q => by subst q; exact hIn _ (by omega))
  have hf_33 : FR (fun a => hD h a ∨ a = lg ∨ a = ka) n G G_26 := hf_23.trans hf_26 (by omega) (fun a_ q_ => by first | exact .inl q_ | exact .inl (.inl q_) | exact .inl (.inr q_) | (subst q_; first | exact .inr (by omega) | exact .inl rfl))
  refine V.lts (fun lc_34 => ?_)
  refine g_callv0 hC (g_runI (ret := none) hC (met_J26_init (G := G_26) n_2 (n_2 + 1) o_28 (by omega)) (lw_meth q1945) q133 q2969 q1944 rfl md_J26_init dX0_stopWaves_18 rfl ⟨by omega, by omega⟩ (by omega) (by omega) rfl (Nat.le_of_ble_eq_true rfl)) (fun G_35 n_35 u_35 hp_35 hn_35 hm_35 hu_35 => ?_)
  obtain ⟨ho_35, ha_35, hf_35, hn2_35, hu2_35⟩ := hp_35
  have o_36 : G_35 lg = some (.inr (1, [.ref ka, .int (nI g)])) := (hf_35 _ (lc_34 _ _ o_27) (fun q => (gne_c o_27 o_28 (by decide)) q)).trans o_27
  have o_37 : G_35 (n_2 + 1) = some (.inr (23, [.ref h])) := (hf_35 _ (lc_34 _ _ ho_26) (fun q => (gne_c ho_26 o_28 (by decide)) q)).trans ho_26
  have a_38 : G_35 ka = some (.inl (yA Y 0, 40, .inl (σ.1 21))) := (hf_35 _ (lc_34 _ _ a_29) (fun q => (gne_ao a_29 o_28) q)).trans a_29
  have a_39 : G_35 a_2 = some (.inl (yA Y 0, 12, .inl wv_2)) := (hf_35 _ (lc_34 _ _ a_30) (fun q => (gne_ao a_30 o_28) q)).trans a_30
  have hs_40 : sub (hM Y h N σ η) G_35 := hf_35.subs hs_31 lc_34 (fun a q => by subst q; exact hM_none (by unfold hD; omega))
  have hi_41 : sub I G_35 := hf_35.subs hi_32 lc_34 (fun a q => by subst q; exact hIn _ (by omega))
  have hf_42 : FR (fun a => hD h a ∨ a = lg ∨ a = ka) n G G_35 := hf_33.trans hf_35 (by omega) (fun a_ q_ => by first | exact .inl q_ | exact .inl (.inl q_) | exact .inl (.inr q_) | (subst q_; first | exact .inr (by omega) | exact .inl rfl))
  refine g_astore (L' := [(4, .ref n_2), (3, .ref a_2), (0, .ref h), (1, .ref lg), (2, .int (nI p_))]) hC dX0_stopWaves_21 (by decide) rfl ?_
  refine g_iconst (v := 0) hC dX0_stopWaves_23 rfl ?_
  refine g_istore (L' := [(5, .int 0), (4, .ref n_2), (3, .ref a_2), (0, .ref h), (1, .ref lg), (2, .int (nI p_))]) hC dX0_stopWaves_24 (by decide) rfl ?_
  have hl_26 : ∀ (kf_ : Nat) (Ga : AH) (na : Nat) (ua : Nat) (i : Nat) (kk : Nat) (mc : Int32) (qa : Nat) (cap : Nat) (f : Nat → Option Nat) (ba : Nat → Nat), (sub (hM Y h N σ η) Ga) → (sub I Ga) → (FR (fun a => hD h a ∨ a = lg ∨ a = ka) n G Ga) → (Ga lg = some (.inr (1, [.ref ka, .int (nI g)]))) → (Ga ka = some (.inl (yA Y 0, 40, .inl (σ.1 21)))) → (Ga n_2 = some (.inr (43, [.ref qa, .int (nI kk), .ref (n_2 + 1), .int mc]))) → (Ga (n_2 + 1) = some (.inr (23, [.ref h]))) → (Ga a_2 = some (.inl (yA Y 0, 12, .inl wv_2))) → (Ga qa = some (.inl (yA Y 11, cap, .inr (.inr (.inr (.inr f)))))) → (i ≤ N ∧ kk ≤ i ∧ n_2 ≤ qa ∧ qa ≠ n_2 ∧ qa ≠ n_2 + 1) → ((kk ≤ 11 → cap = 11) ∧ kk ≤ cap ∧ cap ≤ 24) → (PE (Sx (fun q => ¬ wv_2 q = -1) ba i) f kk) → (PH (rkY σ I) f kk) → (BA I ba (fun q => ¬ wv_2 q = -1) i) → (n_2 + 3 ≤ na ∧ (kk ≤ 11 → na ≤ n_2 + 3 ∧ ua ≤ u_2 + 20) ∧ na ≤ n_2 + 4 ∧ ua ≤ u_2 + 44) → N - i < kf_ → V Y p l e R s m args below meth c 6 n u Ga na ua Q 26 [(4, .ref n_2), (3, .ref a_2), (0, .ref h), (1, .ref lg), (2, .int (nI p_)), (5, .int (nI i))] [] := by
    intro kf_
    induction kf_ with
    | zero => intro Ga na ua i kk mc qa cap f ba jh jI jf jl jka jp jcm jw ja jq jcap jE jH jB jn hk_; exact absurd hk_ (Nat.not_lt_zero _)
    | succ kf_ ih_ =>
      intro Ga na ua i kk mc qa cap f ba jh jI jf jl jka jp jcm jw ja jq jcap jE jH jB jn hk_
      refine V.lts (fun lta => ?_)
      obtain ⟨jq1, jq2, jq3, jq4, jq5⟩ := jq
      obtain ⟨jn1, jn2, jn3, jn4⟩ := jn
      obtain ⟨jc1, jc2, jc3⟩ := jcap
      have hl_qa : qa < na := lta _ _ ja
      refine g_iload hC dX0_stopWaves_26 5 rfl ?_
      refine g_aload_n hC dX0_stopWaves_28 rfl 2 rfl ?_
      refine g_get (v := .int (nI N)) hC kc_X2 (jh _ _ (hM_0 hN hK)) 0 (by decide) q252 rfl dX0_stopWaves_29 ?_
      refine g_icmp_geN hC i N (by omega) (by omega) dX0_stopWaves_32 (tgt := 60) (by decide) (fun c_32 => ?_) (fun c_32 => ?_)
      · obtain rfl : N = i := by omega
        have hwP : ∀ q, q < N → (¬ wv_2 q = -1 ↔ stP (wavesF N σ p_) q) := fun q hq => by
          rw [hwv_2 q (by omega)]
          exact ⟨fun h => ⟨waves_run hN2 hrun q (by omega) h, h⟩, fun h => h.2⟩
        have hSS : ∀ a, Sx (fun q => ¬ wv_2 q = -1) ba N a ↔ Sx (stP (wavesF N σ p_)) ba N a := fun a => ⟨fun ⟨q, a1, a2, a3⟩ => ⟨q, a1, (hwP q a1).mp a2, a3⟩, fun ⟨q, a1, a2, a3⟩ => ⟨q, a1, (hwP q a1).mpr a2, a3⟩⟩
        refine g_aload hC dX0_stopWaves_60 0 rfl ?_
        refine V.lts (fun lc_43 => ?_)
        refine g_calli0 hC (g_runV hC (met_J26_size (G := Ga) n_2 jp (by omega)) kc_J26 jp (lw_V q2972 q2027 q4026 q133 q2028) rfl md_J26_size dX0_stopWaves_62 rfl ⟨by omega, by omega⟩ (by omega) (by omega) rfl (Nat.le_of_ble_eq_true rfl)) (fun r_44 G_44 n_44 u_44 hp_44 hn_44 hm_44 hu_44 => ?_)
        obtain ⟨rfl, rfl, rfl, rfl⟩ := hp_44
        refine g_istore (L' := [(5, .int (nI kk)), (4, .ref n_2), (3, .ref a_2), (0, .ref h), (1, .ref lg), (2, .int (nI p_))]) hC dX0_stopWaves_65 (by decide) rfl ?_
        have hl_67 : ∀ (kf_ : Nat) (Gb : AH) (y : MS) (gb : Nat) (kb : Nat) (mb : Int32) (fb : Nat → Option Nat) (fu : Nat), (HL Y h N K η lg ka y gb Gb) → (sub I Gb) → (FR (fun a => hD h a ∨ a = lg ∨ a = ka) n G Gb) → (Gb n_2 = some (.inr (43, [.ref qa, .int (nI kb), .ref (n_2 + 1), .int mb]))) → (Gb (n_2 + 1) = some (.inr (23, [.ref h]))) → (Gb qa = some (.inl (yA Y 11, cap, .inr (.inr (.inr (.inr fb)))))) → (PE (Sx (stP y) ba N) fb kb) → (PH (rkY σ I) fb kb) → (∀ q, tl y 7 q = tl σ 7 q) → (y.1 19 0 = 0) → (BA I ba (stP y) N) → (stopsF N σ p_ = stI N fu y (kk - kb)) → (kb ≤ kk ∧ kb + 1 ≤ fu ∧ gb + kb ≤ g + kk) → (∀ q q', q < N → q' < N → tl y 0 q = 1 → tl y 0 q' = 1 → tl y 7 q = tl y 7 q' → q = q') → kb < kf_ → V Y p l e R s m args below meth c 6 n u Gb na ua Q 67 [(5, .int (nI kk)), (4, .ref n_2), (0, .ref h), (1, .ref lg)] [] := by
          intro kf_
          induction kf_ with
          | zero => intro Gb y gb kb mb fb fu bHL bI bf bp bcm ba_ bE bH b7 b19 bB bst bk bd hk_; exact absurd hk_ (Nat.not_lt_zero _)
          | succ kf_ ih_b =>
            intro Gb y gb kb mb fb fu bHL bI bf bp bcm ba_ bE bH b7 b19 bB bst bk bd hk_
            refine V.lts (fun ltb => ?_)
            obtain ⟨bh, ⟨yN, yK, y20⟩, bl, bka⟩ := bHL
            obtain ⟨bk1, bk2, bk3⟩ := bk
            refine g_aload hC dX0_stopWaves_67 1 rfl ?_
            refine V.lts (fun lc_45 => ?_)
            refine g_calli0 hC (g_runU (n := 0) (owner := "java/util/AbstractCollection") (x := ⟨"java/util/PriorityQueue", "isEmpty", "()Z"⟩) hC (met_J24_isEmpty_J26 (G := Gb) n_2 bp (by omega)) kc_J26 bp (lw_U q2973 q2012 q2014 q2015 q131 q2016) rfl ⟨by decide, by decide, by decide +kernel⟩ dX0_stopWaves_69 rfl ⟨by omega, by omega⟩ (by omega) (by omega) rfl (Nat.le_of_ble_eq_true rfl)) (fun r_46 G_46 n_46 u_46 hp_46 hn_46 hm_46 hu_46 => ?_)
            obtain ⟨rfl, rfl, rfl, rfl⟩ := hp_46
            refine g_if_neB hC (decide (kb = 0)) dX0_stopWaves_72 (tgt := 94) (by decide) (fun c_72 => ?_) (fun c_72 => ?_)
            · refine g_iload hC dX0_stopWaves_94 0 rfl ?_
              refine g_iret hC hr rfl ⟨_, rfl, ?_⟩ (by omega) (by omega) hE dX0_stopWaves_96
              have hk0 : kb = 0 := by simp at c_72; exact c_72
              subst hk0
              have hend : stopsF N σ p_ = (kk, y) := by
                rw [bst]
                obtain ⟨f', rfl⟩ : ∃ f', fu = f' + 1 := ⟨fu - 1, by omega⟩
                show (match lastF N y with | none => (kk - 0, y) | some q => stI N f' (stS y q) (kk - 0 + 1)) = _
                rw [last_none (fun q hq => by
                  cases e : stC y q with
                  | false => rfl
                  | true => exact absurd ⟨q, hq, stP_C.mp e, rfl⟩ (PE_zero bE (ba q)))]
                rfl
              rw [hend]
              exact ⟨rfl, ⟨gb, by omega, ⟨bh, ⟨yN, yK, y20⟩, bl, bka⟩⟩, bf, by omega⟩
            · refine g_aload_n hC dX0_stopWaves_75 rfl 2 rfl ?_
              refine g_aload hC dX0_stopWaves_76 1 rfl ?_
              have hKB : ∀ a, Sx (stP y) ba N a → KPy N y I a (rkY σ I a) := fun a ⟨q9, z1, z2, z3⟩ => by rw [← z3, ← rkY_cg b7]; exact KPy_at (bB q9 z1 z2) z1 hN2 (by rw [b7]; exact hAg.1 q9 z1)
              obtain ⟨mm, rfl⟩ : ∃ mm, kb = mm + 1 := ⟨kb - 1, by simp at c_72; omega⟩
              refine V.lts (fun lc_47 => ?_)
              refine g_callq0 hC (g_runV hC (met_J26_pollY (G := Gb) n_2 (mm := mm) bh yN yK hN2 bI (hIn _ (by omega)) (hIn _ (by omega)) (by unfold hD; omega) (by unfold hD; omega) (by omega) (by omega) bp ba_ bcm (by omega) (by omega) bE bH hKB) kc_J26 bp (lw_V q2974 q2427 q2428 q133 q2429) rfl md_J26_poll dX0_stopWaves_78 rfl ⟨by omega, by omega⟩ (by omega) (by omega) rfl (Nat.le_of_ble_eq_true rfl)) (fun r_48 G_48 n_48 u_48 hp_48 hn_48 hm_48 hu_48 => ?_)
              obtain ⟨r__48, f_48, mc_48, rfl, hSr_48, hmn_48, ho_48, hoa_48, hPE_48, hPH_48, hf_48, rfl, rfl⟩ := hp_48
              have o_49 : G_48 lg = some (.inr (1, [.ref ka, .int (nI gb)])) := (hf_48 _ (lc_47 _ _ bl) (fun q => q.elim (fun q => (fun q => absurd q (gne_c bl bp (by decide))) q) (fun q => (fun q => absurd q (gne_oa bl ba_)) q))).trans bl
              have o_50 : G_48 (n_2 + 1) = some (.inr (23, [.ref h])) := (hf_48 _ (lc_47 _ _ bcm) (fun q => q.elim (fun q => (fun q => absurd q (gne_c bcm bp (by decide))) q) (fun q => (fun q => absurd q (gne_oa bcm ba_)) q))).trans bcm
              have a_51 : G_48 ka = some (.inl (yA Y 0, 40, .inl (y.1 21))) := (hf_48 _ (lc_47 _ _ bka) (fun q => q.elim (fun q => (fun q => absurd q (gne_ao bka bp)) q) (fun q => (fun q => absurd q (by omega)) q))).trans bka
              have hs_52 : sub (hM Y h N y η) G_48 := hf_48.subs bh lc_47 (fun a q => (show _ from (fun q => q.elim (fun q => (fun q : a = _ => by subst q; exact hM_none (by unfold hD; omega)) q) (fun q => (fun q : a = _ => by subst q; exact hM_none (by unfold hD; omega)) q)) q))
              have hi_53 : sub I G_48 := hf_48.subs bI lc_47 (fun a q => (show _ from (fun q => q.elim (fun q => (fun q : a = _ => by subst q; exact hIn _ (by omega)) q) (fun q => (fun q : a = _ => by subst q; exact (hIn _ (by omega))) q)) q))
              have hf_54 : FR (fun a => hD h a ∨ a = lg ∨ a = ka) n G G_48 := bf.trans hf_48 (by omega) (fun a_ q_ => .inr (by omega))
              obtain ⟨q9, z1, z2, z3⟩ := hSr_48
              have hI9 : I r__48 = some (.inr (40, [.int (nI q9)])) := by rw [← z3]; exact bB q9 z1 z2
              have hlast : lastF N y = some q9 := last_some bd z1 (stP_C.mpr z2) (fun x hx hx2 => by
                have h1 := hmn_48 (ba x) ⟨x, hx, stP_C.mp hx2, rfl⟩
                rw [← z3, rkY_at (bB q9 z1 z2) (by omega), rkY_at (bB x hx (stP_C.mp hx2)) (by omega), ← b7, ← b7] at h1
                omega)
              have hstI : stopsF N σ p_ = stI N (fu - 1) (stS y q9) (kk - mm) := by
                rw [bst]
                obtain ⟨f', rfl⟩ : ∃ f', fu = f' + 1 := ⟨fu - 1, by omega⟩
                show (match lastF N y with | none => (kk - (mm + 1), y) | some q => stI N f' (stS y q) (kk - (mm + 1) + 1)) = _
                rw [hlast, show kk - mm = kk - (mm + 1) + 1 by omega]; rfl
              have stP_s : ∀ {q}, stP (stS y q9) q → stP y q := fun {q} hp => by
                obtain ⟨a1, a2⟩ := hp
                rw [tl_st] at a1
                rw [stS_ne (by decide) (by decide) (by decide)] at a2
                split at a1
                · cases a1
                · exact ⟨a1, a2⟩
              have hbd : ∀ q q', q < N → q' < N → tl (stS y q9) 0 q = 1 → tl (stS y q9) 0 q' = 1 → tl (stS y q9) 7 q = tl (stS y q9) 7 q' → q = q' := fun q q' a b c d e => by
                rw [tl_st] at c d
                rw [stS_7 (by omega), stS_7 (by omega)] at e
                split at c
                · cases c
                · split at d
                  · cases d
                  · exact bd q q' a b c d e
              refine g_castS hC kc_J12 (hi_53 _ _ hI9) q2975 dX0_stopWaves_81 ?_
              refine V.lts (fun lc_55 => ?_)
              refine g_calli0 hC (g_runV hC (met_J12_intValue (G := G_48) r__48 (hi_53 _ _ hI9)) kc_J12 (hi_53 _ _ hI9) (lw_V q2976 q1195 q1196 q106 q1197) rfl md_J12_intValue dX0_stopWaves_84 rfl ⟨by omega, by omega⟩ (by omega) (by omega) rfl (Nat.le_of_ble_eq_true rfl)) (fun r_56 G_56 n_56 u_56 hp_56 hn_56 hm_56 hu_56 => ?_)
              obtain ⟨rfl, rfl, rfl, rfl⟩ := hp_56
              refine g_aload_n hC dX0_stopWaves_87 rfl 3 rfl ?_
              refine V.lts (fun lc_57 => ?_)
              refine g_callv0 hC (g_runV hC (met_X2_stop (G := G_48) h q9 lg hs_52 yN yK hN2 hzh o_49 a_51 hzl hzk (by omega) hlh hkh z1) kc_X2 (hs_52 _ _ (hM_0 yN yK)) (lw_V q2977 q2441 q2442 q83 q2443) rfl md_X2_stop dX0_stopWaves_88 rfl ⟨by omega, by omega⟩ (by omega) (by omega) rfl (Nat.le_of_ble_eq_true rfl)) (fun G_58 n_58 u_58 hp_58 hn_58 hm_58 hu_58 => ?_)
              obtain ⟨hb_58, hoa_58, hob_58, hf_58, rfl, rfl⟩ := hp_58
              have o_59 : G_58 (n_2 + 1) = some (.inr (23, [.ref h])) := (hf_58 _ (lc_57 _ _ o_50) (fun q => q.elim (fun q => (fun q => absurd q (by unfold hD; omega)) q) (fun q => q.elim (fun q => (fun q => absurd q (gne_c o_50 o_49 (by decide))) q) (fun q => (fun q => absurd q (gne_oa o_50 a_51)) q)))).trans o_50
              have o_60 : G_58 n_2 = some (.inr (43, [.ref qa, .int (nI mm), .ref (n_2 + 1), .int mc_48])) := (hf_58 _ (lc_57 _ _ ho_48) (fun q => q.elim (fun q => (fun q => absurd q (by unfold hD; omega)) q) (fun q => q.elim (fun q => (fun q => absurd q (gne_c ho_48 o_49 (by decide))) q) (fun q => (fun q => absurd q (gne_oa ho_48 a_51)) q)))).trans ho_48
              have a_61 : G_58 qa = some (.inl (yA Y 11, cap, .inr (.inr (.inr (.inr f_48))))) := (hf_58 _ (lc_57 _ _ hoa_48) (fun q => q.elim (fun q => (fun q => absurd q (by unfold hD; omega)) q) (fun q => q.elim (fun q => (fun q => absurd q (gne_ao hoa_48 o_49)) q) (fun q => (fun q => absurd q (by omega)) q)))).trans hoa_48
              have hi_62 : sub I G_58 := hf_58.subs hi_53 lc_57 (fun a q => (show _ from (fun q => q.elim (fun q => (fun q => hIh_h _ q) q) (fun q => q.elim (fun q => (fun q : a = _ => by subst q; exact hIl) q) (fun q => (fun q : a = _ => by subst q; exact hIk) q))) q))
              have hf_63 : FR (fun a => hD h a ∨ a = lg ∨ a = ka) n G G_58 := hf_54.trans hf_58 (by omega) (fun a_ q_ => .inl q_)
              refine g_goto (tgt := 67) hC dX0_stopWaves_91 (by decide) ?_
              exact ih_b G_58 (stS y q9) (gb + 1) mm mc_48 f_48 (fu - 1) (HL.st b19 yN yK y20 (by omega) hb_58 hoa_58 hob_58 rfl) (hi_62) (hf_63) (o_60) (o_59) (a_61) (PE_iff hPE_48 (fun a => by rw [← z3]; exact Sx_st hN2 bB z1 z2 a)) (hPH_48) (fun q => (stS_7 (by omega)).trans (b7 q)) ((stS_ne (by decide) (by decide) (by decide)).trans b19) (fun q hq hp => bB q hq (stP_s hp)) (hstI) (⟨by omega, by omega, by omega⟩) (hbd) (by omega)
        refine V.sub [0, 1, 3, 4] rfl ?_
        exact hl_67 (kk + 1) Ga (wavesF N σ p_) g kk mc f 13 (HL.cg (y := σ) ⟨jh, ⟨hN, hK, h20⟩, jl, jka⟩ (fun k i q => waves_ne (by omega))) (jI) (jf) (jp) (jcm) (ja) (PE_iff jE hSS) (jH) (fun q => waves_ne (by decide)) ((waves_ne (by decide)).trans h19) (fun q hq hp => jB q hq ((hwP q hq).mpr hp)) (by rw [Nat.sub_self]; rfl) (⟨by omega, by omega, by omega⟩) (fun q q' a b => by rw [show tl (wavesF N σ p_) 0 q = tl σ 0 q from waves_ne (by decide), show tl (wavesF N σ p_) 0 q' = tl σ 0 q' from waves_ne (by decide), show tl (wavesF N σ p_) 7 q = tl σ 7 q from waves_ne (by decide), show tl (wavesF N σ p_) 7 q' = tl σ 7 q' from waves_ne (by decide)]; exact hAg.2 q q' a b) (by omega)
      · refine g_aload_n hC dX0_stopWaves_35 rfl 1 rfl ?_
        refine g_iload hC dX0_stopWaves_36 5 rfl ?_
        refine g_iald hC jw (vin (by omega) (by omega)) dX0_stopWaves_38 ?_
        rw [show (nI i).toNatClampNeg = i from nI_clamp (by omega)]
        refine g_iconst (v := (-1)) hC dX0_stopWaves_39 rfl ?_
        refine g_icmp_eq hC dX0_stopWaves_40 (tgt := 54) (by decide) (fun c_40 => ?_) (fun c_40 => ?_)
        · have hnp : ¬ ¬ wv_2 i = -1 := fun h => h c_40
          refine g_iincN (L' := [(5, .int (nI (i + 1))), (4, .ref n_2), (3, .ref a_2), (0, .ref h), (1, .ref lg), (2, .int (nI p_))]) hC 1 i dX0_stopWaves_54 (k := 5) rfl (by decide) (by decide) rfl ?_
          refine g_goto (tgt := 26) hC dX0_stopWaves_57 (by decide) ?_
          refine V.sub [1, 2, 3, 4, 5, 0] rfl ?_
          exact ih_ Ga na ua (i + 1) kk mc qa cap f ba (jh) (jI) (jf) (jl) (jka) (jp) (jcm) (jw) (ja) (⟨by omega, by omega, by omega, by omega, by omega⟩) (⟨jc1, jc2, jc3⟩) (PE_iff jE (fun a => (Sx_n hnp a).symm)) (jH) (BA_n jB hnp) (⟨by omega, fun q => jn2 q, by omega, by omega⟩) (by omega)
        · refine g_aload hC dX0_stopWaves_43 0 rfl ?_
          refine g_iload hC dX0_stopWaves_45 5 rfl ?_
          refine V.lts (fun lc_64 => ?_)
          refine g_callq0 hC (g_runS hC (met_J12_valueOf (G := Ga) (nI i) ((hIo).trans jI)) (lw_S q2970 q1487 q106 q1488) md_J12_valueOf dX0_stopWaves_47 rfl ⟨by omega, by omega⟩ (by omega) (by omega) rfl (Nat.le_of_ble_eq_true rfl)) (fun r_65 G_65 n_65 u_65 hp_65 hn_65 hm_65 hu_65 => ?_)
          obtain ⟨bx_65, rfl, ho_65, hf_65, hq_65, hv_65, hsm_65⟩ := hp_65
          obtain ⟨rfl, rfl, rfl, hob_65'⟩ := hsm_65 i (by omega) rfl
          have hob_65 := ((hIo).trans jI) _ _ hob_65'
          obtain rfl := jc1 (by omega)
          have hpp : (fun q => ¬ wv_2 q = -1) i := c_40
          have hbI : I bx_65 = some (.inr (40, [.int (nI i)])) := hIo _ _ hob_65'
          have hnx : ¬ Sx (fun q => ¬ wv_2 q = -1) ba i bx_65 := fun ⟨q9, z1, z2, z3⟩ => by
            have z4 := jB q9 z1 z2
            rw [z3, hbI] at z4
            have := (nI_eq (by omega) (by omega)).mp (box_inj z4); omega
          have hKS : ∀ a, Sx (fun q => ¬ wv_2 q = -1) ba i a → KPy N σ I a (rkY σ I a) := fun a ⟨q9, z1, z2, z3⟩ => by rw [← z3]; exact KPy_at (jB q9 z1 z2) (by omega) hN2 (hAg.1 q9 (by omega))
          refine V.lts (fun lc_66 => ?_)
          refine g_calli0 hC (g_runV hC (met_J26_addY (G := Ga) n_2 bx_65 jh hN hK hN2 jI (hIn _ (by omega)) (hIn _ (by omega)) (by unfold hD; omega) (by unfold hD; omega) (by omega) (by omega) jp ja jcm (by omega) jE jH hKS hnx (KPy_at hbI (by omega) hN2 (hAg.1 i (by omega)))) kc_J26 jp (lw_V q2971 q1975 q1976 q133 q1977) rfl md_J26_add dX0_stopWaves_50 rfl ⟨by omega, by omega⟩ (by omega) (by omega) rfl (Nat.le_of_ble_eq_true rfl)) (fun r_67 G_67 n_67 u_67 hp_67 hn_67 hm_67 hu_67 => ?_)
          obtain ⟨rfl, f_67, mc_67, qa_67, cp_67, ho_67, hoa_67, hqq_67, hcp_67, hcq_67, hnn_67, huu_67, hsk_67, hsl_67, hPE_67, hPH_67, hf_67⟩ := hp_67
          have o_68 : G_67 lg = some (.inr (1, [.ref ka, .int (nI g)])) := (hf_67 _ (lc_66 _ _ jl) (fun q => q.elim (fun q => (fun q => absurd q (gne_c jl jp (by decide))) q) (fun q => (fun q => absurd q (gne_oa jl ja)) q))).trans jl
          have o_69 : G_67 (n_2 + 1) = some (.inr (23, [.ref h])) := (hf_67 _ (lc_66 _ _ jcm) (fun q => q.elim (fun q => (fun q => absurd q (gne_c jcm jp (by decide))) q) (fun q => (fun q => absurd q (gne_oa jcm ja)) q))).trans jcm
          have o_70 : G_67 bx_65 = some (.inr (40, [.int (nI i)])) := (hf_67 _ (lc_66 _ _ hob_65) (fun q => q.elim (fun q => (fun q => absurd q (gne_c hob_65 jp (by decide))) q) (fun q => (fun q => absurd q (gne_oa hob_65 ja)) q))).trans hob_65
          have a_71 : G_67 ka = some (.inl (yA Y 0, 40, .inl (σ.1 21))) := (hf_67 _ (lc_66 _ _ jka) (fun q => q.elim (fun q => (fun q => absurd q (gne_ao jka jp)) q) (fun q => (fun q => absurd q (by omega)) q))).trans jka
          have a_72 : G_67 a_2 = some (.inl (yA Y 0, 12, .inl wv_2)) := (hf_67 _ (lc_66 _ _ jw) (fun q => q.elim (fun q => (fun q => absurd q (gne_ao jw jp)) q) (fun q => (fun q => absurd q (by omega)) q))).trans jw
          have hs_73 : sub (hM Y h N σ η) G_67 := hf_67.subs jh lc_66 (fun a q => (show _ from (fun q => q.elim (fun q => (fun q : a = _ => by subst q; exact hM_none (by unfold hD; omega)) q) (fun q => (fun q : a = _ => by subst q; exact hM_none (by unfold hD; omega)) q)) q))
          have hi_74 : sub I G_67 := hf_67.subs jI lc_66 (fun a q => (show _ from (fun q => q.elim (fun q => (fun q : a = _ => by subst q; exact hIn _ (by omega)) q) (fun q => (fun q : a = _ => by subst q; exact (hIn _ (by omega))) q)) q))
          have hf_75 : FR (fun a => hD h a ∨ a = lg ∨ a = ka) n G G_67 := jf.trans hf_67 (by omega) (fun a_ q_ => .inr (by omega))
          have hqr_67 : n_2 ≤ qa_67 ∧ qa_67 ≠ n_2 ∧ qa_67 ≠ n_2 + 1 := by
            rcases hqq_67 with e | e
            · rw [e]; exact ⟨jq3, jq4, jq5⟩
            · exact ⟨by omega, Nat.ne_of_gt (by omega), Nat.ne_of_gt (by omega)⟩
          have hnq_67 : n_2 + 3 ≤ n_67 ∧ (kk + 1 ≤ 11 → n_67 ≤ n_2 + 3 ∧ u_67 ≤ u_2 + 20) ∧ n_67 ≤ n_2 + 4 ∧ u_67 ≤ u_2 + 44 := by
            have h1 := jn2 (by omega)
            refine ⟨by omega, fun q => ?_, by omega, by omega⟩
            have h2 := hsk_67 (by omega)
            omega
          refine g_pop hC dX0_stopWaves_53 rfl ?_
          refine g_iincN (L' := [(5, .int (nI (i + 1))), (4, .ref n_2), (3, .ref a_2), (0, .ref h), (1, .ref lg), (2, .int (nI p_))]) hC 1 i dX0_stopWaves_54 (k := 5) rfl (by decide) (by decide) rfl ?_
          refine g_goto (tgt := 26) hC dX0_stopWaves_57 (by decide) ?_
          refine V.sub [1, 2, 3, 4, 5, 0] rfl ?_
          exact ih_ G_67 n_67 u_67 (i + 1) (kk + 1) mc_67 qa_67 cp_67 f_67 (upN ba i bx_65) (hs_73) (hi_74) (hf_75) (o_68) (a_71) (ho_67) (o_69) (a_72) (hoa_67) (⟨by omega, by omega, hqr_67.1, hqr_67.2.1, hqr_67.2.2⟩) (⟨fun q => hcp_67 (by omega), hcq_67.1, hcq_67.2⟩) (PE_iff hPE_67 (fun a => (Sx_s (P := (fun q => ¬ wv_2 q = -1)) hpp a).symm)) (hPH_67) (BA_s jB hbI) (hnq_67) (by omega)
  refine V.sub [1, 2, 3, 4, 5, 0] rfl ?_
  exact hl_26 (N - 0 + 1) G_35 n_35 u_35 0 0 0 (n_2 + 1 + 1) 11 (fun _ => none) (fun _ => 0) (hs_40) (hi_41) (hf_42) (o_36) (a_38) (ho_35) (o_37) (a_39) (ha_35) (⟨by omega, by omega, by omega, by omega, by omega⟩) (⟨fun _ => rfl, by omega, by omega⟩) (⟨fun i hi => absurd hi (Nat.not_lt_zero _), fun a ⟨q, h, _⟩ => absurd h (Nat.not_lt_zero _), fun i j hi => absurd hi (Nat.not_lt_zero _)⟩) (fun i j _ hn => absurd hn (Nat.not_lt_zero _)) (fun q hq => absurd hq (Nat.not_lt_zero _)) (⟨by omega, fun _ => ⟨by omega, by omega⟩, by omega, by omega⟩) (by omega)
