set_option maxRecDepth 100000
/-! COMPONENT, 8: candidate -/
def cdP (σ : MS) (p s q : Nat) : Bool := decide (¬ q = p) && decide (tl σ 0 q = 0) && offF σ q s
def rkq (σ : MS) (q : Nat) : Int := -(strF σ q).toInt * 1000000 + (keyN σ q : Int)
def rkP (σ : MS) (I : AH) (a : Nat) : Int := match I a with
  | some (.inr (_, .int ix :: _)) => rkq σ ix.toNatClampNeg
  | _ => 0
def SSc (σ : MS) (pr : Nat → Option Nat) (p s q : Nat) (a : Nat) : Prop := ∃ q', q' < q ∧ cdP σ p s q' = true ∧ pr q' = some a
abbrev PLb (σ : MS) (N : Nat) : Prop := ∀ q, q < N → 0 ≤ (strF σ q).toInt ∧ (strF σ q).toInt < 1000
theorem kyD_1 {f w : Nat} (h : w < 19683) : kyD (f + 1) w = kyD f (w * 27) := if_pos h
theorem kyD_2 {f w : Nat} (h : ¬ w < 19683) : kyD (f + 1) w = w := if_neg h
theorem kyD_nm {d : Nat → Nat} {N : Nat} (h1 : 1 ≤ N) (h4 : N ≤ 4) (hd : ∀ i, i < N → 1 ≤ d i ∧ d i ≤ 26) : kyD 4 (numD d N) = nmR d N ∧ numD d N < 531441 ∧ 0 < numD d N ∧ nmR d N < 1000000 := by
  have a0 := hd 0 (by omega)
  obtain rfl | rfl | rfl | rfl : N = 1 ∨ N = 2 ∨ N = 3 ∨ N = 4 := by omega
  · have e1 : numD d 1 = d 0 := by simp [numD, foldN]
    have e2 : nmR d 1 = d 0 * 27 * 27 * 27 := by simp [nmR, dg]
    rw [e1, e2, kyD_1 (by omega), kyD_1 (by omega), kyD_1 (by omega), kyD_2 (by omega)]; omega
  · have a1 := hd 1 (by omega)
    have e1 : numD d 2 = 27 * d 0 + d 1 := by simp [numD, foldN]
    have e2 : nmR d 2 = (d 0 * 27 + d 1) * 27 * 27 := by simp [nmR, dg]
    rw [e1, e2, kyD_1 (by omega), kyD_1 (by omega), kyD_2 (by omega)]; omega
  · have a1 := hd 1 (by omega); have a2 := hd 2 (by omega)
    have e1 : numD d 3 = 27 * (27 * d 0 + d 1) + d 2 := by simp [numD, foldN]
    have e2 : nmR d 3 = ((d 0 * 27 + d 1) * 27 + d 2) * 27 := by simp [nmR, dg]
    rw [e1, e2, kyD_1 (by omega), kyD_2 (by omega)]; omega
  · have a1 := hd 1 (by omega); have a2 := hd 2 (by omega); have a3 := hd 3 (by omega)
    have e1 : numD d 4 = 27 * (27 * (27 * d 0 + d 1) + d 2) + d 3 := by simp [numD, foldN]
    have e2 : nmR d 4 = ((d 0 * 27 + d 1) * 27 + d 2) * 27 + d 3 := by simp [nmR, dg]
    rw [e1, e2, kyD_2 (by omega)]; omega
theorem NK.KS {Y : YT} {I : AH} {k : Nat} {x : Int32} (h : NK Y I k x) : ∃ X : Nat, KS Y I k (X : Int) ∧ X = kyD 4 x.toNatClampNeg ∧ X < 1000000 := by
  obtain ⟨va, N, f, d, x1, x2, h1, h2, h3, h4, h5, h6⟩ := h
  obtain ⟨k1, k2, k3, k4⟩ := kyD_nm h3 h4 (fun i hi => (h5 i hi).2)
  exact ⟨nmR d N, ⟨va, N, f, d, x1, x2, h1, h2, h3, h4, h5, rfl⟩, by rw [h6, nI_clamp (by omega), k1], k4⟩
theorem PL_rk {Y : YT} {N : Nat} {σ : MS} {I : AH} {pr : Nat → Option Nat} (hpl : PLs Y N σ I pr) (hb : PLb σ N) (hN : N ≤ 12) {q a : Nat} (hq : q < N) (ha : pr q = some a) : KPs Y I a (rkP σ I a) ∧ rkP σ I a = rkq σ q := by
  obtain ⟨a', nm, kd, h1, h2, h3, h4, h5⟩ := hpl q hq
  obtain rfl : a' = a := Option.some.inj (h1.symm.trans ha)
  obtain ⟨X, k1, k2, k3⟩ := h5.KS
  have e : rkP σ I a' = rkq σ q := by unfold rkP; rw [h4]; show rkq σ (nI q).toNatClampNeg = _; rw [nI_clamp (by omega)]
  refine ⟨⟨kd, nI q, nm, tl σ 2 q, tl σ 3 q, tl σ 4 q, X, h2, h4, k1, ?_, ⟨by omega, by omega⟩, ?_⟩, e⟩
  · rw [strV_F h2 h3]; exact hb q hq
  · rw [e, strV_F h2 h3, k2]; rfl
theorem PL_inj {Y : YT} {N : Nat} {σ : MS} {I : AH} {pr : Nat → Option Nat} (hpl : PLs Y N σ I pr) (hN : N ≤ 12) {q q' a : Nat} (hq : q < N) (hq' : q' < N) (ha : pr q = some a) (ha' : pr q' = some a) : q = q' := by
  obtain ⟨a1, nm, kd, h1, h2, h3, h4, h5⟩ := hpl q hq
  obtain ⟨a2, nm2, kd2, g1, g2, g3, g4, g5⟩ := hpl q' hq'
  obtain rfl : a1 = a := Option.some.inj (h1.symm.trans ha)
  obtain rfl : a2 = a1 := Option.some.inj (g1.symm.trans ha')
  rw [h4] at g4
  have e := (List.cons.inj (Prod.mk.inj (Sum.inr.inj (Option.some.inj g4))).2).1
  exact (nI_eq (by omega) (by omega)).mp (Value.int.inj e)
theorem betK_rk {σ : MS} {N : Nat} (hb : PLb σ N) (hk : ∀ q, q < N → keyN σ q < 1000000) {q g : Nat} (hq : q < N) (hg : g < N) : betK σ q g = true ↔ rkq σ q < rkq σ g := by
  have b1 := hb q hq
  have b2 := hb g hg
  have k1 := hk q hq
  have k2 := hk g hg
  unfold betK rkq
  simp only [Bool.or_eq_true, Bool.and_eq_true, decide_eq_true_eq]
  rw [Int32.lt_iff_toInt_lt, ← Int32.toInt_inj]
  omega
theorem tk_sp {σ : MS} {N p s : Nat} (hb : PLb σ N) (hk : ∀ q, q < N → keyN σ q < 1000000) : ∀ n, n ≤ N → match foldN (tkS σ p s) none n with
    | none => ∀ q, q < n → cdP σ p s q = false
    | some g => g < n ∧ cdP σ p s g = true ∧ ∀ q, q < n → cdP σ p s q = true → rkq σ g ≤ rkq σ q := by
  intro n
  induction n with
  | zero => intro _ q hq; omega
  | succ n ih =>
    intro hn
    have ih := ih (by omega)
    rw [show foldN (tkS σ p s) none (n + 1) = tkS σ p s (foldN (tkS σ p s) none n) n from rfl]
    have hc : ∀ o, tkS σ p s o n = if cdP σ p s n = true then (match o with | none => some n | some g => if betK σ n g = true then some n else some g) else o := by
      intro o
      unfold tkS cdP
      by_cases h1 : n = p
      · simp [h1]
      · by_cases h2 : tl σ 0 n = 0
        · by_cases h3 : offF σ n s = true
          · cases o <;> simp [h1, h2, h3]
          · simp [h1, h2, h3]
        · simp [h1, h2]
    rw [hc]
    cases q0 : foldN (tkS σ p s) none n with
    | none =>
      rw [q0] at ih
      by_cases h : cdP σ p s n = true
      · rw [if_pos h]
        refine ⟨by omega, h, fun q hq hq2 => ?_⟩
        by_cases e : q = n
        · subst e; exact Int.le_refl _
        · rw [ih q (by omega)] at hq2; cases hq2
      · rw [if_neg h]
        intro q hq
        by_cases e : q = n
        · subst e; simpa using h
        · exact ih q (by omega)
    | some g =>
      rw [q0] at ih
      obtain ⟨i1, i2, i3⟩ := ih
      by_cases h : cdP σ p s n = true
      · rw [if_pos h]
        have hbk := betK_rk hb hk (q := n) (g := g) (by omega) (by omega)
        by_cases hbt : betK σ n g = true
        · simp only [hbt, if_true]
          have := hbk.mp hbt
          refine ⟨by omega, h, fun q hq hq2 => ?_⟩
          by_cases e : q = n
          · subst e; exact Int.le_refl _
          · have := i3 q (by omega) hq2; omega
        · simp only [hbt]
          have hle : rkq σ g ≤ rkq σ n := Int.not_lt.mp (fun q => hbt (hbk.mpr q))
          refine ⟨by omega, i2, fun q hq hq2 => ?_⟩
          by_cases e : q = n
          · subst e; exact hle
          · exact i3 q (by omega) hq2
      · rw [if_neg h]
        refine ⟨by omega, i2, fun q hq hq2 => ?_⟩
        by_cases e : q = n
        · subst e; exact absurd hq2 h
        · exact i3 q (by omega) hq2
theorem tk_none {σ : MS} {N p s : Nat} (hb : PLb σ N) (hk : ∀ q, q < N → keyN σ q < 1000000) (h : ∀ q, q < N → cdP σ p s q = false) : foldN (tkS σ p s) none N = none := by
  have := tk_sp (p := p) (s := s) hb hk N (Nat.le_refl _)
  cases q0 : foldN (tkS σ p s) none N with
  | none => rfl
  | some g =>
    rw [q0] at this
    have h2 : cdP σ p s g = true := this.2.1
    rw [h g this.1] at h2; cases h2
theorem tk_some {σ : MS} {N p s g : Nat} (hb : PLb σ N) (hk : ∀ q, q < N → keyN σ q < 1000000) (hi : ∀ q q', q < N → q' < N → tl σ 0 q = 0 → tl σ 0 q' = 0 → keyN σ q = keyN σ q' → q = q') (hg : g < N) (h1 : cdP σ p s g = true) (h2 : ∀ q, q < N → cdP σ p s q = true → rkq σ g ≤ rkq σ q) : foldN (tkS σ p s) none N = some g := by
  have := tk_sp (p := p) (s := s) hb hk N (Nat.le_refl _)
  cases q0 : foldN (tkS σ p s) none N with
  | none => rw [q0] at this; rw [this g hg] at h1; cases h1
  | some g' =>
    rw [q0] at this
    obtain ⟨a1, a2, a3⟩ := this
    have e1 := h2 g' a1 a2
    have e2 := a3 g hg h1
    have b1 := hb g hg; have b2 := hb g' a1; have k1 := hk g hg; have k2 := hk g' a1
    have z : ∀ x, cdP σ p s x = true → tl σ 0 x = 0 := fun x hx => by unfold cdP at hx; simp at hx; exact hx.1.2
    rw [hi g' g a1 hg (z _ a2) (z _ h1) (by unfold rkq at e1 e2; omega)]
theorem SSc_s {σ : MS} {pr : Nat → Option Nat} {p s q a : Nat} (hc : cdP σ p s q = true) (ha : pr q = some a) {f : Nat → Option Nat} {k : Nat} (h : PE (fun b => SSc σ pr p s q b ∨ b = a) f k) : PE (SSc σ pr p s (q + 1)) f k := by
  have e : ∀ b, SSc σ pr p s (q + 1) b ↔ (SSc σ pr p s q b ∨ b = a) := fun b => by
    constructor
    · rintro ⟨q', h1, h2, h3⟩
      by_cases e : q' = q
      · subst e; exact .inr (Option.some.inj (h3.symm.trans ha))
      · exact .inl ⟨q', by omega, h2, h3⟩
    · rintro (⟨q', h1, h2, h3⟩ | rfl)
      · exact ⟨q', by omega, h2, h3⟩
      · exact ⟨q, by omega, hc, ha⟩
  exact ⟨fun i hi => by obtain ⟨b, b1, b2⟩ := h.1 i hi; exact ⟨b, b1, (e b).mpr b2⟩, fun b hb => h.2.1 b ((e b).mp hb), h.2.2⟩
theorem SSc_n {σ : MS} {pr : Nat → Option Nat} {p s q : Nat} (hc : cdP σ p s q = false) {f : Nat → Option Nat} {k : Nat} (h : PE (SSc σ pr p s q) f k) : PE (SSc σ pr p s (q + 1)) f k := by
  have e : ∀ b, SSc σ pr p s (q + 1) b ↔ SSc σ pr p s q b := fun b => by
    constructor
    · rintro ⟨q', h1, h2, h3⟩
      by_cases e : q' = q
      · subst e; rw [hc] at h2; cases h2
      · exact ⟨q', by omega, h2, h3⟩
    · rintro ⟨q', h1, h2, h3⟩; exact ⟨q', by omega, h2, h3⟩
  exact ⟨fun i hi => by obtain ⟨b, b1, b2⟩ := h.1 i hi; exact ⟨b, b1, (e b).mpr b2⟩, fun b hb => h.2.1 b ((e b).mp hb), h.2.2⟩
theorem SSc_0 {σ : MS} {pr : Nat → Option Nat} {p s : Nat} {f : Nat → Option Nat} : PE (SSc σ pr p s 0) f 0 := ⟨fun i hi => absurd hi (Nat.not_lt_zero _), fun a ⟨q, h, _⟩ => absurd h (Nat.not_lt_zero _), fun i j hi => absurd hi (Nat.not_lt_zero _)⟩
set_option maxHeartbeats 1000000 in
theorem met_X2_candidate {Y : YT} {l : Launch} {n u : Nat} {G : AH} (h : Nat) (p_ : Nat) (k_ : Nat) {N K : Nat} {σ : MS} {η : HV} {I : AH} (hh : sub (hM Y h N σ η) G) (hN : σ.1 0 0 = nI N) (hK : σ.1 4 0 = nI K) (hN2 : N ≤ 12) (hI : sub I G) (hIh_h : ∀ a, hD h a → I a = none) (hpl : PLs Y N σ I (η.2 0)) (hi0 : p_ < N) (hk : k_ < 8) (hb : PLb σ N) (hk9_ : ∀ q, q < N → keyN σ q < 1000000) (hi9_ : ∀ q q', q < N → q' < N → tl σ 0 q = 0 → tl σ 0 q' = 0 → keyN σ q = keyN σ q' → q = q') : GM Y l yX2_candidate (ws_ yX2_candidate cX2_candidate 5 (some FieldType.int)) 11 250 [.ref h, .int (nI p_), .int (nI k_)] G n u 3 15 (pI (fun r G' n' u' => oI (foldN (tkS σ p_ k_) none N) = r ∧ FR noD n G G' ∧ n ≤ n' ∧ u ≤ u')) noX := by
  refine GM.intro (own := RX2) rfl (by decide +kernel) (Nat.le_of_ble_eq_true rfl) ?_
  intro p e s m args below meth c R Q hC hr hnm hF hL hE
  have hE1 := hE.1
  have hE2 := hE.2.1
  have hnz : yz Y ≤ n := by have := hC.z; have := hC.n; omega
  show V Y p l e R s m args below meth c 5 n u G n u Q 0 [(0, .ref h), (1, .int (nI p_)), (2, .int (nI k_))] []
  refine V.lts (fun hlt => ?_)
  have hl_h : h + 6 < n := hlt _ _ (hh _ _ (hM_j 6))
  have hIn := sub_none hI hlt
  obtain ⟨G_1, eG_1⟩ : ∃ G_, gU G n (.inr (43, [.null, .int 0, .null, .int 0])) = G_ := ⟨_, rfl⟩
  refine V.lts (fun ltG_1 => ?_)
  have hs_2 : sub (hM Y h N σ η) G_1 := by rw [← eG_1]; exact sub_new hh ltG_1
  have hi_3 : sub I G_1 := by rw [← eG_1]; exact sub_new hI ltG_1
  have hf_4 : FR noD n G G_1 := by rw [← eG_1]; exact FR.put FR.refl (.inr (by omega))
  refine g_new hC kc_J26 q1934 q1935 q133 (fs := [.null, .int 0, .null, .int 0]) rfl (G' := G_1) eG_1 (by omega) (by omega) dX2_candidate_0 ?_
  have o_5 : G_1 n = some (.inr (43, [.null, .int 0, .null, .int 0])) := by rw [← eG_1]; exact gU_s _ _ _
  refine g_dup hC dX2_candidate_3 rfl ?_
  obtain ⟨G_6, eG_6⟩ : ∃ G_, gU G_1 (n + 1) (.inr (22, [])) = G_ := ⟨_, rfl⟩
  refine V.lts (fun ltG_6 => ?_)
  have o_7 : G_6 n = some (.inr (43, [.null, .int 0, .null, .int 0])) := by rw [← eG_6]; exact (gU_n _ (Nat.ne_of_lt (ltG_6 _ _ o_5))).trans o_5
  have hs_8 : sub (hM Y h N σ η) G_6 := by rw [← eG_6]; exact sub_new hs_2 ltG_6
  have hi_9 : sub I G_6 := by rw [← eG_6]; exact sub_new hi_3 ltG_6
  have hf_10 : FR noD n G G_6 := by rw [← eG_6]; exact FR.put hf_4 (.inr (by omega))
  refine g_new hC kc_X23 q1936 q1937 q134 (fs := []) rfl (G' := G_6) eG_6 (by omega) (by omega) dX2_candidate_4 ?_
  have o_11 : G_6 (n + 1) = some (.inr (22, [])) := by rw [← eG_6]; exact gU_s _ _ _
  refine g_dup hC dX2_candidate_7 rfl ?_
  refine V.lts (fun lc_12 => ?_)
  refine g_callv0 hC (g_runI (ret := none) hC (met_X23_init (G := G_6) (n + 1)  o_11 (by omega)) (lw_meth q1940) q134 q1938 q1939 rfl md_X23_init dX2_candidate_8 rfl ⟨by omega, by omega⟩ (by omega) (by omega) rfl (Nat.le_of_ble_eq_true rfl)) (fun G_13 n_13 u_13 hp_13 hn_13 hm_13 hu_13 => ?_)
  obtain ⟨ho_13, hf_13, rfl, rfl⟩ := hp_13
  have o_14 : G_13 n = some (.inr (43, [.null, .int 0, .null, .int 0])) := (hf_13 _ (lc_12 _ _ o_7) (fun q => (gne_c o_7 o_11 (by decide)) q)).trans o_7
  have hs_15 : sub (hM Y h N σ η) G_13 := hf_13.subs hs_8 lc_12 (fun a q => by subst q; exact hM_none (by unfold hD; omega))
  have hi_16 : sub I G_13 := hf_13.subs hi_9 lc_12 (fun a q => by subst q; exact hIn _ (by omega))
  have hf_17 : FR noD n G G_13 := hf_10.trans hf_13 (by omega) (fun a_ q_ => by first | exact .inl q_ | exact .inl (.inl q_) | exact .inl (.inr q_) | (subst q_; first | exact .inr (by omega) | exact .inl rfl))
  refine V.lts (fun lc_18 => ?_)
  refine g_callv0 hC (g_runI (ret := none) hC (met_J26_init (G := G_13) n (n + 1) o_14 (by omega)) (lw_meth q1945) q133 q1943 q1944 rfl md_J26_init dX2_candidate_11 rfl ⟨by omega, by omega⟩ (by omega) (by omega) rfl (Nat.le_of_ble_eq_true rfl)) (fun G_19 n_19 u_19 hp_19 hn_19 hm_19 hu_19 => ?_)
  obtain ⟨ho_19, ha_19, hf_19, hn2_19, hu2_19⟩ := hp_19
  have o_20 : G_19 (n + 1) = some (.inr (22, [])) := (hf_19 _ (lc_18 _ _ ho_13) (fun q => (gne_c ho_13 o_14 (by decide)) q)).trans ho_13
  have hs_21 : sub (hM Y h N σ η) G_19 := hf_19.subs hs_15 lc_18 (fun a q => by subst q; exact hM_none (by unfold hD; omega))
  have hi_22 : sub I G_19 := hf_19.subs hi_16 lc_18 (fun a q => by subst q; exact hIn _ (by omega))
  have hf_23 : FR noD n G G_19 := hf_17.trans hf_19 (by omega) (fun a_ q_ => by first | exact .inl q_ | exact .inl (.inl q_) | exact .inl (.inr q_) | (subst q_; first | exact .inr (by omega) | exact .inl rfl))
  refine g_astore_n (L' := [(3, .ref n), (0, .ref h), (1, .int (nI p_)), (2, .int (nI k_))]) hC dX2_candidate_14 rfl (by decide) rfl ?_
  refine g_iconst (v := 0) hC dX2_candidate_15 rfl ?_
  refine g_istore (L' := [(4, .int 0), (3, .ref n), (0, .ref h), (1, .int (nI p_)), (2, .int (nI k_))]) hC dX2_candidate_16 (by decide) rfl ?_
  have hl_18 : ∀ (kf_ : Nat) (Gq : AH) (q : Nat) (kk : Nat) (mc : Int32) (f : Nat → Option Nat), (Gq n = some (.inr (43, [.ref (n + 1 + 1), .int (nI kk), .ref (n + 1), .int mc]))) → (Gq (n + 1 + 1) = some (.inl (yA Y 11, 11, .inr (.inr (.inr (.inr f)))))) → (Gq (n + 1) = some (.inr (22, []))) → (sub (hM Y h N σ η) Gq) → (sub I Gq) → (FR noD n G Gq) → (kk ≤ q ∧ (p_ < q → kk + 1 ≤ q)) → (q ≤ N) → (PE (SSc σ (η.2 0) p_ k_ q) f kk) → (PH (rkP σ I) f kk) → N - q < kf_ → V Y p l e R s m args below meth c 5 n u Gq n_19 u_19 Q 18 [(3, .ref n), (0, .ref h), (1, .int (nI p_)), (2, .int (nI k_)), (4, .int (nI q))] [] := by
    intro kf_
    induction kf_ with
    | zero => intro Gq q kk mc f jp ja jcm jh jI jf jk jq jE jH hk_; exact absurd hk_ (Nat.not_lt_zero _)
    | succ kf_ ih_ =>
      intro Gq q kk mc f jp ja jcm jh jI jf jk jq jE jH hk_
      refine g_iload hC dX2_candidate_18 4 rfl ?_
      refine g_aload_n hC dX2_candidate_20 rfl 1 rfl ?_
      refine g_get (v := .int (nI N)) hC kc_X2 (jh _ _ (hM_0 hN hK)) 0 (by decide) q251 rfl dX2_candidate_21 ?_
      refine g_icmp_geN hC q N (by omega) (by omega) dX2_candidate_24 (tgt := 78) (by decide) (fun c_24 => ?_) (fun c_24 => ?_)
      · refine g_aload_n hC dX2_candidate_78 rfl 0 rfl ?_
        refine V.lts (fun lc_24 => ?_)
        refine g_calli0 hC (g_runU (n := 0) (owner := "java/util/AbstractCollection") (x := ⟨"java/util/PriorityQueue", "isEmpty", "()Z"⟩) hC (met_J24_isEmpty_J26 (G := Gq) n jp (by omega)) kc_J26 jp (lw_U q2011 q2012 q2014 q2015 q131 q2016) rfl ⟨by decide, by decide, by decide +kernel⟩ dX2_candidate_79 rfl ⟨by omega, by omega⟩ (by omega) (by omega) rfl (Nat.le_of_ble_eq_true rfl)) (fun r_25 G_25 n_25 u_25 hp_25 hn_25 hm_25 hu_25 => ?_)
        obtain ⟨rfl, rfl, rfl, rfl⟩ := hp_25
        refine g_if_eqB hC (decide (kk = 0)) dX2_candidate_82 (tgt := 89) (by decide) (fun c_82 => ?_) (fun c_82 => ?_)
        · have hKS : ∀ a, SSc σ (η.2 0) p_ k_ q a → KPs Y I a (rkP σ I a) := fun a ⟨q9, z1, z2, z3⟩ => (PL_rk hpl hb hN2 (by omega) z3).1
          obtain ⟨mm, rfl⟩ : ∃ mm, kk = mm + 1 := ⟨kk - 1, by simp at c_82; omega⟩
          refine g_aload_n hC dX2_candidate_89 rfl 0 rfl ?_
          refine V.lts (fun lc_26 => ?_)
          refine g_callq0 hC (g_runV hC (met_J26_pollS (G := Gq) n (mm := mm) jI (hIn _ (by omega)) (hIn _ (by omega)) (by omega) (by omega) jp ja jcm (by omega) (by omega) jE jH hKS) kc_J26 jp (lw_V q2426 q2427 q2428 q133 q2429) rfl md_J26_poll dX2_candidate_90 rfl ⟨by omega, by omega⟩ (by omega) (by omega) rfl (Nat.le_of_ble_eq_true rfl)) (fun r_27 G_27 n_27 u_27 hp_27 hn_27 hm_27 hu_27 => ?_)
          obtain ⟨r__27, f_27, mc_27, rfl, hSr_27, hmn_27, ho_27, hoa_27, hPE_27, hPH_27, hf_27, rfl, rfl⟩ := hp_27
          have o_28 : G_27 (n + 1) = some (.inr (22, [])) := (hf_27 _ (lc_26 _ _ jcm) (fun q => q.elim (fun q => (fun q => absurd q (gne_c jcm jp (by decide))) q) (fun q => (fun q => absurd q (gne_oa jcm ja)) q))).trans jcm
          have hs_29 : sub (hM Y h N σ η) G_27 := hf_27.subs jh lc_26 (fun a q => (show _ from (fun q => q.elim (fun q => (fun q : a = _ => by subst q; exact hM_none (by unfold hD; omega)) q) (fun q => (fun q : a = _ => by subst q; exact hM_none (by unfold hD; omega)) q)) q))
          have hi_30 : sub I G_27 := hf_27.subs jI lc_26 (fun a q => (show _ from (fun q => q.elim (fun q => (fun q : a = _ => by subst q; exact hIn _ (by omega)) q) (fun q => (fun q : a = _ => by subst q; exact hIn _ (by omega)) q)) q))
          have hf_31 : FR noD n G G_27 := jf.trans hf_27 (by omega) (fun a_ q_ => .inr (by omega))
          obtain ⟨q9, z1, z2, z3⟩ := hSr_27
          obtain ⟨a9, nm9, kd9, hr9, hk9, ht9, hi9, -⟩ := hpl q9 (by omega)
          rw [Option.some.inj (hr9.symm.trans z3)] at hi9
          refine g_castP hC hk9 (hi_30 _ _ hi9) q207 dX2_candidate_93 ?_
          refine g_getP (v := .int (nI q9)) hC hk9 (hi_30 _ _ hi9) 0 (by decide) q1418 rfl dX2_candidate_96 ?_
          refine g_iret hC hr rfl ⟨_, rfl, ?_⟩ (by omega) (by omega) hE dX2_candidate_99
          obtain rfl : q = N := by omega
          refine ⟨?_, hf_31, by omega, by omega⟩
          rw [tk_some hb hk9_ hi9_ z1 z2 (fun x hx hx2 => ?_)]; rfl
          obtain ⟨ax, nmx, kdx, hrx, -⟩ := hpl x hx
          have := hmn_27 ax ⟨x, hx, hx2, hrx⟩
          rwa [(PL_rk hpl hb hN2 z1 z3).2, (PL_rk hpl hb hN2 hx hrx).2] at this
        · refine g_iconst (v := (-1)) hC dX2_candidate_85 rfl ?_
          refine g_goto (tgt := 99) hC dX2_candidate_86 (by decide) ?_
          refine g_iret hC hr rfl ⟨_, rfl, ?_⟩ (by omega) (by omega) hE dX2_candidate_99
          obtain rfl : q = N := by omega
          refine ⟨?_, jf, by omega, by omega⟩
          have h0 : kk = 0 := by simpa using c_82
          rw [tk_none hb hk9_ (fun q9 h9 => ?_)]; rfl
          cases hz : cdP σ p_ k_ q9 with
          | false => rfl
          | true =>
            obtain ⟨a9, nm9, kd9, hr9, -⟩ := hpl q9 h9
            obtain ⟨i9, i1, -⟩ := jE.2.1 a9 ⟨q9, h9, hz, hr9⟩
            omega
      · refine g_iload hC dX2_candidate_27 4 rfl ?_
        refine g_iload_n hC dX2_candidate_29 rfl 2 rfl ?_
        refine g_icmp_eqN hC q p_ (by omega) (by omega) dX2_candidate_30 (tgt := 72) (by decide) (fun c_30 => ?_) (fun c_30 => ?_)
        · have hcd : cdP σ p_ k_ q = false := by unfold cdP; simp [c_30]
          refine g_iincN (L' := [(4, .int (nI (q + 1))), (3, .ref n), (0, .ref h), (1, .int (nI p_)), (2, .int (nI k_))]) hC 1 q dX2_candidate_72 (k := 4) rfl (by decide) (by decide) rfl ?_
          refine g_goto (tgt := 18) hC dX2_candidate_75 (by decide) ?_
          refine V.sub [1, 2, 3, 4, 0] rfl ?_
          exact ih_ Gq (q + 1) kk mc f (jp) (ja) (jcm) (jh) (jI) (jf) (by omega) (by omega) (SSc_n hcd jE) (jH) (by omega)
        · refine g_aload_n hC dX2_candidate_33 rfl 1 rfl ?_
          refine g_get (v := .ref (h + 2)) hC kc_X2 (jh _ _ (hM_0 hN hK)) 5 (by decide) q265 rfl dX2_candidate_34 ?_
          refine g_iload hC dX2_candidate_37 4 rfl ?_
          refine g_iald hC (jh _ _ (hM_j 2)) (vin (by omega) (by omega)) dX2_candidate_39 ?_
          rw [show (nI q).toNatClampNeg = q from nI_clamp (by omega)]
          rw [hA_in (by omega)]
          refine g_if_ne hC dX2_candidate_40 (tgt := 72) (by decide) (fun c_40 => ?_) (fun c_40 => ?_)
          · have hcd : cdP σ p_ k_ q = false := by unfold cdP; simp [c_40]
            refine g_iincN (L' := [(4, .int (nI (q + 1))), (3, .ref n), (0, .ref h), (1, .int (nI p_)), (2, .int (nI k_))]) hC 1 q dX2_candidate_72 (k := 4) rfl (by decide) (by decide) rfl ?_
            refine g_goto (tgt := 18) hC dX2_candidate_75 (by decide) ?_
            refine V.sub [1, 2, 3, 4, 0] rfl ?_
            exact ih_ Gq (q + 1) kk mc f (jp) (ja) (jcm) (jh) (jI) (jf) (by omega) (by omega) (SSc_n hcd jE) (jH) (by omega)
          · obtain ⟨a_q, nm_q, kd_q, hr_q, hk_q, ht_q, hi_q, hnk_q⟩ := hpl q (by omega)
            refine g_aload_n hC dX2_candidate_43 rfl 1 rfl ?_
            refine g_get (v := .ref (h + 1)) hC kc_X2 (jh _ _ (hM_0 hN hK)) 4 (by decide) q262 rfl dX2_candidate_44 ?_
            refine g_iload hC dX2_candidate_47 4 rfl ?_
            refine g_aald (t0 := 6) hC (jh _ _ (hM_j 1)) rfl (vin (by omega) (by omega)) (r := some a_q) (by rw [nI_clamp (by omega)]; exact hr_q) dX2_candidate_49 ?_
            refine g_getP (v := .int (tl σ 4 q)) hC hk_q (jI _ _ hi_q) 4 (by decide) q1433 rfl dX2_candidate_50 ?_
            refine g_iload_n hC dX2_candidate_53 rfl 3 rfl ?_
            refine V.lts (fun lc_32 => ?_)
            refine g_calli0 hC (g_runS hC (met_X0_has (G := Gq) (tl σ 4 q) k_  ) (lw_S q1802 q1781 q81 q1782) md_X0_has dX2_candidate_54 rfl ⟨by omega, by omega⟩ (by omega) (by omega) rfl (Nat.le_of_ble_eq_true rfl)) (fun r_33 G_33 n_33 u_33 hp_33 hn_33 hm_33 hu_33 => ?_)
            obtain ⟨rfl, rfl, rfl, rfl⟩ := hp_33
            refine g_if_eqB hC (hasF (tl σ 4 q) k_) dX2_candidate_57 (tgt := 72) (by decide) (fun c_57 => ?_) (fun c_57 => ?_)
            · have hcd : cdP σ p_ k_ q = false := by unfold cdP; rw [offF_has, c_57]; simp
              refine g_iincN (L' := [(4, .int (nI (q + 1))), (3, .ref n), (0, .ref h), (1, .int (nI p_)), (2, .int (nI k_))]) hC 1 q dX2_candidate_72 (k := 4) rfl (by decide) (by decide) rfl ?_
              refine g_goto (tgt := 18) hC dX2_candidate_75 (by decide) ?_
              refine V.sub [1, 2, 3, 4, 0] rfl ?_
              exact ih_ Gq (q + 1) kk mc f (jp) (ja) (jcm) (jh) (jI) (jf) (by omega) (by omega) (SSc_n hcd jE) (jH) (by omega)
            · have hcd : cdP σ p_ k_ q = true := by unfold cdP; rw [offF_has, c_57, c_40]; simp [c_30]
              have hnx : ¬ SSc σ (η.2 0) p_ k_ q a_q := fun ⟨q9, z1, z2, z3⟩ => by have := PL_inj hpl hN2 (by omega) (by omega) z3 hr_q; omega
              have hKS : ∀ a, SSc σ (η.2 0) p_ k_ q a → KPs Y I a (rkP σ I a) := fun a ⟨q9, z1, z2, z3⟩ => (PL_rk hpl hb hN2 (by omega) z3).1
              refine g_aload_n hC dX2_candidate_60 rfl 0 rfl ?_
              refine g_aload_n hC dX2_candidate_61 rfl 1 rfl ?_
              refine g_get (v := .ref (h + 1)) hC kc_X2 (jh _ _ (hM_0 hN hK)) 4 (by decide) q262 rfl dX2_candidate_62 ?_
              refine g_iload hC dX2_candidate_65 4 rfl ?_
              refine g_aald (t0 := 6) hC (jh _ _ (hM_j 1)) rfl (vin (by omega) (by omega)) (r := some a_q) (by rw [nI_clamp (by omega)]; exact hr_q) dX2_candidate_67 ?_
              refine V.lts (fun lc_34 => ?_)
              refine g_calli0 hC (g_runV hC (met_J26_addS (G := Gq) n a_q jI (hIn _ (by omega)) (hIn _ (by omega)) (by omega) (by omega) jp ja jcm (by omega) (by omega) jE jH hKS hnx (PL_rk hpl hb hN2 (by omega) hr_q).1) kc_J26 jp (lw_V q1974 q1975 q1976 q133 q1977) rfl md_J26_add dX2_candidate_68 rfl ⟨by omega, by omega⟩ (by omega) (by omega) rfl (Nat.le_of_ble_eq_true rfl)) (fun r_35 G_35 n_35 u_35 hp_35 hn_35 hm_35 hu_35 => ?_)
              obtain ⟨rfl, f_35, mc_35, qa_35, cp_35, ho_35, hoa_35, rfl, rfl, rfl, rfl, hPE_35, hPH_35, hf_35⟩ := hp_35
              have o_36 : G_35 (n + 1) = some (.inr (22, [])) := (hf_35 _ (lc_34 _ _ jcm) (fun q => q.elim (fun q => (fun q => absurd q (gne_c jcm jp (by decide))) q) (fun q => (fun q => absurd q (gne_oa jcm ja)) q))).trans jcm
              have hs_37 : sub (hM Y h N σ η) G_35 := hf_35.subs jh lc_34 (fun a q => (show _ from (fun q => q.elim (fun q => (fun q : a = _ => by subst q; exact hM_none (by unfold hD; omega)) q) (fun q => (fun q : a = _ => by subst q; exact hM_none (by unfold hD; omega)) q)) q))
              have hi_38 : sub I G_35 := hf_35.subs jI lc_34 (fun a q => (show _ from (fun q => q.elim (fun q => (fun q : a = _ => by subst q; exact hIn _ (by omega)) q) (fun q => (fun q : a = _ => by subst q; exact hIn _ (by omega)) q)) q))
              have hf_39 : FR noD n G G_35 := jf.trans hf_35 (by omega) (fun a_ q_ => .inr (by omega))
              refine g_pop hC dX2_candidate_71 rfl ?_
              refine g_iincN (L' := [(4, .int (nI (q + 1))), (3, .ref n), (0, .ref h), (1, .int (nI p_)), (2, .int (nI k_))]) hC 1 q dX2_candidate_72 (k := 4) rfl (by decide) (by decide) rfl ?_
              refine g_goto (tgt := 18) hC dX2_candidate_75 (by decide) ?_
              refine V.sub [1, 2, 3, 4, 0] rfl ?_
              exact ih_ G_35 (q + 1) (kk + 1) mc_35 f_35 (ho_35) (hoa_35) (o_36) (hs_37) (hi_38) (hf_39) (by omega) (by omega) (SSc_s hcd hr_q hPE_35) (hPH_35) (by omega)
  refine V.sub [1, 2, 3, 4, 0] rfl ?_
  exact hl_18 (N - 0 + 1) G_19 0 0 0 (fun _ => none) (ho_19) (ha_19) (o_20) (hs_21) (hi_22) (hf_23) (by omega) (by omega) (SSc_0) (fun i j _ hn => absurd hn (Nat.not_lt_zero _)) (by omega)
