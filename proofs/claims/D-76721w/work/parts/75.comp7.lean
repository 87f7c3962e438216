set_option maxRecDepth 100000
/-! COMPONENT, 9: the starter -/
theorem VX.lts {Y : YT} {p : Program} {l : Launch} {e : Env} {R : Room} {s : State} {m : MethodId} {args : Array Value} {below : List Frame} {meth : Method} {c : Code} {nL n0 u0 : Nat} {G : AH} {nn uu : Nat} {Q : State → Prop} {pc : Nat} {L : List (Nat × Value)} {E : String} {q : Nat} (k : (∀ a e, G a = some e → a < nn) → VX Y p l e R s m args below meth c nL n0 u0 G nn uu Q pc L E q) : VX Y p l e R s m args below meth c nL n0 u0 G nn uu Q pc L E q := fun H locs ls rest ce g => k (fun _ _ h => g.lt h) H locs ls rest ce g
def beF (σ : MS) : Nat → Int32 := fun q => if q < 12 then b2i (bt (σ.1 16 0) q) else 0
theorem beF_at {σ : MS} {q : Nat} (h : q < 12) : beF σ q = b2i (bt (σ.1 16 0) q) := if_pos h
theorem beF_s {σ : MS} {p : Nat} (h : p < 12) : upd (beF σ) p 1 = beF (bsy σ p) := by
  funext q
  unfold upd
  by_cases e : q = p
  · subst e; rw [if_pos rfl, beF_at h, bsy_bt (by omega) (by omega)]; simp [b2i]
  · rw [if_neg e]
    unfold beF
    by_cases hq : q < 12
    · rw [if_pos hq, if_pos hq, bsy_bt (by omega) (by omega)]; simp [e]
    · rw [if_neg hq, if_neg hq]
theorem beF_e {a b : MS} (h : a.1 16 0 = b.1 16 0) : beF a = beF b := by unfold beF; rw [h]
def cnb (σ : MS) (N : Nat) : Nat := cntB (fun q => !(bt (σ.1 16 0) q)) N
theorem cnb_e {a b : MS} {N : Nat} (h : a.1 16 0 = b.1 16 0) : cnb a N = cnb b N := by unfold cnb; rw [h]
theorem cnb_s {σ : MS} {N p : Nat} (hN : N ≤ 12) (hp : p < N) (hb : bt (σ.1 16 0) p = false) : cnb (bsy σ p) N + 1 ≤ cnb σ N := by
  refine cntB_lt N (fun q hq hh => ?_) ⟨p, hp, by simp [hb], ?_⟩
  · have e9 := bsy_bt (σ := σ) (p := p) (q := q) (by omega) (by omega)
    simp only [e9] at hh
    simp at hh ⊢
    exact hh.1
  · have e9 := bsy_bt (σ := σ) (p := p) (q := p) (by omega) (by omega)
    simp [e9]
theorem hM_cg {Y : YT} {h N : Nat} {η : HV} {a b : MS} (e : ∀ k i, k ≤ 4 → a.1 k i = b.1 k i) : hM Y h N a η = hM Y h N b η := by
  have e1 : a.1 1 = b.1 1 := by funext i; exact e 1 i (by decide)
  have e2 : ∀ wh, hA N wh a η.1 = hA N wh b η.1 := fun wh => by funext i; unfold hA tl; rw [e1]
  funext q
  unfold hM
  split
  · rcases q - h with _ | _ | _ | _ | _ | _ | _ | j
    · simp only [hE, e 0 0 (by decide), e 4 0 (by decide), e 2 0 (by decide), e 3 0 (by decide)]
    · rfl
    · simp only [hE, e2]
    · simp only [hE, e2]
    · simp only [hE, e2]
    · simp only [hE, e2]
    · rfl
    · rfl
  · rfl
/-- the failures' objects: m of them, the last the innermost's cause's .. -/
def CHN (G : AH) (F : Nat → Int32) (f : Nat) : Nat → Nat → Prop
  | 0, _ => False
  | 1, q => G q = some (.inr (21, [.null, .null, .null, .null, .null, .int 0, .int (F (3 * f)), .int (F (3 * f + 1)), .int (F (3 * f + 2))]))
  | m + 2, q => ∃ q', G q = some (.inr (21, [.ref q', .null, .null, .null, .null, .int 0, .int (F (3 * (f + m + 1))), .int (F (3 * (f + m + 1) + 1)), .int (F (3 * (f + m + 1) + 2))])) ∧ CHN G F f (m + 1) q'
def X21 (G : AH) : AH := fun a => match G a with
  | some (.inr (21, fs)) => some (.inr (21, fs))
  | _ => none
theorem X21_sub {G : AH} : sub (X21 G) G := fun a e h => by
  unfold X21 at h
  split at h
  · next q => rw [q]; exact h
  · cases h
theorem X21_at {G : AH} {a : Nat} {fs : List Value} (h : G a = some (.inr (21, fs))) : X21 G a = some (.inr (21, fs)) := by unfold X21; rw [h]; rfl
theorem X21_no {G G' : AH} {a : Nat} {e : va_E} (hs : sub (X21 G) G') (h : G' a = some e) (hn : ∀ fs, e ≠ .inr (21, fs)) : X21 G a = none := by
  cases q : X21 G a with
  | none => rfl
  | some x =>
    have h2 := hs a x q
    rw [h] at h2
    cases h2
    unfold X21 at q
    split at q
    · next r => cases q; exact absurd rfl (hn _)
    · cases q
theorem X21_hD {Y : YT} {G G' : AH} {h N : Nat} {σ : MS} {η : HV} (hs : sub (X21 G) G') (hh : sub (hM Y h N σ η) G') : ∀ a, hD h a → X21 G a = none := by
  rintro a ⟨h1, h2⟩
  obtain ⟨j, rfl⟩ : ∃ j, a = h + j := ⟨a - h, by omega⟩
  have hj : j < 7 := by omega
  rcases j with _ | _ | _ | _ | _ | _ | _ | j
  · exact X21_no hs (hh _ _ (hM_j 0)) (fun fs q => by cases q)
  · exact X21_no hs (hh _ _ (hM_j 1)) (fun fs q => by cases q)
  · exact X21_no hs (hh _ _ (hM_j 2)) (fun fs q => by cases q)
  · exact X21_no hs (hh _ _ (hM_j 3)) (fun fs q => by cases q)
  · exact X21_no hs (hh _ _ (hM_j 4)) (fun fs q => by cases q)
  · exact X21_no hs (hh _ _ (hM_j 5)) (fun fs q => by cases q)
  · exact X21_no hs (hh _ _ (hM_j 6)) (fun fs q => by cases q)
  · omega
theorem CHN.to {G M : AH} {F F' : Nat → Int32} {f : Nat} : ∀ {m q : Nat}, CHN G F f m q → (∀ i, i < 3 * (f + m) → F' i = F i) → sub (X21 G) M → CHN M F' f m q
  | 0, _, h, _, _ => h.elim
  | 1, q, h, e, hs => by
    unfold CHN at h ⊢
    rw [e _ (by omega), e _ (by omega), e _ (by omega)]
    exact hs _ _ (X21_at h)
  | m + 2, q, h, e, hs => by
    unfold CHN at h ⊢
    obtain ⟨q', h1, h2⟩ := h
    rw [e _ (by omega), e _ (by omega), e _ (by omega)]
    exact ⟨q', hs _ _ (X21_at h1), h2.to (fun i hi => e i (by omega)) hs⟩
theorem flG_15 {z : MS} {a b c : Int32} {f : Nat} (h : z.1 14 0 = nI f) (hf : f < 1000) : (flG z a b c).1 15 (3 * f) = a ∧ (flG z a b c).1 15 (3 * f + 1) = b ∧ (flG z a b c).1 15 (3 * f + 2) = c ∧ ∀ i, i < 3 * f → (flG z a b c).1 15 i = z.1 15 i := by
  unfold flG flF
  rw [h, nI_clamp (by omega)]
  refine ⟨?_, ?_, ?_, fun i hi => ?_⟩
  · rw [mu_nk (by decide), mu_ni (by omega), mu_ni (by omega), mu_hit]
  · rw [mu_nk (by decide), mu_ni (by omega), mu_hit]
  · rw [mu_nk (by decide), mu_hit]
  · rw [mu_nk (by decide), mu_ni (by omega), mu_ni (by omega), mu_ni (by omega)]
abbrev SSt (Y : YT) (N : Nat) (σ : MS) (I : AH) (pr : Nat → Option Nat) : Prop := PLs Y N σ I pr ∧ PLb σ N ∧ (∀ q, q < N → keyN σ q < 1000000) ∧ (∀ q q', q < N → q' < N → tl σ 0 q = 0 → tl σ 0 q' = 0 → keyN σ q = keyN σ q' → q = q') ∧ σ.1 19 0 = 0
theorem SSt.cg {Y : YT} {N : Nat} {σ z : MS} {I : AH} {pr : Nat → Option Nat} (h : SSt Y N σ I pr) (hN : N ≤ 12) (e : ∀ w q, w ≠ 0 → w ≠ 5 → w ≠ 7 → q < 12 → tl z w q = tl σ w q) (e0 : ∀ q, q < N → ¬ tl σ 0 q = 0 → ¬ tl z 0 q = 0) (e19 : z.1 19 0 = σ.1 19 0) : SSt Y N z I pr := by
  obtain ⟨h1, h2, h3, h4, h5⟩ := h
  have hs : ∀ q, q < N → strF z q = strF σ q := fun q hq => by unfold strF; simp only [e 1 q (by decide) (by decide) (by decide) (by omega), e 2 q (by decide) (by decide) (by decide) (by omega), e 4 q (by decide) (by decide) (by decide) (by omega)]
  have hk : ∀ q, q < N → keyN z q = keyN σ q := fun q hq => by unfold keyN; rw [e 6 q (by decide) (by decide) (by decide) (by omega)]
  refine ⟨fun q hq => ?_, fun q hq => by rw [hs q hq]; exact h2 q hq, fun q hq => by rw [hk q hq]; exact h3 q hq, fun q q' hq hq' z1 z2 z3 => ?_, e19.trans h5⟩
  · obtain ⟨a, nm, kd, a1, a2, a3, a4, a5⟩ := h1 q hq
    refine ⟨a, nm, kd, a1, a2, (e 1 q (by decide) (by decide) (by decide) (by omega)).trans a3, ?_, ?_⟩
    · rw [e 2 q (by decide) (by decide) (by decide) (by omega), e 3 q (by decide) (by decide) (by decide) (by omega), e 4 q (by decide) (by decide) (by decide) (by omega)]; exact a4
    · rw [e 6 q (by decide) (by decide) (by decide) (by omega)]; exact a5
  · rw [hk q hq, hk q' hq'] at z3
    exact h4 q q' hq hq' (Classical.byContradiction fun c => e0 q hq c z1) (Classical.byContradiction fun c => e0 q' hq' c z2) z3
abbrev STH (Y : YT) (h : Nat) (I : AH) (sa lg ka be dn : Nat) : Prop := (yz Y ≤ h ∧ yz Y ≤ sa ∧ yz Y ≤ lg ∧ yz Y ≤ ka ∧ yz Y ≤ be ∧ yz Y ≤ dn) ∧ ((∀ a, hD h a → I a = none) ∧ I sa = none ∧ I lg = none ∧ I ka = none ∧ I be = none ∧ I dn = none) ∧ (¬ hD h sa ∧ ¬ hD h lg ∧ ¬ hD h ka ∧ ¬ hD h be ∧ ¬ hD h dn) ∧ be ≠ ka ∧ be ≠ dn ∧ ka ≠ dn
abbrev STG (Y : YT) (h N K : Nat) (η : HV) (sa lg ka be dn : Nat) (σ : MS) (st g : Nat) (fd : Nat → Int32) (G : AH) : Prop := sub (hM Y h N σ η) G ∧ (σ.1 4 0 = nI K ∧ σ.1 17 0 = nI st ∧ σ.1 20 0 = nI g) ∧ G sa = some (.inr (20, [.ref h, .ref lg, .ref be, .ref dn, .int (nI st)])) ∧ G lg = some (.inr (1, [.ref ka, .int (nI g)])) ∧ G ka = some (.inl (yA Y 0, 40, .inl (σ.1 21))) ∧ G be = some (.inl (yA Y 5, 12, .inl (beF σ))) ∧ G dn = some (.inl (yA Y 0, 12, .inl fd)) ∧ (∀ i, i < st → fd i = σ.1 18 i) ∧ st ≤ 12 ∧ g < 1000000000
theorem STG.cg {Y : YT} {h N K : Nat} {η : HV} {sa lg ka be dn : Nat} {σ z : MS} {st g : Nat} {fd : Nat → Int32} {G : AH} (hG : STG Y h N K η sa lg ka be dn σ st g fd G) (e : ∀ k i, k ≠ 14 → k ≠ 15 → z.1 k i = σ.1 k i) : STG Y h N K η sa lg ka be dn z st g fd G := by
  obtain ⟨h1, ⟨h2, h3, h4⟩, h5, h6, h7, h8, h9, h10⟩ := hG
  have e21 : z.1 21 = σ.1 21 := by funext i; exact e 21 i (by decide) (by decide)
  refine ⟨by rw [hM_cg (fun k i hk => e k i (by omega) (by omega))]; exact h1, ⟨(e 4 0 (by decide) (by decide)).trans h2, (e 17 0 (by decide) (by decide)).trans h3, (e 20 0 (by decide) (by decide)).trans h4⟩, h5, h6, by rw [e21]; exact h7, by rw [beF_e (e 16 0 (by decide) (by decide))]; exact h8, h9, fun i hi => (h10.1 i hi).trans (e 18 i (by decide) (by decide)).symm, h10.2⟩
def DS (h sa lg ka be dn q : Nat) : Prop := hD h q ∨ q = lg ∨ q = ka ∨ q = sa ∨ q = be ∨ q = dn
def SOK (Y : YT) (h N K : Nat) (η : HV) (sa lg ka be dn : Nat) (r : Bool × MS) (σ : MS) (n u c d : Nat) (G : AH) : AH → Nat → Nat → Prop := fun G' n' u' => r.1 = true ∧ (∃ st' g' fd', STG Y h N K η sa lg ka be dn r.2 st' g' fd' G') ∧ FR (DS h sa lg ka be dn) n G G' ∧ n ≤ n' ∧ u ≤ u' ∧ n' + 98 * cnb r.2 N ≤ n + 98 * cnb σ N + c ∧ u' + 300 * cnb r.2 N ≤ u + 300 * cnb σ N + d
def SNO (Y : YT) (h N K : Nat) (η : HV) (sa lg ka be dn : Nat) (r : Bool × MS) (f n u : Nat) (G : AH) : String → Nat → AH → Nat → Nat → Prop := fun E q G' n' u' => E = "PluginChains$StartFailed" ∧ yz Y ≤ q ∧ r.1 = false ∧ (∃ st' g' fd' m, STG Y h N K η sa lg ka be dn r.2 st' g' fd' G' ∧ r.2.1 14 0 = nI (f + m) ∧ f + m ≤ 12 ∧ CHN G' (r.2.1 15) f m q) ∧ FR (DS h sa lg ka be dn) n G G' ∧ n ≤ n' ∧ u ≤ u'
theorem cst_14 {N fu q st f g x : Nat} {σ σm : MS} (h : SIM N σ σm) (hS : SI N fu σm st f g) (hq : q < N) (hb : bt (σ.1 16 0) q = false) (hf : (cstF N fu σ q).1 = false) (h14 : (cstF N fu σ q).2.1 14 0 = nI x) (hx : x ≤ 12) : x ≤ f + fu := by
  have hbm : bt (σm.1 16 0) q = false := by
    cases e : bt (σm.1 16 0) q with
    | false => rfl
    | true => rw [h.2.1 q hq e] at hb; cases hb
  obtain ⟨e1, e2, e3⟩ := sim_ok fu σ σm q st f g h hS hq hb
  obtain ⟨s1, f1, g1, R1, hno⟩ := starts_ok fu σm q st f g hS hq hbm
  rw [← e1, hf] at R1
  obtain ⟨st', g', b1, b2⟩ := e3 hf
  have h9 := (b1.2.2.2.2.2.1 14 0 (by decide)).symm.trans ((bkF_ne (by decide) (by decide) (by decide) (by decide) _ _).trans h14)
  have h8 := (R1.no rfl).1
  have := hS.hf
  have := (nI_eq (by omega) (by omega)).mp (R1.h14.symm.trans h9)
  omega
def SCh (Y : YT) (l : Launch) (h N K : Nat) (η : HV) (I : AH) (sa lg ka be dn fu fS lS : Nat) : Prop := ∀ (n u : Nat) (G : AH) (σ σm : MS) (p st f g : Nat) (fd : Nat → Int32), sub I G → STG Y h N K η sa lg ka be dn σ st g fd G → SSt Y N σ I (η.2 0) → SIM N σ σm → SI N fu σm st f g → p < N → bt (σ.1 16 0) p = false → g + 50 < 100000000 + st →
  GM Y l yX21_start (ws_ yX21_start cX21_start 3 none) fS lS [.ref sa, .int (nI p)] G n u (98 * cnb σ N) (300 * cnb σ N) (pV (SOK Y h N K η sa lg ka be dn (cstF N fu σ p) σ n u 0 0 G)) (SNO Y h N K η sa lg ka be dn (cstF N fu σ p) f n u G)
set_option maxHeartbeats 1000000 in
theorem met_X21_needed {Y : YT} {l : Launch} {n u : Nat} {G : AH} (sa : Nat) (p_ : Nat) (k_ : Nat) {h N K lg ka be dn : Nat} {η : HV} {I : AH} {σ σm : MS} {st f g fu fS lS : Nat} {fd : Nat → Int32} (hSC : SCh Y l h N K η I sa lg ka be dn fu fS lS) (hst : STH Y h I sa lg ka be dn) (hI : sub I G) (hP : STG Y h N K η sa lg ka be dn σ st g fd G) (hS : SSt Y N σ I (η.2 0)) (hm : SIM N σ σm) (h0 : SI N fu σm st f g) (hp : p_ < N) (hk : k_ < 8) (hff : f + fu < 12) (hg : g + 50 < 100000000 + st) : GM Y l yX21_needed (wsW_ yX21_needed cX21_needed 5 none [((48 : Nat), (53 : Nat), (56 : Nat), (33 : Nat))]) (fS + 12) (lS + 280) [.ref sa, .int (nI p_), .int (nI k_)] G n u (98 * cnb σ N + 4) (300 * cnb σ N + 24) (pV (SOK Y h N K η sa lg ka be dn (ndO N (cstF N fu) p_ k_ σ) σ n u 3 15 G)) (SNO Y h N K η sa lg ka be dn (ndO N (cstF N fu) p_ k_ σ) f n u G) := by
  refine GM.introH (own := RX21) rfl (by decide +kernel) (Nat.le_of_ble_eq_true rfl) ?_
  intro p e s m args below meth c R Q hC hr hnm hF hL hE
  have hE1 := hE.1
  have hE2 := hE.2.1
  have hnz : yz Y ≤ n := by have := hC.z; have := hC.n; omega
  show V Y p l e R s m args below meth c 5 n u G n u Q 0 [(0, .ref sa), (1, .int (nI p_)), (2, .int (nI k_))] []
  refine V.lts (fun hlt => ?_)
  have hIn := sub_none hI hlt
  obtain ⟨⟨hzh, hzs, hzl, hzk, hze, hzd⟩, ⟨hIh_h, hIs, hIl, hIk, hIe, hId⟩, ⟨hsh, hlh, hkh, heh, hdh⟩, nbk, nbd, nkd⟩ := hst
  obtain ⟨p1, ⟨p4, p17, p20⟩, ps, pl, pk, pb, pd, pa⟩ := hP
  have hN2 := h0.hN2
  have hf12 := h0.hf
  have hN : σ.1 0 0 = nI N := (hm.1.1 0 0 (by decide)).trans h0.hN
  have h14 : σ.1 14 0 = nI f := (hm.1.1 14 0 (by decide)).trans h0.h14
  obtain ⟨hpl, hb_, hk9_, hi9_, h19⟩ := hS
  have hS : SSt Y N σ I (η.2 0) := ⟨hpl, hb_, hk9_, hi9_, h19⟩
  have hl_sa : sa < n := hlt _ _ ps
  have hl_h : h + 6 < n := hlt _ _ (p1 _ _ (hM_j 6))
  have hl_lg : lg < n := hlt _ _ pl
  have hl_ka : ka < n := hlt _ _ pk
  have hl_be : be < n := hlt _ _ pb
  have hl_dn : dn < n := hlt _ _ pd
  have DSI : ∀ a, DS h sa lg ka be dn a → I a = none := by rintro a (q | rfl | rfl | rfl | rfl | rfl)
                                                           · exact hIh_h a q
                                                           all_goals assumption
  refine g_aload_n hC dX21_needed_0 rfl 0 rfl ?_
  refine g_get (v := .ref h) hC kc_X21 ps 0 (by decide) q1870 rfl dX21_needed_1 ?_
  refine g_iload_n hC dX21_needed_4 rfl 1 rfl ?_
  refine g_iload_n hC dX21_needed_5 rfl 2 rfl ?_
  refine V.lts (fun lc_1 => ?_)
  refine g_calli0 hC (g_runV hC (met_X2_candidate (G := G) h p_ k_ (p1) (hN) (p4) (hN2) (hI) (hIh_h) (hpl) (hp) (hk) (hb_) (hk9_) (hi9_)) kc_X2 (p1 _ _ (hM_0 hN p4)) (lw_V q1930 q1931 q1932 q83 q1933) rfl md_X2_candidate dX21_needed_6 rfl ⟨by omega, by omega⟩ (by omega) (by omega) rfl (Nat.le_of_ble_eq_true rfl)) (fun r_2 G_2 n_2 u_2 hp_2 hn_2 hm_2 hu_2 => ?_)
  obtain ⟨rfl, hf_2, hnn_2, huu_2⟩ := hp_2
  have o_3 : G_2 sa = some (.inr (20, [.ref h, .ref lg, .ref be, .ref dn, .int (nI st)])) := (hf_2 _ (lc_1 _ _ ps) (fun q => q)).trans ps
  have o_4 : G_2 lg = some (.inr (1, [.ref ka, .int (nI g)])) := (hf_2 _ (lc_1 _ _ pl) (fun q => q)).trans pl
  have a_5 : G_2 ka = some (.inl (yA Y 0, 40, .inl (σ.1 21))) := (hf_2 _ (lc_1 _ _ pk) (fun q => q)).trans pk
  have a_6 : G_2 be = some (.inl (yA Y 5, 12, .inl (beF σ))) := (hf_2 _ (lc_1 _ _ pb) (fun q => q)).trans pb
  have a_7 : G_2 dn = some (.inl (yA Y 0, 12, .inl fd)) := (hf_2 _ (lc_1 _ _ pd) (fun q => q)).trans pd
  have hs_8 : sub (hM Y h N σ η) G_2 := hf_2.subs p1 lc_1 (fun a q => False.elim q)
  have hi_9 : sub I G_2 := hf_2.subs hI lc_1 (fun a q => False.elim q)
  have hf_10 : FR (DS h sa lg ka be dn) n G G_2 := FR.refl.trans hf_2 (by omega) (fun a_ q_ => by first | exact .inl q_ | exact False.elim q_ | exact .inl (.inl q_) | exact .inl (.inr q_) | (subst q_; first | exact .inr (by omega) | exact .inl rfl))
  rcases he : foldN (tkS σ p_ k_) none N with _ | q9
  · have hnd0 : ndO N (cstF N fu) p_ k_ σ = (false, flG σ (nI p_) 2 (nI k_)) := by unfold ndO; rw [he]
    refine g_istore_n (L' := [(3, .int (-1)), (0, .ref sa), (1, .int (nI p_)), (2, .int (nI k_))]) hC dX21_needed_9 rfl (by decide) rfl ?_
    refine g_iload_n hC dX21_needed_10 rfl 0 rfl ?_
    refine g_iconst (v := (-1)) hC dX21_needed_11 rfl ?_
    refine g_icmp_ne hC dX21_needed_12 (tgt := 27) (by decide) (fun c_12 => ?_) (fun c_12 => ?_)
    · exact absurd rfl c_12
    · obtain ⟨G_11, eG_11⟩ : ∃ G_, gU G_2 n_2 (.inr (21, [.null, .null, .null, .null, .null, .int 0, .int 0, .int 0, .int 0])) = G_ := ⟨_, rfl⟩
      refine V.lts (fun ltG_11 => ?_)
      have o_12 : G_11 sa = some (.inr (20, [.ref h, .ref lg, .ref be, .ref dn, .int (nI st)])) := by rw [← eG_11]; exact (gU_n _ (Nat.ne_of_lt (ltG_11 _ _ o_3))).trans o_3
      have o_13 : G_11 lg = some (.inr (1, [.ref ka, .int (nI g)])) := by rw [← eG_11]; exact (gU_n _ (Nat.ne_of_lt (ltG_11 _ _ o_4))).trans o_4
      have a_14 : G_11 ka = some (.inl (yA Y 0, 40, .inl (σ.1 21))) := by rw [← eG_11]; exact (gU_n _ (Nat.ne_of_lt (ltG_11 _ _ a_5))).trans a_5
      have a_15 : G_11 be = some (.inl (yA Y 5, 12, .inl (beF σ))) := by rw [← eG_11]; exact (gU_n _ (Nat.ne_of_lt (ltG_11 _ _ a_6))).trans a_6
      have a_16 : G_11 dn = some (.inl (yA Y 0, 12, .inl fd)) := by rw [← eG_11]; exact (gU_n _ (Nat.ne_of_lt (ltG_11 _ _ a_7))).trans a_7
      have hs_17 : sub (hM Y h N σ η) G_11 := by rw [← eG_11]; exact sub_new hs_8 ltG_11
      have hi_18 : sub I G_11 := by rw [← eG_11]; exact sub_new hi_9 ltG_11
      have hf_19 : FR (DS h sa lg ka be dn) n G G_11 := by rw [← eG_11]; exact FR.put hf_10 (.inr (by omega))
      refine g_new hC kc_X22 q1897 q1898 q130 (fs := [.null, .null, .null, .null, .null, .int 0, .int 0, .int 0, .int 0]) rfl (G' := G_11) eG_11 (by omega) (by omega) dX21_needed_15 ?_
      have o_20 : G_11 n_2 = some (.inr (21, [.null, .null, .null, .null, .null, .int 0, .int 0, .int 0, .int 0])) := by rw [← eG_11]; exact gU_s _ _ _
      refine g_dup hC dX21_needed_18 rfl ?_
      refine g_iload_n hC dX21_needed_19 rfl 2 rfl ?_
      refine g_iconst (v := 2) hC dX21_needed_20 rfl ?_
      refine g_iload_n hC dX21_needed_21 rfl 3 rfl ?_
      refine g_null hC dX21_needed_22 ?_
      refine V.lts (fun lc_21 => ?_)
      refine g_callv0 hC (g_runI (ret := none) hC (met_X22_init (G := G_11) n_2 (nI p_) 2 (nI k_) none o_20 (by omega)) (lw_meth q1908) q130 q1906 q1907 rfl md_X22_init dX21_needed_23 rfl ⟨by omega, by omega⟩ (by omega) (by omega) rfl (Nat.le_of_ble_eq_true rfl)) (fun G_22 n_22 u_22 hp_22 hn_22 hm_22 hu_22 => ?_)
      obtain ⟨ho_22, hf_22, rfl, rfl⟩ := hp_22
      have o_23 : G_22 sa = some (.inr (20, [.ref h, .ref lg, .ref be, .ref dn, .int (nI st)])) := (hf_22 _ (lc_21 _ _ o_12) (fun q => (gne_c o_12 o_20 (by decide)) q)).trans o_12
      have o_24 : G_22 lg = some (.inr (1, [.ref ka, .int (nI g)])) := (hf_22 _ (lc_21 _ _ o_13) (fun q => (gne_c o_13 o_20 (by decide)) q)).trans o_13
      have a_25 : G_22 ka = some (.inl (yA Y 0, 40, .inl (σ.1 21))) := (hf_22 _ (lc_21 _ _ a_14) (fun q => (gne_ao a_14 o_20) q)).trans a_14
      have a_26 : G_22 be = some (.inl (yA Y 5, 12, .inl (beF σ))) := (hf_22 _ (lc_21 _ _ a_15) (fun q => (gne_ao a_15 o_20) q)).trans a_15
      have a_27 : G_22 dn = some (.inl (yA Y 0, 12, .inl fd)) := (hf_22 _ (lc_21 _ _ a_16) (fun q => (gne_ao a_16 o_20) q)).trans a_16
      have hs_28 : sub (hM Y h N σ η) G_22 := hf_22.subs hs_17 lc_21 (fun a q => by subst q; exact hM_none (by unfold hD; omega))
      have hi_29 : sub I G_22 := hf_22.subs hi_18 lc_21 (fun a q => by subst q; exact hIn _ (by omega))
      have hf_30 : FR (DS h sa lg ka be dn) n G G_22 := hf_19.trans hf_22 (by omega) (fun a_ q_ => by first | exact .inl q_ | exact .inl (.inl q_) | exact .inl (.inr q_) | (subst q_; first | exact .inr (by omega) | exact .inl rfl))
      refine g_athrow hC kc_X22 ho_22 (by omega) dX21_needed_26 ?_
      refine g_out hC (by decide) ?_ (by omega) (by omega) hE
      rw [hnd0]
      obtain ⟨e1, e2, e3, e4⟩ := flG_15 (a := nI p_) (b := 2) (c := nI k_) h14 (by omega)
      refine ⟨rfl, by omega, rfl, ⟨_, _, _, 1, STG.cg ⟨hs_28, ⟨p4, p17, p20⟩, o_23, o_24, a_25, a_26, a_27, pa⟩ (fun k i a b => flG_ne a b), flG_14 h14 (by omega), by omega, ?_⟩, hf_30, by omega, by omega⟩
      show _ = _
      rw [e1, e2, e3]; exact ho_22
  · have hq9 := tkS_lt he
    have hq0 := tkS_idle he
    refine g_istore_n (L' := [(3, .int (nI q9)), (0, .ref sa), (1, .int (nI p_)), (2, .int (nI k_))]) hC dX21_needed_9 rfl (by decide) rfl ?_
    refine g_iload_n hC dX21_needed_10 rfl 0 rfl ?_
    refine g_iconst (v := (-1)) hC dX21_needed_11 rfl ?_
    refine g_icmp_ne hC dX21_needed_12 (tgt := 27) (by decide) (fun c_12 => ?_) (fun c_12 => ?_)
    · refine g_aload_n hC dX21_needed_27 rfl 1 rfl ?_
      refine g_get (v := .ref be) hC kc_X21 o_3 2 (by decide) q1872 rfl dX21_needed_28 ?_
      refine g_iload_n hC dX21_needed_31 rfl 0 rfl ?_
      refine g_zald hC a_6 (vin (by omega) (by omega)) dX21_needed_32 ?_
      rw [show (nI q9).toNatClampNeg = q9 from nI_clamp (by omega)]
      rw [beF_at (by omega)]
      refine g_if_eqB hC (bt (σ.1 16 0) q9) dX21_needed_33 (tgt := 48) (by decide) (fun c_33 => ?_) (fun c_33 => ?_)
      · have hbq := c_33
        have hnd2 : (cstF N fu σ q9).1 = false → ndO N (cstF N fu) p_ k_ σ = (false, flG (cstF N fu σ q9).2 (nI p_) 4 (nI k_)) := fun e => by unfold ndO; rw [he]; simp only [c_33, e, Bool.false_eq_true, if_false]
        have hnd3 : (cstF N fu σ q9).1 = true → ndO N (cstF N fu) p_ k_ σ = (true, (cstF N fu σ q9).2) := fun e => by unfold ndO; rw [he]; simp only [c_33, e, Bool.false_eq_true, if_false, if_true]
        refine g_aload_n hC dX21_needed_48 rfl 1 rfl ?_
        refine g_iload_n hC dX21_needed_49 rfl 0 rfl ?_
        refine V.lts (fun lc_31 => ?_)
        refine g_callv hC (g_runV hC (hSC _ _ G_2 σ σm q9 st f g fd hi_9 ⟨hs_8, ⟨p4, p17, p20⟩, o_3, o_4, a_5, a_6, a_7, pa⟩ hS hm h0 hq9 hbq (by omega)) kc_X21 o_3 (lw_V q1893 q1895 qs18 q129 q1896) rfl md_X21_start dX21_needed_50 rfl ⟨by omega, by omega⟩ (by omega) (by omega) rfl (Nat.le_of_ble_eq_true rfl)) (fun E_32 q_32 G_32 n_32 u_32 hx_32 hn_32 hm_32 hu_32 => ?_) (fun G_32 n_32 u_32 hp_32 hn_32 hm_32 hu_32 => ?_)
        · obtain ⟨rfl, hzq_32, hT_32, ⟨st_32, g_32, fd_32, m_32, hP_32, h14_32, h12_32, hch_32⟩, hfr_32, hnn_32, huu_32⟩ := hx_32
          refine VX.lts (fun ltx_32 => ?_)
          obtain ⟨p1_32, ⟨p4_32, p17_32, p20_32⟩, ps_32, pl_32, pk_32, pb_32, pd_32, pa_32⟩ := hP_32
          have hi_32 : sub I G_32 := hfr_32.subs hi_9 lc_31 DSI
          have hf_32 : FR (DS h sa lg ka be dn) n G G_32 := hf_10.trans hfr_32 (by omega) (fun a_ q_ => .inl q_)
          refine g_catchG hC (tableOf ([((48 : Nat), (53 : Nat), (56 : Nat), (33 : Nat))].take 0)) ⟨48, 53, 56, 33⟩ (tableOf ([((48 : Nat), (53 : Nat), (56 : Nat), (33 : Nat))].drop 1)) rfl (fun z hz => nomatch hz) (by decide) (.inr ⟨by decide, "PluginChains$StartFailed", q1897, asgS hC.K kc_X22⟩) (hp := 56) rfl ?_
          refine g_astore (L' := [(4, .ref q_32), (3, .int (nI q9)), (0, .ref sa), (1, .int (nI p_)), (2, .int (nI k_))]) hC dX21_needed_56 (by decide) rfl ?_
          obtain ⟨G_33, eG_33⟩ : ∃ G_, gU G_32 n_32 (.inr (21, [.null, .null, .null, .null, .null, .int 0, .int 0, .int 0, .int 0])) = G_ := ⟨_, rfl⟩
          refine V.lts (fun ltG_33 => ?_)
          have o_34 : G_33 sa = some (.inr (20, [.ref h, .ref lg, .ref be, .ref dn, .int (nI st_32)])) := by rw [← eG_33]; exact (gU_n _ (Nat.ne_of_lt (ltG_33 _ _ ps_32))).trans ps_32
          have o_35 : G_33 lg = some (.inr (1, [.ref ka, .int (nI g_32)])) := by rw [← eG_33]; exact (gU_n _ (Nat.ne_of_lt (ltG_33 _ _ pl_32))).trans pl_32
          have a_36 : G_33 ka = some (.inl (yA Y 0, 40, .inl ((cstF N fu σ q9).2.1 21))) := by rw [← eG_33]; exact (gU_n _ (Nat.ne_of_lt (ltG_33 _ _ pk_32))).trans pk_32
          have a_37 : G_33 be = some (.inl (yA Y 5, 12, .inl (beF (cstF N fu σ q9).2))) := by rw [← eG_33]; exact (gU_n _ (Nat.ne_of_lt (ltG_33 _ _ pb_32))).trans pb_32
          have a_38 : G_33 dn = some (.inl (yA Y 0, 12, .inl fd_32)) := by rw [← eG_33]; exact (gU_n _ (Nat.ne_of_lt (ltG_33 _ _ pd_32))).trans pd_32
          have hs_39 : sub (hM Y h N ((cstF N fu σ q9).2) η) G_33 := by rw [← eG_33]; exact sub_new p1_32 ltG_33
          have hi_40 : sub I G_33 := by rw [← eG_33]; exact sub_new hi_32 ltG_33
          have hx_41 : sub (X21 G_32) G_33 := by rw [← eG_33]; exact sub_new X21_sub ltG_33
          have hf_42 : FR (DS h sa lg ka be dn) n G G_33 := by rw [← eG_33]; exact FR.put hf_32 (.inr (by omega))
          refine g_new hC kc_X22 q1897 q1898 q130 (fs := [.null, .null, .null, .null, .null, .int 0, .int 0, .int 0, .int 0]) rfl (G' := G_33) eG_33 (by omega) (by omega) dX21_needed_58 ?_
          have o_43 : G_33 n_32 = some (.inr (21, [.null, .null, .null, .null, .null, .int 0, .int 0, .int 0, .int 0])) := by rw [← eG_33]; exact gU_s _ _ _
          refine g_dup hC dX21_needed_61 rfl ?_
          refine g_iload_n hC dX21_needed_62 rfl 3 rfl ?_
          refine g_iconst (v := 4) hC dX21_needed_63 rfl ?_
          refine g_iload_n hC dX21_needed_64 rfl 4 rfl ?_
          refine g_aload hC dX21_needed_65 0 rfl ?_
          refine V.lts (fun lc_44 => ?_)
          refine g_callv0 hC (g_runI (ret := none) hC (met_X22_init (G := G_33) n_32 (nI p_) 4 (nI k_) (some q_32) o_43 (by omega)) (lw_meth q1908) q130 q1906 q1907 rfl md_X22_init dX21_needed_67 rfl ⟨by omega, by omega⟩ (by omega) (by omega) rfl (Nat.le_of_ble_eq_true rfl)) (fun G_45 n_45 u_45 hp_45 hn_45 hm_45 hu_45 => ?_)
          obtain ⟨ho_45, hf_45, rfl, rfl⟩ := hp_45
          have o_46 : G_45 sa = some (.inr (20, [.ref h, .ref lg, .ref be, .ref dn, .int (nI st_32)])) := (hf_45 _ (lc_44 _ _ o_34) (fun q => (gne_c o_34 o_43 (by decide)) q)).trans o_34
          have o_47 : G_45 lg = some (.inr (1, [.ref ka, .int (nI g_32)])) := (hf_45 _ (lc_44 _ _ o_35) (fun q => (gne_c o_35 o_43 (by decide)) q)).trans o_35
          have a_48 : G_45 ka = some (.inl (yA Y 0, 40, .inl ((cstF N fu σ q9).2.1 21))) := (hf_45 _ (lc_44 _ _ a_36) (fun q => (gne_ao a_36 o_43) q)).trans a_36
          have a_49 : G_45 be = some (.inl (yA Y 5, 12, .inl (beF (cstF N fu σ q9).2))) := (hf_45 _ (lc_44 _ _ a_37) (fun q => (gne_ao a_37 o_43) q)).trans a_37
          have a_50 : G_45 dn = some (.inl (yA Y 0, 12, .inl fd_32)) := (hf_45 _ (lc_44 _ _ a_38) (fun q => (gne_ao a_38 o_43) q)).trans a_38
          have hs_51 : sub (hM Y h N ((cstF N fu σ q9).2) η) G_45 := hf_45.subs hs_39 lc_44 (fun a q => by subst q; exact hM_none (by unfold hD; omega))
          have hi_52 : sub I G_45 := hf_45.subs hi_40 lc_44 (fun a q => by subst q; exact hIn _ (by omega))
          have hx_53 : sub (X21 G_32) G_45 := hf_45.subs hx_41 lc_44 (fun a q => by subst q; exact (sub_none X21_sub ltx_32 _ (by omega)))
          have hf_54 : FR (DS h sa lg ka be dn) n G G_45 := hf_42.trans hf_45 (by omega) (fun a_ q_ => by first | exact .inl q_ | exact .inl (.inl q_) | exact .inl (.inr q_) | (subst q_; first | exact .inr (by omega) | exact .inl rfl))
          refine g_athrow hC kc_X22 ho_45 (by omega) dX21_needed_70 ?_
          refine g_out hC (by decide) ?_ (by omega) (by omega) hE
          rw [hnd2 hT_32]
          obtain ⟨e1, e2, e3, e4⟩ := flG_15 (a := nI p_) (b := 4) (c := nI k_) h14_32 (by omega)
          refine ⟨rfl, by omega, rfl, ⟨_, _, _, m_32 + 1, STG.cg ⟨hs_51, ⟨p4_32, p17_32, p20_32⟩, o_46, o_47, a_48, a_49, a_50, pa_32⟩ (fun k i a b => flG_ne a b), flG_14 (f := f + m_32) h14_32 (by omega), by have := cst_14 hm h0 hq9 hbq hT_32 h14_32 h12_32; omega, ?_⟩, hf_54, by omega, by omega⟩
          rcases m_32 with _ | m9
          · exact hch_32.elim
          · show ∃ q', _ ∧ _
            refine ⟨q_32, ?_, hch_32.to e4 hx_53⟩
            have e5 := ho_45
            rw [show 3 * (f + m9 + 1) = 3 * (f + (m9 + 1)) by omega, e1, e2, e3]; exact e5
        · obtain ⟨hT_32, ⟨st_32, g_32, fd_32, hP_32⟩, hfr_32, hnn_32, huu_32, hcn_32, hcu_32⟩ := hp_32
          obtain ⟨p1_32, ⟨p4_32, p17_32, p20_32⟩, ps_32, pl_32, pk_32, pb_32, pd_32, pa_32⟩ := hP_32
          have hi_32 : sub I G_32 := hfr_32.subs hi_9 lc_31 DSI
          have hf_32 : FR (DS h sa lg ka be dn) n G G_32 := hf_10.trans hfr_32 (by omega) (fun a_ q_ => .inl q_)
          refine g_goto (tgt := 71) hC dX21_needed_53 (by decide) ?_
          refine g_vret hC hr ⟨rfl, ?_⟩ (by omega) (by omega) hE dX21_needed_71
          rw [hnd3 hT_32]
          exact ⟨rfl, ⟨_, _, _, p1_32, ⟨p4_32, p17_32, p20_32⟩, ps_32, pl_32, pk_32, pb_32, pd_32, pa_32⟩, hf_32, by omega, by omega, by show _ + 98 * cnb (cstF N fu σ q9).2 N ≤ _; omega, by show _ + 300 * cnb (cstF N fu σ q9).2 N ≤ _; omega⟩
      · have hnd1 : ndO N (cstF N fu) p_ k_ σ = (false, flG σ (nI p_) 3 (nI k_)) := by unfold ndO; rw [he]; simp only [c_33, if_true]
        obtain ⟨G_55, eG_55⟩ : ∃ G_, gU G_2 n_2 (.inr (21, [.null, .null, .null, .null, .null, .int 0, .int 0, .int 0, .int 0])) = G_ := ⟨_, rfl⟩
        refine V.lts (fun ltG_55 => ?_)
        have o_56 : G_55 sa = some (.inr (20, [.ref h, .ref lg, .ref be, .ref dn, .int (nI st)])) := by rw [← eG_55]; exact (gU_n _ (Nat.ne_of_lt (ltG_55 _ _ o_3))).trans o_3
        have o_57 : G_55 lg = some (.inr (1, [.ref ka, .int (nI g)])) := by rw [← eG_55]; exact (gU_n _ (Nat.ne_of_lt (ltG_55 _ _ o_4))).trans o_4
        have a_58 : G_55 ka = some (.inl (yA Y 0, 40, .inl (σ.1 21))) := by rw [← eG_55]; exact (gU_n _ (Nat.ne_of_lt (ltG_55 _ _ a_5))).trans a_5
        have a_59 : G_55 be = some (.inl (yA Y 5, 12, .inl (beF σ))) := by rw [← eG_55]; exact (gU_n _ (Nat.ne_of_lt (ltG_55 _ _ a_6))).trans a_6
        have a_60 : G_55 dn = some (.inl (yA Y 0, 12, .inl fd)) := by rw [← eG_55]; exact (gU_n _ (Nat.ne_of_lt (ltG_55 _ _ a_7))).trans a_7
        have hs_61 : sub (hM Y h N σ η) G_55 := by rw [← eG_55]; exact sub_new hs_8 ltG_55
        have hi_62 : sub I G_55 := by rw [← eG_55]; exact sub_new hi_9 ltG_55
        have hf_63 : FR (DS h sa lg ka be dn) n G G_55 := by rw [← eG_55]; exact FR.put hf_10 (.inr (by omega))
        refine g_new hC kc_X22 q1897 q1898 q130 (fs := [.null, .null, .null, .null, .null, .int 0, .int 0, .int 0, .int 0]) rfl (G' := G_55) eG_55 (by omega) (by omega) dX21_needed_36 ?_
        have o_64 : G_55 n_2 = some (.inr (21, [.null, .null, .null, .null, .null, .int 0, .int 0, .int 0, .int 0])) := by rw [← eG_55]; exact gU_s _ _ _
        refine g_dup hC dX21_needed_39 rfl ?_
        refine g_iload_n hC dX21_needed_40 rfl 2 rfl ?_
        refine g_iconst (v := 3) hC dX21_needed_41 rfl ?_
        refine g_iload_n hC dX21_needed_42 rfl 3 rfl ?_
        refine g_null hC dX21_needed_43 ?_
        refine V.lts (fun lc_65 => ?_)
        refine g_callv0 hC (g_runI (ret := none) hC (met_X22_init (G := G_55) n_2 (nI p_) 3 (nI k_) none o_64 (by omega)) (lw_meth q1908) q130 q1906 q1907 rfl md_X22_init dX21_needed_44 rfl ⟨by omega, by omega⟩ (by omega) (by omega) rfl (Nat.le_of_ble_eq_true rfl)) (fun G_66 n_66 u_66 hp_66 hn_66 hm_66 hu_66 => ?_)
        obtain ⟨ho_66, hf_66, rfl, rfl⟩ := hp_66
        have o_67 : G_66 sa = some (.inr (20, [.ref h, .ref lg, .ref be, .ref dn, .int (nI st)])) := (hf_66 _ (lc_65 _ _ o_56) (fun q => (gne_c o_56 o_64 (by decide)) q)).trans o_56
        have o_68 : G_66 lg = some (.inr (1, [.ref ka, .int (nI g)])) := (hf_66 _ (lc_65 _ _ o_57) (fun q => (gne_c o_57 o_64 (by decide)) q)).trans o_57
        have a_69 : G_66 ka = some (.inl (yA Y 0, 40, .inl (σ.1 21))) := (hf_66 _ (lc_65 _ _ a_58) (fun q => (gne_ao a_58 o_64) q)).trans a_58
        have a_70 : G_66 be = some (.inl (yA Y 5, 12, .inl (beF σ))) := (hf_66 _ (lc_65 _ _ a_59) (fun q => (gne_ao a_59 o_64) q)).trans a_59
        have a_71 : G_66 dn = some (.inl (yA Y 0, 12, .inl fd)) := (hf_66 _ (lc_65 _ _ a_60) (fun q => (gne_ao a_60 o_64) q)).trans a_60
        have hs_72 : sub (hM Y h N σ η) G_66 := hf_66.subs hs_61 lc_65 (fun a q => by subst q; exact hM_none (by unfold hD; omega))
        have hi_73 : sub I G_66 := hf_66.subs hi_62 lc_65 (fun a q => by subst q; exact hIn _ (by omega))
        have hf_74 : FR (DS h sa lg ka be dn) n G G_66 := hf_63.trans hf_66 (by omega) (fun a_ q_ => by first | exact .inl q_ | exact .inl (.inl q_) | exact .inl (.inr q_) | (subst q_; first | exact .inr (by omega) | exact .inl rfl))
        refine g_athrow hC kc_X22 ho_66 (by omega) dX21_needed_47 ?_
        refine g_out hC (by decide) ?_ (by omega) (by omega) hE
        rw [hnd1]
        obtain ⟨e1, e2, e3, e4⟩ := flG_15 (a := nI p_) (b := 3) (c := nI k_) h14 (by omega)
        refine ⟨rfl, by omega, rfl, ⟨_, _, _, 1, STG.cg ⟨hs_72, ⟨p4, p17, p20⟩, o_67, o_68, a_69, a_70, a_71, pa⟩ (fun k i a b => flG_ne a b), flG_14 h14 (by omega), by omega, ?_⟩, hf_74, by omega, by omega⟩
        show _ = _
        rw [e1, e2, e3]; exact ho_66
    · first | exact absurd c_12 (nI_m1 (by omega)) | exact absurd (Classical.not_not.mp c_12) (nI_m1 (by omega))
