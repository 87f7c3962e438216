set_option maxRecDepth 100000
/-! TREE MAPS, 17: remove, clear, a new map -/
section TF
variable {Y : YT} {p : Program} {l : Launch} {e : Env} {R : Room} {s : State} {m : MethodId} {args : Array Value} {below : List Frame} {meth : Method} {c : Code} {nL n0 u0 : Nat} {nn uu : Nat} {Q : State → Prop} {pc : Nat} {L : List (Nat × Value)} {rest : List Value} {cc : ByteArray} {hh : List (Nat × Nat × Nat × Nat)} {t a : Nat} {τ : TS} {B : AH}
theorem t_putF (hC : CX Y p s m args meth c cc nL RJ1 hh n0 u0) (hin2 : meth.name = "<init>") (hT : TQ_ Y t τ) {index : Nat} (v : Option Nat) (hlink : Cond.fieldLink RJ1 index (TJ1 2).1 (TJ1 2).2.1 (TJ1 2).2.2.1 ∈ lw_all) (hdg : decode cc pc = .ok (.putfield index, 3))
    (kk : V Y p l e R s m args below meth c nL n0 u0 (tG t (tr τ 6 0 v) B) nn uu Q (pc + 3) L rest) : V Y p l e R s m args below meth c nL n0 u0 (tG t τ B) nn uu Q pc L (va_rf v :: .ref t :: rest) := by
  have hset : (tHl τ).set 2 (va_rf v) = tHl (tr τ 6 0 v) := by simp [tHl, tr]
  exact g_putF hC hin2 kc_J1 tG_h 2 (by decide) hlink rfl rfl (rf_nar v) (rf_fit v) (by show 2 < 9; decide) hset hT.2.1 (tG_uh rfl (fun b => tNl_h (by omega))) hdg kk
end TF
theorem TM_nil {τ : TS} {q : TQ} {LO HI : Int} (hS : ∀ b, τ.2.2.2 b = false) (hr : τ.1 5 0 = none) (hi : τ.2.2.1 0 = 0) : TM τ q LO HI [] := by
  have hF : ∀ b, ¬ τ.2.2.2 b = true := fun b h => by rw [hS b] at h; cases h
  exact ⟨⟨fun a ha => absurd ha (hF a), fun a x ha => absurd ha (hF a), fun a x ha => absurd ha (hF a), fun a x ha => absurd ha (hF a), fun a ha => absurd ha (hF a), fun a e => (by rw [hr] at e; cases e)⟩, fun r e => (by rw [hr] at e; cases e), List.Pairwise.nil, fun x k v => ⟨fun h => (by cases h), fun ⟨a, ha, _⟩ => absurd ha (hF a)⟩, fun a ha => absurd ha (hF a), hi⟩
def tcl (z : TS) : TS := (z.1, z.2.1, z.2.2.1, fun _ => false)
theorem tG_cl {t : Nat} {τ z : TS} {B : AH} (hS : z.2.2.2 = τ.2.2.2) (hN : ∀ b, tNl z b = tNl τ b) : tG t z B = tG t (tcl z) (tG t τ B) := by
  funext a
  unfold tG
  by_cases h : a = t
  · rw [if_pos h, if_pos h]; rfl
  · rw [if_neg h, if_neg h, if_neg (show ¬ (tcl z).2.2.2 a = true from fun q => Bool.noConfusion q), if_neg h, hS, hN]
/-- a map before its first word -/
def t0S : TS := ((fun _ _ => none), (fun _ => false), (fun _ => 0), fun _ => false)
theorem tG_0 {t : Nat} {G : AH} : gU G t (.inr (34, [.null, .null, .null, .null, .int 0, .int 0, .null, .null, .null])) = tG t t0S G := by
  funext a
  unfold tG
  by_cases h : a = t
  · subst h; rw [gU_s, if_pos rfl]; rfl
  · rw [gU_n _ h, if_neg h, if_neg (show ¬ t0S.2.2.2 a = true from fun q => Bool.noConfusion q)]
theorem t0_T {Y : YT} {t : Nat} (h : yz Y ≤ t) : TQ_ Y t t0S := ⟨rfl, h, fun a ha => Bool.noConfusion ha⟩
set_option maxHeartbeats 1000000 in
theorem met_J0_init {Y : YT} {l : Launch} {n u : Nat} {G : AH} (a_ : Nat)   : GM Y l yJ0_init (ws_ yJ0_init cJ0_init 1 none) 1 24 [.ref a_] G n u 0 0 (pV (fun G' n' u' => G = G' ∧ n = n' ∧ u = u')) noX := by
  refine GM.intro (own := RJ0) rfl (by decide +kernel) (Nat.le_of_ble_eq_true rfl) ?_
  intro p e s m args below meth c R Q hC hr hnm hF hL hE
  have hE1 := hE.1
  have hE2 := hE.2.1
  show V Y p l e R s m args below meth c 1 n u G n u Q 0 [(0, .ref a_)] []
  refine g_aload_n hC dJ0_init_0 rfl 0 rfl ?_
  refine g_objInit hC q219 q178 q179 dJ0_init_1 (by omega) (by first | (simp; omega) | (simp [Value.category]; omega)) ?_
  refine g_vret hC hr ⟨rfl, ?_⟩ (by omega) (by omega) hE dJ0_init_4
  exact ⟨rfl, rfl, rfl⟩
set_option maxHeartbeats 1000000 in
theorem met_J1_init {Y : YT} {l : Launch} {t n u : Nat} {τ : TS} {B : AH} (hT : TQ_ Y t τ)    : GM Y l yJ1_init (ws_ yJ1_init cJ1_init 1 none) 2 44 [.ref t] (tG t τ B) n u 0 0 (pV (fun G' n' u' => tG t (tr (ti (ti τ 0 0) 1 0) 6 0 none) B = G' ∧ n = n' ∧ u = u')) noX := by
  refine GM.intro (own := RJ1) rfl (by decide +kernel) (Nat.le_of_ble_eq_true rfl) ?_
  intro p e s m args below meth c R Q hC hr hnm hF hL hE
  have hE1 := hE.1
  have hE2 := hE.2.1
  show V Y p l e R s m args below meth c 1 n u (tG t τ B) n u Q 0 [(0, .ref t)] []
  refine g_aload_n hC dJ1_init_0 rfl 0 rfl ?_
  refine g_callv0 hC (g_runI (ret := none) hC (met_J0_init (G := (tG t τ B)) t  ) (lw_meth q218) q84 q216 q217 rfl md_J0_init dJ1_init_1 rfl ⟨by omega, by omega⟩ (by omega) (by omega) rfl (Nat.le_of_ble_eq_true rfl)) (fun G_1 n_1 u_1 hp_1 hn_1 hm_1 hu_1 => ?_)
  obtain ⟨rfl, rfl, rfl⟩ := hp_1
  refine g_aload_n hC dJ1_init_4 rfl 0 rfl ?_
  refine g_iconst (v := 0) hC dJ1_init_5 rfl ?_
  refine t_putI (τ := τ) hC hT 0 (by decide) 0 q223 dJ1_init_6 ?_
  refine g_aload_n hC dJ1_init_9 rfl 0 rfl ?_
  refine g_iconst (v := 0) hC dJ1_init_10 rfl ?_
  refine t_putI (τ := (ti τ 0 0)) hC hT 1 (by decide) 0 q224 dJ1_init_11 ?_
  refine g_aload_n hC dJ1_init_14 rfl 0 rfl ?_
  refine g_null hC dJ1_init_15 ?_
  refine t_putF (τ := (ti (ti τ 0 0) 1 0)) hC hnm hT none q220 dJ1_init_16 ?_
  refine g_vret hC hr ⟨rfl, ?_⟩ (by omega) (by omega) hE dJ1_init_19
  exact ⟨rfl, rfl, rfl⟩
set_option maxHeartbeats 1000000 in
theorem met_J1_init_2 {Y : YT} {l : Launch} {t n u : Nat} {τ : TS} {B : AH} (hT : TQ_ Y t τ) (c_ : Nat)   : GM Y l yJ1_init_2 (ws_ yJ1_init_2 cJ1_init_2 2 none) 2 44 [.ref t, .ref c_] (tG t τ B) n u 0 0 (pV (fun G' n' u' => tG t (tr (ti (ti τ 0 0) 1 0) 6 0 (some c_)) B = G' ∧ n = n' ∧ u = u')) noX := by
  refine GM.intro (own := RJ1) rfl (by decide +kernel) (Nat.le_of_ble_eq_true rfl) ?_
  intro p e s m args below meth c R Q hC hr hnm hF hL hE
  have hE1 := hE.1
  have hE2 := hE.2.1
  show V Y p l e R s m args below meth c 2 n u (tG t τ B) n u Q 0 [(0, .ref t), (1, .ref c_)] []
  refine g_aload_n hC dJ1_init_2_0 rfl 0 rfl ?_
  refine g_callv0 hC (g_runI (ret := none) hC (met_J0_init (G := (tG t τ B)) t  ) (lw_meth q218) q84 q216 q217 rfl md_J0_init dJ1_init_2_1 rfl ⟨by omega, by omega⟩ (by omega) (by omega) rfl (Nat.le_of_ble_eq_true rfl)) (fun G_1 n_1 u_1 hp_1 hn_1 hm_1 hu_1 => ?_)
  obtain ⟨rfl, rfl, rfl⟩ := hp_1
  refine g_aload_n hC dJ1_init_2_4 rfl 0 rfl ?_
  refine g_iconst (v := 0) hC dJ1_init_2_5 rfl ?_
  refine t_putI (τ := τ) hC hT 0 (by decide) 0 q223 dJ1_init_2_6 ?_
  refine g_aload_n hC dJ1_init_2_9 rfl 0 rfl ?_
  refine g_iconst (v := 0) hC dJ1_init_2_10 rfl ?_
  refine t_putI (τ := (ti τ 0 0)) hC hT 1 (by decide) 0 q224 dJ1_init_2_11 ?_
  refine g_aload_n hC dJ1_init_2_14 rfl 0 rfl ?_
  refine g_aload_n hC dJ1_init_2_15 rfl 1 rfl ?_
  refine t_putF (τ := (ti (ti τ 0 0) 1 0)) hC hnm hT (some c_) q220 dJ1_init_2_16 ?_
  refine g_vret hC hr ⟨rfl, ?_⟩ (by omega) (by omega) hE dJ1_init_2_19
  exact ⟨rfl, rfl, rfl⟩
set_option maxHeartbeats 1000000 in
theorem met_J1_clear {Y : YT} {l : Launch} {t n u : Nat} {τ : TS} {B : AH} (hT : TQ_ Y t τ)  {q : TQ} {LO HI : Int}  : GM Y l yJ1_clear (ws_ yJ1_clear cJ1_clear 1 none) 0 0 [.ref t] (tG t τ B) n u 0 0 (pV (fun G' n' u' => ∃ τ', TM τ' q LO HI [] ∧ (∀ k, 5 < k → τ'.1 k 0 = τ.1 k 0) ∧ τ'.2.2.2 = (fun _ => false) ∧ tG t τ' (tG t τ B) = G' ∧ n = n' ∧ u = u')) noX := by
  refine GM.intro (own := RJ1) rfl (by decide +kernel) (Nat.le_of_ble_eq_true rfl) ?_
  intro p e s m args below meth c R Q hC hr hnm hF hL hE
  have hE1 := hE.1
  have hE2 := hE.2.1
  show V Y p l e R s m args below meth c 1 n u (tG t τ B) n u Q 0 [(0, .ref t)] []
  refine g_aload_n hC dJ1_clear_0 rfl 0 rfl ?_
  refine g_dup hC dJ1_clear_1 rfl ?_
  refine t_getH (v := .int (τ.2.2.1 1)) hC 5 (by decide) q224 (congrArg (fun z => some (Value.int z)) rfl) dJ1_clear_2 ?_
  refine g_iconst (v := 1) hC dJ1_clear_5 rfl ?_
  refine g_iadd hC dJ1_clear_6 ?_
  refine t_putI (τ := τ) hC hT 1 (by decide) ((τ.2.2.1 1) + 1) q224 dJ1_clear_7 ?_
  refine g_aload_n hC dJ1_clear_10 rfl 0 rfl ?_
  refine g_iconst (v := 0) hC dJ1_clear_11 rfl ?_
  refine t_putI (τ := (ti τ 1 ((τ.2.2.1 1) + 1))) hC hT 0 (by decide) 0 q223 dJ1_clear_12 ?_
  refine g_aload_n hC dJ1_clear_15 rfl 0 rfl ?_
  refine g_null hC dJ1_clear_16 ?_
  refine t_putR (τ := (ti (ti τ 1 ((τ.2.2.1 1) + 1)) 0 0)) hC hT 5 (by decide) none q222 dJ1_clear_17 ?_
  refine g_vret hC hr ⟨rfl, ?_⟩ (by omega) (by omega) hE dJ1_clear_20
  have e9 : ∀ b, tNl (tr (ti (ti τ 1 ((τ.2.2.1 1) + 1)) 0 0) 5 0 none) b = tNl τ b := fun b => (tNl_h (by decide)).trans rfl
  have e8 : (tcl (tr (ti (ti τ 1 ((τ.2.2.1 1) + 1)) 0 0) 5 0 none)).1 5 0 = none := (show (tr (ti (ti τ 1 ((τ.2.2.1 1) + 1)) 0 0) 5 0 none).1 5 0 = none from tr_hit)
  exact ⟨tcl (tr (ti (ti τ 1 ((τ.2.2.1 1) + 1)) 0 0) 5 0 none), TM_nil (fun _ => rfl) e8 (show (ti (ti τ 1 ((τ.2.2.1 1) + 1)) 0 0).2.2.1 0 = 0 from ti_hit), fun k_ hk => (tr_nk (τ := (ti (ti τ 1 ((τ.2.2.1 1) + 1)) 0 0)) (by omega)), rfl, (tG_cl (τ := τ) (z := (tr (ti (ti τ 1 ((τ.2.2.1 1) + 1)) 0 0) 5 0 none)) rfl e9).symm, rfl, rfl⟩
set_option maxHeartbeats 1000000 in
theorem met_J1_removeS {Y : YT} {l : Launch} {t n u : Nat} {τ : TS} {B : AH} (hT : TQ_ Y t τ) (k_ : Nat) {q : TQ} {LO HI : Int} {M : MP} {kk9 : Nat} {v9 : Option Nat} (X : Int) (hM : TM τ q LO HI M) (h1X : LO < X) (h2X : X < HI) (hcm : τ.1 6 0 = none) (hKk : KS Y (tG t τ B) k_ X) (hKO : ∀ a k, τ.2.2.2 a = true → τ.1 0 a = some k → KS Y (tG t τ B) k (q.1 a)) (hin : (X, kk9, v9) ∈ M) : GM Y l yJ1_remove (ws_ yJ1_remove cJ1_remove 4 (some (FieldType.object "java/lang/Object"))) 6 140 [.ref t, .ref k_] (tG t τ B) n u 0 0 (pQ (fun r G' n' u' => v9 = r ∧ ∃ x τ' q' B', τ.2.2.2 x = true ∧ q.1 x = X ∧ DL τ q LO HI M x t B τ' q' B' ∧ tG t τ' B' = G' ∧ n = n' ∧ u = u')) noX := by
  refine GM.intro (own := RJ1) rfl (by decide +kernel) (Nat.le_of_ble_eq_true rfl) ?_
  intro p e s m args below meth c R Q hC hr hnm hF hL hE
  have hE1 := hE.1
  have hE2 := hE.2.1
  show V Y p l e R s m args below meth c 4 n u (tG t τ B) n u Q 0 [(0, .ref t), (1, .ref k_)] []
  refine g_aload_n hC dJ1_remove_0 rfl 0 rfl ?_
  refine g_aload_n hC dJ1_remove_1 rfl 1 rfl ?_
  refine g_callq0 hC (g_runV hC (met_J1_getEntryS (τ := τ) hT k_ X hM h1X h2X hcm hKk hKO) kc_J1 tG_h (lw_V q990 q991 q992 q85 q993) rfl md_J1_getEntry dJ1_remove_2 rfl ⟨by omega, by omega⟩ (by omega) (by omega) rfl (Nat.le_of_ble_eq_true rfl)) (fun r_1 G_1 n_1 u_1 hp_1 hn_1 hm_1 hu_1 => ?_)
  obtain ⟨hge, rfl, rfl, rfl⟩ := hp_1
  refine g_qastore_n (L' := [(2, va_rf r_1), (0, .ref t), (1, .ref k_)]) hC dJ1_remove_5 rfl (by decide) rfl ?_
  refine g_qaload_n hC dJ1_remove_6 rfl 0 rfl ?_
  rcases h_7 : r_1 with _ | s9
  · rw [h_7] at hge; obtain ⟨a, ha, h3, _⟩ := (hM.mem _ _ _).mp hin; exact absurd h3 (hge a ha)
  · rw [h_7] at hge
    replace hge : GE τ q X (some s9) := hge
    refine g_ifnonnull (tgt := 12) hC dJ1_remove_7 (by decide) ?_
    refine g_aload_n hC dJ1_remove_12 rfl 0 rfl ?_
    refine t_getN (τ := τ) (v := va_rf (τ.1 1 s9)) hC hT 1 (by decide) hge.1 q1536 (congrArg (fun z => some (va_rf z)) rfl) dJ1_remove_13 ?_
    refine g_qastore_n (L' := [(3, va_rf (τ.1 1 s9)), (2, .ref s9), (0, .ref t), (1, .ref k_)]) hC dJ1_remove_16 rfl (by decide) rfl ?_
    refine g_aload_n hC dJ1_remove_17 rfl 2 rfl ?_
    refine g_aload_n hC dJ1_remove_18 rfl 1 rfl ?_
    refine g_callv0 hC (g_runV hC (met_J1_deleteEntry (τ := τ) hT s9 hM hge.1) kc_J1 tG_h (lw_V q2994 q2880 qs27 q85 q2881) rfl md_J1_deleteEntry dJ1_remove_19 rfl ⟨by omega, by omega⟩ (by omega) (by omega) rfl (Nat.le_of_ble_eq_true rfl)) (fun G_2 n_2 u_2 hp_2 hn_2 hm_2 hu_2 => ?_)
    obtain ⟨z9, q9, B9, hD, rfl, rfl, rfl⟩ := hp_2
    refine g_qaload_n hC dJ1_remove_22 rfl 0 rfl ?_
    refine g_aret (v := τ.1 1 s9) hC hr (by first | exact Or.inl ⟨_, rfl⟩ | exact Or.inr ⟨_, rfl⟩) ⟨_, rfl, ?_⟩ (by omega) (by omega) hE dJ1_remove_23
    obtain ⟨a, ha, h3, h4, h5⟩ := (hM.mem _ _ _).mp hin
    have e9 := hM.tw.uniq ha hge.1 (h3.trans hge.2.symm)
    subst e9
    exact ⟨h5.symm, a, z9, q9, B9, ha, h3, hD, rfl, rfl, rfl⟩
