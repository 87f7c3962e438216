set_option maxRecDepth 100000
/-! COMPONENT, 12: maps and sets as pictures in a known heap -/
def TZ (t : Nat) (τ : TS) : AH := fun a => if τ.1 7 0 = some a then some (.inr (54, [.ref t])) else tG t τ (fun _ => none) a
def TD (t : Nat) (τ : TS) (a : Nat) : Prop := a = t ∨ τ.2.2.2 a = true
def ZL : Int := -1000000000000000000
def ZH : Int := 1000000000000000000
abbrev TMI (K : AH → Nat → Int → Prop) (Y : YT) (t : Nat) (c : Option Nat) (J : AH) (τ : TS) (q : TQ) (M : MP) : Prop := TQ_ Y t τ ∧ TM τ q ZL ZH M ∧ τ.1 6 0 = c ∧ (∀ a, τ.1 7 0 = some a → a ≠ t ∧ τ.2.2.2 a = false) ∧ (∀ a k, τ.2.2.2 a = true → τ.1 0 a = some k → K J k (q.1 a)) ∧ (∀ a, TD t τ a → J a = none)
theorem TZ_h {t : Nat} {τ : TS} (hk : ∀ a, τ.1 7 0 = some a → a ≠ t ∧ τ.2.2.2 a = false) : TZ t τ t = some (.inr (34, tHl τ)) := by
  unfold TZ
  rw [if_neg (fun q => (hk t q).1 rfl)]; exact tG_h
theorem TZ_n {t a : Nat} {τ : TS} (hk : ∀ a, τ.1 7 0 = some a → a ≠ t ∧ τ.2.2.2 a = false) (ht : τ.2.2.2 t = false) (ha : τ.2.2.2 a = true) : TZ t τ a = some (.inr (42, tNl τ a)) := by
  unfold TZ
  rw [if_neg (fun q => by rw [(hk a q).2] at ha; cases ha)]; exact tG_n ha ht
theorem TZ_g {t : Nat} {τ : TS} {G : AH} (hk : ∀ a, τ.1 7 0 = some a → a ≠ t ∧ τ.2.2.2 a = false) (ht : τ.2.2.2 t = false) (hs : sub (TZ t τ) G) : tG t τ G = G ∧ KSI t τ G := by
  refine ⟨funext fun a => ?_, fun a ha => ⟨hs a _ (if_pos ha), hk a ha⟩⟩
  unfold tG
  by_cases h1 : a = t
  · rw [if_pos h1, h1]; exact (hs t _ (TZ_h hk)).symm
  · rw [if_neg h1]
    by_cases h2 : τ.2.2.2 a = true
    · rw [if_pos h2]; exact (hs a _ (TZ_n hk ht h2)).symm
    · rw [if_neg h2]
theorem TZ_of {t : Nat} {τ : TS} {B G : AH} (hG : tG t τ B = G) (hk : KSI t τ B) : sub (TZ t τ) G := by
  intro a e h
  unfold TZ at h
  split at h
  · next q => cases h
              obtain ⟨k1, k2, k3⟩ := hk a q
              rw [← hG]; exact (tG_b k2 k3).trans k1
  · rw [← hG]
    unfold tG at h ⊢
    split
    · next q => rw [if_pos q] at h; exact h
    · next q =>
      rw [if_neg q] at h
      split
      · next r => rw [if_pos r] at h; exact h
      · next r => rw [if_neg r] at h; cases h
theorem TZ_D {t a : Nat} {τ : TS} {G : AH} (hk : ∀ a, τ.1 7 0 = some a → a ≠ t ∧ τ.2.2.2 a = false) (ht : τ.2.2.2 t = false) (hs : sub (TZ t τ) G) (h : TD t τ a) : ∃ i fs, G a = some (.inr (i, fs)) ∧ (i = 34 ∨ i = 42) := by
  rcases h with rfl | h
  · exact ⟨_, _, hs _ _ (TZ_h hk), .inl rfl⟩
  · exact ⟨_, _, hs _ _ (TZ_n hk ht h), .inr rfl⟩
theorem TZ_out {t a i : Nat} {τ : TS} {G : AH} {fs : List Value} (hk : ∀ a, τ.1 7 0 = some a → a ≠ t ∧ τ.2.2.2 a = false) (ht : τ.2.2.2 t = false) (hs : sub (TZ t τ) G) (h : G a = some (.inr (i, fs))) (h1 : i ≠ 34) (h2 : i ≠ 42) : ¬ TD t τ a := fun q => by
  obtain ⟨j, gs, b1, b2⟩ := TZ_D hk ht hs q
  rw [h] at b1; cases b1
  rcases b2 with b2 | b2 <;> contradiction
theorem TZ_outA {t a : Nat} {τ : TS} {G : AH} {x : ClassId × vp_A} (hk : ∀ a, τ.1 7 0 = some a → a ≠ t ∧ τ.2.2.2 a = false) (ht : τ.2.2.2 t = false) (hs : sub (TZ t τ) G) (h : G a = some (.inl x)) : ¬ TD t τ a := fun q => by
  obtain ⟨j, gs, b1, b2⟩ := TZ_D hk ht hs q
  rw [h] at b1; cases b1
theorem TZ_none {t a i : Nat} {τ : TS} {G : AH} {fs : List Value} (hk : ∀ a, τ.1 7 0 = some a → a ≠ t ∧ τ.2.2.2 a = false) (ht : τ.2.2.2 t = false) (hs : sub (TZ t τ) G) (h : G a = some (.inr (i, fs))) (h1 : i ≠ 34) (h2 : i ≠ 42) (h3 : i ≠ 54) : TZ t τ a = none := by
  cases e : TZ t τ a with
  | none => rfl
  | some x =>
    have h4 := hs a x e
    unfold TZ at e
    split at e
    · rw [h] at h4; cases h4; cases e; contradiction
    · unfold tG at e
      split at e
      · rw [h] at h4; cases h4; cases e; contradiction
      · split at e
        · rw [h] at h4; cases h4; cases e; contradiction
        · cases e
theorem TZ_noneA {t a : Nat} {τ : TS} {G : AH} {x : ClassId × vp_A} (hs : sub (TZ t τ) G) (h : G a = some (.inl x)) : TZ t τ a = none := by
  cases e : TZ t τ a with
  | none => rfl
  | some y =>
    have h4 := hs a y e
    unfold TZ at e
    split at e
    · rw [h] at h4; cases h4; cases e
    · unfold tG at e
      split at e
      · rw [h] at h4; cases h4; cases e
      · split at e
        · rw [h] at h4; cases h4; cases e
        · cases e
/-- a picture without trees lies apart -/
theorem TZ_pic {t : Nat} {τ : TS} {G P : AH} (hk : ∀ a, τ.1 7 0 = some a → a ≠ t ∧ τ.2.2.2 a = false) (ht : τ.2.2.2 t = false) (hs : sub (TZ t τ) G) (hp : sub P G) (h1 : ∀ a i fs, P a = some (.inr (i, fs)) → i ≠ 34 ∧ i ≠ 42) : ∀ a, TD t τ a → P a = none := fun a h => by
  obtain ⟨j, gs, b1, b2⟩ := TZ_D hk ht hs h
  cases e : P a with
  | none => rfl
  | some x =>
    have h4 := hp a x e
    rw [b1] at h4; cases h4
    have := h1 a _ _ e
    rcases b2 with b2 | b2 <;> simp_all
theorem KI_mono {J G : AH} {k : Nat} {x : Int} (h : KI J k x) (hs : sub J G) : KI G k x := by
  obtain ⟨v, a, b⟩ := h; exact ⟨v, hs _ _ a, b⟩
theorem KS_mono {Y : YT} {J G : AH} {k : Nat} {x : Int} (h : KS Y J k x) (hs : sub J G) : KS Y G k x := by
  obtain ⟨va, N, f, d, x1, x2, a1, a2, a3⟩ := h; exact ⟨va, N, f, d, x1, x2, hs _ _ a1, hs _ _ a2, a3⟩
abbrev MO (K : AH → Nat → Int → Prop) : Prop := ∀ (J G : AH) (k : Nat) (x : Int), K J k x → sub J G → K G k x
theorem KI_MO : MO KI := fun _ _ _ _ h hs => KI_mono h hs
theorem KS_MO {Y : YT} : MO (KS Y) := fun _ _ _ _ h hs => KS_mono h hs
theorem TMI.KO {K : AH → Nat → Int → Prop} (hK : MO K) {Y : YT} {t : Nat} {c : Option Nat} {J : AH} {τ : TS} {q : TQ} {M : MP} (h : TMI K Y t c J τ q M) {G : AH} (hJ : sub J G) : ∀ a k, τ.2.2.2 a = true → τ.1 0 a = some k → K G k (q.1 a) := fun a k h1 h2 => hK _ _ _ _ (h.2.2.2.2.1 a k h1 h2) hJ
theorem TMI.J {K : AH → Nat → Int → Prop} (hK : MO K) {Y : YT} {t : Nat} {c : Option Nat} {J J' : AH} {τ : TS} {q : TQ} {M : MP} (h : TMI K Y t c J τ q M) (hJ : sub J J') (hn : ∀ a, TD t τ a → J' a = none) : TMI K Y t c J' τ q M := ⟨h.1, h.2.1, h.2.2.1, h.2.2.2.1, h.KO hK hJ, hn⟩
theorem TMI.g {K : AH → Nat → Int → Prop} {Y : YT} {t : Nat} {c : Option Nat} {J : AH} {τ : TS} {q : TQ} {M : MP} (h : TMI K Y t c J τ q M) {G : AH} (hs : sub (TZ t τ) G) : tG t τ G = G ∧ KSI t τ G := TZ_g h.2.2.2.1 h.1.1 hs
/-- after a new entry -/
theorem TMI.add {K : AH → Nat → Int → Prop} (hK : MO K) {Y : YT} {t : Nat} {c : Option Nat} {J : AH} {τ τ' : TS} {q q' : TQ} {M : MP} {G G' : AH} {n k : Nat} {X : Int} {v : Option Nat} (h : TMI K Y t c J τ q M) (hs : sub (TZ t τ) G) (hJ : sub J G) (hz : yz Y ≤ n) (hlt : ∀ a e, G a = some e → a < n) (hk : K J k X) (h1 : TM τ' q' ZL ZH (mput X k v M)) (h2 : TP τ q n k X τ' q') (h3 : tG t τ' G = G') :
    TMI K Y t c J τ' q' (mput X k v M) ∧ sub (TZ t τ') G' ∧ FR (TD t τ) n G G' ∧ ∀ a, TD t τ' a → TD t τ a ∨ a = n := by
  obtain ⟨b1, b2, b3, b4, b5, b6⟩ := h
  have hGt : G t = some (.inr (34, tHl τ)) := hs _ _ (TZ_h b4)
  have htn : t ≠ n := Nat.ne_of_lt (hlt _ _ hGt)
  have hJn : J n = none := sub_none hJ hlt n (Nat.le_refl _)
  have hD : ∀ a, TD t τ' a → TD t τ a ∨ a = n := fun a ha => by
    rcases ha with ha | ha
    · exact .inl (.inl ha)
    · rw [h2.dom] at ha
      simp at ha
      rcases ha with ha | ha
      · exact .inr ha
      · exact .inl (.inr ha)
  have h7 : τ'.1 7 0 = τ.1 7 0 := h2.hd 7 (by decide)
  have hks : KSI t τ' G := fun a ha => by
    rw [h7] at ha
    have hc := hs a _ (show TZ t τ a = some (.inr (54, [.ref t])) from if_pos ha)
    have hne : a ≠ n := Nat.ne_of_lt (hlt _ _ hc)
    refine ⟨hc, (b4 a ha).1, ?_⟩
    rw [h2.dom]
    simp [hne, (b4 a ha).2]
  refine ⟨⟨⟨?_, b1.2.1, fun a ha => ?_⟩, h1, (h2.hd 6 (by decide)).trans b3, fun a ha => ⟨(hks a ha).2.1, (hks a ha).2.2⟩, fun a k' ha hk' => ?_, fun a ha => ?_⟩, TZ_of h3 hks, fun a ha hd => ?_, hD⟩
  · rw [h2.dom]; simp [htn, b1.1]
  · rw [h2.dom] at ha; simp at ha
    rcases ha with ha | ha
    · rw [ha]; exact hz
    · exact b1.2.2 a ha
  · rw [h2.dom] at ha; simp at ha
    rcases ha with ha | ha
    · subst ha
      rw [h2.rn.2] at hk'
      cases hk'
      rw [h2.rn.1]; exact hk
    · obtain ⟨r1, r2⟩ := h2.rk a ha
      rw [r1]; exact b5 a k' ha (r2 ▸ hk')
  · rcases hD a ha with q | q
    · exact b6 a q
    · rw [q]; exact hJn
  · rw [← h3]
    refine tG_b (fun q => hd (.inl q)) ?_
    rw [h2.dom]
    have : a ≠ n := Nat.ne_of_lt ha
    simp only [Bool.or_eq_false_iff]
    refine ⟨by simp [this], ?_⟩
    cases e : τ.2.2.2 a with
    | false => rfl
    | true => exact absurd (.inr e) hd

theorem mp_putI {Y : YT} {l : Launch} {t n u : Nat} {τ : TS} {q : TQ} {M : MP} {G J : AH} (hT : TMI KI Y t none J τ q M) (hs : sub (TZ t τ) G) (hJ : sub J G) (hz : yz Y ≤ n) (hlt : ∀ a e, G a = some e → a < n) (k v : Nat) (X : Int) (hk : KI J k X) (hX : ∀ e, e ∈ M → e.1 ≠ X) (h1 : ZL < X) (h2 : X < ZH) : GM Y l yJ1_put (ws_ yJ1_put cJ1_put 3 (some (FieldType.object "java/lang/Object"))) 6 136 [.ref t, .ref k, .ref v] G n u 1 6 (pQ (fun r G' n' u' => none = r ∧ ∃ τ' q', TMI KI Y t none J τ' q' (mput X k (some v) M) ∧ sub (TZ t τ') G' ∧ FR (TD t τ) n G G' ∧ (∀ a, TD t τ' a → TD t τ a ∨ a = n) ∧ n + 1 = n' ∧ u + 6 = u')) noX := by
  obtain ⟨hG, hKS⟩ := hT.g hs
  have h := met_J1_putI (l := l) (n := n) (u := u) (B := G) hT.1 k v X hT.2.1 hX h1 h2 hT.2.2.1 (by rw [hG]; exact KI_mono hk hJ) (by rw [hG]; exact hT.KO KI_MO hJ)
  rw [hG] at h
  refine h.weaken (Nat.le_refl _) (Nat.le_refl _) (fun v G' n' u' hp => ?_) (fun _ _ _ _ _ h => h)
  obtain ⟨r, e1, e2, τ', q', e3, e4, e5, e6⟩ := hp
  obtain ⟨f1, f2, f3, f4⟩ := hT.add KI_MO hs hJ hz hlt hk e3 e4 e5
  exact ⟨r, e1, e2, τ', q', f1, f2, f3, f4, e6⟩
theorem mp_putS {Y : YT} {l : Launch} {t n u : Nat} {τ : TS} {q : TQ} {M : MP} {G J : AH} (hT : TMI (KS Y) Y t none J τ q M) (hs : sub (TZ t τ) G) (hJ : sub J G) (hz : yz Y ≤ n) (hlt : ∀ a e, G a = some e → a < n) (k v : Nat) (X : Int) (hk : (KS Y) J k X) (hX : ∀ e, e ∈ M → e.1 ≠ X) (h1 : ZL < X) (h2 : X < ZH) : GM Y l yJ1_put (ws_ yJ1_put cJ1_put 3 (some (FieldType.object "java/lang/Object"))) 8 189 [.ref t, .ref k, .ref v] G n u 1 6 (pQ (fun r G' n' u' => none = r ∧ ∃ τ' q', TMI (KS Y) Y t none J τ' q' (mput X k (some v) M) ∧ sub (TZ t τ') G' ∧ FR (TD t τ) n G G' ∧ (∀ a, TD t τ' a → TD t τ a ∨ a = n) ∧ n + 1 = n' ∧ u + 6 = u')) noX := by
  obtain ⟨hG, hKS⟩ := hT.g hs
  have h := met_J1_putS (l := l) (n := n) (u := u) (B := G) hT.1 k v X hT.2.1 hX h1 h2 hT.2.2.1 (by rw [hG]; exact KS_mono hk hJ) (by rw [hG]; exact hT.KO KS_MO hJ)
  rw [hG] at h
  refine h.weaken (Nat.le_refl _) (Nat.le_refl _) (fun v G' n' u' hp => ?_) (fun _ _ _ _ _ h => h)
  obtain ⟨r, e1, e2, τ', q', e3, e4, e5, e6⟩ := hp
  obtain ⟨f1, f2, f3, f4⟩ := hT.add KS_MO hs hJ hz hlt hk e3 e4 e5
  exact ⟨r, e1, e2, τ', q', f1, f2, f3, f4, e6⟩
theorem mp_hasS {Y : YT} {l : Launch} {t n u : Nat} {τ : TS} {q : TQ} {M : MP} {G J : AH} (hT : TMI (KS Y) Y t none J τ q M) (hs : sub (TZ t τ) G) (hJ : sub J G) (k : Nat) (X : Int) (hk : KS Y J k X) (h1 : ZL < X) (h2 : X < ZH) : GM Y l yJ1_containsKey (ws_ yJ1_containsKey cJ1_containsKey 2 (some FieldType.boolean)) 6 140 [.ref t, .ref k] G n u 0 0 (pI (fun r G' n' u' => b2i (mget X M).isSome = r ∧ G = G' ∧ n = n' ∧ u = u')) noX := by
  obtain ⟨hG, hKS⟩ := hT.g hs
  have h := met_J1_containsKeyS (l := l) (n := n) (u := u) (B := G) hT.1 k X hT.2.1 h1 h2 hT.2.2.1 (by rw [hG]; exact KS_mono hk hJ) (by rw [hG]; exact hT.KO KS_MO hJ)
  rw [hG] at h; exact h
theorem mp_getI {Y : YT} {l : Launch} {t n u : Nat} {τ : TS} {q : TQ} {M : MP} {G J : AH} (hT : TMI KI Y t none J τ q M) (hs : sub (TZ t τ) G) (hJ : sub J G) (k : Nat) (X : Int) (hk : KI J k X) (h1 : ZL < X) (h2 : X < ZH) {kk : Nat} {v : Option Nat} (hin : (X, kk, v) ∈ M) : GM Y l yJ1_get (ws_ yJ1_get cJ1_get 3 (some (FieldType.object "java/lang/Object"))) 4 87 [.ref t, .ref k] G n u 0 0 (pQ (fun r G' n' u' => v = r ∧ G = G' ∧ n = n' ∧ u = u')) noX := by
  obtain ⟨hG, hKS⟩ := hT.g hs
  have h := met_J1_getI (l := l) (n := n) (u := u) (B := G) hT.1 k X hT.2.1 h1 h2 hT.2.2.1 (by rw [hG]; exact KI_mono hk hJ) (by rw [hG]; exact hT.KO KI_MO hJ) hin
  rw [hG] at h; exact h
theorem mp_size {Y : YT} {l : Launch} {t n u : Nat} {τ : TS} {q : TQ} {M : MP} {G J : AH} {K : AH → Nat → Int → Prop} {c : Option Nat} (hT : TMI K Y t c J τ q M) (hs : sub (TZ t τ) G) : GM Y l yJ1_size (ws_ yJ1_size cJ1_size 1 (some FieldType.int)) 0 0 [.ref t] G n u 0 0 (pI (fun r G' n' u' => nI M.length = r ∧ G = G' ∧ n = n' ∧ u = u')) noX := by
  obtain ⟨hG, hKS⟩ := hT.g hs
  have h := met_J1_size (l := l) (n := n) (u := u) (B := G) hT.1
  rw [hG, hT.2.1.sz] at h; exact h
theorem TMI.clr {K : AH → Nat → Int → Prop} {Y : YT} {t n : Nat} {c : Option Nat} {J : AH} {τ τ' : TS} {q : TQ} {M : MP} {G G' : AH} (h : TMI K Y t c J τ q M) (hs : sub (TZ t τ) G) (h1 : TM τ' q ZL ZH []) (h2 : ∀ k, 5 < k → τ'.1 k 0 = τ.1 k 0) (h3 : τ'.2.2.2 = fun _ => false) (h4 : tG t τ' G = G') : TMI K Y t c J τ' q [] ∧ sub (TZ t τ') G' ∧ FR (fun a => a = t) n G G' ∧ ∀ a, TD t τ' a → a = t := by
  obtain ⟨b1, b2, b3, b4, b5, b6⟩ := h
  have hD : ∀ a, TD t τ' a → a = t := fun a ha => by
    rcases ha with ha | ha
    · exact ha
    · rw [h3] at ha; cases ha
  have hks : KSI t τ' G := fun a ha => by
    rw [h2 7 (by decide)] at ha
    exact ⟨hs a _ (if_pos ha), (b4 a ha).1, by rw [h3]⟩
  refine ⟨⟨⟨by rw [h3], b1.2.1, fun a ha => (by rw [h3] at ha; cases ha)⟩, h1, (h2 6 (by decide)).trans b3, fun a ha => ⟨(hks a ha).2.1, (hks a ha).2.2⟩, fun a k ha => (by rw [h3] at ha; cases ha), fun a ha => b6 a (.inl (hD a ha))⟩, TZ_of h4 hks, fun a ha hd => ?_, hD⟩
  rw [← h4]; exact tG_b hd (by rw [h3])
theorem mp_clear {Y : YT} {l : Launch} {t n u : Nat} {τ : TS} {q : TQ} {M : MP} {G J : AH} {K : AH → Nat → Int → Prop} {c : Option Nat} (hT : TMI K Y t c J τ q M) (hs : sub (TZ t τ) G) : GM Y l yJ1_clear (ws_ yJ1_clear cJ1_clear 1 none) 0 0 [.ref t] G n u 0 0 (pV (fun G' n' u' => ∃ τ', TMI K Y t c J τ' q [] ∧ sub (TZ t τ') G' ∧ FR (fun a => a = t) n G G' ∧ (∀ a, TD t τ' a → a = t) ∧ n = n' ∧ u = u')) noX := by
  obtain ⟨hG, hKS⟩ := hT.g hs
  have h := met_J1_clear (l := l) (n := n) (u := u) (B := G) hT.1 (q := q) (LO := ZL) (HI := ZH)
  rw [hG] at h
  refine h.weaken (Nat.le_refl _) (Nat.le_refl _) (fun v G' n' u' hp => ?_) (fun _ _ _ _ _ h => h)
  obtain ⟨e1, τ', e3, e4, e5, e6, e7⟩ := hp
  obtain ⟨f1, f2, f3, f4⟩ := hT.clr (n := n) hs e3 e4 e5 e6
  exact ⟨e1, τ', f1, f2, f3, f4, e7⟩
theorem TM_no {τ : TS} {q : TQ} (h : τ.2.2.2 = fun _ => false) (h5 : τ.1 5 0 = none) (hz : τ.2.2.1 0 = 0) : TM τ q ZL ZH [] := by
  refine ⟨⟨?_, ?_, ?_, ?_, ?_, ?_⟩, ?_, ?_, ?_, ?_, hz⟩
  all_goals (try (intro a ha; rw [h] at ha; cases ha))
  all_goals (try (intro a x ha; rw [h] at ha; cases ha))
  · intro a ha; rw [h5] at ha; cases ha
  · intro a ha; rw [h5] at ha; cases ha
  · exact List.Pairwise.nil
  · intro x k v; constructor
    · intro q; cases q
    · rintro ⟨a, ha, _⟩; rw [h] at ha; cases ha
def τ0 : TS := (fun _ _ => none, fun _ => false, fun _ => 0, fun _ => false)
theorem mp_new {Y : YT} {l : Launch} {t n u : Nat} {G J : AH} (K : AH → Nat → Int → Prop) (h1 : G t = some (.inr (34, [.null, .null, .null, .null, .int 0, .int 0, .null, .null, .null]))) (hz : yz Y ≤ t) (hJ : J t = none) : GM Y l yJ1_init (ws_ yJ1_init cJ1_init 1 none) 2 44 [.ref t] G n u 0 0 (pV (fun G' n' u' => ∃ τ' q, TMI K Y t none J τ' q [] ∧ sub (TZ t τ') G' ∧ FR (fun a => a = t) n G G' ∧ (∀ a, TD t τ' a → a = t) ∧ τ'.1 8 0 = none ∧ n = n' ∧ u = u')) noX := by
  have hT : TQ_ Y t τ0 := ⟨rfl, hz, fun a ha => (by cases ha)⟩
  have hG : tG t τ0 G = G := funext fun a => by
    unfold tG
    by_cases e : a = t
    · rw [if_pos e, e, h1]; rfl
    · rw [if_neg e]; rfl
  have h := met_J1_init (l := l) (n := n) (u := u) (B := G) hT
  rw [hG] at h
  refine h.weaken (Nat.le_refl _) (Nat.le_refl _) (fun v G' n' u' hp => ?_) (fun _ _ _ _ _ h => h)
  obtain ⟨e1, e2, e3⟩ := hp
  refine ⟨e1, tr (ti (ti τ0 0 0) 1 0) 6 0 none, (fun _ => 0, fun _ => 0, fun _ => 0), ⟨⟨rfl, hz, fun a ha => (by cases ha)⟩, TM_no rfl rfl rfl, rfl, fun a ha => (by cases ha), fun a k ha => (by cases ha), fun a ha => ?_⟩, TZ_of e2 (fun a ha => by cases ha), fun a ha hd => ?_, fun a ha => ?_, rfl, e3⟩
  · rcases ha with ha | ha
    · rw [ha]; exact hJ
    · cases ha
  · rw [← e2]; exact tG_b hd rfl
  · rcases ha with ha | ha
    · exact ha
    · cases ha
theorem mp_new_c {Y : YT} {l : Launch} {t n u : Nat} {G J : AH} (K : AH → Nat → Int → Prop) (c : Nat) (h1 : G t = some (.inr (34, [.null, .null, .null, .null, .int 0, .int 0, .null, .null, .null]))) (hz : yz Y ≤ t) (hJ : J t = none) : GM Y l yJ1_init_2 (ws_ yJ1_init_2 cJ1_init_2 2 none) 2 44 [.ref t, .ref c] G n u 0 0 (pV (fun G' n' u' => ∃ τ' q, TMI K Y t (some c) J τ' q [] ∧ sub (TZ t τ') G' ∧ FR (fun a => a = t) n G G' ∧ (∀ a, TD t τ' a → a = t) ∧ τ'.1 8 0 = none ∧ n = n' ∧ u = u')) noX := by
  have hT : TQ_ Y t τ0 := ⟨rfl, hz, fun a ha => (by cases ha)⟩
  have hG : tG t τ0 G = G := funext fun a => by
    unfold tG
    by_cases e : a = t
    · rw [if_pos e, e, h1]; rfl
    · rw [if_neg e]; rfl
  have h := met_J1_init_2 (l := l) (n := n) (u := u) (B := G) hT c
  rw [hG] at h
  refine h.weaken (Nat.le_refl _) (Nat.le_refl _) (fun v G' n' u' hp => ?_) (fun _ _ _ _ _ h => h)
  obtain ⟨e1, e2, e3⟩ := hp
  refine ⟨e1, tr (ti (ti τ0 0 0) 1 0) 6 0 (some c), (fun _ => 0, fun _ => 0, fun _ => 0), ⟨⟨rfl, hz, fun a ha => (by cases ha)⟩, TM_no rfl rfl rfl, rfl, fun a ha => (by cases ha), fun a k ha => (by cases ha), fun a ha => ?_⟩, TZ_of e2 (fun a ha => by cases ha), fun a ha hd => ?_, fun a ha => ?_, rfl, e3⟩
  · rcases ha with ha | ha
    · rw [ha]; exact hJ
    · cases ha
  · rw [← e2]; exact tG_b hd rfl
  · rcases ha with ha | ha
    · exact ha
    · cases ha
/-- a set's object is apart from its map -/
theorem TMI.ho {K : AH → Nat → Int → Prop} {Y : YT} {t a i : Nat} {c : Option Nat} {J : AH} {τ : TS} {q : TQ} {M : MP} {G : AH} {fs : List Value} (h : TMI K Y t c J τ q M) (hs : sub (TZ t τ) G) (h1 : G a = some (.inr (i, fs))) (h2 : i ≠ 34) (h3 : i ≠ 42) : a ≠ t ∧ τ.2.2.2 a = false := by
  have := TZ_out h.2.2.2.1 h.1.1 hs h1 h2 h3
  refine ⟨fun q => this (.inl q), ?_⟩
  cases e : τ.2.2.2 a with
  | false => rfl
  | true => exact absurd (.inr e) this
theorem st_add {Y : YT} {l : Launch} {t n u : Nat} {τ : TS} {q : TQ} {M : MP} {G J : AH} (hT : TMI KI Y t none J τ q M) (hs : sub (TZ t τ) G) (hJ : sub J G) (hz : yz Y ≤ n) (hlt : ∀ a e, G a = some e → a < n) (i k : Nat) (hi : G i = some (.inr (47, [.ref t]))) (X : Int) (hk : KI J k X) (hX : ∀ e, e ∈ M → e.1 ≠ X) (h1 : ZL < X) (h2 : X < ZH) : GM Y l yJ35_add (ws_ yJ35_add cJ35_add 2 (some FieldType.boolean)) 7 158 [.ref i, .ref k] G n u 1 6 (pI (fun r G' n' u' => 1 = r ∧ ∃ pv τ' q', TMI KI Y t none J τ' q' (mput X k (some pv) M) ∧ sub (TZ t τ') G' ∧ FR (TD t τ) n G G' ∧ (∀ a, TD t τ' a → TD t τ a ∨ a = n) ∧ n + 1 = n' ∧ u + 6 = u')) noX := by
  obtain ⟨hG, hKS⟩ := hT.g hs
  have h := met_J35_addI (l := l) (n := n) (u := u) (B := G) hT.1 i k X hT.2.1 hX h1 h2 hT.2.2.1 (by rw [hG]; exact KI_mono hk hJ) (by rw [hG]; exact hT.KO KI_MO hJ) hi (hT.ho hs hi (by decide) (by decide))
  rw [hG] at h
  refine h.weaken (Nat.le_refl _) (Nat.le_refl _) (fun v G' n' u' hp => ?_) (fun _ _ _ _ _ h => h)
  obtain ⟨r, e1, e2, pv, τ', q', e3, e4, e5, e6⟩ := hp
  obtain ⟨f1, f2, f3, f4⟩ := hT.add KI_MO hs hJ hz hlt hk e3 e4 e5
  exact ⟨r, e1, e2, pv, τ', q', f1, f2, f3, f4, e6⟩
theorem st_isEmpty {Y : YT} {l : Launch} {t n u : Nat} {τ : TS} {q : TQ} {M : MP} {G J : AH} {K : AH → Nat → Int → Prop} {c : Option Nat} (hT : TMI K Y t c J τ q M) (hs : sub (TZ t τ) G) (i : Nat) (hi : G i = some (.inr (47, [.ref t]))) : GM Y l yJ35_isEmpty (ws_ yJ35_isEmpty cJ35_isEmpty 1 (some FieldType.boolean)) 2 40 [.ref i] G n u 0 0 (pI (fun r G' n' u' => b2i (decide (nI M.length = 0)) = r ∧ G = G' ∧ n = n' ∧ u = u')) noX := by
  obtain ⟨hG, hKS⟩ := hT.g hs
  have h := met_J35_isEmpty (l := l) (n := n) (u := u) (B := G) hT.1 i hi (hT.ho hs hi (by decide) (by decide))
  rw [hG, hT.2.1.sz] at h; exact h
theorem st_clear {Y : YT} {l : Launch} {t n u : Nat} {τ : TS} {q : TQ} {M : MP} {G J : AH} {K : AH → Nat → Int → Prop} {c : Option Nat} (hT : TMI K Y t c J τ q M) (hs : sub (TZ t τ) G) (i : Nat) (hi : G i = some (.inr (47, [.ref t]))) : GM Y l yJ35_clear (ws_ yJ35_clear cJ35_clear 1 none) 1 20 [.ref i] G n u 0 0 (pV (fun G' n' u' => ∃ τ', TMI K Y t c J τ' q [] ∧ sub (TZ t τ') G' ∧ FR (fun a => a = t) n G G' ∧ (∀ a, TD t τ' a → a = t) ∧ n = n' ∧ u = u')) noX := by
  obtain ⟨hG, hKS⟩ := hT.g hs
  have h := met_J35_clear (l := l) (n := n) (u := u) (B := G) hT.1 (q := q) (LO := ZL) (HI := ZH) i hi (hT.ho hs hi (by decide) (by decide))
  rw [hG] at h
  refine h.weaken (Nat.le_refl _) (Nat.le_refl _) (fun v G' n' u' hp => ?_) (fun _ _ _ _ _ h => h)
  obtain ⟨e1, τ', e3, e4, e5, e6, e7⟩ := hp
  obtain ⟨f1, f2, f3, f4⟩ := hT.clr (n := n) hs e3 e4 e5 e6
  exact ⟨e1, τ', f1, f2, f3, f4, e7⟩
/-- what an iterator has yet to give -/
def IR (τ : TS) (q : TQ) (M : MP) (nx : Option Nat) (R : MP) : Prop := (∃ P, M = P ++ R) ∧ match nx with
  | none => R = []
  | some s => τ.2.2.2 s = true ∧ ∃ k v R', R = (q.1 s, k, v) :: R' ∧ τ.1 0 s = some k
theorem NX.ir {τ : TS} {q : TQ} {M P R : MP} {LO HI x : Int} {nx : Option Nat} (hM : TM τ q LO HI M) (h : NX τ q x nx) (hP : M = P ++ R) (h1 : ∀ e, e ∈ P → e.1 ≤ x) (h2 : ∀ e, e ∈ R → x < e.1) : IR τ q M nx R := by
  refine ⟨⟨P, hP⟩, ?_⟩
  cases nx with
  | none =>
    cases R with
    | nil => rfl
    | cons e R' =>
      obtain ⟨x', k, v⟩ := e
      obtain ⟨a, a1, a2, -⟩ := (hM.mem x' k v).mp (by rw [hP]; simp)
      have h3 := h a a1
      have h4 := h2 (x', k, v) (by simp)
      simp only at h4; omega
  | some s =>
    obtain ⟨s1, s2, s3⟩ := h
    refine ⟨s1, ?_⟩
    obtain ⟨k, k1, k2⟩ := hM.at_ s1
    have hs : (q.1 s, k, τ.1 1 s) ∈ R := by
      rw [hP] at k2
      rcases List.mem_append.mp k2 with q1 | q1
      · have := h1 _ q1; simp only at this; omega
      · exact q1
    cases R with
    | nil => cases hs
    | cons e R' =>
      obtain ⟨x', k', v'⟩ := e
      obtain ⟨a, a1, a2, a3, a4⟩ := (hM.mem x' k' v').mp (by rw [hP]; simp)
      have h4 := h2 (x', k', v') (by simp)
      have h5 := s3 a a1 (by rw [a2]; exact h4)
      have hso := hM.so
      rw [hP] at hso
      have h6 := (List.pairwise_append.mp hso).2.1
      rcases List.mem_cons.mp hs with q1 | q1
      · refine ⟨k', v', R', ?_, ?_⟩
        · rw [Prod.mk.injEq] at q1; rw [q1.1]
        · rw [Prod.mk.injEq, Prod.mk.injEq] at q1; rw [← q1.2.1]; exact k1
      · have := (List.pairwise_cons.mp h6).1 _ q1
        simp only at this; omega
theorem NX.ir0 {τ : TS} {q : TQ} {M : MP} {nx : Option Nat} (hM : TM τ q ZL ZH M) (h : NX τ q ZL nx) : IR τ q M nx M := h.ir hM (P := []) rfl (fun e he => nomatch he) (fun e he => by
  obtain ⟨x, k, v⟩ := e
  obtain ⟨a, a1, a2, -⟩ := (hM.mem x k v).mp he
  have := hM.tw.h0 a a1
  simp only; omega)
theorem NX.irS {τ : TS} {q : TQ} {M : MP} {s : Nat} {R' : MP} {k : Nat} {v : Option Nat} {nx : Option Nat} (hM : TM τ q ZL ZH M) (h0 : IR τ q M (some s) ((q.1 s, k, v) :: R')) (h : NX τ q (q.1 s) nx) : IR τ q M nx R' := by
  obtain ⟨⟨P, hP⟩, -⟩ := h0
  have hso := hM.so
  rw [hP] at hso
  have h6 := List.pairwise_append.mp hso
  refine h.ir hM (P := P ++ [(q.1 s, k, v)]) (by rw [hP]; simp) (fun e he => ?_) (fun e he => (List.pairwise_cons.mp h6.2.1).1 _ he)
  rcases List.mem_append.mp he with q1 | q1
  · have := h6.2.2 e q1 _ (List.mem_cons_self); simp only at this; omega
  · simp at q1; rw [q1]; exact Int.le_refl _
theorem st_iterator {Y : YT} {l : Launch} {t n u : Nat} {τ : TS} {q : TQ} {M : MP} {G J : AH} {K : AH → Nat → Int → Prop} {c : Option Nat} (hT : TMI K Y t c J τ q M) (hs : sub (TZ t τ) G) (hlt : ∀ a e, G a = some e → a < n) (i : Nat) (hi : G i = some (.inr (47, [.ref t]))) : GM Y l yJ35_iterator (ws_ yJ35_iterator cJ35_iterator 1 (some (FieldType.object "java/util/Iterator"))) 5 108 [.ref i] G n u 2 5 (pQ (fun r G' n' u' => ∃ it τ' nx, some it = r ∧ TMI K Y t c J τ' q M ∧ sub (TZ t τ') G' ∧ IR τ' q M nx M ∧ G' it = some (itE t nx none (τ'.2.2.1 1)) ∧ n ≤ it ∧ FR (fun a => a = t) n G G' ∧ (∀ a, TD t τ' a ↔ TD t τ a))) noX := by
  obtain ⟨hG, hKS⟩ := hT.g hs
  have h := met_J35_iterator (l := l) (n := n) (u := u) (B := G) hT.1 i hT.2.1 hKS hi (hT.ho hs hi (by decide) (by decide))
  rw [hG] at h
  refine h.weaken (Nat.le_refl _) (Nat.le_refl _) (fun v G' n' u' hp => ?_) (fun _ _ _ _ _ h => h)
  obtain ⟨r, e1, it, τ', B', ks, nx, e2, ⟨k1, k2, k3, k4, k5, k6⟩, e4, e5, e6, e7⟩ := hp
  have hTM := hT.2.1.h7 k1 k2
  have hD : ∀ a, TD t τ' a ↔ TD t τ a := fun a => by unfold TD; rw [k1]
  have hks : KSI t τ' B' := fun a ha => by rw [k3] at ha; cases ha; exact ⟨k4, k5.1, by rw [k1]; exact k5.2⟩
  have hNX : NX τ' q ZL nx := by
    unfold NX at e4 ⊢
    rw [k1]; exact e4
  have hitD : ¬ TD t τ' it := fun hd => by
    obtain ⟨j, gs, b1, b2⟩ := TZ_D hT.2.2.2.1 hT.1.1 hs ((hD it).mp hd)
    have := hlt _ _ b1; omega
  refine ⟨r, e1, it, τ', nx, e2, ⟨⟨by rw [k1]; exact hT.1.1, hT.1.2.1, fun a ha => hT.1.2.2 a (by rw [k1] at ha; exact ha)⟩, hTM, (k2 6 0 (by decide)).trans hT.2.2.1, fun a ha => ⟨(hks a ha).2.1, (hks a ha).2.2⟩, fun a k ha hk => hT.2.2.2.2.1 a k (by rw [k1] at ha; exact ha) ((k2 0 a (by omega)).symm.trans hk), fun a ha => hT.2.2.2.2.2 a ((hD a).mp ha)⟩, TZ_of e7 hks, hNX.ir0 hTM, ?_, e6, fun a ha hd => ?_, hD⟩
  · rw [← e7]
    refine (tG_b (fun q => hitD (.inl q)) ?_).trans e5
    cases e : τ'.2.2.2 it with
    | false => rfl
    | true => exact absurd (.inr e) hitD
  · rw [← e7]
    cases e : τ.2.2.2 a with
    | false => exact (tG_b hd (by rw [k1]; exact e)).trans (k6 a ha)
    | true =>
      rw [tG_n (by rw [k1]; exact e) (by rw [k1]; exact hT.1.1)]
      have h9 := hs a _ (TZ_n hT.2.2.2.1 hT.1.1 e)
      rw [h9]
      unfold tNl
      rw [k2 0 a (by omega), k2 1 a (by omega), k2 2 a (by omega), k2 3 a (by omega), k2 4 a (by omega), k1]
theorem it_hasNext {Y : YT} {l : Launch} {t n u : Nat} {τ : TS} {q : TQ} {M : MP} {G J : AH} {K : AH → Nat → Int → Prop} {c : Option Nat} (hT : TMI K Y t c J τ q M) (hs : sub (TZ t τ) G) (it : Nat) {nx lr : Option Nat} {R : MP} (hR : IR τ q M nx R) (hi : G it = some (itE t nx lr (τ.2.2.1 1))) : GM Y l yJ39_hasNext (ws_ yJ39_hasNext cJ39_hasNext 1 (some FieldType.boolean)) 0 0 [.ref it] G n u 0 0 (pI (fun r G' n' u' => b2i (!R.isEmpty) = r ∧ G = G' ∧ n = n' ∧ u = u')) noX := by
  obtain ⟨hG, hKS⟩ := hT.g hs
  have h := met_J39_hasNext (l := l) (n := n) (u := u) (B := G) hT.1 it hi (hT.ho hs hi (by decide) (by decide))
  rw [hG] at h
  have e : nx.isSome = !R.isEmpty := by
    cases nx with
    | none => rw [hR.2]; rfl
    | some s => obtain ⟨-, -, k, v, R', r1, -⟩ := hR; rw [r1]; rfl
  rw [e] at h; exact h
theorem it_next {Y : YT} {l : Launch} {t n u : Nat} {τ : TS} {q : TQ} {M : MP} {G J : AH} {K : AH → Nat → Int → Prop} {c : Option Nat} (hT : TMI K Y t c J τ q M) (hs : sub (TZ t τ) G) (it : Nat) {nx lr : Option Nat} {X : Int} {k : Nat} {v : Option Nat} {R : MP} (hR : IR τ q M nx ((X, k, v) :: R)) (hi : G it = some (itE t nx lr (τ.2.2.1 1))) (hz : yz Y ≤ it) : GM Y l yJ41_next (ws_ yJ41_next cJ41_next 1 (some (FieldType.object "java/lang/Object"))) 2 43 [.ref it] G n u 0 0 (pQ (fun r G' n' u' => some k = r ∧ (∃ nx' lr', IR τ q M nx' R ∧ G' it = some (itE t nx' lr' (τ.2.2.1 1))) ∧ sub (TZ t τ) G' ∧ FR (fun a => a = it) n G G' ∧ n = n' ∧ u = u')) noX := by
  obtain ⟨hG, hKS⟩ := hT.g hs
  have ho := hT.ho hs hi (by decide) (by decide)
  cases nx with
  | none => exact absurd hR.2 (by simp)
  | some x =>
    have hR0 := hR
    obtain ⟨-, hx, k', v', R', r1, r2⟩ := hR
    rw [List.cons.injEq, Prod.mk.injEq, Prod.mk.injEq] at r1
    obtain ⟨⟨rfl, rfl, rfl⟩, rfl⟩ := r1
    have h := met_J41_next (l := l) (n := n) (u := u) (B := G) hT.1 it hT.2.1 hx r2 hi ho hz
    rw [hG] at h
    refine h.weaken (Nat.le_refl _) (Nat.le_refl _) (fun v G' n' u' hp => ?_) (fun _ _ _ _ _ h => h)
    obtain ⟨r, e1, e2, nx', e3, e4, e5⟩ := hp
    have hG2 : gU G it (itE t nx' (some x) (τ.2.2.1 1)) = G' := by
      rw [← e4]
      funext a
      unfold tG
      by_cases h1 : a = t
      · rw [if_pos h1, gU_n _ (by rw [h1]; exact fun q => ho.1 q.symm), h1]; exact hs _ _ (TZ_h hT.2.2.2.1)
      · rw [if_neg h1]
        by_cases h2 : τ.2.2.2 a = true
        · rw [if_pos h2, gU_n _ (fun q => by rw [q, ho.2] at h2; cases h2)]; exact hs _ _ (TZ_n hT.2.2.2.1 hT.1.1 h2)
        · rw [if_neg h2]
    refine ⟨r, e1, e2, ⟨nx', _, NX.irS hT.2.1 hR0 e3, by rw [← hG2]; exact gU_s _ _ _⟩, ?_, ?_, e5⟩
    · rw [← hG2]; exact sub_away hs (TZ_none hT.2.2.2.1 hT.1.1 hs hi (by decide) (by decide) (by decide))
    · rw [← hG2]; exact FR.put FR.refl (.inl rfl)
