set_option maxRecDepth 100000
/-! COMPONENT, 3: leaf classes -/
set_option maxHeartbeats 1000000 in
theorem met_X12_strength_X12 {Y : YT} {l : Launch} {n u : Nat} {G : AH} (a_ : Nat) {ix rk nd of_ : Int32} {nm : Nat} (h1 : G a_ = some (.inr (11, [.int ix, .ref nm, .int rk, .int nd, .int of_]))) : GM Y l yX12_strength (ws_ yX12_strength cX12_strength 1 (some FieldType.int)) 0 0 [.ref a_] G n u 0 0 (pI (fun r G' n' u' => rk = r ∧ G = G' ∧ n = n' ∧ u = u')) noX := by
  refine GM.intro (own := RX12) rfl (by decide +kernel) (Nat.le_of_ble_eq_true rfl) ?_
  intro p e s m args below meth c R Q hC hr hnm hF hL hE
  have hE1 := hE.1
  have hE2 := hE.2.1
  have hnz : yz Y ≤ n := by have := hC.z; have := hC.n; omega
  show V Y p l e R s m args below meth c 1 n u G n u Q 0 [(0, .ref a_)] []
  refine V.lts (fun hlt => ?_)
  have hl_a_ : a_ < n := hlt _ _ h1
  refine g_aload_n hC dX12_strength_0 rfl 0 rfl ?_
  refine g_get (v := .int rk) hC kc_X12 h1 2 (by decide) q1423 rfl dX12_strength_1 ?_
  refine g_iret hC hr rfl ⟨_, rfl, ?_⟩ (by omega) (by omega) hE dX12_strength_4
  exact ⟨rfl, rfl, rfl, rfl⟩
set_option maxHeartbeats 1000000 in
theorem met_X12_strength_X13 {Y : YT} {l : Launch} {n u : Nat} {G : AH} (a_ : Nat) {ix rk nd of_ : Int32} {nm : Nat} (h1 : G a_ = some (.inr (12, [.int ix, .ref nm, .int rk, .int nd, .int of_]))) : GM Y l yX12_strength (ws_ yX12_strength cX12_strength 1 (some FieldType.int)) 0 0 [.ref a_] G n u 0 0 (pI (fun r G' n' u' => rk = r ∧ G = G' ∧ n = n' ∧ u = u')) noX := by
  refine GM.intro (own := RX12) rfl (by decide +kernel) (Nat.le_of_ble_eq_true rfl) ?_
  intro p e s m args below meth c R Q hC hr hnm hF hL hE
  have hE1 := hE.1
  have hE2 := hE.2.1
  have hnz : yz Y ≤ n := by have := hC.z; have := hC.n; omega
  show V Y p l e R s m args below meth c 1 n u G n u Q 0 [(0, .ref a_)] []
  refine V.lts (fun hlt => ?_)
  have hl_a_ : a_ < n := hlt _ _ h1
  refine g_aload_n hC dX12_strength_0 rfl 0 rfl ?_
  refine g_get (v := .int rk) hC kc_X13 h1 2 (by decide) q1423 rfl dX12_strength_1 ?_
  refine g_iret hC hr rfl ⟨_, rfl, ?_⟩ (by omega) (by omega) hE dX12_strength_4
  exact ⟨rfl, rfl, rfl, rfl⟩
set_option maxHeartbeats 1000000 in
theorem met_X12_strength_X14 {Y : YT} {l : Launch} {n u : Nat} {G : AH} (a_ : Nat) {ix rk nd of_ : Int32} {nm : Nat} (h1 : G a_ = some (.inr (13, [.int ix, .ref nm, .int rk, .int nd, .int of_]))) : GM Y l yX12_strength (ws_ yX12_strength cX12_strength 1 (some FieldType.int)) 0 0 [.ref a_] G n u 0 0 (pI (fun r G' n' u' => rk = r ∧ G = G' ∧ n = n' ∧ u = u')) noX := by
  refine GM.intro (own := RX12) rfl (by decide +kernel) (Nat.le_of_ble_eq_true rfl) ?_
  intro p e s m args below meth c R Q hC hr hnm hF hL hE
  have hE1 := hE.1
  have hE2 := hE.2.1
  have hnz : yz Y ≤ n := by have := hC.z; have := hC.n; omega
  show V Y p l e R s m args below meth c 1 n u G n u Q 0 [(0, .ref a_)] []
  refine V.lts (fun hlt => ?_)
  have hl_a_ : a_ < n := hlt _ _ h1
  refine g_aload_n hC dX12_strength_0 rfl 0 rfl ?_
  refine g_get (v := .int rk) hC kc_X14 h1 2 (by decide) q1423 rfl dX12_strength_1 ?_
  refine g_iret hC hr rfl ⟨_, rfl, ?_⟩ (by omega) (by omega) hE dX12_strength_4
  exact ⟨rfl, rfl, rfl, rfl⟩
set_option maxHeartbeats 1000000 in
theorem met_X12_strength_X15 {Y : YT} {l : Launch} {n u : Nat} {G : AH} (a_ : Nat) {ix rk nd of_ : Int32} {nm : Nat} (h1 : G a_ = some (.inr (14, [.int ix, .ref nm, .int rk, .int nd, .int of_]))) : GM Y l yX12_strength (ws_ yX12_strength cX12_strength 1 (some FieldType.int)) 0 0 [.ref a_] G n u 0 0 (pI (fun r G' n' u' => rk = r ∧ G = G' ∧ n = n' ∧ u = u')) noX := by
  refine GM.intro (own := RX12) rfl (by decide +kernel) (Nat.le_of_ble_eq_true rfl) ?_
  intro p e s m args below meth c R Q hC hr hnm hF hL hE
  have hE1 := hE.1
  have hE2 := hE.2.1
  have hnz : yz Y ≤ n := by have := hC.z; have := hC.n; omega
  show V Y p l e R s m args below meth c 1 n u G n u Q 0 [(0, .ref a_)] []
  refine V.lts (fun hlt => ?_)
  have hl_a_ : a_ < n := hlt _ _ h1
  refine g_aload_n hC dX12_strength_0 rfl 0 rfl ?_
  refine g_get (v := .int rk) hC kc_X15 h1 2 (by decide) q1423 rfl dX12_strength_1 ?_
  refine g_iret hC hr rfl ⟨_, rfl, ?_⟩ (by omega) (by omega) hE dX12_strength_4
  exact ⟨rfl, rfl, rfl, rfl⟩
set_option maxHeartbeats 1000000 in
theorem met_X12_strength_X16 {Y : YT} {l : Launch} {n u : Nat} {G : AH} (a_ : Nat) {ix rk nd of_ : Int32} {nm : Nat} (h1 : G a_ = some (.inr (15, [.int ix, .ref nm, .int rk, .int nd, .int of_]))) : GM Y l yX12_strength (ws_ yX12_strength cX12_strength 1 (some FieldType.int)) 0 0 [.ref a_] G n u 0 0 (pI (fun r G' n' u' => rk = r ∧ G = G' ∧ n = n' ∧ u = u')) noX := by
  refine GM.intro (own := RX12) rfl (by decide +kernel) (Nat.le_of_ble_eq_true rfl) ?_
  intro p e s m args below meth c R Q hC hr hnm hF hL hE
  have hE1 := hE.1
  have hE2 := hE.2.1
  have hnz : yz Y ≤ n := by have := hC.z; have := hC.n; omega
  show V Y p l e R s m args below meth c 1 n u G n u Q 0 [(0, .ref a_)] []
  refine V.lts (fun hlt => ?_)
  have hl_a_ : a_ < n := hlt _ _ h1
  refine g_aload_n hC dX12_strength_0 rfl 0 rfl ?_
  refine g_get (v := .int rk) hC kc_X16 h1 2 (by decide) q1423 rfl dX12_strength_1 ?_
  refine g_iret hC hr rfl ⟨_, rfl, ?_⟩ (by omega) (by omega) hE dX12_strength_4
  exact ⟨rfl, rfl, rfl, rfl⟩
set_option maxHeartbeats 1000000 in
theorem met_X13_many_X13 {Y : YT} {l : Launch} {n u : Nat} {G : AH} (a_ : Nat) {ix rk nd of_ : Int32} {nm : Nat} (h1 : G a_ = some (.inr (12, [.int ix, .ref nm, .int rk, .int nd, .int of_]))) : GM Y l yX13_many (ws_ yX13_many cX13_many 1 (some FieldType.int)) 1 20 [.ref a_] G n u 0 0 (pI (fun r G' n' u' => (bitC of_) = r ∧ G = G' ∧ n = n' ∧ u = u')) noX := by
  refine GM.intro (own := RX13) rfl (by decide +kernel) (Nat.le_of_ble_eq_true rfl) ?_
  intro p e s m args below meth c R Q hC hr hnm hF hL hE
  have hE1 := hE.1
  have hE2 := hE.2.1
  have hnz : yz Y ≤ n := by have := hC.z; have := hC.n; omega
  show V Y p l e R s m args below meth c 1 n u G n u Q 0 [(0, .ref a_)] []
  refine V.lts (fun hlt => ?_)
  have hl_a_ : a_ < n := hlt _ _ h1
  refine g_aload_n hC dX13_many_0 rfl 0 rfl ?_
  refine g_getS (v := .int of_) hC kc_X13 h1 4 (by decide) q1431 q1432 rfl dX13_many_1 ?_
  refine V.lts (fun lc_1 => ?_)
  refine g_calli0 hC (g_runS hC (met_J12_bitCount of_ ) (lw_S q734 q735 q106 q736) md_J12_bitCount dX13_many_4 rfl ⟨by omega, by omega⟩ (by omega) (by omega) rfl (Nat.le_of_ble_eq_true rfl)) (fun r_2 G_2 n_2 u_2 hp_2 hn_2 hm_2 hu_2 => ?_)
  obtain ⟨rfl, rfl, rfl, rfl⟩ := hp_2
  refine g_iret hC hr rfl ⟨_, rfl, ?_⟩ (by omega) (by omega) hE dX13_many_7
  exact ⟨rfl, rfl, rfl, rfl⟩
set_option maxHeartbeats 1000000 in
theorem met_X13_many_X15 {Y : YT} {l : Launch} {n u : Nat} {G : AH} (a_ : Nat) {ix rk nd of_ : Int32} {nm : Nat} (h1 : G a_ = some (.inr (14, [.int ix, .ref nm, .int rk, .int nd, .int of_]))) : GM Y l yX13_many (ws_ yX13_many cX13_many 1 (some FieldType.int)) 1 20 [.ref a_] G n u 0 0 (pI (fun r G' n' u' => (bitC of_) = r ∧ G = G' ∧ n = n' ∧ u = u')) noX := by
  refine GM.intro (own := RX13) rfl (by decide +kernel) (Nat.le_of_ble_eq_true rfl) ?_
  intro p e s m args below meth c R Q hC hr hnm hF hL hE
  have hE1 := hE.1
  have hE2 := hE.2.1
  have hnz : yz Y ≤ n := by have := hC.z; have := hC.n; omega
  show V Y p l e R s m args below meth c 1 n u G n u Q 0 [(0, .ref a_)] []
  refine V.lts (fun hlt => ?_)
  have hl_a_ : a_ < n := hlt _ _ h1
  refine g_aload_n hC dX13_many_0 rfl 0 rfl ?_
  refine g_getS (v := .int of_) hC kc_X15 h1 4 (by decide) q1431 q1432 rfl dX13_many_1 ?_
  refine V.lts (fun lc_1 => ?_)
  refine g_calli0 hC (g_runS hC (met_J12_bitCount of_ ) (lw_S q734 q735 q106 q736) md_J12_bitCount dX13_many_4 rfl ⟨by omega, by omega⟩ (by omega) (by omega) rfl (Nat.le_of_ble_eq_true rfl)) (fun r_2 G_2 n_2 u_2 hp_2 hn_2 hm_2 hu_2 => ?_)
  obtain ⟨rfl, rfl, rfl, rfl⟩ := hp_2
  refine g_iret hC hr rfl ⟨_, rfl, ?_⟩ (by omega) (by omega) hE dX13_many_7
  exact ⟨rfl, rfl, rfl, rfl⟩
set_option maxHeartbeats 1000000 in
theorem met_X13_strength_X13 {Y : YT} {l : Launch} {n u : Nat} {G : AH} (a_ : Nat) {ix rk nd of_ : Int32} {nm : Nat} (h1 : G a_ = some (.inr (12, [.int ix, .ref nm, .int rk, .int nd, .int of_]))) : GM Y l yX13_strength (ws_ yX13_strength cX13_strength 1 (some FieldType.int)) 2 40 [.ref a_] G n u 0 0 (pI (fun r G' n' u' => (rk + bitC of_) = r ∧ G = G' ∧ n = n' ∧ u = u')) noX := by
  refine GM.intro (own := RX13) rfl (by decide +kernel) (Nat.le_of_ble_eq_true rfl) ?_
  intro p e s m args below meth c R Q hC hr hnm hF hL hE
  have hE1 := hE.1
  have hE2 := hE.2.1
  have hnz : yz Y ≤ n := by have := hC.z; have := hC.n; omega
  show V Y p l e R s m args below meth c 1 n u G n u Q 0 [(0, .ref a_)] []
  refine V.lts (fun hlt => ?_)
  have hl_a_ : a_ < n := hlt _ _ h1
  refine g_aload_n hC dX13_strength_0 rfl 0 rfl ?_
  refine V.lts (fun lc_1 => ?_)
  refine g_calli0 hC (g_runSU hC (met_X12_strength_X13 (G := G) a_ h1) kc_X13 h1 (lw_SU q1027 q3992 q1028 q753 q118 q754) ⟨by decide, by decide +kernel⟩ dX13_strength_1 rfl ⟨by omega, by omega⟩ (by omega) (by omega) rfl (Nat.le_of_ble_eq_true rfl)) (fun r_2 G_2 n_2 u_2 hp_2 hn_2 hm_2 hu_2 => ?_)
  obtain ⟨rfl, rfl, rfl, rfl⟩ := hp_2
  refine g_aload_n hC dX13_strength_4 rfl 0 rfl ?_
  refine V.lts (fun lc_3 => ?_)
  refine g_calli0 hC (g_runV hC (met_X13_many_X13 (G := G) a_ h1) kc_X13 h1 (lw_V q1029 q729 q730 q119 q733) rfl md_X13_many dX13_strength_5 rfl ⟨by omega, by omega⟩ (by omega) (by omega) rfl (Nat.le_of_ble_eq_true rfl)) (fun r_4 G_4 n_4 u_4 hp_4 hn_4 hm_4 hu_4 => ?_)
  obtain ⟨rfl, rfl, rfl, rfl⟩ := hp_4
  refine g_iadd hC dX13_strength_8 ?_
  refine g_iret hC hr rfl ⟨_, rfl, ?_⟩ (by omega) (by omega) hE dX13_strength_9
  exact ⟨rfl, rfl, rfl, rfl⟩
set_option maxHeartbeats 1000000 in
theorem met_X13_strength_X15 {Y : YT} {l : Launch} {n u : Nat} {G : AH} (a_ : Nat) {ix rk nd of_ : Int32} {nm : Nat} (h1 : G a_ = some (.inr (14, [.int ix, .ref nm, .int rk, .int nd, .int of_]))) : GM Y l yX13_strength (ws_ yX13_strength cX13_strength 1 (some FieldType.int)) 2 40 [.ref a_] G n u 0 0 (pI (fun r G' n' u' => (rk + bitC of_) = r ∧ G = G' ∧ n = n' ∧ u = u')) noX := by
  refine GM.intro (own := RX13) rfl (by decide +kernel) (Nat.le_of_ble_eq_true rfl) ?_
  intro p e s m args below meth c R Q hC hr hnm hF hL hE
  have hE1 := hE.1
  have hE2 := hE.2.1
  have hnz : yz Y ≤ n := by have := hC.z; have := hC.n; omega
  show V Y p l e R s m args below meth c 1 n u G n u Q 0 [(0, .ref a_)] []
  refine V.lts (fun hlt => ?_)
  have hl_a_ : a_ < n := hlt _ _ h1
  refine g_aload_n hC dX13_strength_0 rfl 0 rfl ?_
  refine V.lts (fun lc_1 => ?_)
  refine g_calli0 hC (g_runSU hC (met_X12_strength_X15 (G := G) a_ h1) kc_X15 h1 (lw_SU q1027 q3992 q1028 q753 q118 q754) ⟨by decide, by decide +kernel⟩ dX13_strength_1 rfl ⟨by omega, by omega⟩ (by omega) (by omega) rfl (Nat.le_of_ble_eq_true rfl)) (fun r_2 G_2 n_2 u_2 hp_2 hn_2 hm_2 hu_2 => ?_)
  obtain ⟨rfl, rfl, rfl, rfl⟩ := hp_2
  refine g_aload_n hC dX13_strength_4 rfl 0 rfl ?_
  refine V.lts (fun lc_3 => ?_)
  refine g_calli0 hC (g_runU (n := 0) (owner := "PluginChains$Eager") (x := ⟨"PluginChains$Eager", "many", "()I"⟩) hC (met_X13_many_X15 (G := G) a_ h1) kc_X15 h1 (lw_U q1029 q731 q732 q729 q119 q733) rfl ⟨by decide, by decide, by decide +kernel⟩ dX13_strength_5 rfl ⟨by omega, by omega⟩ (by omega) (by omega) rfl (Nat.le_of_ble_eq_true rfl)) (fun r_4 G_4 n_4 u_4 hp_4 hn_4 hm_4 hu_4 => ?_)
  obtain ⟨rfl, rfl, rfl, rfl⟩ := hp_4
  refine g_iadd hC dX13_strength_8 ?_
  refine g_iret hC hr rfl ⟨_, rfl, ?_⟩ (by omega) (by omega) hE dX13_strength_9
  exact ⟨rfl, rfl, rfl, rfl⟩
set_option maxHeartbeats 1000000 in
theorem met_X14_strength_X14 {Y : YT} {l : Launch} {n u : Nat} {G : AH} (a_ : Nat) {ix rk nd of_ : Int32} {nm : Nat} (h1 : G a_ = some (.inr (13, [.int ix, .ref nm, .int rk, .int nd, .int of_]))) : GM Y l yX14_strength (ws_ yX14_strength cX14_strength 1 (some FieldType.int)) 1 21 [.ref a_] G n u 0 0 (pI (fun r G' n' u' => (imax 5 rk) = r ∧ G = G' ∧ n = n' ∧ u = u')) noX := by
  refine GM.intro (own := RX14) rfl (by decide +kernel) (Nat.le_of_ble_eq_true rfl) ?_
  intro p e s m args below meth c R Q hC hr hnm hF hL hE
  have hE1 := hE.1
  have hE2 := hE.2.1
  have hnz : yz Y ≤ n := by have := hC.z; have := hC.n; omega
  show V Y p l e R s m args below meth c 1 n u G n u Q 0 [(0, .ref a_)] []
  refine V.lts (fun hlt => ?_)
  have hl_a_ : a_ < n := hlt _ _ h1
  refine g_iconst (v := 5) hC dX14_strength_0 rfl ?_
  refine g_aload_n hC dX14_strength_1 rfl 0 rfl ?_
  refine V.lts (fun lc_1 => ?_)
  refine g_calli0 hC (g_runSU hC (met_X12_strength_X14 (G := G) a_ h1) kc_X14 h1 (lw_SU q751 q3992 q752 q753 q118 q754) ⟨by decide, by decide +kernel⟩ dX14_strength_2 rfl ⟨by omega, by omega⟩ (by omega) (by omega) rfl (Nat.le_of_ble_eq_true rfl)) (fun r_2 G_2 n_2 u_2 hp_2 hn_2 hm_2 hu_2 => ?_)
  obtain ⟨rfl, rfl, rfl, rfl⟩ := hp_2
  refine V.lts (fun lc_3 => ?_)
  refine g_calli0 hC (g_runS hC (met_J2_max 5 rk ) (lw_S q755 q756 q88 q757) md_J2_max dX14_strength_5 rfl ⟨by omega, by omega⟩ (by omega) (by omega) rfl (Nat.le_of_ble_eq_true rfl)) (fun r_4 G_4 n_4 u_4 hp_4 hn_4 hm_4 hu_4 => ?_)
  obtain ⟨rfl, rfl, rfl, rfl⟩ := hp_4
  refine g_iret hC hr rfl ⟨_, rfl, ?_⟩ (by omega) (by omega) hE dX14_strength_8
  exact ⟨rfl, rfl, rfl, rfl⟩
set_option maxHeartbeats 1000000 in
theorem met_X14_strength_X16 {Y : YT} {l : Launch} {n u : Nat} {G : AH} (a_ : Nat) {ix rk nd of_ : Int32} {nm : Nat} (h1 : G a_ = some (.inr (15, [.int ix, .ref nm, .int rk, .int nd, .int of_]))) : GM Y l yX14_strength (ws_ yX14_strength cX14_strength 1 (some FieldType.int)) 1 21 [.ref a_] G n u 0 0 (pI (fun r G' n' u' => (imax 5 rk) = r ∧ G = G' ∧ n = n' ∧ u = u')) noX := by
  refine GM.intro (own := RX14) rfl (by decide +kernel) (Nat.le_of_ble_eq_true rfl) ?_
  intro p e s m args below meth c R Q hC hr hnm hF hL hE
  have hE1 := hE.1
  have hE2 := hE.2.1
  have hnz : yz Y ≤ n := by have := hC.z; have := hC.n; omega
  show V Y p l e R s m args below meth c 1 n u G n u Q 0 [(0, .ref a_)] []
  refine V.lts (fun hlt => ?_)
  have hl_a_ : a_ < n := hlt _ _ h1
  refine g_iconst (v := 5) hC dX14_strength_0 rfl ?_
  refine g_aload_n hC dX14_strength_1 rfl 0 rfl ?_
  refine V.lts (fun lc_1 => ?_)
  refine g_calli0 hC (g_runSU hC (met_X12_strength_X16 (G := G) a_ h1) kc_X16 h1 (lw_SU q751 q3992 q752 q753 q118 q754) ⟨by decide, by decide +kernel⟩ dX14_strength_2 rfl ⟨by omega, by omega⟩ (by omega) (by omega) rfl (Nat.le_of_ble_eq_true rfl)) (fun r_2 G_2 n_2 u_2 hp_2 hn_2 hm_2 hu_2 => ?_)
  obtain ⟨rfl, rfl, rfl, rfl⟩ := hp_2
  refine V.lts (fun lc_3 => ?_)
  refine g_calli0 hC (g_runS hC (met_J2_max 5 rk ) (lw_S q755 q756 q88 q757) md_J2_max dX14_strength_5 rfl ⟨by omega, by omega⟩ (by omega) (by omega) rfl (Nat.le_of_ble_eq_true rfl)) (fun r_4 G_4 n_4 u_4 hp_4 hn_4 hm_4 hu_4 => ?_)
  obtain ⟨rfl, rfl, rfl, rfl⟩ := hp_4
  refine g_iret hC hr rfl ⟨_, rfl, ?_⟩ (by omega) (by omega) hE dX14_strength_8
  exact ⟨rfl, rfl, rfl, rfl⟩
set_option maxHeartbeats 1000000 in
theorem met_X15_strength_X15 {Y : YT} {l : Launch} {n u : Nat} {G : AH} (a_ : Nat) {ix rk nd of_ : Int32} {nm : Nat} (h1 : G a_ = some (.inr (14, [.int ix, .ref nm, .int rk, .int nd, .int of_]))) : GM Y l yX15_strength (ws_ yX15_strength cX15_strength 1 (some FieldType.int)) 3 60 [.ref a_] G n u 0 0 (pI (fun r G' n' u' => ((rk + bitC of_) * 2) = r ∧ G = G' ∧ n = n' ∧ u = u')) noX := by
  refine GM.intro (own := RX15) rfl (by decide +kernel) (Nat.le_of_ble_eq_true rfl) ?_
  intro p e s m args below meth c R Q hC hr hnm hF hL hE
  have hE1 := hE.1
  have hE2 := hE.2.1
  have hnz : yz Y ≤ n := by have := hC.z; have := hC.n; omega
  show V Y p l e R s m args below meth c 1 n u G n u Q 0 [(0, .ref a_)] []
  refine V.lts (fun hlt => ?_)
  have hl_a_ : a_ < n := hlt _ _ h1
  refine g_aload_n hC dX15_strength_0 rfl 0 rfl ?_
  refine V.lts (fun lc_1 => ?_)
  refine g_calli0 hC (g_runSU hC (met_X13_strength_X15 (G := G) a_ h1) kc_X15 h1 (lw_SU q1032 q4003 q1033 q1025 q119 q1026) ⟨by decide, by decide +kernel⟩ dX15_strength_1 rfl ⟨by omega, by omega⟩ (by omega) (by omega) rfl (Nat.le_of_ble_eq_true rfl)) (fun r_2 G_2 n_2 u_2 hp_2 hn_2 hm_2 hu_2 => ?_)
  obtain ⟨rfl, rfl, rfl, rfl⟩ := hp_2
  refine g_iconst (v := 2) hC dX15_strength_4 rfl ?_
  refine g_imul hC dX15_strength_5 ?_
  refine g_iret hC hr rfl ⟨_, rfl, ?_⟩ (by omega) (by omega) hE dX15_strength_6
  exact ⟨rfl, rfl, rfl, rfl⟩
set_option maxHeartbeats 1000000 in
theorem met_X16_strength_X16 {Y : YT} {l : Launch} {n u : Nat} {G : AH} (a_ : Nat) {ix rk nd of_ : Int32} {nm : Nat} (h1 : G a_ = some (.inr (15, [.int ix, .ref nm, .int rk, .int nd, .int of_]))) : GM Y l yX16_strength (ws_ yX16_strength cX16_strength 1 (some FieldType.int)) 2 41 [.ref a_] G n u 0 0 (pI (fun r G' n' u' => (imax 5 rk + 1) = r ∧ G = G' ∧ n = n' ∧ u = u')) noX := by
  refine GM.intro (own := RX16) rfl (by decide +kernel) (Nat.le_of_ble_eq_true rfl) ?_
  intro p e s m args below meth c R Q hC hr hnm hF hL hE
  have hE1 := hE.1
  have hE2 := hE.2.1
  have hnz : yz Y ≤ n := by have := hC.z; have := hC.n; omega
  show V Y p l e R s m args below meth c 1 n u G n u Q 0 [(0, .ref a_)] []
  refine V.lts (fun hlt => ?_)
  have hl_a_ : a_ < n := hlt _ _ h1
  refine g_aload_n hC dX16_strength_0 rfl 0 rfl ?_
  refine V.lts (fun lc_1 => ?_)
  refine g_calli0 hC (g_runSU hC (met_X14_strength_X16 (G := G) a_ h1) kc_X16 h1 (lw_SU q748 q744 q749 q742 q120 q750) ⟨by decide, by decide +kernel⟩ dX16_strength_1 rfl ⟨by omega, by omega⟩ (by omega) (by omega) rfl (Nat.le_of_ble_eq_true rfl)) (fun r_2 G_2 n_2 u_2 hp_2 hn_2 hm_2 hu_2 => ?_)
  obtain ⟨rfl, rfl, rfl, rfl⟩ := hp_2
  refine g_iconst (v := 1) hC dX16_strength_4 rfl ?_
  refine g_iadd hC dX16_strength_5 ?_
  refine g_iret hC hr rfl ⟨_, rfl, ?_⟩ (by omega) (by omega) hE dX16_strength_6
  exact ⟨rfl, rfl, rfl, rfl⟩
set_option maxHeartbeats 1000000 in
theorem met_X12_kind_X12 {Y : YT} {l : Launch} {n u : Nat} {G : AH} (a_ : Nat) {ix rk nd of_ : Int32} {nm : Nat} (h1 : G a_ = some (.inr (11, [.int ix, .ref nm, .int rk, .int nd, .int of_]))) : GM Y l yX12_kind (ws_ yX12_kind cX12_kind 1 (some FieldType.int)) 0 0 [.ref a_] G n u 0 0 (pI (fun r G' n' u' => 0 = r ∧ G = G' ∧ n = n' ∧ u = u')) noX := by
  refine GM.intro (own := RX12) rfl (by decide +kernel) (Nat.le_of_ble_eq_true rfl) ?_
  intro p e s m args below meth c R Q hC hr hnm hF hL hE
  have hE1 := hE.1
  have hE2 := hE.2.1
  have hnz : yz Y ≤ n := by have := hC.z; have := hC.n; omega
  show V Y p l e R s m args below meth c 1 n u G n u Q 0 [(0, .ref a_)] []
  refine V.lts (fun hlt => ?_)
  have hl_a_ : a_ < n := hlt _ _ h1
  refine g_iconst (v := 0) hC dX12_kind_0 rfl ?_
  refine g_iret hC hr rfl ⟨_, rfl, ?_⟩ (by omega) (by omega) hE dX12_kind_1
  exact ⟨rfl, rfl, rfl, rfl⟩
set_option maxHeartbeats 1000000 in
theorem met_X13_kind_X13 {Y : YT} {l : Launch} {n u : Nat} {G : AH} (a_ : Nat) {ix rk nd of_ : Int32} {nm : Nat} (h1 : G a_ = some (.inr (12, [.int ix, .ref nm, .int rk, .int nd, .int of_]))) : GM Y l yX13_kind (ws_ yX13_kind cX13_kind 1 (some FieldType.int)) 0 0 [.ref a_] G n u 0 0 (pI (fun r G' n' u' => 1 = r ∧ G = G' ∧ n = n' ∧ u = u')) noX := by
  refine GM.intro (own := RX13) rfl (by decide +kernel) (Nat.le_of_ble_eq_true rfl) ?_
  intro p e s m args below meth c R Q hC hr hnm hF hL hE
  have hE1 := hE.1
  have hE2 := hE.2.1
  have hnz : yz Y ≤ n := by have := hC.z; have := hC.n; omega
  show V Y p l e R s m args below meth c 1 n u G n u Q 0 [(0, .ref a_)] []
  refine V.lts (fun hlt => ?_)
  have hl_a_ : a_ < n := hlt _ _ h1
  refine g_iconst (v := 1) hC dX13_kind_0 rfl ?_
  refine g_iret hC hr rfl ⟨_, rfl, ?_⟩ (by omega) (by omega) hE dX13_kind_1
  exact ⟨rfl, rfl, rfl, rfl⟩
set_option maxHeartbeats 1000000 in
theorem met_X14_kind_X14 {Y : YT} {l : Launch} {n u : Nat} {G : AH} (a_ : Nat) {ix rk nd of_ : Int32} {nm : Nat} (h1 : G a_ = some (.inr (13, [.int ix, .ref nm, .int rk, .int nd, .int of_]))) : GM Y l yX14_kind (ws_ yX14_kind cX14_kind 1 (some FieldType.int)) 0 0 [.ref a_] G n u 0 0 (pI (fun r G' n' u' => 2 = r ∧ G = G' ∧ n = n' ∧ u = u')) noX := by
  refine GM.intro (own := RX14) rfl (by decide +kernel) (Nat.le_of_ble_eq_true rfl) ?_
  intro p e s m args below meth c R Q hC hr hnm hF hL hE
  have hE1 := hE.1
  have hE2 := hE.2.1
  have hnz : yz Y ≤ n := by have := hC.z; have := hC.n; omega
  show V Y p l e R s m args below meth c 1 n u G n u Q 0 [(0, .ref a_)] []
  refine V.lts (fun hlt => ?_)
  have hl_a_ : a_ < n := hlt _ _ h1
  refine g_iconst (v := 2) hC dX14_kind_0 rfl ?_
  refine g_iret hC hr rfl ⟨_, rfl, ?_⟩ (by omega) (by omega) hE dX14_kind_1
  exact ⟨rfl, rfl, rfl, rfl⟩
set_option maxHeartbeats 1000000 in
theorem met_X15_kind_X15 {Y : YT} {l : Launch} {n u : Nat} {G : AH} (a_ : Nat) {ix rk nd of_ : Int32} {nm : Nat} (h1 : G a_ = some (.inr (14, [.int ix, .ref nm, .int rk, .int nd, .int of_]))) : GM Y l yX15_kind (ws_ yX15_kind cX15_kind 1 (some FieldType.int)) 0 0 [.ref a_] G n u 0 0 (pI (fun r G' n' u' => 3 = r ∧ G = G' ∧ n = n' ∧ u = u')) noX := by
  refine GM.intro (own := RX15) rfl (by decide +kernel) (Nat.le_of_ble_eq_true rfl) ?_
  intro p e s m args below meth c R Q hC hr hnm hF hL hE
  have hE1 := hE.1
  have hE2 := hE.2.1
  have hnz : yz Y ≤ n := by have := hC.z; have := hC.n; omega
  show V Y p l e R s m args below meth c 1 n u G n u Q 0 [(0, .ref a_)] []
  refine V.lts (fun hlt => ?_)
  have hl_a_ : a_ < n := hlt _ _ h1
  refine g_iconst (v := 3) hC dX15_kind_0 rfl ?_
  refine g_iret hC hr rfl ⟨_, rfl, ?_⟩ (by omega) (by omega) hE dX15_kind_1
  exact ⟨rfl, rfl, rfl, rfl⟩
set_option maxHeartbeats 1000000 in
theorem met_X16_kind_X16 {Y : YT} {l : Launch} {n u : Nat} {G : AH} (a_ : Nat) {ix rk nd of_ : Int32} {nm : Nat} (h1 : G a_ = some (.inr (15, [.int ix, .ref nm, .int rk, .int nd, .int of_]))) : GM Y l yX16_kind (ws_ yX16_kind cX16_kind 1 (some FieldType.int)) 0 0 [.ref a_] G n u 0 0 (pI (fun r G' n' u' => 4 = r ∧ G = G' ∧ n = n' ∧ u = u')) noX := by
  refine GM.intro (own := RX16) rfl (by decide +kernel) (Nat.le_of_ble_eq_true rfl) ?_
  intro p e s m args below meth c R Q hC hr hnm hF hL hE
  have hE1 := hE.1
  have hE2 := hE.2.1
  have hnz : yz Y ≤ n := by have := hC.z; have := hC.n; omega
  show V Y p l e R s m args below meth c 1 n u G n u Q 0 [(0, .ref a_)] []
  refine V.lts (fun hlt => ?_)
  have hl_a_ : a_ < n := hlt _ _ h1
  refine g_iconst (v := 4) hC dX16_kind_0 rfl ?_
  refine g_iret hC hr rfl ⟨_, rfl, ?_⟩ (by omega) (by omega) hE dX16_kind_1
  exact ⟨rfl, rfl, rfl, rfl⟩
def strV (kd : Nat) (rk of_ : Int32) : Int32 := match kd with
  | 0 => rk
  | 1 => rk + bitC of_
  | 2 => imax 5 rk
  | 3 => (rk + bitC of_) * 2
  | _ => imax 5 rk + 1
theorem strV_F {σ : MS} {q kd : Nat} (hk : kd ≤ 4) (h : tl σ 1 q = nI kd) : strV kd (tl σ 2 q) (tl σ 4 q) = strF σ q := by
  unfold strF
  rw [h]
  rcases kd with _ | _ | _ | _ | _ | kd
  · rfl
  · rfl
  · rfl
  · exact Int32.mul_comm _ _
  · rfl
  · omega
section PLR
variable {Y : YT} {p : Program} {l : Launch} {e : Env} {R : Room} {s : State} {m : MethodId} {args : Array Value} {below : List Frame} {meth : Method} {c : Code} {nL n0 u0 : Nat} {G : AH} {nn uu : Nat} {Q : State → Prop} {pc : Nat} {L : List (Nat × Value)} {rest : List Value} {cc : ByteArray} {own : String} {hh : List (Nat × Nat × Nat × Nat)}
theorem g_plStr {kd a index : Nat} {ix rk nd of_ : Int32} {b : Nat} (hC : CX Y p s m args meth c cc nL own hh n0 u0) (hk : kd ≤ 4) (hg : G a = some (.inr (11 + kd, [.int ix, .ref b, .int rk, .int nd, .int of_]))) (hlink : Cond.methodLink own index ⟨"PluginChains$Plain", "strength", "()I"⟩ ∈ lw_all) (hdg : decode cc pc = .ok (.invokevirtual index, 3)) (hR : 3 + 1 ≤ R.frames ∧ 8 + (1 + 11) + 61 ≤ R.locals) (hrc : nn + 0 ≤ n0 + R.cells) (hru : uu + 0 ≤ u0 + R.slots) (hW : (rest.map fun v => v.category).sum ≤ 8) :
    GRun Y p l e R s m args below meth c nL n0 u0 G nn uu pc 3 L (.ref a :: rest) rest 0 0 (pI (fun r G' n' u' => strV kd rk of_ = r ∧ G = G' ∧ nn = n' ∧ uu = u')) noX := by
  rcases kd with _ | _ | _ | _ | _ | kd
  · exact g_runV hC (met_X12_strength_X12 a hg) kc_X12 hg (lw_V hlink q753 q4004 q118 q754) rfl md_X12_strength hdg rfl (by omega) (by omega) (by omega) rfl hW
  · exact g_runO (n := 0) (owner := "PluginChains$Plain") (x := ⟨"PluginChains$Plain", "strength", "()I"⟩) hC (met_X13_strength_X13 a hg) kc_X13 hg (lw_O hlink q3992 q753 q4001 q1025 q119 q1026) q754 ⟨by decide, by decide, by decide +kernel⟩ hdg rfl (by omega) (by omega) (by omega) rfl hW
  · exact g_runO (n := 0) (owner := "PluginChains$Plain") (x := ⟨"PluginChains$Plain", "strength", "()I"⟩) hC (met_X14_strength_X14 a hg) kc_X14 hg (lw_O hlink q3992 q753 q4006 q742 q120 q750) q754 ⟨by decide, by decide, by decide +kernel⟩ hdg rfl (by omega) (by omega) (by omega) rfl hW
  · exact g_runO (n := 0) (owner := "PluginChains$Plain") (x := ⟨"PluginChains$Plain", "strength", "()I"⟩) hC (met_X15_strength_X15 a hg) kc_X15 hg (lw_O hlink q3992 q753 q4002 q1030 q121 q1031) q754 ⟨by decide, by decide, by decide +kernel⟩ hdg rfl (by omega) (by omega) (by omega) rfl hW
  · exact g_runO (n := 0) (owner := "PluginChains$Plain") (x := ⟨"PluginChains$Plain", "strength", "()I"⟩) hC (met_X16_strength_X16 a hg) kc_X16 hg (lw_O hlink q3992 q753 q4005 q746 q122 q747) q754 ⟨by decide, by decide, by decide +kernel⟩ hdg rfl (by omega) (by omega) (by omega) rfl hW
  · omega
theorem g_plKind {kd a index : Nat} {ix rk nd of_ : Int32} {b : Nat} (hC : CX Y p s m args meth c cc nL own hh n0 u0) (hk : kd ≤ 4) (hg : G a = some (.inr (11 + kd, [.int ix, .ref b, .int rk, .int nd, .int of_]))) (hlink : Cond.methodLink own index ⟨"PluginChains$Plain", "kind", "()I"⟩ ∈ lw_all) (hdg : decode cc pc = .ok (.invokevirtual index, 3)) (hR : 0 + 1 ≤ R.frames ∧ 8 + (1 + 11) + 1 ≤ R.locals) (hrc : nn + 0 ≤ n0 + R.cells) (hru : uu + 0 ≤ u0 + R.slots) (hW : (rest.map fun v => v.category).sum ≤ 8) :
    GRun Y p l e R s m args below meth c nL n0 u0 G nn uu pc 3 L (.ref a :: rest) rest 0 0 (pI (fun r G' n' u' => nI kd = r ∧ G = G' ∧ nn = n' ∧ uu = u')) noX := by
  rcases kd with _ | _ | _ | _ | _ | kd
  · exact g_runV hC (met_X12_kind_X12 a hg) kc_X12 hg (lw_V hlink q1739 q1740 q118 q1754) rfl md_X12_kind hdg rfl (by omega) (by omega) (by omega) rfl hW
  · exact g_runO (n := 0) (owner := "PluginChains$Plain") (x := ⟨"PluginChains$Plain", "kind", "()I"⟩) hC (met_X13_kind_X13 a hg) kc_X13 hg (lw_O hlink q1741 q1739 q1742 q1743 q119 q1744) q1754 ⟨by decide, by decide, by decide +kernel⟩ hdg rfl (by omega) (by omega) (by omega) rfl hW
  · exact g_runO (n := 0) (owner := "PluginChains$Plain") (x := ⟨"PluginChains$Plain", "kind", "()I"⟩) hC (met_X14_kind_X14 a hg) kc_X14 hg (lw_O hlink q1741 q1739 q1751 q1752 q120 q1753) q1754 ⟨by decide, by decide, by decide +kernel⟩ hdg rfl (by omega) (by omega) (by omega) rfl hW
  · exact g_runO (n := 0) (owner := "PluginChains$Plain") (x := ⟨"PluginChains$Plain", "kind", "()I"⟩) hC (met_X15_kind_X15 a hg) kc_X15 hg (lw_O hlink q1741 q1739 q1745 q1746 q121 q1747) q1754 ⟨by decide, by decide, by decide +kernel⟩ hdg rfl (by omega) (by omega) (by omega) rfl hW
  · exact g_runO (n := 0) (owner := "PluginChains$Plain") (x := ⟨"PluginChains$Plain", "kind", "()I"⟩) hC (met_X16_kind_X16 a hg) kc_X16 hg (lw_O hlink q1741 q1739 q1748 q1749 q122 q1750) q1754 ⟨by decide, by decide, by decide +kernel⟩ hdg rfl (by omega) (by omega) (by omega) rfl hW
  · omega
end PLR
