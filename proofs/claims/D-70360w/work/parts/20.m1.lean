/-! THE MODEL's SMALL METHODS: printed by wip/gen/m1.py -/
set_option maxHeartbeats 4000000 in
set_option maxRecDepth 100000 in
theorem mX1_within (l : Launch) (G : nG) (ad : Nat → Nat) (x : nPic) (fi : Nat → Int32) (fa : Nat → Nat → Int32) (v a b : Int32) : Met l yX1_within (ws_ yX1_within cX1_within 3 (some .boolean)) (mR 0) (nPc G nCl (nK G) ad (mPic G x ad fi fa) [.int v, .int a, .int b]) (nQ G nCl (mP G ad x (fun rv fi' fa' => rv = some (.int (zI (sBt v a b))) ∧ fi = fi' ∧ fa = fa'))) 0 0 (fun q => G.2 ≤ q) := by
  refine nMet RX1 (by decide) rfl (Nat.le_of_ble_eq_true rfl) ?_
  intro p e s m below meth c ls SS hR hK hN hS hl
  obtain ⟨hx, hb, hml, hown, hts⟩ := id SS
  obtain ⟨hr, hlk, hnm⟩ := hR
  generalize s.heap = H at hN hS ⊢
  generalize ([] : List Loc) = locs at hS ⊢
  have hl : lv_has ls 3 [(0, .int v), (1, .int a), (2, .int b)] := hl
  refine lv_iload_n hx hb dX1_within_0 rfl (lv_at hl 0 rfl) ?_
  refine lv_iload_n hx hb dX1_within_1 rfl (lv_at hl 1 rfl) ?_
  refine lv_icmp_lt (tgt := 14) hx hb dX1_within_2 (by decide) (fun c2 => ?_) (fun c2 => ?_)
  · refine lv_iconst (v := 0) hx hb dX1_within_14 (by decide) ?_
    exact W.zret hx hb hr (rfl) (nEnd hN hS ⟨_, _, rfl, rfl, ⟨by congr 2; simp_all [sBt, zI], rfl, rfl⟩⟩) hS.2 dX1_within_15
  · refine lv_iload_n hx hb dX1_within_5 rfl (lv_at hl 0 rfl) ?_
    refine lv_iload_n hx hb dX1_within_6 rfl (lv_at hl 2 rfl) ?_
    refine lv_icmp_gt (tgt := 14) hx hb dX1_within_7 (by decide) (fun c7 => ?_) (fun c7 => ?_)
    · refine lv_iconst (v := 0) hx hb dX1_within_14 (by decide) ?_
      exact W.zret hx hb hr (rfl) (nEnd hN hS ⟨_, _, rfl, rfl, ⟨by congr 2; simp_all [sBt, zI], rfl, rfl⟩⟩) hS.2 dX1_within_15
    · refine lv_iconst (v := 1) hx hb dX1_within_10 (by decide) ?_
      refine lv_goto (tgt := 15) hx hb dX1_within_11 (by decide) ?_
      exact W.zret hx hb hr (rfl) (nEnd hN hS ⟨_, _, rfl, rfl, ⟨by congr 2; simp_all [sBt, zI], rfl, rfl⟩⟩) hS.2 dX1_within_15
set_option maxHeartbeats 4000000 in
set_option maxRecDepth 100000 in
theorem mX1_isSheet (l : Launch) (G : nG) (ad : Nat → Nat) (x : nPic) (fi : Nat → Int32) (fa : Nat → Nat → Int32) (k : Int32) : Met l yX1_isSheet (ws_ yX1_isSheet cX1_isSheet 1 (some .boolean)) (mR 1) (nPc G nCl (nK G) ad (mPic G x ad fi fa) [.int k]) (nQ G nCl (mP G ad x (fun rv fi' fa' => rv = some (.int (zI (sBt k 0 3))) ∧ fi = fi' ∧ fa = fa'))) 0 0 (fun q => G.2 ≤ q) := by
  refine nMet RX1 (by decide) rfl (Nat.le_of_ble_eq_true rfl) ?_
  intro p e s m below meth c ls SS hR hK hN hS hl
  obtain ⟨hx, hb, hml, hown, hts⟩ := id SS
  obtain ⟨hr, hlk, hnm⟩ := hR
  generalize s.heap = H at hN hS ⊢
  generalize ([] : List Loc) = locs at hS ⊢
  have hl : lv_has ls 1 [(0, .int k)] := hl
  refine lv_iload_n hx hb dX1_isSheet_0 rfl (lv_at hl 0 rfl) ?_
  refine lv_iconst (v := 0) hx hb dX1_isSheet_1 (by decide) ?_
  refine lv_iconst (v := 3) hx hb dX1_isSheet_2 (by decide) ?_
  refine n_callS (As := [_, _, _]) SS (nK_o G) hK (mX1_within l G ad x fi fa k 0 3) (va_cwS 3 hts (lw_S q1202 q1203 q61 q1204) rfl rfl rfl (by decide +kernel) ⟨Nat.le_of_ble_eq_true rfl, Nat.le_of_ble_eq_true rfl⟩) hN hS rfl hl.1 rfl (Nat.le_of_ble_eq_true rfl) dX1_isSheet_3 ⟨Nat.le_of_ble_eq_true rfl, Nat.le_of_ble_eq_true rfl⟩ (fun v ad' c' H locs hv hN hS => ?_)
  obtain ⟨_, _, rfl, rfl, rfl, rfl, rfl⟩ := hv
  refine W.eq (g2 := F0 m 6 ls (_ :: _)) rfl ?_
  exact W.zret hx hb hr (zI_nar _) (nEnd hN hS ⟨_, _, rfl, rfl, ⟨rfl, rfl, rfl⟩⟩) hS.2 dX1_isSheet_6
set_option maxHeartbeats 4000000 in
set_option maxRecDepth 100000 in
theorem mX1_isSort (l : Launch) (G : nG) (ad : Nat → Nat) (x : nPic) (fi : Nat → Int32) (fa : Nat → Nat → Int32) (k : Int32) : Met l yX1_isSort (ws_ yX1_isSort cX1_isSort 1 (some .boolean)) (mR 1) (nPc G nCl (nK G) ad (mPic G x ad fi fa) [.int k]) (nQ G nCl (mP G ad x (fun rv fi' fa' => rv = some (.int (zI (sBt k 0 2))) ∧ fi = fi' ∧ fa = fa'))) 0 0 (fun q => G.2 ≤ q) := by
  refine nMet RX1 (by decide) rfl (Nat.le_of_ble_eq_true rfl) ?_
  intro p e s m below meth c ls SS hR hK hN hS hl
  obtain ⟨hx, hb, hml, hown, hts⟩ := id SS
  obtain ⟨hr, hlk, hnm⟩ := hR
  generalize s.heap = H at hN hS ⊢
  generalize ([] : List Loc) = locs at hS ⊢
  have hl : lv_has ls 1 [(0, .int k)] := hl
  refine lv_iload_n hx hb dX1_isSort_0 rfl (lv_at hl 0 rfl) ?_
  refine lv_iconst (v := 0) hx hb dX1_isSort_1 (by decide) ?_
  refine lv_iconst (v := 2) hx hb dX1_isSort_2 (by decide) ?_
  refine n_callS (As := [_, _, _]) SS (nK_o G) hK (mX1_within l G ad x fi fa k 0 2) (va_cwS 3 hts (lw_S q1202 q1203 q61 q1204) rfl rfl rfl (by decide +kernel) ⟨Nat.le_of_ble_eq_true rfl, Nat.le_of_ble_eq_true rfl⟩) hN hS rfl hl.1 rfl (Nat.le_of_ble_eq_true rfl) dX1_isSort_3 ⟨Nat.le_of_ble_eq_true rfl, Nat.le_of_ble_eq_true rfl⟩ (fun v ad' c' H locs hv hN hS => ?_)
  obtain ⟨_, _, rfl, rfl, rfl, rfl, rfl⟩ := hv
  refine W.eq (g2 := F0 m 6 ls (_ :: _)) rfl ?_
  exact W.zret hx hb hr (zI_nar _) (nEnd hN hS ⟨_, _, rfl, rfl, ⟨rfl, rfl, rfl⟩⟩) hS.2 dX1_isSort_6
set_option maxHeartbeats 4000000 in
set_option maxRecDepth 100000 in
theorem mX1_isRow (l : Launch) (G : nG) (ad : Nat → Nat) (x : nPic) (fi : Nat → Int32) (fa : Nat → Nat → Int32) (k n : Int32) : Met l yX1_isRow (ws_ yX1_isRow cX1_isRow 2 (some .boolean)) (mR 2) (nPc G nCl (nK G) ad (mPic G x ad fi fa) [.int k, .int n]) (nQ G nCl (mP G ad x (fun rv fi' fa' => rv = some (.int (zI (sBt k 0 2 && sBt n 0 20))) ∧ fi = fi' ∧ fa = fa'))) 0 0 (fun q => G.2 ≤ q) := by
  refine nMet RX1 (by decide) rfl (Nat.le_of_ble_eq_true rfl) ?_
  intro p e s m below meth c ls SS hR hK hN hS hl
  obtain ⟨hx, hb, hml, hown, hts⟩ := id SS
  obtain ⟨hr, hlk, hnm⟩ := hR
  generalize s.heap = H at hN hS ⊢
  generalize ([] : List Loc) = locs at hS ⊢
  have hl : lv_has ls 2 [(0, .int k), (1, .int n)] := hl
  refine lv_iload_n hx hb dX1_isRow_0 rfl (lv_at hl 0 rfl) ?_
  refine n_callS (As := [_]) SS (nK_o G) hK (mX1_isSort l G ad x fi fa k) (va_cwS 1 hts (lw_S q1205 q1206 q61 q1207) rfl rfl rfl (by decide +kernel) ⟨Nat.le_of_ble_eq_true rfl, Nat.le_of_ble_eq_true rfl⟩) hN hS rfl hl.1 rfl (Nat.le_of_ble_eq_true rfl) dX1_isRow_1 ⟨Nat.le_of_ble_eq_true rfl, Nat.le_of_ble_eq_true rfl⟩ (fun v ad' c' H locs hv hN hS => ?_)
  obtain ⟨_, _, rfl, rfl, rfl, rfl, rfl⟩ := hv
  refine W.eq (g2 := F0 m 4 ls (_ :: _)) rfl ?_
  refine lv_if_eq (tgt := 21) hx hb dX1_isRow_4 (by decide) (fun c4 => ?_) (fun c4 => ?_)
  · refine lv_iconst (v := 0) hx hb dX1_isRow_21 (by decide) ?_
    exact W.zret hx hb hr (rfl) (nEnd hN hS ⟨_, _, rfl, rfl, ⟨by congr 2; simp_all [zI_0, zI], rfl, rfl⟩⟩) hS.2 dX1_isRow_22
  · refine lv_iload_n hx hb dX1_isRow_7 rfl (lv_at hl 1 rfl) ?_
    refine lv_iconst (v := 0) hx hb dX1_isRow_8 (by decide) ?_
    refine lv_bipush (v := 20) hx hb dX1_isRow_9 (by decide) ?_
    refine n_callS (As := [_, _, _]) SS (nK_o G) hK (mX1_within l G ad x fi fa n 0 20) (va_cwS 3 hts (lw_S q1202 q1203 q61 q1204) rfl rfl rfl (by decide +kernel) ⟨Nat.le_of_ble_eq_true rfl, Nat.le_of_ble_eq_true rfl⟩) hN hS rfl hl.1 rfl (Nat.le_of_ble_eq_true rfl) dX1_isRow_11 ⟨Nat.le_of_ble_eq_true rfl, Nat.le_of_ble_eq_true rfl⟩ (fun v ad' c' H locs hv hN hS => ?_)
    obtain ⟨_, _, rfl, rfl, rfl, rfl, rfl⟩ := hv
    refine W.eq (g2 := F0 m 14 ls (_ :: _)) rfl ?_
    refine lv_if_eq (tgt := 21) hx hb dX1_isRow_14 (by decide) (fun c14 => ?_) (fun c14 => ?_)
    · refine lv_iconst (v := 0) hx hb dX1_isRow_21 (by decide) ?_
      exact W.zret hx hb hr (rfl) (nEnd hN hS ⟨_, _, rfl, rfl, ⟨by congr 2; simp_all [zI_0, zI], rfl, rfl⟩⟩) hS.2 dX1_isRow_22
    · refine lv_iconst (v := 1) hx hb dX1_isRow_17 (by decide) ?_
      refine lv_goto (tgt := 22) hx hb dX1_isRow_18 (by decide) ?_
      exact W.zret hx hb hr (rfl) (nEnd hN hS ⟨_, _, rfl, rfl, ⟨by congr 2; simp_all [zI_0, zI], rfl, rfl⟩⟩) hS.2 dX1_isRow_22
set_option maxHeartbeats 4000000 in
set_option maxRecDepth 100000 in
theorem mX1_fails (l : Launch) (G : nG) (ad : Nat → Nat) (x : nPic) (fi : Nat → Int32) (fa : Nat → Nat → Int32) (k : Int32) : Met l yX1_fails (ws_ yX1_fails cX1_fails 2 (some .int)) (mR 0) (nPc G nCl (nK G) ad (mPic G x ad fi fa) [.ref (ad 50), .int k]) (nQ G nCl (mP G ad x (fun rv fi' fa' => rv = some (.int (-10 - k)) ∧ upd fi 0 k = fi' ∧ fa = fa'))) 0 0 (fun q => G.2 ≤ q) := by
  refine nMet RX1 (by decide) rfl (Nat.le_of_ble_eq_true rfl) ?_
  intro p e s m below meth c ls SS hR hK hN hS hl
  obtain ⟨hx, hb, hml, hown, hts⟩ := id SS
  obtain ⟨hr, hlk, hnm⟩ := hR
  generalize s.heap = H at hN hS ⊢
  generalize ([] : List Loc) = locs at hS ⊢
  have hl : lv_has ls 2 [(0, .ref (ad 50)), (1, .int k)] := hl
  refine lv_aload_n hx hb dX1_fails_0 rfl (lv_at hl 0 rfl) ?_
  refine lv_iload_n hx hb dX1_fails_1 rfl (lv_at hl 1 rfl) ?_
  refine m_put SS hK hN hS 0 (by decide) q1119 rfl rfl rfl rfl dX1_fails_2 (fun H locs hN hS => ?_)
  refine lv_bipush (v := (-10)) hx hb dX1_fails_5 (by decide) ?_
  refine lv_iload_n hx hb dX1_fails_7 rfl (lv_at hl 1 rfl) ?_
  refine lv_isub hx hb dX1_fails_8 ?_
  exact W.iret hx hb hr (nEnd hN hS ⟨_, _, rfl, rfl, ⟨rfl, rfl, rfl⟩⟩) hS.2 dX1_fails_9
set_option maxHeartbeats 4000000 in
set_option maxRecDepth 100000 in
theorem mX1_lost (l : Launch) (G : nG) (ad : Nat → Nat) (x : nPic) (fi : Nat → Int32) (fa : Nat → Nat → Int32) (k : Int32) : Met l yX1_lost (ws_ yX1_lost cX1_lost 2 (some .long)) (mR 0) (nPc G nCl (nK G) ad (mPic G x ad fi fa) [.ref (ad 50), .int k]) (nQ G nCl (mP G ad x (fun rv fi' fa' => rv = some (.long (-9223372036854775808)) ∧ upd fi 0 k = fi' ∧ fa = fa'))) 0 0 (fun q => G.2 ≤ q) := by
  refine nMet RX1 (by decide) rfl (Nat.le_of_ble_eq_true rfl) ?_
  intro p e s m below meth c ls SS hR hK hN hS hl
  obtain ⟨hx, hb, hml, hown, hts⟩ := id SS
  obtain ⟨hr, hlk, hnm⟩ := hR
  generalize s.heap = H at hN hS ⊢
  generalize ([] : List Loc) = locs at hS ⊢
  have hl : lv_has ls 2 [(0, .ref (ad 50)), (1, .int k)] := hl
  refine lv_aload_n hx hb dX1_lost_0 rfl (lv_at hl 0 rfl) ?_
  refine lv_iload_n hx hb dX1_lost_1 rfl (lv_at hl 1 rfl) ?_
  refine m_put SS hK hN hS 0 (by decide) q1119 rfl rfl rfl rfl dX1_lost_2 (fun H locs hN hS => ?_)
  refine lv_ldc2 hx hb hown (hts _ q1370) dX1_lost_5 ?_
  exact W.lret hx hb hr (nEnd hN hS ⟨_, _, rfl, rfl, ⟨rfl, rfl, rfl⟩⟩) hS.2 dX1_lost_8
set_option maxHeartbeats 4000000 in
set_option maxRecDepth 100000 in
theorem mX1_isDeed (l : Launch) (G : nG) (ad : Nat → Nat) (x : nPic) (fi : Nat → Int32) (fa : Nat → Nat → Int32) (d : Int32) (nd : Nat) (hnd : fi 5 = nI nd) (h6 : nd ≤ 6) : Met l yX1_isDeed (ws_ yX1_isDeed cX1_isDeed 2 (some .boolean)) (mR 0) (nPc G nCl (nK G) ad (mPic G x ad fi fa) [.ref (ad 50), .int d]) (nQ G nCl (mP G ad x (fun rv fi' fa' => rv = some (.int (zI (sIn d nd))) ∧ fi = fi' ∧ fa = fa'))) 0 0 (fun q => G.2 ≤ q) := by
  refine nMet RX1 (by decide) rfl (Nat.le_of_ble_eq_true rfl) ?_
  intro p e s m below meth c ls SS hR hK hN hS hl
  obtain ⟨hx, hb, hml, hown, hts⟩ := id SS
  obtain ⟨hr, hlk, hnm⟩ := hR
  generalize s.heap = H at hN hS ⊢
  generalize ([] : List Loc) = locs at hS ⊢
  have hl : lv_has ls 2 [(0, .ref (ad 50)), (1, .int d)] := hl
  refine lv_iload_n hx hb dX1_isDeed_0 rfl (lv_at hl 1 rfl) ?_
  refine lv_if_lt (tgt := 16) hx hb dX1_isDeed_1 (by decide) (fun c1 => ?_) (fun c1 => ?_)
  · refine lv_iconst (v := 0) hx hb dX1_isDeed_16 (by decide) ?_
    exact W.zret hx hb hr (rfl) (nEnd hN hS ⟨_, _, rfl, rfl, ⟨by congr 2; simp_all [sIn, zI], rfl, rfl⟩⟩) hS.2 dX1_isDeed_17
  · refine lv_iload_n hx hb dX1_isDeed_4 rfl (lv_at hl 1 rfl) ?_
    refine lv_aload_n hx hb dX1_isDeed_5 rfl (lv_at hl 0 rfl) ?_
    refine m_get (v := .int (nI nd)) SS hK hN 5 (by decide) q1124 rfl (by rw [← hnd]; rfl) dX1_isDeed_6 ?_
    refine lv_icmp_ge (tgt := 16) hx hb dX1_isDeed_9 (by decide) (fun c9 => ?_) (fun c9 => ?_)
    · refine lv_iconst (v := 0) hx hb dX1_isDeed_16 (by decide) ?_
      exact W.zret hx hb hr (rfl) (nEnd hN hS ⟨_, _, rfl, rfl, ⟨by congr 2; simp_all [sIn, zI], rfl, rfl⟩⟩) hS.2 dX1_isDeed_17
    · refine lv_iconst (v := 1) hx hb dX1_isDeed_12 (by decide) ?_
      refine lv_goto (tgt := 17) hx hb dX1_isDeed_13 (by decide) ?_
      exact W.zret hx hb hr (rfl) (nEnd hN hS ⟨_, _, rfl, rfl, ⟨by congr 2; simp_all [sIn, zI], rfl, rfl⟩⟩) hS.2 dX1_isDeed_17
set_option maxHeartbeats 4000000 in
set_option maxRecDepth 100000 in
theorem mX1_isPerson (l : Launch) (G : nG) (ad : Nat → Nat) (x : nPic) (fi : Nat → Int32) (fa : Nat → Nat → Int32) (d : Int32) (np : Nat) (hnp : fi 6 = nI np) (h4 : np ≤ 4) : Met l yX1_isPerson (ws_ yX1_isPerson cX1_isPerson 2 (some .boolean)) (mR 0) (nPc G nCl (nK G) ad (mPic G x ad fi fa) [.ref (ad 50), .int d]) (nQ G nCl (mP G ad x (fun rv fi' fa' => rv = some (.int (zI (sIn d np))) ∧ fi = fi' ∧ fa = fa'))) 0 0 (fun q => G.2 ≤ q) := by
  refine nMet RX1 (by decide) rfl (Nat.le_of_ble_eq_true rfl) ?_
  intro p e s m below meth c ls SS hR hK hN hS hl
  obtain ⟨hx, hb, hml, hown, hts⟩ := id SS
  obtain ⟨hr, hlk, hnm⟩ := hR
  generalize s.heap = H at hN hS ⊢
  generalize ([] : List Loc) = locs at hS ⊢
  have hl : lv_has ls 2 [(0, .ref (ad 50)), (1, .int d)] := hl
  refine lv_iload_n hx hb dX1_isPerson_0 rfl (lv_at hl 1 rfl) ?_
  refine lv_if_lt (tgt := 16) hx hb dX1_isPerson_1 (by decide) (fun c1 => ?_) (fun c1 => ?_)
  · refine lv_iconst (v := 0) hx hb dX1_isPerson_16 (by decide) ?_
    exact W.zret hx hb hr (rfl) (nEnd hN hS ⟨_, _, rfl, rfl, ⟨by congr 2; simp_all [sIn, zI], rfl, rfl⟩⟩) hS.2 dX1_isPerson_17
  · refine lv_iload_n hx hb dX1_isPerson_4 rfl (lv_at hl 1 rfl) ?_
    refine lv_aload_n hx hb dX1_isPerson_5 rfl (lv_at hl 0 rfl) ?_
    refine m_get (v := .int (nI np)) SS hK hN 6 (by decide) q1125 rfl (by rw [← hnp]; rfl) dX1_isPerson_6 ?_
    refine lv_icmp_ge (tgt := 16) hx hb dX1_isPerson_9 (by decide) (fun c9 => ?_) (fun c9 => ?_)
    · refine lv_iconst (v := 0) hx hb dX1_isPerson_16 (by decide) ?_
      exact W.zret hx hb hr (rfl) (nEnd hN hS ⟨_, _, rfl, rfl, ⟨by congr 2; simp_all [sIn, zI], rfl, rfl⟩⟩) hS.2 dX1_isPerson_17
    · refine lv_iconst (v := 1) hx hb dX1_isPerson_12 (by decide) ?_
      refine lv_goto (tgt := 17) hx hb dX1_isPerson_13 (by decide) ?_
      exact W.zret hx hb hr (rfl) (nEnd hN hS ⟨_, _, rfl, rfl, ⟨by congr 2; simp_all [sIn, zI], rfl, rfl⟩⟩) hS.2 dX1_isPerson_17
set_option maxHeartbeats 4000000 in
set_option maxRecDepth 100000 in
theorem mX1_storeysOf (l : Launch) (G : nG) (ad : Nat → Nat) (x : nPic) (fi : Nat → Int32) (fa : Nat → Nat → Int32) (q d : Nat) (hq : q < 4) (hd : d < 6) : Met l yX1_storeysOf (ws_ yX1_storeysOf cX1_storeysOf 3 (some .int)) (mR 0) (nPc G nCl (nK G) ad (mPic G x ad fi fa) [.ref (ad 50), .int (nI q), .int (nI d)]) (nQ G nCl (mP G ad x (fun rv fi' fa' => rv = some (.int (sStor (fa 7) (fa 8) q d)) ∧ fi = fi' ∧ fa = fa'))) 0 0 (fun q => G.2 ≤ q) := by
  refine nMet RX1 (by decide) rfl (Nat.le_of_ble_eq_true rfl) ?_
  intro p e s m below meth c ls SS hR hK hN hS hl
  obtain ⟨hx, hb, hml, hown, hts⟩ := id SS
  obtain ⟨hr, hlk, hnm⟩ := hR
  generalize s.heap = H at hN hS ⊢
  generalize ([] : List Loc) = locs at hS ⊢
  have hl : lv_has ls 3 [(0, .ref (ad 50)), (1, .int (nI q)), (2, .int (nI d))] := hl
  refine lv_aload_n hx hb dX1_storeysOf_0 rfl (lv_at hl 0 rfl) ?_
  refine m_get SS hK hN 8 (by decide) q1127 rfl rfl dX1_storeysOf_1 ?_
  refine lv_iload_n hx hb dX1_storeysOf_4 rfl (lv_at hl 1 rfl) ?_
  refine m_ald SS hK hN 8 rfl (q) (rfl) (by show _ < (4 : Nat); omega) dX1_storeysOf_5 ?_
  refine lv_if_ne (tgt := 18) hx hb dX1_storeysOf_6 (by decide) (fun c6 => ?_) (fun c6 => ?_)
  · refine lv_aload_n hx hb dX1_storeysOf_18 rfl (lv_at hl 0 rfl) ?_
    refine m_get SS hK hN 8 (by decide) q1127 rfl rfl dX1_storeysOf_19 ?_
    refine lv_iload_n hx hb dX1_storeysOf_22 rfl (lv_at hl 1 rfl) ?_
    refine m_ald SS hK hN 8 rfl (q) (rfl) (by show _ < (4 : Nat); omega) dX1_storeysOf_23 ?_
    refine lv_iconst (v := 1) hx hb dX1_storeysOf_24 (by decide) ?_
    refine lv_icmp_ne (tgt := 39) hx hb dX1_storeysOf_25 (by decide) (fun c25 => ?_) (fun c25 => ?_)
    · refine lv_iconst (v := 2) hx hb dX1_storeysOf_39 (by decide) ?_
      refine lv_aload_n hx hb dX1_storeysOf_40 rfl (lv_at hl 0 rfl) ?_
      refine m_get SS hK hN 7 (by decide) q1126 rfl rfl dX1_storeysOf_41 ?_
      refine lv_iload_n hx hb dX1_storeysOf_44 rfl (lv_at hl 2 rfl) ?_
      refine m_ald SS hK hN 7 rfl (d) (rfl) (by show _ < (6 : Nat); omega) dX1_storeysOf_45 ?_
      refine lv_imul hx hb dX1_storeysOf_46 ?_
      exact W.iret hx hb hr (nEnd hN hS ⟨_, _, rfl, rfl, ⟨by congr 2; simp_all [sStor], rfl, rfl⟩⟩) hS.2 dX1_storeysOf_47
    · refine lv_aload_n hx hb dX1_storeysOf_28 rfl (lv_at hl 0 rfl) ?_
      refine m_get SS hK hN 7 (by decide) q1126 rfl rfl dX1_storeysOf_29 ?_
      refine lv_iload_n hx hb dX1_storeysOf_32 rfl (lv_at hl 2 rfl) ?_
      refine m_ald SS hK hN 7 rfl (d) (rfl) (by show _ < (6 : Nat); omega) dX1_storeysOf_33 ?_
      refine lv_iconst (v := 1) hx hb dX1_storeysOf_34 (by decide) ?_
      refine lv_isub hx hb dX1_storeysOf_35 ?_
      refine lv_goto (tgt := 47) hx hb dX1_storeysOf_36 (by decide) ?_
      exact W.iret hx hb hr (nEnd hN hS ⟨_, _, rfl, rfl, ⟨by congr 2; simp_all [sStor], rfl, rfl⟩⟩) hS.2 dX1_storeysOf_47
  · refine lv_aload_n hx hb dX1_storeysOf_9 rfl (lv_at hl 0 rfl) ?_
    refine m_get SS hK hN 7 (by decide) q1126 rfl rfl dX1_storeysOf_10 ?_
    refine lv_iload_n hx hb dX1_storeysOf_13 rfl (lv_at hl 2 rfl) ?_
    refine m_ald SS hK hN 7 rfl (d) (rfl) (by show _ < (6 : Nat); omega) dX1_storeysOf_14 ?_
    refine lv_goto (tgt := 47) hx hb dX1_storeysOf_15 (by decide) ?_
    exact W.iret hx hb hr (nEnd hN hS ⟨_, _, rfl, rfl, ⟨by congr 2; simp_all [sStor], rfl, rfl⟩⟩) hS.2 dX1_storeysOf_47
set_option maxHeartbeats 4000000 in
set_option maxRecDepth 100000 in
theorem mX1_floorBy (l : Launch) (G : nG) (ad : Nat → Nat) (x : nPic) (fi : Nat → Int32) (fa : Nat → Nat → Int32) (q : Nat) (set : Int32) (hq : q < 4) (nd : Nat) (hnd : fi 5 = nI nd) (h6 : nd ≤ 6) : Met l yX1_floorBy (ws_ yX1_floorBy cX1_floorBy 5 (some .int)) (mR 1) (nPc G nCl (nK G) ad (mPic G x ad fi fa) [.ref (ad 50), .int (nI q), .int set]) (nQ G nCl (mP G ad x (fun rv fi' fa' => rv = some (.int (sFl (fa 7) (fa 8) q set nd)) ∧ fi = fi' ∧ fa = fa'))) 0 0 (fun q => G.2 ≤ q) := by
  refine nMet RX1 (by decide) rfl (Nat.le_of_ble_eq_true rfl) ?_
  intro p e s m below meth c ls SS hR hK hN hS hl
  obtain ⟨hx, hb, hml, hown, hts⟩ := id SS
  obtain ⟨hr, hlk, hnm⟩ := hR
  generalize s.heap = H at hN hS ⊢
  generalize ([] : List Loc) = locs at hS ⊢
  have hl : lv_has ls 5 [(0, .ref (ad 50)), (1, .int (nI q)), (2, .int set)] := hl
  refine lv_iconst (v := (sFl (fa 7) (fa 8) q set 0)) hx hb dX1_floorBy_0 (rfl) ?_
  refine lv_istore_n (lv' := [(3, _), (0, _), (1, _), (2, _)]) hx hb dX1_floorBy_1 rfl hl (by decide) rfl (fun ls hl => ?_)
  refine lv_iconst (v := (nI 0)) hx hb dX1_floorBy_2 (rfl) ?_
  refine lv_istore (lv' := [(4, _), (3, _), (0, _), (1, _), (2, _)]) hx hb dX1_floorBy_3 hl (by decide) rfl (fun ls hl => ?_)
  have loop5 : ∀ (n : Nat) (d : Nat) (H : Heap) (locs : List Loc) (ls : Array Slot), d ≤ nd → nd + 1 ≤ d + n → nOk G nCl ad (mPic G x ad fi fa) H → nS G s H locs → lv_has ls 5 [(0, .ref (ad 50)), (1, .int (nI q)), (2, .int set), (3, .int (sFl (fa 7) (fa 8) q set d)), (4, .int (nI d))] → W p l e (mR 1) s m ([.ref (ad 50), .int (nI q), .int set] : List Value).toArray below meth c H locs 0 0 (MQ below (nQ G nCl (mP G ad x (fun rv fi' fa' => rv = some (.int (sFl (fa 7) (fa 8) q set nd)) ∧ fi = fi' ∧ fa = fa'))) ([.ref (ad 50), .int (nI q), .int set] : List Value).toArray s 0 0 (fun q => G.2 ≤ q)) (F0 m 5 ls []) := by
    intro n
    induction n with
    | zero => intro d H locs ls hd hfuel hN hS hl; exact absurd hfuel (by omega)
    | succ n ih5 =>
      intro d H locs ls hd hfuel hN hS hl
      refine lv_iload hx hb dX1_floorBy_5 (lv_at hl 4 rfl) ?_
      refine lv_aload_n hx hb dX1_floorBy_7 rfl (lv_at hl 0 rfl) ?_
      refine m_get (v := .int (nI nd)) SS hK hN 5 (by decide) q1124 rfl (by rw [← hnd]; rfl) dX1_floorBy_8 ?_
      refine lv_icmp_ge (tgt := 44) hx hb dX1_floorBy_11 (by decide) (fun c11 => ?_) (fun c11 => ?_)
      · have c11 := (nI_leI (by omega) (by omega)).mp c11
        have c11 : d = nd := by omega
        subst c11
        refine lv_iload_n hx hb dX1_floorBy_44 rfl (lv_at hl 3 rfl) ?_
        exact W.iret hx hb hr (nEnd hN hS ⟨_, _, rfl, rfl, ⟨rfl, rfl, rfl⟩⟩) hS.2 dX1_floorBy_45
      · have c11 : ¬ nd ≤ d := fun q => c11 (nI_le q (by omega))
        refine lv_iload_n hx hb dX1_floorBy_14 rfl (lv_at hl 3 rfl) ?_
        refine lv_iload_n hx hb dX1_floorBy_15 rfl (lv_at hl 2 rfl) ?_
        refine lv_iload hx hb dX1_floorBy_16 (lv_at hl 4 rfl) ?_
        refine lv_ishr hx hb dX1_floorBy_18 ?_
        refine lv_iconst (v := 1) hx hb dX1_floorBy_19 (by decide) ?_
        refine lv_iand hx hb dX1_floorBy_20 ?_
        refine lv_iconst (v := 1) hx hb dX1_floorBy_21 (by decide) ?_
        refine lv_icmp_ne (tgt := 35) hx hb dX1_floorBy_22 (by decide) (fun c22 => ?_) (fun c22 => ?_)
        · refine lv_iconst (v := 0) hx hb dX1_floorBy_35 (by decide) ?_
          refine lv_iadd hx hb dX1_floorBy_36 ?_
          refine n_top (y := sFl (fa 7) (fa 8) q set (d + 1)) (by rw [sFl, sBit]; simp [c22]) ?_
          refine lv_istore_n (lv' := [(3, _), (0, _), (1, _), (2, _), (4, _)]) hx hb dX1_floorBy_37 rfl hl (by decide) rfl (fun ls hl => ?_)
          refine lv_iinc (v := (nI (d + 1))) (lv' := [(4, _), (3, _), (0, _), (1, _), (2, _)]) hx hb dX1_floorBy_38 hl (k := 4) rfl (nI_inc d) (by decide) rfl (fun ls hl => ?_)
          refine lv_goto (tgt := 5) hx hb dX1_floorBy_41 (by decide) ?_
          exact ih5 (d + 1) _ _ _ (by omega) (by omega) hN hS (lv_sub hl [2, 3, 4, 1, 0] (rfl))
        · refine lv_aload_n hx hb dX1_floorBy_25 rfl (lv_at hl 0 rfl) ?_
          refine lv_iload_n hx hb dX1_floorBy_26 rfl (lv_at hl 1 rfl) ?_
          refine lv_iload hx hb dX1_floorBy_27 (lv_at hl 4 rfl) ?_
          refine n_callV (C := RX1) (As := [_, _]) (b := 50) SS (nK_o G) hK hK (mX1_storeysOf l G ad x fi fa q d hq (by omega)) (cwV 2 hts (lw_V q1252 q1254 qs43 q61 q1255) rfl rfl rfl (by decide +kernel) ⟨Nat.le_of_ble_eq_true rfl, Nat.le_of_ble_eq_true rfl⟩) hN hS mPic_o rfl rfl hl.1 rfl (Nat.le_of_ble_eq_true rfl) dX1_floorBy_29 ⟨Nat.le_of_ble_eq_true rfl, Nat.le_of_ble_eq_true rfl⟩ (fun v ad' c' H locs hv hN hS => ?_)
          obtain ⟨_, _, rfl, rfl, rfl, rfl, rfl⟩ := hv
          refine W.eq (g2 := F0 m 32 ls (_ :: _)) rfl ?_
          refine lv_goto (tgt := 36) hx hb dX1_floorBy_32 (by decide) ?_
          refine lv_iadd hx hb dX1_floorBy_36 ?_
          refine n_top (y := sFl (fa 7) (fa 8) q set (d + 1)) (by rw [sFl, sBit]; simp [c22]) ?_
          refine lv_istore_n (lv' := [(3, _), (0, _), (1, _), (2, _), (4, _)]) hx hb dX1_floorBy_37 rfl hl (by decide) rfl (fun ls hl => ?_)
          refine lv_iinc (v := (nI (d + 1))) (lv' := [(4, _), (3, _), (0, _), (1, _), (2, _)]) hx hb dX1_floorBy_38 hl (k := 4) rfl (nI_inc d) (by decide) rfl (fun ls hl => ?_)
          refine lv_goto (tgt := 5) hx hb dX1_floorBy_41 (by decide) ?_
          exact ih5 (d + 1) _ _ _ (by omega) (by omega) hN hS (lv_sub hl [2, 3, 4, 1, 0] (rfl))
  exact loop5 (nd + 1) 0 _ _ _ (by omega) (by omega) hN hS (lv_sub hl [2, 3, 4, 1, 0] rfl)
