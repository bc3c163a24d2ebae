/-! THE MODEL reads a tower's text: printed by wip/gen/m6.py -/
set_option maxHeartbeats 4000000 in
set_option maxRecDepth 100000 in
theorem mX1_digit (l : Launch) (G : nG) (ad : Nat → Nat) (x : nPic) (fi : Nat → Int32) (fa : Nat → Nat → Int32) (a q cn : Nat) (hA : fi 12 = nI (a + q)) (hE : a + cn ≤ 240) (hq : q < 2 ^ 20) (lo hi : Int32) : Met l yX1_digit (ws_ yX1_digit cX1_digit 4 (some .int)) (mR 1) (nPc G nCl (nK G) ad (mPic G x ad fi fa) [.ref (ad 50), .int (nI (a + cn)), .int lo, .int hi]) (nQ G nCl (mP G ad x (fun rv fi' fa' => rv = some (.int (if pd (fun p => fa 4 (a + p)) cn q lo hi = true then fa 4 (a + q) - 48 else -9)) ∧ upd fi 12 (nI (if pd (fun p => fa 4 (a + p)) cn q lo hi = true then a + q + 1 else a + q)) = fi' ∧ fa = fa'))) 0 0 (fun q => G.2 ≤ q) := by
  refine nMet RX1 (by decide) rfl (Nat.le_of_ble_eq_true rfl) ?_
  intro p e s m below meth c ls SS hR hK hN hS hl
  obtain ⟨hx, hb, hml, hown, hts⟩ := id SS
  obtain ⟨hr, hlk, hnm⟩ := hR
  generalize s.heap = H at hN hS ⊢
  generalize ([] : List Loc) = locs at hS ⊢
  have hl : lv_has ls 4 [(0, .ref (ad 50)), (1, .int (nI (a + cn))), (2, .int lo), (3, .int hi)] := hl
  refine lv_aload_n hx hb dX1_digit_0 rfl (lv_at hl 0 rfl) ?_
  refine m_get (v := .int (nI (a + q))) SS hK hN 12 (by decide) q1131 rfl (by rw [← hA]; rfl) dX1_digit_1 ?_
  refine lv_iload_n hx hb dX1_digit_4 rfl (lv_at hl 1 rfl) ?_
  refine lv_icmp_ge (tgt := 31) hx hb dX1_digit_5 (by decide) (fun c5 => ?_) (fun c5 => ?_)
  · have c5 := (nI_leI (by omega) (by omega)).mp c5
    have hd : pd (fun p => fa 4 (a + p)) cn q lo hi = false := by unfold pd; rw [decide_eq_false (by omega), Bool.false_and]
    refine lv_bipush (v := (-9)) hx hb dX1_digit_31 (by decide) ?_
    exact W.iret hx hb hr (nEnd hN hS ⟨_, _, rfl, rfl, ⟨by rw [hd]; rfl, by rw [hd]; exact upd_self _ _ _ hA, rfl⟩⟩) hS.2 dX1_digit_33
  · have c5 : a + q < a + cn := by rcases Nat.lt_or_ge (a + q) (a + cn) with z | z; { exact z }; { exact absurd (nI_le z (by omega)) c5 }
    refine lv_aload_n hx hb dX1_digit_8 rfl (lv_at hl 0 rfl) ?_
    refine m_get SS hK hN 4 (by decide) q1123 rfl rfl dX1_digit_9 ?_
    refine lv_aload_n hx hb dX1_digit_12 rfl (lv_at hl 0 rfl) ?_
    refine m_get (v := .int (nI (a + q))) SS hK hN 12 (by decide) q1131 rfl (by rw [← hA]; rfl) dX1_digit_13 ?_
    refine m_ald SS hK hN 4 rfl (a + q) (rfl) (by show _ < (240 : Nat); omega) dX1_digit_16 ?_
    refine lv_bipush (v := 48) hx hb dX1_digit_17 (by decide) ?_
    refine lv_iload_n hx hb dX1_digit_19 rfl (lv_at hl 2 rfl) ?_
    refine lv_iadd hx hb dX1_digit_20 ?_
    refine lv_bipush (v := 48) hx hb dX1_digit_21 (by decide) ?_
    refine lv_iload_n hx hb dX1_digit_23 rfl (lv_at hl 3 rfl) ?_
    refine lv_iadd hx hb dX1_digit_24 ?_
    refine n_callS (As := [_, _, _]) SS (nK_o G) hK (mX1_within l G ad x fi fa (fa 4 (a + q)) (48 + lo) (48 + hi)) (va_cwS 3 hts (lw_S q1202 q1203 q61 q1204) rfl rfl rfl (by decide +kernel) ⟨Nat.le_of_ble_eq_true rfl, Nat.le_of_ble_eq_true rfl⟩) hN hS rfl hl.1 rfl (Nat.le_of_ble_eq_true rfl) dX1_digit_25 ⟨Nat.le_of_ble_eq_true rfl, Nat.le_of_ble_eq_true rfl⟩ (fun v ad' c' H locs hv hN hS => ?_)
    obtain ⟨_, _, rfl, rfl, rfl, rfl, rfl⟩ := hv
    refine W.eq (g2 := F0 m 28 ls (_ :: _)) rfl ?_
    refine lv_if_ne (tgt := 34) hx hb dX1_digit_28 (by decide) (fun c28 => ?_) (fun c28 => ?_)
    · have c28 := zI_n0 c28
      have hd : pd (fun p => fa 4 (a + p)) cn q lo hi = true := by unfold pd; rw [decide_eq_true (by omega), c28]; rfl
      refine lv_aload_n hx hb dX1_digit_34 rfl (lv_at hl 0 rfl) ?_
      refine lv_dup hx hb dX1_digit_35 rfl ?_
      refine m_get (v := .int (nI (a + q))) SS hK hN 12 (by decide) q1131 rfl (by rw [← hA]; rfl) dX1_digit_36 ?_
      refine lv_iconst (v := 1) hx hb dX1_digit_39 (by decide) ?_
      refine lv_iadd hx hb dX1_digit_40 ?_
      refine n_top (y := nI (a + q + 1)) (nI_1 _) ?_
      refine m_put SS hK hN hS 12 (by decide) q1131 rfl rfl rfl rfl dX1_digit_41 (fun H locs hN hS => ?_)
      refine lv_aload_n hx hb dX1_digit_44 rfl (lv_at hl 0 rfl) ?_
      refine m_get SS hK hN 4 (by decide) q1123 rfl rfl dX1_digit_45 ?_
      refine lv_aload_n hx hb dX1_digit_48 rfl (lv_at hl 0 rfl) ?_
      refine m_get (v := .int (nI (a + q + 1))) SS hK hN 12 (by decide) q1131 rfl (rfl) dX1_digit_49 ?_
      refine lv_iconst (v := 1) hx hb dX1_digit_52 (by decide) ?_
      refine lv_isub hx hb dX1_digit_53 ?_
      refine n_top (y := nI (a + q)) (nI_pred _) ?_
      refine m_ald SS hK hN 4 rfl (a + q) (rfl) (by show _ < (240 : Nat); omega) dX1_digit_54 ?_
      refine lv_bipush (v := 48) hx hb dX1_digit_55 (by decide) ?_
      refine lv_isub hx hb dX1_digit_57 ?_
      exact W.iret hx hb hr (nEnd hN hS ⟨_, _, rfl, rfl, ⟨by rw [hd]; rfl, by rw [hd]; rfl, rfl⟩⟩) hS.2 dX1_digit_58
    · have c28 := zI_0.mp c28
      have hd : pd (fun p => fa 4 (a + p)) cn q lo hi = false := by unfold pd; rw [c28, Bool.and_false]
      refine lv_bipush (v := (-9)) hx hb dX1_digit_31 (by decide) ?_
      exact W.iret hx hb hr (nEnd hN hS ⟨_, _, rfl, rfl, ⟨by rw [hd]; rfl, by rw [hd]; exact upd_self _ _ _ hA, rfl⟩⟩) hS.2 dX1_digit_33
set_option maxHeartbeats 4000000 in
set_option maxRecDepth 100000 in
theorem mX1_isSign (l : Launch) (G : nG) (ad : Nat → Nat) (x : nPic) (fi : Nat → Int32) (fa : Nat → Nat → Int32) (a q cn : Nat) (hA : fi 12 = nI (a + q)) (hE : a + cn ≤ 240) (hq : q < 2 ^ 20) (c_ : Int32) : Met l yX1_isSign (ws_ yX1_isSign cX1_isSign 3 (some .boolean)) (mR 0) (nPc G nCl (nK G) ad (mPic G x ad fi fa) [.ref (ad 50), .int (nI (a + cn)), .int c_]) (nQ G nCl (mP G ad x (fun rv fi' fa' => rv = some (.int (zI (pSg (fun p => fa 4 (a + p)) cn q c_))) ∧ upd fi 12 (nI (if pSg (fun p => fa 4 (a + p)) cn q c_ = true then a + q + 1 else a + q)) = fi' ∧ fa = fa'))) 0 0 (fun q => G.2 ≤ q) := by
  refine nMet RX1 (by decide) rfl (Nat.le_of_ble_eq_true rfl) ?_
  intro p e s m below meth c ls SS hR hK hN hS hl
  obtain ⟨hx, hb, hml, hown, hts⟩ := id SS
  obtain ⟨hr, hlk, hnm⟩ := hR
  generalize s.heap = H at hN hS ⊢
  generalize ([] : List Loc) = locs at hS ⊢
  have hl : lv_has ls 3 [(0, .ref (ad 50)), (1, .int (nI (a + cn))), (2, .int c_)] := hl
  refine lv_aload_n hx hb dX1_isSign_0 rfl (lv_at hl 0 rfl) ?_
  refine m_get (v := .int (nI (a + q))) SS hK hN 12 (by decide) q1131 rfl (by rw [← hA]; rfl) dX1_isSign_1 ?_
  refine lv_iload_n hx hb dX1_isSign_4 rfl (lv_at hl 1 rfl) ?_
  refine lv_icmp_ge (tgt := 21) hx hb dX1_isSign_5 (by decide) (fun c5 => ?_) (fun c5 => ?_)
  · have c5 := (nI_leI (by omega) (by omega)).mp c5
    have hd : pSg (fun p => fa 4 (a + p)) cn q c_ = false := by unfold pSg; rw [decide_eq_false (by omega), Bool.false_and]
    refine lv_iconst (v := 0) hx hb dX1_isSign_21 (by decide) ?_
    exact W.zret hx hb hr (rfl) (nEnd hN hS ⟨_, _, rfl, rfl, ⟨by rw [hd]; rfl, by rw [hd]; exact upd_self _ _ _ hA, rfl⟩⟩) hS.2 dX1_isSign_22
  · have c5 : a + q < a + cn := by rcases Nat.lt_or_ge (a + q) (a + cn) with z | z; { exact z }; { exact absurd (nI_le z (by omega)) c5 }
    refine lv_aload_n hx hb dX1_isSign_8 rfl (lv_at hl 0 rfl) ?_
    refine m_get SS hK hN 4 (by decide) q1123 rfl rfl dX1_isSign_9 ?_
    refine lv_aload_n hx hb dX1_isSign_12 rfl (lv_at hl 0 rfl) ?_
    refine m_get (v := .int (nI (a + q))) SS hK hN 12 (by decide) q1131 rfl (by rw [← hA]; rfl) dX1_isSign_13 ?_
    refine m_ald SS hK hN 4 rfl (a + q) (rfl) (by show _ < (240 : Nat); omega) dX1_isSign_16 ?_
    refine lv_iload_n hx hb dX1_isSign_17 rfl (lv_at hl 2 rfl) ?_
    refine lv_icmp_eq (tgt := 23) hx hb dX1_isSign_18 (by decide) (fun c18 => ?_) (fun c18 => ?_)
    · have hd : pSg (fun p => fa 4 (a + p)) cn q c_ = true := by unfold pSg; rw [decide_eq_true (by omega), decide_eq_true c18]; rfl
      refine lv_aload_n hx hb dX1_isSign_23 rfl (lv_at hl 0 rfl) ?_
      refine lv_dup hx hb dX1_isSign_24 rfl ?_
      refine m_get (v := .int (nI (a + q))) SS hK hN 12 (by decide) q1131 rfl (by rw [← hA]; rfl) dX1_isSign_25 ?_
      refine lv_iconst (v := 1) hx hb dX1_isSign_28 (by decide) ?_
      refine lv_iadd hx hb dX1_isSign_29 ?_
      refine n_top (y := nI (a + q + 1)) (nI_1 _) ?_
      refine m_put SS hK hN hS 12 (by decide) q1131 rfl rfl rfl rfl dX1_isSign_30 (fun H locs hN hS => ?_)
      refine lv_iconst (v := 1) hx hb dX1_isSign_33 (by decide) ?_
      exact W.zret hx hb hr (rfl) (nEnd hN hS ⟨_, _, rfl, rfl, ⟨by rw [hd]; rfl, by rw [hd]; rfl, rfl⟩⟩) hS.2 dX1_isSign_34
    · have hd : pSg (fun p => fa 4 (a + p)) cn q c_ = false := by unfold pSg; rw [decide_eq_false c18, Bool.and_false]
      refine lv_iconst (v := 0) hx hb dX1_isSign_21 (by decide) ?_
      exact W.zret hx hb hr (rfl) (nEnd hN hS ⟨_, _, rfl, rfl, ⟨by rw [hd]; rfl, by rw [hd]; exact upd_self _ _ _ hA, rfl⟩⟩) hS.2 dX1_isSign_22
set_option maxHeartbeats 4000000 in
set_option maxRecDepth 100000 in
theorem mX1_readDeed (l : Launch) (G : nG) (ad : Nat → Nat) (x : nPic) (fi : Nat → Int32) (fa : Nat → Nat → Int32) (a q cn : Nat) (hA : fi 12 = nI (a + q)) (hE : a + cn ≤ 240) (hq : q < 2 ^ 20) (m_ : Nat) (hm : fi 13 = nI m_) (hm6 : m_ < 6) : Met l yX1_readDeed (ws_ yX1_readDeed cX1_readDeed 2 (some .boolean)) (mR 2) (nPc G nCl (nK G) ad (mPic G x ad fi fa) [.ref (ad 50), .int (nI (a + cn))]) (nQ G nCl (mP G ad x (fun rv fi' fa' => rv = some (.int (zI (pd (fun p => fa 4 (a + p)) cn q 1 9))) ∧ upd (upd fi 12 (nI (if pd (fun p => fa 4 (a + p)) cn q 1 9 = true then a + q + 1 else a + q))) 13 (nI (m_ + 1)) = fi' ∧ va_up fa 15 (upd (fa 15) m_ (if pd (fun p => fa 4 (a + p)) cn q 1 9 = true then fa 4 (a + q) - 48 else -9)) = fa'))) 0 0 (fun q => G.2 ≤ q) := by
  refine nMet RX1 (by decide) rfl (Nat.le_of_ble_eq_true rfl) ?_
  intro p e s m below meth c ls SS hR hK hN hS hl
  obtain ⟨hx, hb, hml, hown, hts⟩ := id SS
  obtain ⟨hr, hlk, hnm⟩ := hR
  generalize s.heap = H at hN hS ⊢
  generalize ([] : List Loc) = locs at hS ⊢
  have hl : lv_has ls 2 [(0, .ref (ad 50)), (1, .int (nI (a + cn)))] := hl
  refine lv_aload_n hx hb dX1_readDeed_0 rfl (lv_at hl 0 rfl) ?_
  refine m_get SS hK hN 15 (by decide) q1134 rfl rfl dX1_readDeed_1 ?_
  refine lv_aload_n hx hb dX1_readDeed_4 rfl (lv_at hl 0 rfl) ?_
  refine m_get (v := .int (nI m_)) SS hK hN 13 (by decide) q1132 rfl (by rw [← hm]; rfl) dX1_readDeed_5 ?_
  refine lv_aload_n hx hb dX1_readDeed_8 rfl (lv_at hl 0 rfl) ?_
  refine lv_iload_n hx hb dX1_readDeed_9 rfl (lv_at hl 1 rfl) ?_
  refine lv_iconst (v := 1) hx hb dX1_readDeed_10 (by decide) ?_
  refine lv_bipush (v := 9) hx hb dX1_readDeed_11 (by decide) ?_
  refine n_callV (C := RX1) (As := [_, _, _]) (b := 50) SS (nK_o G) hK hK (mX1_digit l G ad x fi fa a q cn hA hE hq 1 9) (cwV 3 hts (lw_V q1228 q1230 qs38 q61 q1231) rfl rfl rfl (by decide +kernel) ⟨Nat.le_of_ble_eq_true rfl, Nat.le_of_ble_eq_true rfl⟩) hN hS mPic_o rfl rfl hl.1 rfl (Nat.le_of_ble_eq_true rfl) dX1_readDeed_13 ⟨Nat.le_of_ble_eq_true rfl, Nat.le_of_ble_eq_true rfl⟩ (fun v ad' c' H locs hv hN hS => ?_)
  obtain ⟨_, _, rfl, rfl, rfl, rfl, rfl⟩ := hv
  refine W.eq (g2 := F0 m 16 ls (_ :: _)) rfl ?_
  refine m_ast SS hK hN hS 15 rfl (m_) (rfl) (by show _ < (6 : Nat); omega) dX1_readDeed_16 (fun H locs hN hS => ?_)
  refine lv_aload_n hx hb dX1_readDeed_17 rfl (lv_at hl 0 rfl) ?_
  refine lv_dup hx hb dX1_readDeed_18 rfl ?_
  refine m_get (v := .int (nI m_)) SS hK hN 13 (by decide) q1132 rfl (by rw [← hm]; rfl) dX1_readDeed_19 ?_
  refine lv_iconst (v := 1) hx hb dX1_readDeed_22 (by decide) ?_
  refine lv_iadd hx hb dX1_readDeed_23 ?_
  refine n_top (y := nI (m_ + 1)) (nI_1 _) ?_
  refine m_put SS hK hN hS 13 (by decide) q1132 rfl rfl rfl rfl dX1_readDeed_24 (fun H locs hN hS => ?_)
  refine lv_aload_n hx hb dX1_readDeed_27 rfl (lv_at hl 0 rfl) ?_
  refine m_get SS hK hN 15 (by decide) q1134 rfl rfl dX1_readDeed_28 ?_
  refine lv_aload_n hx hb dX1_readDeed_31 rfl (lv_at hl 0 rfl) ?_
  refine m_get (v := .int (nI (m_ + 1))) SS hK hN 13 (by decide) q1132 rfl (rfl) dX1_readDeed_32 ?_
  refine lv_iconst (v := 1) hx hb dX1_readDeed_35 (by decide) ?_
  refine lv_isub hx hb dX1_readDeed_36 ?_
  refine n_top (y := nI m_) (nI_pred _) ?_
  refine m_ald SS hK hN 15 rfl (m_) (rfl) (by show _ < (6 : Nat); omega) dX1_readDeed_37 ?_
  refine n_top (y := (if pd (fun p => fa 4 (a + p)) cn q 1 9 = true then fa 4 (a + q) - 48 else -9)) (pk_us) ?_
  refine lv_bipush (v := (-9)) hx hb dX1_readDeed_38 (by decide) ?_
  refine lv_icmp_eq (tgt := 47) hx hb dX1_readDeed_40 (by decide) (fun c40 => ?_) (fun c40 => ?_)
  · have hd : pd (fun p => fa 4 (a + p)) cn q 1 9 = false := by cases hz : pd (fun p => fa 4 (a + p)) cn q 1 9; { rfl }; { rw [hz] at c40; exact absurd c40 (pd_nn (n := cn) (p := q) (lo := 1) (hi := 9) (Or.inr rfl) (Or.inr (Or.inr (Or.inr rfl))) hz) }
    refine lv_iconst (v := 0) hx hb dX1_readDeed_47 (by decide) ?_
    exact W.zret hx hb hr (rfl) (nEnd hN hS ⟨_, _, rfl, rfl, ⟨by rw [hd]; rfl, rfl, rfl⟩⟩) hS.2 dX1_readDeed_48
  · have hd : pd (fun p => fa 4 (a + p)) cn q 1 9 = true := by cases hz : pd (fun p => fa 4 (a + p)) cn q 1 9; { rw [hz] at c40; exact absurd rfl c40 }; { rfl }
    refine lv_iconst (v := 1) hx hb dX1_readDeed_43 (by decide) ?_
    refine lv_goto (tgt := 48) hx hb dX1_readDeed_44 (by decide) ?_
    exact W.zret hx hb hr (rfl) (nEnd hN hS ⟨_, _, rfl, rfl, ⟨by rw [hd]; rfl, rfl, rfl⟩⟩) hS.2 dX1_readDeed_48
set_option maxHeartbeats 4000000 in
set_option maxRecDepth 100000 in
theorem mX1_readPerson (l : Launch) (G : nG) (ad : Nat → Nat) (x : nPic) (fi : Nat → Int32) (fa : Nat → Nat → Int32) (a q cn : Nat) (hA : fi 12 = nI (a + q)) (hE : a + cn ≤ 240) (hq : q < 1000) (k : Nat) (hk : fi 14 = nI k) (hk4 : k < 4) : Met l yX1_readPerson (ws_ yX1_readPerson cX1_readPerson 6 (some .boolean)) (mR 2) (nPc G nCl (nK G) ad (mPic G x ad fi fa) [.ref (ad 50), .int (nI (a + cn))]) (nQ G nCl (mP G ad x (fun rv fi' fa' => rv = some (.int (zI (pPer (fun p => fa 4 (a + p)) cn q).1)) ∧ fi' 12 = nI (a + (pPer (fun p => fa 4 (a + p)) cn q).2) ∧ ((pPer (fun p => fa 4 (a + p)) cn q).1 = true → fi' 14 = nI (k + 1) ∧ fa' 16 (3 * k) = pK (fa 4 (a + q)) ∧ fa' 16 (3 * k + 1) = 10 * (fa 4 (a + (q + 1)) - 48) + (fa 4 (a + (q + 2)) - 48) ∧ fa' 16 (3 * k + 2) = fa 4 (a + (q + 3)) - 48) ∧ (∀ j, j < 3 * k → fa' 16 j = fa 16 j) ∧ mEq fi fa fi' fa' ∧ fi' 13 = fi 13 ∧ fa' 15 = fa 15))) 0 0 (fun q => G.2 ≤ q) := by
  refine nMet RX1 (by decide) rfl (Nat.le_of_ble_eq_true rfl) ?_
  intro p e s m below meth c ls SS hR hK hN hS hl
  obtain ⟨hx, hb, hml, hown, hts⟩ := id SS
  obtain ⟨hr, hlk, hnm⟩ := hR
  generalize s.heap = H at hN hS ⊢
  generalize ([] : List Loc) = locs at hS ⊢
  have hl : lv_has ls 6 [(0, .ref (ad 50)), (1, .int (nI (a + cn)))] := hl
  refine lv_iconst (v := (nI 3)) hx hb dX1_readPerson_0 (rfl) ?_
  refine lv_aload_n hx hb dX1_readPerson_1 rfl (lv_at hl 0 rfl) ?_
  refine m_get (v := .int (nI k)) SS hK hN 14 (by decide) q1133 rfl (by rw [← hk]; rfl) dX1_readPerson_2 ?_
  refine lv_imul hx hb dX1_readPerson_5 ?_
  refine n_top (y := nI (3 * k)) (pk_mul _ _) ?_
  refine lv_istore_n (lv' := [(2, _), (0, _), (1, _)]) hx hb dX1_readPerson_6 rfl hl (by decide) rfl (fun ls hl => ?_)
  have j28 : ∀ (code : Int32), code = (if q < cn then fa 4 (a + q) else 0) → W p l e (mR 2) s m ([.ref (ad 50), .int (nI (a + cn))] : List Value).toArray below meth c H locs 0 0 (MQ below (nQ G nCl (mP G ad x (fun rv fi' fa' => rv = some (.int (zI (pPer (fun p => fa 4 (a + p)) cn q).1)) ∧ fi' 12 = nI (a + (pPer (fun p => fa 4 (a + p)) cn q).2) ∧ ((pPer (fun p => fa 4 (a + p)) cn q).1 = true → fi' 14 = nI (k + 1) ∧ fa' 16 (3 * k) = pK (fa 4 (a + q)) ∧ fa' 16 (3 * k + 1) = 10 * (fa 4 (a + (q + 1)) - 48) + (fa 4 (a + (q + 2)) - 48) ∧ fa' 16 (3 * k + 2) = fa 4 (a + (q + 3)) - 48) ∧ (∀ j, j < 3 * k → fa' 16 j = fa 16 j) ∧ mEq fi fa fi' fa' ∧ fi' 13 = fi 13 ∧ fa' 15 = fa 15))) ([.ref (ad 50), .int (nI (a + cn))] : List Value).toArray s 0 0 (fun q => G.2 ≤ q)) (F0 m 28 ls [.int code]) := by
    intro code hcode
    refine lv_istore_n (lv' := [(3, _), (2, _), (0, _), (1, _)]) hx hb dX1_readPerson_28 rfl hl (by decide) rfl (fun ls hl => ?_)
    refine lv_aload_n hx hb dX1_readPerson_29 rfl (lv_at hl 2 rfl) ?_
    refine m_get SS hK hN 16 (by decide) q1135 rfl rfl dX1_readPerson_30 ?_
    refine lv_iload_n hx hb dX1_readPerson_33 rfl (lv_at hl 1 rfl) ?_
    have j66 : ∀ (kd : Int32), kd = pK code → W p l e (mR 2) s m ([.ref (ad 50), .int (nI (a + cn))] : List Value).toArray below meth c H locs 0 0 (MQ below (nQ G nCl (mP G ad x (fun rv fi' fa' => rv = some (.int (zI (pPer (fun p => fa 4 (a + p)) cn q).1)) ∧ fi' 12 = nI (a + (pPer (fun p => fa 4 (a + p)) cn q).2) ∧ ((pPer (fun p => fa 4 (a + p)) cn q).1 = true → fi' 14 = nI (k + 1) ∧ fa' 16 (3 * k) = pK (fa 4 (a + q)) ∧ fa' 16 (3 * k + 1) = 10 * (fa 4 (a + (q + 1)) - 48) + (fa 4 (a + (q + 2)) - 48) ∧ fa' 16 (3 * k + 2) = fa 4 (a + (q + 3)) - 48) ∧ (∀ j, j < 3 * k → fa' 16 j = fa 16 j) ∧ mEq fi fa fi' fa' ∧ fi' 13 = fi 13 ∧ fa' 15 = fa 15))) ([.ref (ad 50), .int (nI (a + cn))] : List Value).toArray s 0 0 (fun q => G.2 ≤ q)) (F0 m 66 ls [.int kd, .int (nI (3 * k)), .ref (ad 66)]) := by
      intro kd hkd
      refine m_ast SS hK hN hS 16 rfl (3 * k) (rfl) (by show _ < (12 : Nat); omega) dX1_readPerson_66 (fun H locs hN hS => ?_)
      refine lv_aload_n hx hb dX1_readPerson_67 rfl (lv_at hl 2 rfl) ?_
      refine m_get SS hK hN 16 (by decide) q1135 rfl rfl dX1_readPerson_68 ?_
      refine lv_iload_n hx hb dX1_readPerson_71 rfl (lv_at hl 1 rfl) ?_
      refine m_ald SS hK hN 16 rfl (3 * k) (rfl) (by show _ < (12 : Nat); omega) dX1_readPerson_72 ?_
      refine n_top (y := kd) (pk_us) ?_
      refine lv_bipush (v := (-9)) hx hb dX1_readPerson_73 (by decide) ?_
      refine lv_icmp_ne (tgt := 80) hx hb dX1_readPerson_75 (by decide) (fun c75 => ?_) (fun c75 => ?_)
      · have hqc : q < cn := by rcases Nat.lt_or_ge q cn with z | z; { exact z }; { rw [if_neg (by omega)] at hcode; exact absurd (by rw [hkd, hcode]; decide) c75 }
        rw [if_pos hqc] at hcode
        rw [hcode] at hkd
        have hgo : q < cn ∧ ¬ pK (fa 4 (a + q)) = -9 := ⟨hqc, by rw [← hkd]; exact c75⟩
        refine lv_aload_n hx hb dX1_readPerson_80 rfl (lv_at hl 2 rfl) ?_
        refine lv_dup hx hb dX1_readPerson_81 rfl ?_
        refine m_get (v := .int (nI (a + q))) SS hK hN 12 (by decide) q1131 rfl (by rw [← hA]; rfl) dX1_readPerson_82 ?_
        refine lv_iconst (v := 1) hx hb dX1_readPerson_85 (by decide) ?_
        refine lv_iadd hx hb dX1_readPerson_86 ?_
        refine n_top (y := nI (a + (q + 1))) (nI_1 _) ?_
        refine m_put SS hK hN hS 12 (by decide) q1131 rfl rfl rfl rfl dX1_readPerson_87 (fun H locs hN hS => ?_)
        refine lv_aload_n hx hb dX1_readPerson_90 rfl (lv_at hl 2 rfl) ?_
        refine lv_iload_n hx hb dX1_readPerson_91 rfl (lv_at hl 3 rfl) ?_
        refine lv_iconst (v := 0) hx hb dX1_readPerson_92 (by decide) ?_
        refine lv_bipush (v := 6) hx hb dX1_readPerson_93 (by decide) ?_
        refine n_callV (C := RX1) (As := [_, _, _]) (b := 50) SS (nK_o G) hK hK (mX1_digit l G ad x (upd fi 12 (nI (a + (q + 1)))) (va_up fa 16 (upd (fa 16) (3 * k) kd)) a (q + 1) cn rfl hE (by omega) 0 6) (cwV 3 hts (lw_V q1228 q1230 qs38 q61 q1231) rfl rfl rfl (by decide +kernel) ⟨Nat.le_of_ble_eq_true rfl, Nat.le_of_ble_eq_true rfl⟩) hN hS mPic_o rfl rfl hl.1 rfl (Nat.le_of_ble_eq_true rfl) dX1_readPerson_95 ⟨Nat.le_of_ble_eq_true rfl, Nat.le_of_ble_eq_true rfl⟩ (fun v ad' c' H locs hv hN hS => ?_)
        obtain ⟨_, _, rfl, rfl, rfl, rfl, rfl⟩ := hv
        refine W.eq (g2 := F0 m 98 ls (_ :: _)) rfl ?_
        rcases Bool.eq_false_or_eq_true (pd (fun p => fa 4 (a + p)) cn (q + 1) 0 6) with hz1 | hz1
        · have hN := hN.congr (c' := mPic G x ad (upd fi 12 (nI (a + (q + 2)))) (va_up fa 16 (upd (fa 16) (3 * k) kd))) (by rw [upd_upd]; exact congrArg (fun z => mPic G x ad (upd fi 12 (nI z)) (va_up fa 16 (upd (fa 16) (3 * k) kd))) (if_pos hz1))
          refine n_top (y := (fa 4 (a + (q + 1)) - 48)) (if_pos hz1) ?_
          refine lv_istore (lv' := [(4, _), (3, _), (2, _), (0, _), (1, _)]) hx hb dX1_readPerson_98 hl (by decide) rfl (fun ls hl => ?_)
          refine lv_iload hx hb dX1_readPerson_100 (lv_at hl 0 rfl) ?_
          refine lv_bipush (v := (-9)) hx hb dX1_readPerson_102 (by decide) ?_
          refine lv_icmp_ne (tgt := 109) hx hb dX1_readPerson_104 (by decide) (fun c104 => ?_) (fun c104 => absurd c104 (pd_nn (cd := (fun p => fa 4 (a + p))) (p := q + 1) (Or.inl rfl) (Or.inr (Or.inr (Or.inl rfl))) hz1))
          refine lv_aload_n hx hb dX1_readPerson_109 rfl (lv_at hl 3 rfl) ?_
          refine lv_iload_n hx hb dX1_readPerson_110 rfl (lv_at hl 4 rfl) ?_
          refine lv_iconst (v := 0) hx hb dX1_readPerson_111 (by decide) ?_
          have j125 : ∀ (_u : Unit), True → W p l e (mR 2) s m ([.ref (ad 50), .int (nI (a + cn))] : List Value).toArray below meth c H locs 0 0 (MQ below (nQ G nCl (mP G ad x (fun rv fi' fa' => rv = some (.int (zI (pPer (fun p => fa 4 (a + p)) cn q).1)) ∧ fi' 12 = nI (a + (pPer (fun p => fa 4 (a + p)) cn q).2) ∧ ((pPer (fun p => fa 4 (a + p)) cn q).1 = true → fi' 14 = nI (k + 1) ∧ fa' 16 (3 * k) = pK (fa 4 (a + q)) ∧ fa' 16 (3 * k + 1) = 10 * (fa 4 (a + (q + 1)) - 48) + (fa 4 (a + (q + 2)) - 48) ∧ fa' 16 (3 * k + 2) = fa 4 (a + (q + 3)) - 48) ∧ (∀ j, j < 3 * k → fa' 16 j = fa 16 j) ∧ mEq fi fa fi' fa' ∧ fi' 13 = fi 13 ∧ fa' 15 = fa 15))) ([.ref (ad 50), .int (nI (a + cn))] : List Value).toArray s 0 0 (fun q => G.2 ≤ q)) (F0 m 125 ls [.int (pOnes (fun p => fa 4 (a + p)) q), .int 0, .int (nI (a + cn)), .ref (ad 50)]) := by
            intro _u _t
            refine n_callV (C := RX1) (As := [_, _, _]) (b := 50) SS (nK_o G) hK hK (mX1_digit l G ad x (upd fi 12 (nI (a + (q + 2)))) (va_up fa 16 (upd (fa 16) (3 * k) kd)) a (q + 2) cn rfl hE (by omega) 0 (pOnes (fun p => fa 4 (a + p)) q)) (cwV 3 hts (lw_V q1228 q1230 qs38 q61 q1231) rfl rfl rfl (by decide +kernel) ⟨Nat.le_of_ble_eq_true rfl, Nat.le_of_ble_eq_true rfl⟩) hN hS mPic_o rfl rfl hl.1 rfl (Nat.le_of_ble_eq_true rfl) dX1_readPerson_125 ⟨Nat.le_of_ble_eq_true rfl, Nat.le_of_ble_eq_true rfl⟩ (fun v ad' c' H locs hv hN hS => ?_)
            obtain ⟨_, _, rfl, rfl, rfl, rfl, rfl⟩ := hv
            refine W.eq (g2 := F0 m 128 ls (_ :: _)) rfl ?_
            rcases Bool.eq_false_or_eq_true (pd (fun p => fa 4 (a + p)) cn (q + 2) 0 (pOnes (fun p => fa 4 (a + p)) q)) with hz2 | hz2
            · have hN := hN.congr (c' := mPic G x ad (upd fi 12 (nI (a + (q + 3)))) (va_up fa 16 (upd (fa 16) (3 * k) kd))) (by rw [upd_upd]; exact congrArg (fun z => mPic G x ad (upd fi 12 (nI z)) (va_up fa 16 (upd (fa 16) (3 * k) kd))) (if_pos hz2))
              refine n_top (y := (fa 4 (a + (q + 2)) - 48)) (if_pos hz2) ?_
              refine lv_istore (lv' := [(5, _), (4, _), (3, _), (2, _), (0, _), (1, _)]) hx hb dX1_readPerson_128 hl (by decide) rfl (fun ls hl => ?_)
              refine lv_iload hx hb dX1_readPerson_130 (lv_at hl 0 rfl) ?_
              refine lv_bipush (v := (-9)) hx hb dX1_readPerson_132 (by decide) ?_
              refine lv_icmp_ne (tgt := 139) hx hb dX1_readPerson_134 (by decide) (fun c134 => ?_) (fun c134 => absurd c134 (pd_nn (cd := (fun p => fa 4 (a + p))) (p := q + 2) (Or.inl rfl) (by rcases pOnes_in (fun p => fa 4 (a + p)) q with z | z; { exact Or.inl z }; { exact Or.inr (Or.inr (Or.inr z)) }) hz2))
              refine lv_aload_n hx hb dX1_readPerson_139 rfl (lv_at hl 4 rfl) ?_
              refine m_get SS hK hN 16 (by decide) q1135 rfl rfl dX1_readPerson_140 ?_
              refine lv_iload_n hx hb dX1_readPerson_143 rfl (lv_at hl 3 rfl) ?_
              refine lv_iconst (v := 1) hx hb dX1_readPerson_144 (by decide) ?_
              refine lv_iadd hx hb dX1_readPerson_145 ?_
              refine n_top (y := nI (3 * k + 1)) (nI_1 _) ?_
              refine lv_bipush (v := 10) hx hb dX1_readPerson_146 (by decide) ?_
              refine lv_iload hx hb dX1_readPerson_148 (lv_at hl 1 rfl) ?_
              refine lv_imul hx hb dX1_readPerson_150 ?_
              refine lv_iload hx hb dX1_readPerson_151 (lv_at hl 0 rfl) ?_
              refine lv_iadd hx hb dX1_readPerson_153 ?_
              refine m_ast SS hK hN hS 16 rfl (3 * k + 1) (rfl) (by show _ < (12 : Nat); omega) dX1_readPerson_154 (fun H locs hN hS => ?_)
              have hN := hN.congr (c' := mPic G x ad (upd fi 12 (nI (a + (q + 3)))) (va_up fa 16 (upd (upd (fa 16) (3 * k) kd) (3 * k + 1) (10 * (fa 4 (a + (q + 1)) - 48) + (fa 4 (a + (q + 2)) - 48))))) (by rw [bx_uu]; rfl)
              refine lv_aload_n hx hb dX1_readPerson_155 rfl (lv_at hl 4 rfl) ?_
              refine m_get SS hK hN 16 (by decide) q1135 rfl rfl dX1_readPerson_156 ?_
              refine lv_iload_n hx hb dX1_readPerson_159 rfl (lv_at hl 3 rfl) ?_
              refine lv_iconst (v := 2) hx hb dX1_readPerson_160 (by decide) ?_
              refine lv_iadd hx hb dX1_readPerson_161 ?_
              refine n_top (y := nI (3 * k + 2)) (nI_add _ 2) ?_
              refine lv_aload_n hx hb dX1_readPerson_162 rfl (lv_at hl 4 rfl) ?_
              refine lv_iload_n hx hb dX1_readPerson_163 rfl (lv_at hl 5 rfl) ?_
              refine lv_iconst (v := 0) hx hb dX1_readPerson_164 (by decide) ?_
              refine lv_iconst (v := 4) hx hb dX1_readPerson_165 (by decide) ?_
              refine n_callV (C := RX1) (As := [_, _, _]) (b := 50) SS (nK_o G) hK hK (mX1_digit l G ad x (upd fi 12 (nI (a + (q + 3)))) (va_up fa 16 (upd (upd (fa 16) (3 * k) kd) (3 * k + 1) (10 * (fa 4 (a + (q + 1)) - 48) + (fa 4 (a + (q + 2)) - 48)))) a (q + 3) cn rfl hE (by omega) 0 4) (cwV 3 hts (lw_V q1228 q1230 qs38 q61 q1231) rfl rfl rfl (by decide +kernel) ⟨Nat.le_of_ble_eq_true rfl, Nat.le_of_ble_eq_true rfl⟩) hN hS mPic_o rfl rfl hl.1 rfl (Nat.le_of_ble_eq_true rfl) dX1_readPerson_166 ⟨Nat.le_of_ble_eq_true rfl, Nat.le_of_ble_eq_true rfl⟩ (fun v ad' c' H locs hv hN hS => ?_)
              obtain ⟨_, _, rfl, rfl, rfl, rfl, rfl⟩ := hv
              refine W.eq (g2 := F0 m 169 ls (_ :: _)) rfl ?_
              rcases Bool.eq_false_or_eq_true (pd (fun p => fa 4 (a + p)) cn (q + 3) 0 4) with hz3 | hz3
              · have hN := hN.congr (c' := mPic G x ad (upd fi 12 (nI (a + (q + 4)))) (va_up fa 16 (upd (upd (fa 16) (3 * k) kd) (3 * k + 1) (10 * (fa 4 (a + (q + 1)) - 48) + (fa 4 (a + (q + 2)) - 48))))) (by rw [upd_upd]; exact congrArg (fun z => mPic G x ad (upd fi 12 (nI z)) (va_up fa 16 (upd (upd (fa 16) (3 * k) kd) (3 * k + 1) (10 * (fa 4 (a + (q + 1)) - 48) + (fa 4 (a + (q + 2)) - 48))))) (if_pos hz3))
                refine n_top (y := (fa 4 (a + (q + 3)) - 48)) (if_pos hz3) ?_
                refine m_ast SS hK hN hS 16 rfl (3 * k + 2) (rfl) (by show _ < (12 : Nat); omega) dX1_readPerson_169 (fun H locs hN hS => ?_)
                refine lv_aload_n hx hb dX1_readPerson_170 rfl (lv_at hl 4 rfl) ?_
                refine lv_dup hx hb dX1_readPerson_171 rfl ?_
                refine m_get (v := .int (nI k)) SS hK hN 14 (by decide) q1133 rfl (by rw [← hk]; rfl) dX1_readPerson_172 ?_
                refine lv_iconst (v := 1) hx hb dX1_readPerson_175 (by decide) ?_
                refine lv_iadd hx hb dX1_readPerson_176 ?_
                refine n_top (y := nI (k + 1)) (nI_1 _) ?_
                refine m_put SS hK hN hS 14 (by decide) q1133 rfl rfl rfl rfl dX1_readPerson_177 (fun H locs hN hS => ?_)
                refine lv_aload_n hx hb dX1_readPerson_180 rfl (lv_at hl 4 rfl) ?_
                refine m_get SS hK hN 16 (by decide) q1135 rfl rfl dX1_readPerson_181 ?_
                refine lv_iload_n hx hb dX1_readPerson_184 rfl (lv_at hl 3 rfl) ?_
                refine lv_iconst (v := 2) hx hb dX1_readPerson_185 (by decide) ?_
                refine lv_iadd hx hb dX1_readPerson_186 ?_
                refine n_top (y := nI (3 * k + 2)) (nI_add _ 2) ?_
                refine m_ald SS hK hN 16 rfl (3 * k + 2) (rfl) (by show _ < (12 : Nat); omega) dX1_readPerson_187 ?_
                refine n_top (y := (fa 4 (a + (q + 3)) - 48)) (pk_us) ?_
                refine lv_bipush (v := (-9)) hx hb dX1_readPerson_188 (by decide) ?_
                refine lv_icmp_eq (tgt := 197) hx hb dX1_readPerson_190 (by decide) (fun c190 => absurd c190 (pd_nn (cd := (fun p => fa 4 (a + p))) (p := q + 3) (Or.inl rfl) (Or.inr (Or.inl rfl)) hz3)) (fun c190 => ?_)
                have hper : pPer (fun p => fa 4 (a + p)) cn q = (true, q + 4) := by unfold pPer; rw [if_pos hgo, if_pos hz1, if_pos hz2, if_pos hz3]
                refine lv_iconst (v := 1) hx hb dX1_readPerson_193 (by decide) ?_
                refine lv_goto (tgt := 198) hx hb dX1_readPerson_194 (by decide) ?_
                exact W.zret hx hb hr (rfl) (nEnd hN hS ⟨_, _, rfl, rfl, ⟨by rw [hper]; rfl, by rw [hper]; rfl, fun _ => ⟨rfl, by rw [← hkd]; exact (pk_un (by omega)).trans ((pk_un (by omega)).trans pk_us), (pk_un (by omega)).trans pk_us, pk_us⟩, (fun j hj => (pk_un (by omega)).trans ((pk_un (by omega)).trans (pk_un (by omega)))), (((mEq.rf.ji 12 rfl _).ji 14 rfl _).ja 16 rfl _).ja 16 rfl _, rfl, rfl⟩⟩) hS.2 dX1_readPerson_198
              · have hz3 : ¬ (pd (fun p => fa 4 (a + p)) cn (q + 3) 0 4) = true := by rw [hz3]; decide
                have hN := hN.congr (c' := mPic G x ad (upd fi 12 (nI (a + (q + 3)))) (va_up fa 16 (upd (upd (fa 16) (3 * k) kd) (3 * k + 1) (10 * (fa 4 (a + (q + 1)) - 48) + (fa 4 (a + (q + 2)) - 48))))) (by rw [upd_upd]; exact congrArg (fun z => mPic G x ad (upd fi 12 (nI z)) (va_up fa 16 (upd (upd (fa 16) (3 * k) kd) (3 * k + 1) (10 * (fa 4 (a + (q + 1)) - 48) + (fa 4 (a + (q + 2)) - 48))))) (if_neg hz3))
                refine n_top (y := -9) (if_neg hz3) ?_
                refine m_ast SS hK hN hS 16 rfl (3 * k + 2) (rfl) (by show _ < (12 : Nat); omega) dX1_readPerson_169 (fun H locs hN hS => ?_)
                refine lv_aload_n hx hb dX1_readPerson_170 rfl (lv_at hl 4 rfl) ?_
                refine lv_dup hx hb dX1_readPerson_171 rfl ?_
                refine m_get (v := .int (nI k)) SS hK hN 14 (by decide) q1133 rfl (by rw [← hk]; rfl) dX1_readPerson_172 ?_
                refine lv_iconst (v := 1) hx hb dX1_readPerson_175 (by decide) ?_
                refine lv_iadd hx hb dX1_readPerson_176 ?_
                refine n_top (y := nI (k + 1)) (nI_1 _) ?_
                refine m_put SS hK hN hS 14 (by decide) q1133 rfl rfl rfl rfl dX1_readPerson_177 (fun H locs hN hS => ?_)
                refine lv_aload_n hx hb dX1_readPerson_180 rfl (lv_at hl 4 rfl) ?_
                refine m_get SS hK hN 16 (by decide) q1135 rfl rfl dX1_readPerson_181 ?_
                refine lv_iload_n hx hb dX1_readPerson_184 rfl (lv_at hl 3 rfl) ?_
                refine lv_iconst (v := 2) hx hb dX1_readPerson_185 (by decide) ?_
                refine lv_iadd hx hb dX1_readPerson_186 ?_
                refine n_top (y := nI (3 * k + 2)) (nI_add _ 2) ?_
                refine m_ald SS hK hN 16 rfl (3 * k + 2) (rfl) (by show _ < (12 : Nat); omega) dX1_readPerson_187 ?_
                refine n_top (y := -9) (pk_us) ?_
                refine lv_bipush (v := (-9)) hx hb dX1_readPerson_188 (by decide) ?_
                refine lv_icmp_eq (tgt := 197) hx hb dX1_readPerson_190 (by decide) (fun c190 => ?_) (fun c190 => absurd c190 (fun z => z rfl))
                have hper : pPer (fun p => fa 4 (a + p)) cn q = (false, q + 3) := by unfold pPer; rw [if_pos hgo, if_pos hz1, if_pos hz2, if_neg hz3]
                refine lv_iconst (v := 0) hx hb dX1_readPerson_197 (by decide) ?_
                exact W.zret hx hb hr (rfl) (nEnd hN hS ⟨_, _, rfl, rfl, ⟨by rw [hper]; rfl, by rw [hper]; rfl, (fun z => absurd z (by rw [hper]; exact Bool.false_ne_true)), (fun j hj => (pk_un (by omega)).trans ((pk_un (by omega)).trans (pk_un (by omega)))), (((mEq.rf.ji 12 rfl _).ji 14 rfl _).ja 16 rfl _).ja 16 rfl _, rfl, rfl⟩⟩) hS.2 dX1_readPerson_198
            · have hz2 : ¬ (pd (fun p => fa 4 (a + p)) cn (q + 2) 0 (pOnes (fun p => fa 4 (a + p)) q)) = true := by rw [hz2]; decide
              have hN := hN.congr (c' := mPic G x ad (upd fi 12 (nI (a + (q + 2)))) (va_up fa 16 (upd (fa 16) (3 * k) kd))) (by rw [upd_upd]; exact congrArg (fun z => mPic G x ad (upd fi 12 (nI z)) (va_up fa 16 (upd (fa 16) (3 * k) kd))) (if_neg hz2))
              refine n_top (y := -9) (if_neg hz2) ?_
              refine lv_istore (lv' := [(5, _), (4, _), (3, _), (2, _), (0, _), (1, _)]) hx hb dX1_readPerson_128 hl (by decide) rfl (fun ls hl => ?_)
              refine lv_iload hx hb dX1_readPerson_130 (lv_at hl 0 rfl) ?_
              refine lv_bipush (v := (-9)) hx hb dX1_readPerson_132 (by decide) ?_
              refine lv_icmp_ne (tgt := 139) hx hb dX1_readPerson_134 (by decide) (fun c134 => absurd c134 (fun z => z rfl)) (fun c134 => ?_)
              have hper : pPer (fun p => fa 4 (a + p)) cn q = (false, q + 2) := by unfold pPer; rw [if_pos hgo, if_pos hz1, if_neg hz2]
              refine lv_iconst (v := 0) hx hb dX1_readPerson_137 (by decide) ?_
              exact W.zret hx hb hr (rfl) (nEnd hN hS ⟨_, _, rfl, rfl, ⟨by rw [hper]; rfl, by rw [hper]; rfl, (fun z => absurd z (by rw [hper]; exact Bool.false_ne_true)), (fun j hj => pk_un (by omega)), (mEq.rf.ji 12 rfl _).ja 16 rfl _, rfl, rfl⟩⟩) hS.2 dX1_readPerson_138
          refine lv_iload hx hb dX1_readPerson_112 (lv_at hl 0 rfl) ?_
          refine lv_bipush (v := 6) hx hb dX1_readPerson_114 (by decide) ?_
          refine lv_icmp_ne (tgt := 123) hx hb dX1_readPerson_116 (by decide) (fun c116 => ?_) (fun c116 => ?_)
          · refine lv_bipush (v := 9) hx hb dX1_readPerson_123 (by decide) ?_
            refine n_top (y := pOnes (fun p => fa 4 (a + p)) q) (by unfold pOnes; first | exact (if_pos c116).symm | exact (if_neg c116).symm) ?_
            exact j125 () trivial
          · refine lv_iconst (v := 3) hx hb dX1_readPerson_119 (by decide) ?_
            refine lv_goto (tgt := 125) hx hb dX1_readPerson_120 (by decide) ?_
            refine n_top (y := pOnes (fun p => fa 4 (a + p)) q) (by unfold pOnes; first | exact (if_pos c116).symm | exact (if_neg c116).symm) ?_
            exact j125 () trivial
        · have hz1 : ¬ (pd (fun p => fa 4 (a + p)) cn (q + 1) 0 6) = true := by rw [hz1]; decide
          have hN := hN.congr (c' := mPic G x ad (upd fi 12 (nI (a + (q + 1)))) (va_up fa 16 (upd (fa 16) (3 * k) kd))) (by rw [upd_upd]; exact congrArg (fun z => mPic G x ad (upd fi 12 (nI z)) (va_up fa 16 (upd (fa 16) (3 * k) kd))) (if_neg hz1))
          refine n_top (y := -9) (if_neg hz1) ?_
          refine lv_istore (lv' := [(4, _), (3, _), (2, _), (0, _), (1, _)]) hx hb dX1_readPerson_98 hl (by decide) rfl (fun ls hl => ?_)
          refine lv_iload hx hb dX1_readPerson_100 (lv_at hl 0 rfl) ?_
          refine lv_bipush (v := (-9)) hx hb dX1_readPerson_102 (by decide) ?_
          refine lv_icmp_ne (tgt := 109) hx hb dX1_readPerson_104 (by decide) (fun c104 => absurd c104 (fun z => z rfl)) (fun c104 => ?_)
          have hper : pPer (fun p => fa 4 (a + p)) cn q = (false, q + 1) := by unfold pPer; rw [if_pos hgo, if_neg hz1]
          refine lv_iconst (v := 0) hx hb dX1_readPerson_107 (by decide) ?_
          exact W.zret hx hb hr (rfl) (nEnd hN hS ⟨_, _, rfl, rfl, ⟨by rw [hper]; rfl, by rw [hper]; rfl, (fun z => absurd z (by rw [hper]; exact Bool.false_ne_true)), (fun j hj => pk_un (by omega)), (mEq.rf.ji 12 rfl _).ja 16 rfl _, rfl, rfl⟩⟩) hS.2 dX1_readPerson_108
      · have hper : pPer (fun p => fa 4 (a + p)) cn q = (false, q) := by unfold pPer; rw [if_neg (fun z => by rw [if_pos z.1] at hcode; exact z.2 (by show pK (fa 4 (a + q)) = -9; rw [← hcode, ← hkd]; exact c75))]
        refine lv_iconst (v := 0) hx hb dX1_readPerson_78 (by decide) ?_
        exact W.zret hx hb hr (rfl) (nEnd hN hS ⟨_, _, rfl, rfl, ⟨by rw [hper]; rfl, by rw [hper]; exact hA, (fun z => absurd z (by rw [hper]; exact Bool.false_ne_true)), (fun j hj => pk_un (by omega)), mEq.rf.ja 16 rfl _, rfl, rfl⟩⟩) hS.2 dX1_readPerson_79
    refine lv_iload_n hx hb dX1_readPerson_34 rfl (lv_at hl 0 rfl) ?_
    refine lv_bipush (v := 112) hx hb dX1_readPerson_35 (by decide) ?_
    refine lv_icmp_ne (tgt := 44) hx hb dX1_readPerson_37 (by decide) (fun c37 => ?_) (fun c37 => ?_)
    · refine lv_iload_n hx hb dX1_readPerson_44 rfl (lv_at hl 0 rfl) ?_
      refine lv_bipush (v := 114) hx hb dX1_readPerson_45 (by decide) ?_
      refine lv_icmp_ne (tgt := 54) hx hb dX1_readPerson_47 (by decide) (fun c47 => ?_) (fun c47 => ?_)
      · refine lv_iload_n hx hb dX1_readPerson_54 rfl (lv_at hl 0 rfl) ?_
        refine lv_bipush (v := 97) hx hb dX1_readPerson_55 (by decide) ?_
        refine lv_icmp_ne (tgt := 64) hx hb dX1_readPerson_57 (by decide) (fun c57 => ?_) (fun c57 => ?_)
        · refine lv_bipush (v := (-9)) hx hb dX1_readPerson_64 (by decide) ?_
          exact j66 _ (by simp_all [pK])
        · refine lv_iconst (v := 2) hx hb dX1_readPerson_60 (by decide) ?_
          refine lv_goto (tgt := 66) hx hb dX1_readPerson_61 (by decide) ?_
          exact j66 _ (by simp_all [pK])
      · refine lv_iconst (v := 1) hx hb dX1_readPerson_50 (by decide) ?_
        refine lv_goto (tgt := 66) hx hb dX1_readPerson_51 (by decide) ?_
        exact j66 _ (by simp_all [pK])
    · refine lv_iconst (v := 0) hx hb dX1_readPerson_40 (by decide) ?_
      refine lv_goto (tgt := 66) hx hb dX1_readPerson_41 (by decide) ?_
      exact j66 _ (by simp_all [pK])
  refine lv_aload_n hx hb dX1_readPerson_7 rfl (lv_at hl 1 rfl) ?_
  refine m_get (v := .int (nI (a + q))) SS hK hN 12 (by decide) q1131 rfl (by rw [← hA]; rfl) dX1_readPerson_8 ?_
  refine lv_iload_n hx hb dX1_readPerson_11 rfl (lv_at hl 2 rfl) ?_
  refine lv_icmp_ge (tgt := 27) hx hb dX1_readPerson_12 (by decide) (fun c12 => ?_) (fun c12 => ?_)
  · have c12 := (nI_leI (by omega) (by omega)).mp c12
    have c12 : ¬ q < cn := by omega
    refine lv_iconst (v := 0) hx hb dX1_readPerson_27 (by decide) ?_
    exact j28 _ (by simp [c12])
  · have c12 : a + q < a + cn := by rcases Nat.lt_or_ge (a + q) (a + cn) with z | z; { exact z }; { exact absurd (nI_le z (by omega)) c12 }
    have c12 : q < cn := by omega
    refine lv_aload_n hx hb dX1_readPerson_15 rfl (lv_at hl 1 rfl) ?_
    refine m_get SS hK hN 4 (by decide) q1123 rfl rfl dX1_readPerson_16 ?_
    refine lv_aload_n hx hb dX1_readPerson_19 rfl (lv_at hl 1 rfl) ?_
    refine m_get (v := .int (nI (a + q))) SS hK hN 12 (by decide) q1131 rfl (by rw [← hA]; rfl) dX1_readPerson_20 ?_
    refine m_ald SS hK hN 4 rfl (a + q) (rfl) (by show _ < (240 : Nat); omega) dX1_readPerson_23 ?_
    refine lv_goto (tgt := 28) hx hb dX1_readPerson_24 (by decide) ?_
    exact j28 _ (by simp [c12])
set_option maxHeartbeats 4000000 in
set_option maxRecDepth 100000 in
theorem mX1_readTower (l : Launch) (G : nG) (ad : Nat → Nat) (x : nPic) (fi : Nat → Int32) (fa : Nat → Nat → Int32) (a cn : Nat) (hA : fi 12 = nI a) (hE : a + cn ≤ 240) : Met l yX1_readTower (ws_ yX1_readTower cX1_readTower 2 (some .boolean)) (mR 3) (nPc G nCl (nK G) ad (mPic G x ad fi fa) [.ref (ad 50), .int (nI (a + cn))]) (nQ G nCl (mP G ad x (fun rv fi' fa' => rv = some (.int (zI (pT (fun p => fa 4 (a + p)) cn).1)) ∧ fi' 12 = nI (a + (pT (fun p => fa 4 (a + p)) cn).2.1) ∧ ((pT (fun p => fa 4 (a + p)) cn).1 = true → (fi' 13 = nI (pT (fun p => fa 4 (a + p)) cn).2.2.1.1 ∧ (pT (fun p => fa 4 (a + p)) cn).2.2.1.1 ≤ 6 ∧ ∀ j, j < (pT (fun p => fa 4 (a + p)) cn).2.2.1.1 → fa' 15 j = (pT (fun p => fa 4 (a + p)) cn).2.2.1.2 j) ∧ fi' 14 = nI (pT (fun p => fa 4 (a + p)) cn).2.2.2.1 ∧ (pT (fun p => fa 4 (a + p)) cn).2.2.2.1 ≤ 4 ∧ ∀ j, j < (pT (fun p => fa 4 (a + p)) cn).2.2.2.1 → fa' 16 (3 * j) = (pT (fun p => fa 4 (a + p)) cn).2.2.2.2.1 j ∧ fa' 16 (3 * j + 1) = (pT (fun p => fa 4 (a + p)) cn).2.2.2.2.2.1 j ∧ fa' 16 (3 * j + 2) = (pT (fun p => fa 4 (a + p)) cn).2.2.2.2.2.2 j) ∧ mEq fi fa fi' fa'))) 0 0 (fun q => G.2 ≤ q) := by
  refine nMet RX1 (by decide) rfl (Nat.le_of_ble_eq_true rfl) ?_
  intro p e s m below meth c ls SS hR hK hN hS hl
  obtain ⟨hx, hb, hml, hown, hts⟩ := id SS
  obtain ⟨hr, hlk, hnm⟩ := hR
  generalize s.heap = H at hN hS ⊢
  generalize ([] : List Loc) = locs at hS ⊢
  have hl : lv_has ls 2 [(0, .ref (ad 50)), (1, .int (nI (a + cn)))] := hl
  refine lv_aload_n hx hb dX1_readTower_0 rfl (lv_at hl 0 rfl) ?_
  refine lv_iconst (v := 0) hx hb dX1_readTower_1 (by decide) ?_
  refine m_put SS hK hN hS 13 (by decide) q1132 rfl rfl rfl rfl dX1_readTower_2 (fun H locs hN hS => ?_)
  refine lv_aload_n hx hb dX1_readTower_5 rfl (lv_at hl 0 rfl) ?_
  refine lv_iconst (v := 0) hx hb dX1_readTower_6 (by decide) ?_
  refine m_put SS hK hN hS 14 (by decide) q1133 rfl rfl rfl rfl dX1_readTower_7 (fun H locs hN hS => ?_)
  refine lv_aload_n hx hb dX1_readTower_10 rfl (lv_at hl 0 rfl) ?_
  refine lv_iload_n hx hb dX1_readTower_11 rfl (lv_at hl 1 rfl) ?_
  refine lv_bipush (v := 117) hx hb dX1_readTower_12 (by decide) ?_
  refine n_callV (C := RX1) (As := [_, _]) (b := 50) SS (nK_o G) hK hK (mX1_isSign l G ad x (upd (upd fi 13 0) 14 0) fa a 0 cn hA hE (by decide) 117) (cwV 2 hts (lw_V q1220 q1222 qs36 q61 q1223) rfl rfl rfl (by decide +kernel) ⟨Nat.le_of_ble_eq_true rfl, Nat.le_of_ble_eq_true rfl⟩) hN hS mPic_o rfl rfl hl.1 rfl (Nat.le_of_ble_eq_true rfl) dX1_readTower_14 ⟨Nat.le_of_ble_eq_true rfl, Nat.le_of_ble_eq_true rfl⟩ (fun v ad' c' H locs hv hN hS => ?_)
  obtain ⟨_, _, rfl, rfl, rfl, rfl, rfl⟩ := hv
  refine W.eq (g2 := F0 m 17 ls (_ :: _)) rfl ?_
  rcases Bool.eq_false_or_eq_true (pSg (fun p => fa 4 (a + p)) cn (0) 117) with hs0 | hs0
  · have hN := hN.congr (c' := mPic G x ad (upd (upd (upd fi 13 0) 14 0) 12 (nI (a + (0 + 1)))) fa) (by exact congrArg (fun z => mPic G x ad (upd (upd (upd fi 13 0) 14 0) 12 (nI z)) fa) (if_pos hs0))
    refine n_top (y := 1) (by exact congrArg zI hs0) ?_
    refine lv_if_ne (tgt := 22) hx hb dX1_readTower_17 (by decide) (fun c17 => ?_) (fun c17 => absurd c17 (by decide))
    refine lv_aload_n hx hb dX1_readTower_22 rfl (lv_at hl 0 rfl) ?_
    refine lv_iload_n hx hb dX1_readTower_23 rfl (lv_at hl 1 rfl) ?_
    refine lv_bipush (v := 45) hx hb dX1_readTower_24 (by decide) ?_
    refine n_callV (C := RX1) (As := [_, _]) (b := 50) SS (nK_o G) hK hK (mX1_isSign l G ad x (upd (upd (upd fi 13 0) 14 0) 12 (nI (a + (0 + 1)))) fa a 1 cn rfl hE (by decide) 45) (cwV 2 hts (lw_V q1220 q1222 qs36 q61 q1223) rfl rfl rfl (by decide +kernel) ⟨Nat.le_of_ble_eq_true rfl, Nat.le_of_ble_eq_true rfl⟩) hN hS mPic_o rfl rfl hl.1 rfl (Nat.le_of_ble_eq_true rfl) dX1_readTower_26 ⟨Nat.le_of_ble_eq_true rfl, Nat.le_of_ble_eq_true rfl⟩ (fun v ad' c' H locs hv hN hS => ?_)
    obtain ⟨_, _, rfl, rfl, rfl, rfl, rfl⟩ := hv
    refine W.eq (g2 := F0 m 29 ls (_ :: _)) rfl ?_
    rcases Bool.eq_false_or_eq_true (pSg (fun p => fa 4 (a + p)) cn (1) 45) with hsA | hsA
    · have hN := hN.congr (c' := mPic G x ad (upd (upd (upd (upd fi 13 0) 14 0) 12 (nI (a + (0 + 1)))) 12 (nI (a + (1 + 1)))) fa) (by exact congrArg (fun z => mPic G x ad (upd (upd (upd (upd fi 13 0) 14 0) 12 (nI (a + (0 + 1)))) 12 (nI z)) fa) (if_pos hsA))
      refine n_top (y := 1) (by exact congrArg zI hsA) ?_
      refine lv_if_eq (tgt := 40) hx hb dX1_readTower_29 (by decide) (fun c29 => absurd c29 (by decide)) (fun c29 => ?_)
      refine lv_aload_n hx hb dX1_readTower_32 rfl (lv_at hl 0 rfl) ?_
      refine lv_iload_n hx hb dX1_readTower_33 rfl (lv_at hl 1 rfl) ?_
      refine n_callV (C := RX1) (As := [_]) (b := 50) SS (nK_o G) hK hK (mX1_readDeed l G ad x (upd (upd (upd (upd fi 13 0) 14 0) 12 (nI (a + (0 + 1)))) 12 (nI (a + (1 + 1)))) fa a 2 cn rfl hE (by decide) 0 rfl (by decide)) (cwV 1 hts (lw_V q1224 q1226 qs37 q61 q1227) rfl rfl rfl (by decide +kernel) ⟨Nat.le_of_ble_eq_true rfl, Nat.le_of_ble_eq_true rfl⟩) hN hS mPic_o rfl rfl hl.1 rfl (Nat.le_of_ble_eq_true rfl) dX1_readTower_34 ⟨Nat.le_of_ble_eq_true rfl, Nat.le_of_ble_eq_true rfl⟩ (fun v ad' c' H locs hv hN hS => ?_)
      obtain ⟨_, _, rfl, rfl, rfl, rfl, rfl⟩ := hv
      refine W.eq (g2 := F0 m 37 ls (_ :: _)) rfl ?_
      rcases Bool.eq_false_or_eq_true (pd (fun p => fa 4 (a + p)) cn (2) 1 9) with hdB | hdB
      · have hN := hN.congr (c' := mPic G x ad (upd (upd (upd (upd (upd (upd fi 13 0) 14 0) 12 (nI (a + (0 + 1)))) 12 (nI (a + (1 + 1)))) 12 (nI (a + (2 + 1)))) 13 (nI (0 + 1))) (va_up fa 15 (upd (fa 15) (0) (fa 4 (a + (2)) - 48)))) (by exact congrArg (fun z => mPic G x ad (upd (upd (upd (upd (upd (upd fi 13 0) 14 0) 12 (nI (a + (0 + 1)))) 12 (nI (a + (1 + 1)))) 12 (nI (if z = true then a + (2) + 1 else a + (2)))) 13 (nI (0 + 1))) (va_up fa 15 (upd (fa 15) (0) (if z = true then fa 4 (a + (2)) - 48 else -9)))) hdB)
        refine n_top (y := 1) (by exact congrArg zI hdB) ?_
        refine lv_if_ne (tgt := 42) hx hb dX1_readTower_37 (by decide) (fun c37 => ?_) (fun c37 => absurd c37 (by decide))
        obtain ⟨D, hD0⟩ : ∃ D, D = pD (fun p => fa 4 (a + p)) cn 8 1 0 pZ := ⟨_, rfl⟩
        have hDi : pD (fun p => fa 4 (a + p)) cn 8 1 0 pZ = pD (fun p => fa 4 (a + p)) cn 7 3 1 (upd pZ 0 (fa 4 (a + 2) - 48)) := pD_s (f := 7) (by omega) hsA hdB
        have loop42 : ∀ (n : Nat) (f q m_ : Nat) (wr fj : AI) (fb : Nat → AI) (H : Heap) (locs : List Loc) (ls : Array Slot), 8 - m_ ≤ n → m_ + f = 8 → 1 ≤ m_ → m_ ≤ 6 → q ≤ cn → pD (fun p => fa 4 (a + p)) cn f q m_ wr = D → fj 12 = nI (a + q) → fj 13 = nI m_ → fj 14 = nI 0 → (∀ j, j < m_ → fb 15 j = wr j) → mEq fi fa fj fb → nOk G nCl ad (mPic G x ad fj fb) H → nS G s H locs → lv_has ls 2 [(0, .ref (ad 50)), (1, .int (nI (a + cn)))] → W p l e (mR 3) s m ([.ref (ad 50), .int (nI (a + cn))] : List Value).toArray below meth c H locs 0 0 (MQ below (nQ G nCl (mP G ad x (fun rv fi' fa' => rv = some (.int (zI (pT (fun p => fa 4 (a + p)) cn).1)) ∧ fi' 12 = nI (a + (pT (fun p => fa 4 (a + p)) cn).2.1) ∧ ((pT (fun p => fa 4 (a + p)) cn).1 = true → (fi' 13 = nI (pT (fun p => fa 4 (a + p)) cn).2.2.1.1 ∧ (pT (fun p => fa 4 (a + p)) cn).2.2.1.1 ≤ 6 ∧ ∀ j, j < (pT (fun p => fa 4 (a + p)) cn).2.2.1.1 → fa' 15 j = (pT (fun p => fa 4 (a + p)) cn).2.2.1.2 j) ∧ fi' 14 = nI (pT (fun p => fa 4 (a + p)) cn).2.2.2.1 ∧ (pT (fun p => fa 4 (a + p)) cn).2.2.2.1 ≤ 4 ∧ ∀ j, j < (pT (fun p => fa 4 (a + p)) cn).2.2.2.1 → fa' 16 (3 * j) = (pT (fun p => fa 4 (a + p)) cn).2.2.2.2.1 j ∧ fa' 16 (3 * j + 1) = (pT (fun p => fa 4 (a + p)) cn).2.2.2.2.2.1 j ∧ fa' 16 (3 * j + 2) = (pT (fun p => fa 4 (a + p)) cn).2.2.2.2.2.2 j) ∧ mEq fi fa fi' fa'))) ([.ref (ad 50), .int (nI (a + cn))] : List Value).toArray s 0 0 (fun q => G.2 ≤ q)) (F0 m 42 ls []) := by
          intro n
          induction n with
          | zero => intro f q m_ wr fj fb H locs ls hfuel hmf hm1 hm6 hqc hD h12 h13 h14 hwr hE2 hN hS hl; exact absurd hfuel (by omega)
          | succ n ih42 =>
            intro f q m_ wr fj fb H locs ls hfuel hmf hm1 hm6 hqc hD h12 h13 h14 hwr hE2 hN hS hl
            have h4 : fb 4 = fa 4 := hE2.2.2.2.1
            obtain ⟨f, rfl⟩ : ∃ g, f = g + 1 := ⟨f - 1, by omega⟩
            refine lv_aload_n hx hb dX1_readTower_42 rfl (lv_at hl 0 rfl) ?_
            refine m_get (v := .int (nI m_)) SS hK hN 13 (by decide) q1132 rfl (by rw [← h13]; rfl) dX1_readTower_43 ?_
            refine lv_bipush (v := (nI 6)) hx hb dX1_readTower_46 (rfl) ?_
            refine lv_icmp_ge (tgt := 71) hx hb dX1_readTower_48 (by decide) (fun c48 => ?_) (fun c48 => ?_)
            · have c48 := (nI_leI (by omega) (by omega)).mp c48
              have hDx : pD (fun p => fa 4 (a + p)) cn (f + 1) q m_ wr = (true, q, m_, wr) := by rw [pD, if_neg (fun z => by omega), decide_eq_true (by omega)]
              have hq12 := h12
              have hq13 := h13
              have hq14 := h14
              have hqE := hE2
              obtain ⟨PP, hP0⟩ : ∃ PP, PP = pP (fun p => fa 4 (a + p)) cn 6 D.2.1 0 pZ pZ pZ := ⟨_, rfl⟩
              have hDe : D = (true, q, m_, wr) := by rw [← hD]; exact hDx
              have hTok : pT (fun p => fa 4 (a + p)) cn = (PP.1, PP.2.1, D.2.2, PP.2.2) := by unfold pT; rw [if_pos hs0, ← hD0, if_pos (by rw [hDe]), ← hP0]
              have loop71 : ∀ (n : Nat) (f2 q2 k : Nat) (kr dr nr fk : AI) (fc : Nat → AI) (H : Heap) (locs : List Loc) (ls : Array Slot), 6 - k ≤ n → k + f2 = 6 → k ≤ 4 → q2 ≤ cn → pP (fun p => fa 4 (a + p)) cn f2 q2 k kr dr nr = PP → fk 12 = nI (a + q2) → fk 13 = nI m_ → fk 14 = nI k → (∀ j, j < m_ → fc 15 j = wr j) → (∀ j, j < k → fc 16 (3 * j) = kr j ∧ fc 16 (3 * j + 1) = dr j ∧ fc 16 (3 * j + 2) = nr j) → mEq fi fa fk fc → nOk G nCl ad (mPic G x ad fk fc) H → nS G s H locs → lv_has ls 2 [(0, .ref (ad 50)), (1, .int (nI (a + cn)))] → W p l e (mR 3) s m ([.ref (ad 50), .int (nI (a + cn))] : List Value).toArray below meth c H locs 0 0 (MQ below (nQ G nCl (mP G ad x (fun rv fi' fa' => rv = some (.int (zI (pT (fun p => fa 4 (a + p)) cn).1)) ∧ fi' 12 = nI (a + (pT (fun p => fa 4 (a + p)) cn).2.1) ∧ ((pT (fun p => fa 4 (a + p)) cn).1 = true → (fi' 13 = nI (pT (fun p => fa 4 (a + p)) cn).2.2.1.1 ∧ (pT (fun p => fa 4 (a + p)) cn).2.2.1.1 ≤ 6 ∧ ∀ j, j < (pT (fun p => fa 4 (a + p)) cn).2.2.1.1 → fa' 15 j = (pT (fun p => fa 4 (a + p)) cn).2.2.1.2 j) ∧ fi' 14 = nI (pT (fun p => fa 4 (a + p)) cn).2.2.2.1 ∧ (pT (fun p => fa 4 (a + p)) cn).2.2.2.1 ≤ 4 ∧ ∀ j, j < (pT (fun p => fa 4 (a + p)) cn).2.2.2.1 → fa' 16 (3 * j) = (pT (fun p => fa 4 (a + p)) cn).2.2.2.2.1 j ∧ fa' 16 (3 * j + 1) = (pT (fun p => fa 4 (a + p)) cn).2.2.2.2.2.1 j ∧ fa' 16 (3 * j + 2) = (pT (fun p => fa 4 (a + p)) cn).2.2.2.2.2.2 j) ∧ mEq fi fa fi' fa'))) ([.ref (ad 50), .int (nI (a + cn))] : List Value).toArray s 0 0 (fun q => G.2 ≤ q)) (F0 m 71 ls []) := by
                intro n
                induction n with
                | zero => intro f2 q2 k kr dr nr fk fc H locs ls hfuel hkf hk4 hq2 hP g12 g13 g14 hwr2 hrd hE3 hN hS hl; exact absurd hfuel (by omega)
                | succ n ih71 =>
                  intro f2 q2 k kr dr nr fk fc H locs ls hfuel hkf hk4 hq2 hP g12 g13 g14 hwr2 hrd hE3 hN hS hl
                  have h4c : fc 4 = fa 4 := hE3.2.2.2.1
                  obtain ⟨f2, rfl⟩ : ∃ g, f2 = g + 1 := ⟨f2 - 1, by omega⟩
                  refine lv_aload_n hx hb dX1_readTower_71 rfl (lv_at hl 0 rfl) ?_
                  refine m_get (v := .int (nI k)) SS hK hN 14 (by decide) q1133 rfl (by rw [← g14]; rfl) dX1_readTower_72 ?_
                  refine lv_if_eq (tgt := 94) hx hb dX1_readTower_75 (by decide) (fun c75 => ?_) (fun c75 => ?_)
                  · have c75 : k = 0 := (nI_eq (by omega) (by omega)).mp c75
                    have hcond : k = 0 ∨ (k < 4 ∧ q2 < cn) := Or.inl c75
                    refine lv_aload_n hx hb dX1_readTower_94 rfl (lv_at hl 0 rfl) ?_
                    refine lv_iload_n hx hb dX1_readTower_95 rfl (lv_at hl 1 rfl) ?_
                    refine lv_bipush (v := 44) hx hb dX1_readTower_96 (by decide) ?_
                    refine n_callV (C := RX1) (As := [_, _]) (b := 50) SS (nK_o G) hK hK (mX1_isSign l G ad x fk fc a q2 cn g12 hE (by omega) 44) (cwV 2 hts (lw_V q1220 q1222 qs36 q61 q1223) rfl rfl rfl (by decide +kernel) ⟨Nat.le_of_ble_eq_true rfl, Nat.le_of_ble_eq_true rfl⟩) hN hS mPic_o rfl rfl hl.1 rfl (Nat.le_of_ble_eq_true rfl) dX1_readTower_98 ⟨Nat.le_of_ble_eq_true rfl, Nat.le_of_ble_eq_true rfl⟩ (fun v ad' c' H locs hv hN hS => ?_)
                    obtain ⟨_, _, rfl, rfl, rfl, rfl, rfl⟩ := hv
                    refine W.eq (g2 := F0 m 101 ls (_ :: _)) rfl ?_
                    rcases Bool.eq_false_or_eq_true (pSg (fun p => fa 4 (a + p)) cn (q2) 44) with hsE | hsE
                    · have hN := hN.congr (c' := mPic G x ad (upd fk 12 (nI (a + (q2 + 1)))) fc) (by rw [h4c]; exact congrArg (fun z => mPic G x ad (upd fk 12 (nI z)) fc) (if_pos hsE))
                      refine n_top (y := 1) (by rw [h4c]; exact congrArg zI hsE) ?_
                      refine lv_if_eq (tgt := 112) hx hb dX1_readTower_101 (by decide) (fun c101 => absurd c101 (by decide)) (fun c101 => ?_)
                      refine lv_aload_n hx hb dX1_readTower_104 rfl (lv_at hl 0 rfl) ?_
                      refine lv_iload_n hx hb dX1_readTower_105 rfl (lv_at hl 1 rfl) ?_
                      refine n_callV (C := RX1) (As := [_]) (b := 50) SS (nK_o G) hK hK (mX1_readPerson l G ad x (upd fk 12 (nI (a + (q2 + 1)))) fc a (q2 + 1) cn rfl hE (by omega) k g14 (by omega)) (cwV 1 hts (lw_V q1232 q1234 qs39 q61 q1235) rfl rfl rfl (by decide +kernel) ⟨Nat.le_of_ble_eq_true rfl, Nat.le_of_ble_eq_true rfl⟩) hN hS mPic_o rfl rfl hl.1 rfl (Nat.le_of_ble_eq_true rfl) dX1_readTower_106 ⟨Nat.le_of_ble_eq_true rfl, Nat.le_of_ble_eq_true rfl⟩ (fun v ad' c' H locs hv hN hS => ?_)
                      obtain ⟨fk2, fc2, rfl, rfl, rfl, r12, r14, r16, rE0, r13, r15⟩ := hv
                      rw [h4c] at r12 r14
                      have rE : mEq fk fc fk2 fc2 := (mEq.rf.ji 12 rfl _).tr rE0
                      have hpz : pPer (fun p => fc 4 (a + p)) cn (q2 + 1) = pPer (fun p => fa 4 (a + p)) cn (q2 + 1) := by rw [h4c]
                      refine n_top (y := zI (pPer (fun p => fa 4 (a + p)) cn (q2 + 1)).1) (by rw [hpz]) ?_
                      refine W.eq (g2 := F0 m 109 ls (_ :: _)) rfl ?_
                      refine lv_if_ne (tgt := 71) hx hb dX1_readTower_109 (by decide) (fun c109 => ?_) (fun c109 => ?_)
                      · have hpr1 := zI_n0 c109
                        obtain ⟨hpr2, hq5⟩ := pPer_t hpr1
                        have hPs : pP (fun p => fa 4 (a + p)) cn f2 (q2 + 5) (k + 1) (upd kr k (pK (fa 4 (a + (q2 + 1))))) (upd dr k (10 * (fa 4 (a + (q2 + 2)) - 48) + (fa 4 (a + (q2 + 3)) - 48))) (upd nr k (fa 4 (a + (q2 + 4)) - 48)) = PP := by rw [← hP, pP, if_pos hcond, if_pos hsE, if_pos hpr1]
                        exact ih71 f2 (q2 + 5) (k + 1) (upd kr k (pK (fa 4 (a + (q2 + 1))))) (upd dr k (10 * (fa 4 (a + (q2 + 2)) - 48) + (fa 4 (a + (q2 + 3)) - 48))) (upd nr k (fa 4 (a + (q2 + 4)) - 48)) _ _ _ _ _ (by omega) (by omega) (by omega) hq5 hPs (by rw [r12, hpr2]) (by rw [r13]; exact g13) (r14 hpr1).1 (fun j hj => by rw [r15]; exact hwr2 j hj) (fun j hj => by by_cases e : j = k; { subst e; rw [pk_us, pk_us, pk_us]; exact (r14 hpr1).2 }; { rw [pk_un e, pk_un e, pk_un e, r16 (3 * j) (by omega), r16 (3 * j + 1) (by omega), r16 (3 * j + 2) (by omega)]; exact hrd j (by omega) }) (hE3.tr rE) hN hS (lv_sub hl [0, 1] (rfl))
                      · have hpr1 := zI_0.mp c109
                        have hPx : PP = (false, (pPer (fun p => fa 4 (a + p)) cn (q2 + 1)).2, k, kr, dr, nr) := by rw [← hP, pP, if_pos hcond, if_pos hsE, if_neg (by rw [hpr1]; exact Bool.false_ne_true)]
                        refine lv_iconst (v := 0) hx hb dX1_readTower_112 (by decide) ?_
                        exact W.zret hx hb hr (rfl) (nEnd hN hS ⟨_, _, rfl, rfl, ⟨by rw [hTok, hPx]; rfl, by rw [hTok, hPx]; exact r12, (fun z => absurd z (by rw [hTok, hPx]; exact Bool.false_ne_true)), hE3.tr rE⟩⟩) hS.2 dX1_readTower_113
                    · have hsEn : ¬ (pSg (fun p => fa 4 (a + p)) cn (q2) 44) = true := by rw [hsE]; exact Bool.false_ne_true
                      have hN := hN.congr (c' := mPic G x ad (upd fk 12 (nI (a + (q2)))) fc) (by rw [h4c]; exact congrArg (fun z => mPic G x ad (upd fk 12 (nI z)) fc) (if_neg hsEn))
                      refine n_top (y := 0) (by rw [h4c]; exact congrArg zI hsE) ?_
                      refine lv_if_eq (tgt := 112) hx hb dX1_readTower_101 (by decide) (fun c101 => ?_) (fun c101 => absurd c101 (fun z => z rfl))
                      have hPx : PP = (false, q2, k, kr, dr, nr) := by rw [← hP, pP, if_pos hcond, if_neg hsEn]
                      refine lv_iconst (v := 0) hx hb dX1_readTower_112 (by decide) ?_
                      exact W.zret hx hb hr (rfl) (nEnd hN hS ⟨_, _, rfl, rfl, ⟨by rw [hTok, hPx]; rfl, by rw [hTok, hPx]; exact rfl, (fun z => absurd z (by rw [hTok, hPx]; exact Bool.false_ne_true)), hE3.ji 12 rfl _⟩⟩) hS.2 dX1_readTower_113
                  · have c75 : ¬ k = 0 := fun z => c75 (by rw [z]; rfl)
                    refine lv_aload_n hx hb dX1_readTower_78 rfl (lv_at hl 0 rfl) ?_
                    refine m_get (v := .int (nI k)) SS hK hN 14 (by decide) q1133 rfl (by rw [← g14]; rfl) dX1_readTower_79 ?_
                    refine lv_iconst (v := (nI 4)) hx hb dX1_readTower_82 (rfl) ?_
                    refine lv_icmp_ge (tgt := 114) hx hb dX1_readTower_83 (by decide) (fun c83 => ?_) (fun c83 => ?_)
                    · have c83 := (nI_leI (by omega) (by omega)).mp c83
                      have hex : ¬ (k = 0 ∨ (k < 4 ∧ q2 < cn)) := by omega
                      have hPx : PP = (decide (q2 = cn), q2, k, kr, dr, nr) := by rw [← hP, pP, if_neg hex]
                      refine lv_aload_n hx hb dX1_readTower_114 rfl (lv_at hl 0 rfl) ?_
                      refine m_get (v := .int (nI (a + q2))) SS hK hN 12 (by decide) q1131 rfl (by rw [← g12]; rfl) dX1_readTower_115 ?_
                      refine lv_iload_n hx hb dX1_readTower_118 rfl (lv_at hl 1 rfl) ?_
                      refine lv_icmp_ne (tgt := 126) hx hb dX1_readTower_119 (by decide) (fun c119 => ?_) (fun c119 => ?_)
                      · have hne : ¬ q2 = cn := fun z => c119 (by rw [z])
                        refine lv_iconst (v := 0) hx hb dX1_readTower_126 (by decide) ?_
                        exact W.zret hx hb hr (rfl) (nEnd hN hS ⟨_, _, rfl, rfl, ⟨by rw [hTok, hPx]; simp [hne, zI], by rw [hTok, hPx]; exact g12, (fun _ => by rw [hTok, hPx, hDe]; exact ⟨⟨g13, hm6, hwr2⟩, g14, hk4, hrd⟩), hE3⟩⟩) hS.2 dX1_readTower_127
                      · have hne : q2 = cn := by have := (nI_eq (by omega) (by omega)).mp c119; omega
                        refine lv_iconst (v := 1) hx hb dX1_readTower_122 (by decide) ?_
                        refine lv_goto (tgt := 127) hx hb dX1_readTower_123 (by decide) ?_
                        exact W.zret hx hb hr (rfl) (nEnd hN hS ⟨_, _, rfl, rfl, ⟨by rw [hTok, hPx]; simp [hne, zI], by rw [hTok, hPx]; exact g12, (fun _ => by rw [hTok, hPx, hDe]; exact ⟨⟨g13, hm6, hwr2⟩, g14, hk4, hrd⟩), hE3⟩⟩) hS.2 dX1_readTower_127
                    · have c83 : k < 4 := by rcases Nat.lt_or_ge k 4 with z | z; { exact z }; { exact absurd (nI_le z (by omega)) c83 }
                      refine lv_aload_n hx hb dX1_readTower_86 rfl (lv_at hl 0 rfl) ?_
                      refine m_get (v := .int (nI (a + q2))) SS hK hN 12 (by decide) q1131 rfl (by rw [← g12]; rfl) dX1_readTower_87 ?_
                      refine lv_iload_n hx hb dX1_readTower_90 rfl (lv_at hl 1 rfl) ?_
                      refine lv_icmp_ge (tgt := 114) hx hb dX1_readTower_91 (by decide) (fun c91 => ?_) (fun c91 => ?_)
                      · have c91 := (nI_leI (by omega) (by omega)).mp c91
                        have hex : ¬ (k = 0 ∨ (k < 4 ∧ q2 < cn)) := by omega
                        have hPx : PP = (decide (q2 = cn), q2, k, kr, dr, nr) := by rw [← hP, pP, if_neg hex]
                        refine lv_aload_n hx hb dX1_readTower_114 rfl (lv_at hl 0 rfl) ?_
                        refine m_get (v := .int (nI (a + q2))) SS hK hN 12 (by decide) q1131 rfl (by rw [← g12]; rfl) dX1_readTower_115 ?_
                        refine lv_iload_n hx hb dX1_readTower_118 rfl (lv_at hl 1 rfl) ?_
                        refine lv_icmp_ne (tgt := 126) hx hb dX1_readTower_119 (by decide) (fun c119 => ?_) (fun c119 => ?_)
                        · have hne : ¬ q2 = cn := fun z => c119 (by rw [z])
                          refine lv_iconst (v := 0) hx hb dX1_readTower_126 (by decide) ?_
                          exact W.zret hx hb hr (rfl) (nEnd hN hS ⟨_, _, rfl, rfl, ⟨by rw [hTok, hPx]; simp [hne, zI], by rw [hTok, hPx]; exact g12, (fun _ => by rw [hTok, hPx, hDe]; exact ⟨⟨g13, hm6, hwr2⟩, g14, hk4, hrd⟩), hE3⟩⟩) hS.2 dX1_readTower_127
                        · have hne : q2 = cn := by have := (nI_eq (by omega) (by omega)).mp c119; omega
                          refine lv_iconst (v := 1) hx hb dX1_readTower_122 (by decide) ?_
                          refine lv_goto (tgt := 127) hx hb dX1_readTower_123 (by decide) ?_
                          exact W.zret hx hb hr (rfl) (nEnd hN hS ⟨_, _, rfl, rfl, ⟨by rw [hTok, hPx]; simp [hne, zI], by rw [hTok, hPx]; exact g12, (fun _ => by rw [hTok, hPx, hDe]; exact ⟨⟨g13, hm6, hwr2⟩, g14, hk4, hrd⟩), hE3⟩⟩) hS.2 dX1_readTower_127
                      · have c91 : a + q2 < a + cn := by rcases Nat.lt_or_ge (a + q2) (a + cn) with z | z; { exact z }; { exact absurd (nI_le z (by omega)) c91 }
                        have hcond : k = 0 ∨ (k < 4 ∧ q2 < cn) := Or.inr ⟨c83, by omega⟩
                        refine lv_aload_n hx hb dX1_readTower_94 rfl (lv_at hl 0 rfl) ?_
                        refine lv_iload_n hx hb dX1_readTower_95 rfl (lv_at hl 1 rfl) ?_
                        refine lv_bipush (v := 44) hx hb dX1_readTower_96 (by decide) ?_
                        refine n_callV (C := RX1) (As := [_, _]) (b := 50) SS (nK_o G) hK hK (mX1_isSign l G ad x fk fc a q2 cn g12 hE (by omega) 44) (cwV 2 hts (lw_V q1220 q1222 qs36 q61 q1223) rfl rfl rfl (by decide +kernel) ⟨Nat.le_of_ble_eq_true rfl, Nat.le_of_ble_eq_true rfl⟩) hN hS mPic_o rfl rfl hl.1 rfl (Nat.le_of_ble_eq_true rfl) dX1_readTower_98 ⟨Nat.le_of_ble_eq_true rfl, Nat.le_of_ble_eq_true rfl⟩ (fun v ad' c' H locs hv hN hS => ?_)
                        obtain ⟨_, _, rfl, rfl, rfl, rfl, rfl⟩ := hv
                        refine W.eq (g2 := F0 m 101 ls (_ :: _)) rfl ?_
                        rcases Bool.eq_false_or_eq_true (pSg (fun p => fa 4 (a + p)) cn (q2) 44) with hsE | hsE
                        · have hN := hN.congr (c' := mPic G x ad (upd fk 12 (nI (a + (q2 + 1)))) fc) (by rw [h4c]; exact congrArg (fun z => mPic G x ad (upd fk 12 (nI z)) fc) (if_pos hsE))
                          refine n_top (y := 1) (by rw [h4c]; exact congrArg zI hsE) ?_
                          refine lv_if_eq (tgt := 112) hx hb dX1_readTower_101 (by decide) (fun c101 => absurd c101 (by decide)) (fun c101 => ?_)
                          refine lv_aload_n hx hb dX1_readTower_104 rfl (lv_at hl 0 rfl) ?_
                          refine lv_iload_n hx hb dX1_readTower_105 rfl (lv_at hl 1 rfl) ?_
                          refine n_callV (C := RX1) (As := [_]) (b := 50) SS (nK_o G) hK hK (mX1_readPerson l G ad x (upd fk 12 (nI (a + (q2 + 1)))) fc a (q2 + 1) cn rfl hE (by omega) k g14 (by omega)) (cwV 1 hts (lw_V q1232 q1234 qs39 q61 q1235) rfl rfl rfl (by decide +kernel) ⟨Nat.le_of_ble_eq_true rfl, Nat.le_of_ble_eq_true rfl⟩) hN hS mPic_o rfl rfl hl.1 rfl (Nat.le_of_ble_eq_true rfl) dX1_readTower_106 ⟨Nat.le_of_ble_eq_true rfl, Nat.le_of_ble_eq_true rfl⟩ (fun v ad' c' H locs hv hN hS => ?_)
                          obtain ⟨fk2, fc2, rfl, rfl, rfl, r12, r14, r16, rE0, r13, r15⟩ := hv
                          rw [h4c] at r12 r14
                          have rE : mEq fk fc fk2 fc2 := (mEq.rf.ji 12 rfl _).tr rE0
                          have hpz : pPer (fun p => fc 4 (a + p)) cn (q2 + 1) = pPer (fun p => fa 4 (a + p)) cn (q2 + 1) := by rw [h4c]
                          refine n_top (y := zI (pPer (fun p => fa 4 (a + p)) cn (q2 + 1)).1) (by rw [hpz]) ?_
                          refine W.eq (g2 := F0 m 109 ls (_ :: _)) rfl ?_
                          refine lv_if_ne (tgt := 71) hx hb dX1_readTower_109 (by decide) (fun c109 => ?_) (fun c109 => ?_)
                          · have hpr1 := zI_n0 c109
                            obtain ⟨hpr2, hq5⟩ := pPer_t hpr1
                            have hPs : pP (fun p => fa 4 (a + p)) cn f2 (q2 + 5) (k + 1) (upd kr k (pK (fa 4 (a + (q2 + 1))))) (upd dr k (10 * (fa 4 (a + (q2 + 2)) - 48) + (fa 4 (a + (q2 + 3)) - 48))) (upd nr k (fa 4 (a + (q2 + 4)) - 48)) = PP := by rw [← hP, pP, if_pos hcond, if_pos hsE, if_pos hpr1]
                            exact ih71 f2 (q2 + 5) (k + 1) (upd kr k (pK (fa 4 (a + (q2 + 1))))) (upd dr k (10 * (fa 4 (a + (q2 + 2)) - 48) + (fa 4 (a + (q2 + 3)) - 48))) (upd nr k (fa 4 (a + (q2 + 4)) - 48)) _ _ _ _ _ (by omega) (by omega) (by omega) hq5 hPs (by rw [r12, hpr2]) (by rw [r13]; exact g13) (r14 hpr1).1 (fun j hj => by rw [r15]; exact hwr2 j hj) (fun j hj => by by_cases e : j = k; { subst e; rw [pk_us, pk_us, pk_us]; exact (r14 hpr1).2 }; { rw [pk_un e, pk_un e, pk_un e, r16 (3 * j) (by omega), r16 (3 * j + 1) (by omega), r16 (3 * j + 2) (by omega)]; exact hrd j (by omega) }) (hE3.tr rE) hN hS (lv_sub hl [0, 1] (rfl))
                          · have hpr1 := zI_0.mp c109
                            have hPx : PP = (false, (pPer (fun p => fa 4 (a + p)) cn (q2 + 1)).2, k, kr, dr, nr) := by rw [← hP, pP, if_pos hcond, if_pos hsE, if_neg (by rw [hpr1]; exact Bool.false_ne_true)]
                            refine lv_iconst (v := 0) hx hb dX1_readTower_112 (by decide) ?_
                            exact W.zret hx hb hr (rfl) (nEnd hN hS ⟨_, _, rfl, rfl, ⟨by rw [hTok, hPx]; rfl, by rw [hTok, hPx]; exact r12, (fun z => absurd z (by rw [hTok, hPx]; exact Bool.false_ne_true)), hE3.tr rE⟩⟩) hS.2 dX1_readTower_113
                        · have hsEn : ¬ (pSg (fun p => fa 4 (a + p)) cn (q2) 44) = true := by rw [hsE]; exact Bool.false_ne_true
                          have hN := hN.congr (c' := mPic G x ad (upd fk 12 (nI (a + (q2)))) fc) (by rw [h4c]; exact congrArg (fun z => mPic G x ad (upd fk 12 (nI z)) fc) (if_neg hsEn))
                          refine n_top (y := 0) (by rw [h4c]; exact congrArg zI hsE) ?_
                          refine lv_if_eq (tgt := 112) hx hb dX1_readTower_101 (by decide) (fun c101 => ?_) (fun c101 => absurd c101 (fun z => z rfl))
                          have hPx : PP = (false, q2, k, kr, dr, nr) := by rw [← hP, pP, if_pos hcond, if_neg hsEn]
                          refine lv_iconst (v := 0) hx hb dX1_readTower_112 (by decide) ?_
                          exact W.zret hx hb hr (rfl) (nEnd hN hS ⟨_, _, rfl, rfl, ⟨by rw [hTok, hPx]; rfl, by rw [hTok, hPx]; exact rfl, (fun z => absurd z (by rw [hTok, hPx]; exact Bool.false_ne_true)), hE3.ji 12 rfl _⟩⟩) hS.2 dX1_readTower_113
              exact loop71 6 6 q 0 pZ pZ pZ _ _ _ _ _ (by omega) (by omega) (by omega) hqc (by rw [hP0, hDe]) hq12 hq13 hq14 hwr (fun j hj => by omega) hqE hN hS (lv_sub hl [0, 1] rfl)
            · have c48 : m_ < 6 := by rcases Nat.lt_or_ge m_ 6 with z | z; { exact z }; { exact absurd (nI_le z (by omega)) c48 }
              refine lv_aload_n hx hb dX1_readTower_51 rfl (lv_at hl 0 rfl) ?_
              refine lv_iload_n hx hb dX1_readTower_52 rfl (lv_at hl 1 rfl) ?_
              refine lv_bipush (v := 45) hx hb dX1_readTower_53 (by decide) ?_
              refine n_callV (C := RX1) (As := [_, _]) (b := 50) SS (nK_o G) hK hK (mX1_isSign l G ad x fj fb a q cn h12 hE (by omega) 45) (cwV 2 hts (lw_V q1220 q1222 qs36 q61 q1223) rfl rfl rfl (by decide +kernel) ⟨Nat.le_of_ble_eq_true rfl, Nat.le_of_ble_eq_true rfl⟩) hN hS mPic_o rfl rfl hl.1 rfl (Nat.le_of_ble_eq_true rfl) dX1_readTower_55 ⟨Nat.le_of_ble_eq_true rfl, Nat.le_of_ble_eq_true rfl⟩ (fun v ad' c' H locs hv hN hS => ?_)
              obtain ⟨_, _, rfl, rfl, rfl, rfl, rfl⟩ := hv
              refine W.eq (g2 := F0 m 58 ls (_ :: _)) rfl ?_
              rcases Bool.eq_false_or_eq_true (pSg (fun p => fa 4 (a + p)) cn (q) 45) with hsC | hsC
              · have hN := hN.congr (c' := mPic G x ad (upd fj 12 (nI (a + (q + 1)))) fb) (by rw [h4]; exact congrArg (fun z => mPic G x ad (upd fj 12 (nI z)) fb) (if_pos hsC))
                refine n_top (y := 1) (by rw [h4]; exact congrArg zI hsC) ?_
                refine lv_if_eq (tgt := 71) hx hb dX1_readTower_58 (by decide) (fun c58 => absurd c58 (by decide)) (fun c58 => ?_)
                refine lv_aload_n hx hb dX1_readTower_61 rfl (lv_at hl 0 rfl) ?_
                refine lv_iload_n hx hb dX1_readTower_62 rfl (lv_at hl 1 rfl) ?_
                refine n_callV (C := RX1) (As := [_]) (b := 50) SS (nK_o G) hK hK (mX1_readDeed l G ad x (upd fj 12 (nI (a + (q + 1)))) fb a (q + 1) cn rfl hE (by omega) m_ h13 (by omega)) (cwV 1 hts (lw_V q1224 q1226 qs37 q61 q1227) rfl rfl rfl (by decide +kernel) ⟨Nat.le_of_ble_eq_true rfl, Nat.le_of_ble_eq_true rfl⟩) hN hS mPic_o rfl rfl hl.1 rfl (Nat.le_of_ble_eq_true rfl) dX1_readTower_63 ⟨Nat.le_of_ble_eq_true rfl, Nat.le_of_ble_eq_true rfl⟩ (fun v ad' c' H locs hv hN hS => ?_)
                obtain ⟨_, _, rfl, rfl, rfl, rfl, rfl⟩ := hv
                refine W.eq (g2 := F0 m 66 ls (_ :: _)) rfl ?_
                rcases Bool.eq_false_or_eq_true (pd (fun p => fa 4 (a + p)) cn (q + 1) 1 9) with hdD | hdD
                · have hN := hN.congr (c' := mPic G x ad (upd (upd (upd fj 12 (nI (a + (q + 1)))) 12 (nI (a + (q + 1 + 1)))) 13 (nI (m_ + 1))) (va_up fb 15 (upd (fb 15) (m_) (fa 4 (a + (q + 1)) - 48)))) (by rw [h4]; exact congrArg (fun z => mPic G x ad (upd (upd (upd fj 12 (nI (a + (q + 1)))) 12 (nI (if z = true then a + (q + 1) + 1 else a + (q + 1)))) 13 (nI (m_ + 1))) (va_up fb 15 (upd (fb 15) (m_) (if z = true then fa 4 (a + (q + 1)) - 48 else -9)))) hdD)
                  refine n_top (y := 1) (by rw [h4]; exact congrArg zI hdD) ?_
                  refine lv_if_ne (tgt := 42) hx hb dX1_readTower_66 (by decide) (fun c66 => ?_) (fun c66 => absurd c66 (by decide))
                  have hDs : pD (fun p => fa 4 (a + p)) cn f (q + 2) (m_ + 1) (upd wr m_ (fa 4 (a + (q + 1)) - 48)) = D := by rw [← hD, pD, if_pos ⟨by omega, hsC⟩, if_pos hdD]
                  exact ih42 f (q + 2) (m_ + 1) (upd wr m_ (fa 4 (a + (q + 1)) - 48)) (upd (upd (upd fj 12 (nI (a + (q + 1)))) 12 (nI (a + (q + 1 + 1)))) 13 (nI (m_ + 1))) (va_up fb 15 (upd (fb 15) m_ (fa 4 (a + (q + 1)) - 48))) _ _ _ (by omega) (by omega) (by omega) (by omega) (by have := pd_lt hdD; omega) hDs rfl rfl h14 (fun j hj => by by_cases e : j = m_; { subst e; exact pk_us.trans pk_us.symm }; { exact (pk_un e).trans ((hwr j (by omega)).trans (pk_un e).symm) }) ((((hE2.ji 12 rfl _).ji 12 rfl _).ji 13 rfl _).ja 15 rfl _) hN hS (lv_sub hl [0, 1] (rfl))
                · have hN := hN.congr (c' := mPic G x ad (upd (upd (upd fj 12 (nI (a + (q + 1)))) 12 (nI (a + (q + 1)))) 13 (nI (m_ + 1))) (va_up fb 15 (upd (fb 15) (m_) (-9)))) (by rw [h4]; exact congrArg (fun z => mPic G x ad (upd (upd (upd fj 12 (nI (a + (q + 1)))) 12 (nI (if z = true then a + (q + 1) + 1 else a + (q + 1)))) 13 (nI (m_ + 1))) (va_up fb 15 (upd (fb 15) (m_) (if z = true then fa 4 (a + (q + 1)) - 48 else -9)))) hdD)
                  refine n_top (y := 0) (by rw [h4]; exact congrArg zI hdD) ?_
                  refine lv_if_ne (tgt := 42) hx hb dX1_readTower_66 (by decide) (fun c66 => absurd c66 (fun z => z rfl)) (fun c66 => ?_)
                  have hDv : D = (false, q + 1, m_, wr) := by rw [← hD, pD, if_pos ⟨by omega, hsC⟩, if_neg (by rw [hdD]; exact Bool.false_ne_true)]
                  have hT : pT (fun p => fa 4 (a + p)) cn = (false, q + 1, (0, pZ), (0, pZ, pZ, pZ)) := by unfold pT; rw [if_pos hs0, ← hD0, if_neg (by rw [hDv]; exact Bool.false_ne_true), hDv]
                  refine lv_iconst (v := 0) hx hb dX1_readTower_69 (by decide) ?_
                  exact W.zret hx hb hr (rfl) (nEnd hN hS ⟨_, _, rfl, rfl, ⟨by rw [hT]; rfl, by rw [hT]; rfl, (fun z => absurd z (by rw [hT]; exact Bool.false_ne_true)), (((hE2.ji 12 rfl _).ji 12 rfl _).ji 13 rfl _).ja 15 rfl _⟩⟩) hS.2 dX1_readTower_70
              · have hsCn : ¬ (pSg (fun p => fa 4 (a + p)) cn (q) 45) = true := by rw [hsC]; exact Bool.false_ne_true
                have hN := hN.congr (c' := mPic G x ad (upd fj 12 (nI (a + (q)))) fb) (by rw [h4]; exact congrArg (fun z => mPic G x ad (upd fj 12 (nI z)) fb) (if_neg hsCn))
                refine n_top (y := 0) (by rw [h4]; exact congrArg zI hsC) ?_
                refine lv_if_eq (tgt := 71) hx hb dX1_readTower_58 (by decide) (fun c58 => ?_) (fun c58 => absurd c58 (fun z => z rfl))
                have hDx : pD (fun p => fa 4 (a + p)) cn (f + 1) q m_ wr = (true, q, m_, wr) := by rw [pD, if_neg (fun z => hsCn z.2), decide_eq_true (by omega)]
                have hq12 : (upd fj 12 (nI (a + q))) 12 = nI (a + q) := rfl
                have hq13 : (upd fj 12 (nI (a + q))) 13 = nI m_ := h13
                have hq14 : (upd fj 12 (nI (a + q))) 14 = nI 0 := h14
                have hqE := hE2.ji 12 rfl (nI (a + q))
                obtain ⟨PP, hP0⟩ : ∃ PP, PP = pP (fun p => fa 4 (a + p)) cn 6 D.2.1 0 pZ pZ pZ := ⟨_, rfl⟩
                have hDe : D = (true, q, m_, wr) := by rw [← hD]; exact hDx
                have hTok : pT (fun p => fa 4 (a + p)) cn = (PP.1, PP.2.1, D.2.2, PP.2.2) := by unfold pT; rw [if_pos hs0, ← hD0, if_pos (by rw [hDe]), ← hP0]
                have loop71 : ∀ (n : Nat) (f2 q2 k : Nat) (kr dr nr fk : AI) (fc : Nat → AI) (H : Heap) (locs : List Loc) (ls : Array Slot), 6 - k ≤ n → k + f2 = 6 → k ≤ 4 → q2 ≤ cn → pP (fun p => fa 4 (a + p)) cn f2 q2 k kr dr nr = PP → fk 12 = nI (a + q2) → fk 13 = nI m_ → fk 14 = nI k → (∀ j, j < m_ → fc 15 j = wr j) → (∀ j, j < k → fc 16 (3 * j) = kr j ∧ fc 16 (3 * j + 1) = dr j ∧ fc 16 (3 * j + 2) = nr j) → mEq fi fa fk fc → nOk G nCl ad (mPic G x ad fk fc) H → nS G s H locs → lv_has ls 2 [(0, .ref (ad 50)), (1, .int (nI (a + cn)))] → W p l e (mR 3) s m ([.ref (ad 50), .int (nI (a + cn))] : List Value).toArray below meth c H locs 0 0 (MQ below (nQ G nCl (mP G ad x (fun rv fi' fa' => rv = some (.int (zI (pT (fun p => fa 4 (a + p)) cn).1)) ∧ fi' 12 = nI (a + (pT (fun p => fa 4 (a + p)) cn).2.1) ∧ ((pT (fun p => fa 4 (a + p)) cn).1 = true → (fi' 13 = nI (pT (fun p => fa 4 (a + p)) cn).2.2.1.1 ∧ (pT (fun p => fa 4 (a + p)) cn).2.2.1.1 ≤ 6 ∧ ∀ j, j < (pT (fun p => fa 4 (a + p)) cn).2.2.1.1 → fa' 15 j = (pT (fun p => fa 4 (a + p)) cn).2.2.1.2 j) ∧ fi' 14 = nI (pT (fun p => fa 4 (a + p)) cn).2.2.2.1 ∧ (pT (fun p => fa 4 (a + p)) cn).2.2.2.1 ≤ 4 ∧ ∀ j, j < (pT (fun p => fa 4 (a + p)) cn).2.2.2.1 → fa' 16 (3 * j) = (pT (fun p => fa 4 (a + p)) cn).2.2.2.2.1 j ∧ fa' 16 (3 * j + 1) = (pT (fun p => fa 4 (a + p)) cn).2.2.2.2.2.1 j ∧ fa' 16 (3 * j + 2) = (pT (fun p => fa 4 (a + p)) cn).2.2.2.2.2.2 j) ∧ mEq fi fa fi' fa'))) ([.ref (ad 50), .int (nI (a + cn))] : List Value).toArray s 0 0 (fun q => G.2 ≤ q)) (F0 m 71 ls []) := by
                  intro n
                  induction n with
                  | zero => intro f2 q2 k kr dr nr fk fc H locs ls hfuel hkf hk4 hq2 hP g12 g13 g14 hwr2 hrd hE3 hN hS hl; exact absurd hfuel (by omega)
                  | succ n ih71 =>
                    intro f2 q2 k kr dr nr fk fc H locs ls hfuel hkf hk4 hq2 hP g12 g13 g14 hwr2 hrd hE3 hN hS hl
                    have h4c : fc 4 = fa 4 := hE3.2.2.2.1
                    obtain ⟨f2, rfl⟩ : ∃ g, f2 = g + 1 := ⟨f2 - 1, by omega⟩
                    refine lv_aload_n hx hb dX1_readTower_71 rfl (lv_at hl 0 rfl) ?_
                    refine m_get (v := .int (nI k)) SS hK hN 14 (by decide) q1133 rfl (by rw [← g14]; rfl) dX1_readTower_72 ?_
                    refine lv_if_eq (tgt := 94) hx hb dX1_readTower_75 (by decide) (fun c75 => ?_) (fun c75 => ?_)
                    · have c75 : k = 0 := (nI_eq (by omega) (by omega)).mp c75
                      have hcond : k = 0 ∨ (k < 4 ∧ q2 < cn) := Or.inl c75
                      refine lv_aload_n hx hb dX1_readTower_94 rfl (lv_at hl 0 rfl) ?_
                      refine lv_iload_n hx hb dX1_readTower_95 rfl (lv_at hl 1 rfl) ?_
                      refine lv_bipush (v := 44) hx hb dX1_readTower_96 (by decide) ?_
                      refine n_callV (C := RX1) (As := [_, _]) (b := 50) SS (nK_o G) hK hK (mX1_isSign l G ad x fk fc a q2 cn g12 hE (by omega) 44) (cwV 2 hts (lw_V q1220 q1222 qs36 q61 q1223) rfl rfl rfl (by decide +kernel) ⟨Nat.le_of_ble_eq_true rfl, Nat.le_of_ble_eq_true rfl⟩) hN hS mPic_o rfl rfl hl.1 rfl (Nat.le_of_ble_eq_true rfl) dX1_readTower_98 ⟨Nat.le_of_ble_eq_true rfl, Nat.le_of_ble_eq_true rfl⟩ (fun v ad' c' H locs hv hN hS => ?_)
                      obtain ⟨_, _, rfl, rfl, rfl, rfl, rfl⟩ := hv
                      refine W.eq (g2 := F0 m 101 ls (_ :: _)) rfl ?_
                      rcases Bool.eq_false_or_eq_true (pSg (fun p => fa 4 (a + p)) cn (q2) 44) with hsE | hsE
                      · have hN := hN.congr (c' := mPic G x ad (upd fk 12 (nI (a + (q2 + 1)))) fc) (by rw [h4c]; exact congrArg (fun z => mPic G x ad (upd fk 12 (nI z)) fc) (if_pos hsE))
                        refine n_top (y := 1) (by rw [h4c]; exact congrArg zI hsE) ?_
                        refine lv_if_eq (tgt := 112) hx hb dX1_readTower_101 (by decide) (fun c101 => absurd c101 (by decide)) (fun c101 => ?_)
                        refine lv_aload_n hx hb dX1_readTower_104 rfl (lv_at hl 0 rfl) ?_
                        refine lv_iload_n hx hb dX1_readTower_105 rfl (lv_at hl 1 rfl) ?_
                        refine n_callV (C := RX1) (As := [_]) (b := 50) SS (nK_o G) hK hK (mX1_readPerson l G ad x (upd fk 12 (nI (a + (q2 + 1)))) fc a (q2 + 1) cn rfl hE (by omega) k g14 (by omega)) (cwV 1 hts (lw_V q1232 q1234 qs39 q61 q1235) rfl rfl rfl (by decide +kernel) ⟨Nat.le_of_ble_eq_true rfl, Nat.le_of_ble_eq_true rfl⟩) hN hS mPic_o rfl rfl hl.1 rfl (Nat.le_of_ble_eq_true rfl) dX1_readTower_106 ⟨Nat.le_of_ble_eq_true rfl, Nat.le_of_ble_eq_true rfl⟩ (fun v ad' c' H locs hv hN hS => ?_)
                        obtain ⟨fk2, fc2, rfl, rfl, rfl, r12, r14, r16, rE0, r13, r15⟩ := hv
                        rw [h4c] at r12 r14
                        have rE : mEq fk fc fk2 fc2 := (mEq.rf.ji 12 rfl _).tr rE0
                        have hpz : pPer (fun p => fc 4 (a + p)) cn (q2 + 1) = pPer (fun p => fa 4 (a + p)) cn (q2 + 1) := by rw [h4c]
                        refine n_top (y := zI (pPer (fun p => fa 4 (a + p)) cn (q2 + 1)).1) (by rw [hpz]) ?_
                        refine W.eq (g2 := F0 m 109 ls (_ :: _)) rfl ?_
                        refine lv_if_ne (tgt := 71) hx hb dX1_readTower_109 (by decide) (fun c109 => ?_) (fun c109 => ?_)
                        · have hpr1 := zI_n0 c109
                          obtain ⟨hpr2, hq5⟩ := pPer_t hpr1
                          have hPs : pP (fun p => fa 4 (a + p)) cn f2 (q2 + 5) (k + 1) (upd kr k (pK (fa 4 (a + (q2 + 1))))) (upd dr k (10 * (fa 4 (a + (q2 + 2)) - 48) + (fa 4 (a + (q2 + 3)) - 48))) (upd nr k (fa 4 (a + (q2 + 4)) - 48)) = PP := by rw [← hP, pP, if_pos hcond, if_pos hsE, if_pos hpr1]
                          exact ih71 f2 (q2 + 5) (k + 1) (upd kr k (pK (fa 4 (a + (q2 + 1))))) (upd dr k (10 * (fa 4 (a + (q2 + 2)) - 48) + (fa 4 (a + (q2 + 3)) - 48))) (upd nr k (fa 4 (a + (q2 + 4)) - 48)) _ _ _ _ _ (by omega) (by omega) (by omega) hq5 hPs (by rw [r12, hpr2]) (by rw [r13]; exact g13) (r14 hpr1).1 (fun j hj => by rw [r15]; exact hwr2 j hj) (fun j hj => by by_cases e : j = k; { subst e; rw [pk_us, pk_us, pk_us]; exact (r14 hpr1).2 }; { rw [pk_un e, pk_un e, pk_un e, r16 (3 * j) (by omega), r16 (3 * j + 1) (by omega), r16 (3 * j + 2) (by omega)]; exact hrd j (by omega) }) (hE3.tr rE) hN hS (lv_sub hl [0, 1] (rfl))
                        · have hpr1 := zI_0.mp c109
                          have hPx : PP = (false, (pPer (fun p => fa 4 (a + p)) cn (q2 + 1)).2, k, kr, dr, nr) := by rw [← hP, pP, if_pos hcond, if_pos hsE, if_neg (by rw [hpr1]; exact Bool.false_ne_true)]
                          refine lv_iconst (v := 0) hx hb dX1_readTower_112 (by decide) ?_
                          exact W.zret hx hb hr (rfl) (nEnd hN hS ⟨_, _, rfl, rfl, ⟨by rw [hTok, hPx]; rfl, by rw [hTok, hPx]; exact r12, (fun z => absurd z (by rw [hTok, hPx]; exact Bool.false_ne_true)), hE3.tr rE⟩⟩) hS.2 dX1_readTower_113
                      · have hsEn : ¬ (pSg (fun p => fa 4 (a + p)) cn (q2) 44) = true := by rw [hsE]; exact Bool.false_ne_true
                        have hN := hN.congr (c' := mPic G x ad (upd fk 12 (nI (a + (q2)))) fc) (by rw [h4c]; exact congrArg (fun z => mPic G x ad (upd fk 12 (nI z)) fc) (if_neg hsEn))
                        refine n_top (y := 0) (by rw [h4c]; exact congrArg zI hsE) ?_
                        refine lv_if_eq (tgt := 112) hx hb dX1_readTower_101 (by decide) (fun c101 => ?_) (fun c101 => absurd c101 (fun z => z rfl))
                        have hPx : PP = (false, q2, k, kr, dr, nr) := by rw [← hP, pP, if_pos hcond, if_neg hsEn]
                        refine lv_iconst (v := 0) hx hb dX1_readTower_112 (by decide) ?_
                        exact W.zret hx hb hr (rfl) (nEnd hN hS ⟨_, _, rfl, rfl, ⟨by rw [hTok, hPx]; rfl, by rw [hTok, hPx]; exact rfl, (fun z => absurd z (by rw [hTok, hPx]; exact Bool.false_ne_true)), hE3.ji 12 rfl _⟩⟩) hS.2 dX1_readTower_113
                    · have c75 : ¬ k = 0 := fun z => c75 (by rw [z]; rfl)
                      refine lv_aload_n hx hb dX1_readTower_78 rfl (lv_at hl 0 rfl) ?_
                      refine m_get (v := .int (nI k)) SS hK hN 14 (by decide) q1133 rfl (by rw [← g14]; rfl) dX1_readTower_79 ?_
                      refine lv_iconst (v := (nI 4)) hx hb dX1_readTower_82 (rfl) ?_
                      refine lv_icmp_ge (tgt := 114) hx hb dX1_readTower_83 (by decide) (fun c83 => ?_) (fun c83 => ?_)
                      · have c83 := (nI_leI (by omega) (by omega)).mp c83
                        have hex : ¬ (k = 0 ∨ (k < 4 ∧ q2 < cn)) := by omega
                        have hPx : PP = (decide (q2 = cn), q2, k, kr, dr, nr) := by rw [← hP, pP, if_neg hex]
                        refine lv_aload_n hx hb dX1_readTower_114 rfl (lv_at hl 0 rfl) ?_
                        refine m_get (v := .int (nI (a + q2))) SS hK hN 12 (by decide) q1131 rfl (by rw [← g12]; rfl) dX1_readTower_115 ?_
                        refine lv_iload_n hx hb dX1_readTower_118 rfl (lv_at hl 1 rfl) ?_
                        refine lv_icmp_ne (tgt := 126) hx hb dX1_readTower_119 (by decide) (fun c119 => ?_) (fun c119 => ?_)
                        · have hne : ¬ q2 = cn := fun z => c119 (by rw [z])
                          refine lv_iconst (v := 0) hx hb dX1_readTower_126 (by decide) ?_
                          exact W.zret hx hb hr (rfl) (nEnd hN hS ⟨_, _, rfl, rfl, ⟨by rw [hTok, hPx]; simp [hne, zI], by rw [hTok, hPx]; exact g12, (fun _ => by rw [hTok, hPx, hDe]; exact ⟨⟨g13, hm6, hwr2⟩, g14, hk4, hrd⟩), hE3⟩⟩) hS.2 dX1_readTower_127
                        · have hne : q2 = cn := by have := (nI_eq (by omega) (by omega)).mp c119; omega
                          refine lv_iconst (v := 1) hx hb dX1_readTower_122 (by decide) ?_
                          refine lv_goto (tgt := 127) hx hb dX1_readTower_123 (by decide) ?_
                          exact W.zret hx hb hr (rfl) (nEnd hN hS ⟨_, _, rfl, rfl, ⟨by rw [hTok, hPx]; simp [hne, zI], by rw [hTok, hPx]; exact g12, (fun _ => by rw [hTok, hPx, hDe]; exact ⟨⟨g13, hm6, hwr2⟩, g14, hk4, hrd⟩), hE3⟩⟩) hS.2 dX1_readTower_127
                      · have c83 : k < 4 := by rcases Nat.lt_or_ge k 4 with z | z; { exact z }; { exact absurd (nI_le z (by omega)) c83 }
                        refine lv_aload_n hx hb dX1_readTower_86 rfl (lv_at hl 0 rfl) ?_
                        refine m_get (v := .int (nI (a + q2))) SS hK hN 12 (by decide) q1131 rfl (by rw [← g12]; rfl) dX1_readTower_87 ?_
                        refine lv_iload_n hx hb dX1_readTower_90 rfl (lv_at hl 1 rfl) ?_
                        refine lv_icmp_ge (tgt := 114) hx hb dX1_readTower_91 (by decide) (fun c91 => ?_) (fun c91 => ?_)
                        · have c91 := (nI_leI (by omega) (by omega)).mp c91
                          have hex : ¬ (k = 0 ∨ (k < 4 ∧ q2 < cn)) := by omega
                          have hPx : PP = (decide (q2 = cn), q2, k, kr, dr, nr) := by rw [← hP, pP, if_neg hex]
                          refine lv_aload_n hx hb dX1_readTower_114 rfl (lv_at hl 0 rfl) ?_
                          refine m_get (v := .int (nI (a + q2))) SS hK hN 12 (by decide) q1131 rfl (by rw [← g12]; rfl) dX1_readTower_115 ?_
                          refine lv_iload_n hx hb dX1_readTower_118 rfl (lv_at hl 1 rfl) ?_
                          refine lv_icmp_ne (tgt := 126) hx hb dX1_readTower_119 (by decide) (fun c119 => ?_) (fun c119 => ?_)
                          · have hne : ¬ q2 = cn := fun z => c119 (by rw [z])
                            refine lv_iconst (v := 0) hx hb dX1_readTower_126 (by decide) ?_
                            exact W.zret hx hb hr (rfl) (nEnd hN hS ⟨_, _, rfl, rfl, ⟨by rw [hTok, hPx]; simp [hne, zI], by rw [hTok, hPx]; exact g12, (fun _ => by rw [hTok, hPx, hDe]; exact ⟨⟨g13, hm6, hwr2⟩, g14, hk4, hrd⟩), hE3⟩⟩) hS.2 dX1_readTower_127
                          · have hne : q2 = cn := by have := (nI_eq (by omega) (by omega)).mp c119; omega
                            refine lv_iconst (v := 1) hx hb dX1_readTower_122 (by decide) ?_
                            refine lv_goto (tgt := 127) hx hb dX1_readTower_123 (by decide) ?_
                            exact W.zret hx hb hr (rfl) (nEnd hN hS ⟨_, _, rfl, rfl, ⟨by rw [hTok, hPx]; simp [hne, zI], by rw [hTok, hPx]; exact g12, (fun _ => by rw [hTok, hPx, hDe]; exact ⟨⟨g13, hm6, hwr2⟩, g14, hk4, hrd⟩), hE3⟩⟩) hS.2 dX1_readTower_127
                        · have c91 : a + q2 < a + cn := by rcases Nat.lt_or_ge (a + q2) (a + cn) with z | z; { exact z }; { exact absurd (nI_le z (by omega)) c91 }
                          have hcond : k = 0 ∨ (k < 4 ∧ q2 < cn) := Or.inr ⟨c83, by omega⟩
                          refine lv_aload_n hx hb dX1_readTower_94 rfl (lv_at hl 0 rfl) ?_
                          refine lv_iload_n hx hb dX1_readTower_95 rfl (lv_at hl 1 rfl) ?_
                          refine lv_bipush (v := 44) hx hb dX1_readTower_96 (by decide) ?_
                          refine n_callV (C := RX1) (As := [_, _]) (b := 50) SS (nK_o G) hK hK (mX1_isSign l G ad x fk fc a q2 cn g12 hE (by omega) 44) (cwV 2 hts (lw_V q1220 q1222 qs36 q61 q1223) rfl rfl rfl (by decide +kernel) ⟨Nat.le_of_ble_eq_true rfl, Nat.le_of_ble_eq_true rfl⟩) hN hS mPic_o rfl rfl hl.1 rfl (Nat.le_of_ble_eq_true rfl) dX1_readTower_98 ⟨Nat.le_of_ble_eq_true rfl, Nat.le_of_ble_eq_true rfl⟩ (fun v ad' c' H locs hv hN hS => ?_)
                          obtain ⟨_, _, rfl, rfl, rfl, rfl, rfl⟩ := hv
                          refine W.eq (g2 := F0 m 101 ls (_ :: _)) rfl ?_
                          rcases Bool.eq_false_or_eq_true (pSg (fun p => fa 4 (a + p)) cn (q2) 44) with hsE | hsE
                          · have hN := hN.congr (c' := mPic G x ad (upd fk 12 (nI (a + (q2 + 1)))) fc) (by rw [h4c]; exact congrArg (fun z => mPic G x ad (upd fk 12 (nI z)) fc) (if_pos hsE))
                            refine n_top (y := 1) (by rw [h4c]; exact congrArg zI hsE) ?_
                            refine lv_if_eq (tgt := 112) hx hb dX1_readTower_101 (by decide) (fun c101 => absurd c101 (by decide)) (fun c101 => ?_)
                            refine lv_aload_n hx hb dX1_readTower_104 rfl (lv_at hl 0 rfl) ?_
                            refine lv_iload_n hx hb dX1_readTower_105 rfl (lv_at hl 1 rfl) ?_
                            refine n_callV (C := RX1) (As := [_]) (b := 50) SS (nK_o G) hK hK (mX1_readPerson l G ad x (upd fk 12 (nI (a + (q2 + 1)))) fc a (q2 + 1) cn rfl hE (by omega) k g14 (by omega)) (cwV 1 hts (lw_V q1232 q1234 qs39 q61 q1235) rfl rfl rfl (by decide +kernel) ⟨Nat.le_of_ble_eq_true rfl, Nat.le_of_ble_eq_true rfl⟩) hN hS mPic_o rfl rfl hl.1 rfl (Nat.le_of_ble_eq_true rfl) dX1_readTower_106 ⟨Nat.le_of_ble_eq_true rfl, Nat.le_of_ble_eq_true rfl⟩ (fun v ad' c' H locs hv hN hS => ?_)
                            obtain ⟨fk2, fc2, rfl, rfl, rfl, r12, r14, r16, rE0, r13, r15⟩ := hv
                            rw [h4c] at r12 r14
                            have rE : mEq fk fc fk2 fc2 := (mEq.rf.ji 12 rfl _).tr rE0
                            have hpz : pPer (fun p => fc 4 (a + p)) cn (q2 + 1) = pPer (fun p => fa 4 (a + p)) cn (q2 + 1) := by rw [h4c]
                            refine n_top (y := zI (pPer (fun p => fa 4 (a + p)) cn (q2 + 1)).1) (by rw [hpz]) ?_
                            refine W.eq (g2 := F0 m 109 ls (_ :: _)) rfl ?_
                            refine lv_if_ne (tgt := 71) hx hb dX1_readTower_109 (by decide) (fun c109 => ?_) (fun c109 => ?_)
                            · have hpr1 := zI_n0 c109
                              obtain ⟨hpr2, hq5⟩ := pPer_t hpr1
                              have hPs : pP (fun p => fa 4 (a + p)) cn f2 (q2 + 5) (k + 1) (upd kr k (pK (fa 4 (a + (q2 + 1))))) (upd dr k (10 * (fa 4 (a + (q2 + 2)) - 48) + (fa 4 (a + (q2 + 3)) - 48))) (upd nr k (fa 4 (a + (q2 + 4)) - 48)) = PP := by rw [← hP, pP, if_pos hcond, if_pos hsE, if_pos hpr1]
                              exact ih71 f2 (q2 + 5) (k + 1) (upd kr k (pK (fa 4 (a + (q2 + 1))))) (upd dr k (10 * (fa 4 (a + (q2 + 2)) - 48) + (fa 4 (a + (q2 + 3)) - 48))) (upd nr k (fa 4 (a + (q2 + 4)) - 48)) _ _ _ _ _ (by omega) (by omega) (by omega) hq5 hPs (by rw [r12, hpr2]) (by rw [r13]; exact g13) (r14 hpr1).1 (fun j hj => by rw [r15]; exact hwr2 j hj) (fun j hj => by by_cases e : j = k; { subst e; rw [pk_us, pk_us, pk_us]; exact (r14 hpr1).2 }; { rw [pk_un e, pk_un e, pk_un e, r16 (3 * j) (by omega), r16 (3 * j + 1) (by omega), r16 (3 * j + 2) (by omega)]; exact hrd j (by omega) }) (hE3.tr rE) hN hS (lv_sub hl [0, 1] (rfl))
                            · have hpr1 := zI_0.mp c109
                              have hPx : PP = (false, (pPer (fun p => fa 4 (a + p)) cn (q2 + 1)).2, k, kr, dr, nr) := by rw [← hP, pP, if_pos hcond, if_pos hsE, if_neg (by rw [hpr1]; exact Bool.false_ne_true)]
                              refine lv_iconst (v := 0) hx hb dX1_readTower_112 (by decide) ?_
                              exact W.zret hx hb hr (rfl) (nEnd hN hS ⟨_, _, rfl, rfl, ⟨by rw [hTok, hPx]; rfl, by rw [hTok, hPx]; exact r12, (fun z => absurd z (by rw [hTok, hPx]; exact Bool.false_ne_true)), hE3.tr rE⟩⟩) hS.2 dX1_readTower_113
                          · have hsEn : ¬ (pSg (fun p => fa 4 (a + p)) cn (q2) 44) = true := by rw [hsE]; exact Bool.false_ne_true
                            have hN := hN.congr (c' := mPic G x ad (upd fk 12 (nI (a + (q2)))) fc) (by rw [h4c]; exact congrArg (fun z => mPic G x ad (upd fk 12 (nI z)) fc) (if_neg hsEn))
                            refine n_top (y := 0) (by rw [h4c]; exact congrArg zI hsE) ?_
                            refine lv_if_eq (tgt := 112) hx hb dX1_readTower_101 (by decide) (fun c101 => ?_) (fun c101 => absurd c101 (fun z => z rfl))
                            have hPx : PP = (false, q2, k, kr, dr, nr) := by rw [← hP, pP, if_pos hcond, if_neg hsEn]
                            refine lv_iconst (v := 0) hx hb dX1_readTower_112 (by decide) ?_
                            exact W.zret hx hb hr (rfl) (nEnd hN hS ⟨_, _, rfl, rfl, ⟨by rw [hTok, hPx]; rfl, by rw [hTok, hPx]; exact rfl, (fun z => absurd z (by rw [hTok, hPx]; exact Bool.false_ne_true)), hE3.ji 12 rfl _⟩⟩) hS.2 dX1_readTower_113
                exact loop71 6 6 q 0 pZ pZ pZ _ _ _ _ _ (by omega) (by omega) (by omega) hqc (by rw [hP0, hDe]) hq12 hq13 hq14 hwr (fun j hj => by omega) hqE hN hS (lv_sub hl [0, 1] rfl)
        exact loop42 8 7 3 1 (upd pZ 0 (fa 4 (a + 2) - 48)) (upd (upd (upd (upd (upd (upd fi 13 0) 14 0) 12 (nI (a + (0 + 1)))) 12 (nI (a + (1 + 1)))) 12 (nI (a + (2 + 1)))) 13 (nI (0 + 1))) (va_up fa 15 (upd (fa 15) 0 (fa 4 (a + 2) - 48))) _ _ _ (by omega) (by omega) (by omega) (by omega) (by have := pd_lt hdB; omega) (by rw [hD0]; exact hDi.symm) rfl rfl rfl (fun j hj => by rw [show j = 0 by omega]; rfl) (((((((mEq.rf.ji 13 rfl _).ji 14 rfl _).ji 12 rfl _).ji 12 rfl _).ji 12 rfl _).ji 13 rfl _).ja 15 rfl _) hN hS (lv_sub hl [0, 1] rfl)
      · have hN := hN.congr (c' := mPic G x ad (upd (upd (upd (upd (upd (upd fi 13 0) 14 0) 12 (nI (a + (0 + 1)))) 12 (nI (a + (1 + 1)))) 12 (nI (a + (2)))) 13 (nI (0 + 1))) (va_up fa 15 (upd (fa 15) (0) (-9)))) (by exact congrArg (fun z => mPic G x ad (upd (upd (upd (upd (upd (upd fi 13 0) 14 0) 12 (nI (a + (0 + 1)))) 12 (nI (a + (1 + 1)))) 12 (nI (if z = true then a + (2) + 1 else a + (2)))) 13 (nI (0 + 1))) (va_up fa 15 (upd (fa 15) (0) (if z = true then fa 4 (a + (2)) - 48 else -9)))) hdB)
        refine n_top (y := 0) (by exact congrArg zI hdB) ?_
        refine lv_if_ne (tgt := 42) hx hb dX1_readTower_37 (by decide) (fun c37 => absurd c37 (fun z => z rfl)) (fun c37 => ?_)
        have hDv : pD (fun p => fa 4 (a + p)) cn 8 1 0 pZ = (false, 2, 0, pZ) := by rw [pD, if_pos ⟨by omega, hsA⟩, if_neg (by rw [hdB]; exact Bool.false_ne_true)]
        have hT : pT (fun p => fa 4 (a + p)) cn = (false, 2, (0, pZ), (0, pZ, pZ, pZ)) := by unfold pT; rw [if_pos hs0, if_neg (by rw [hDv]; exact Bool.false_ne_true), hDv]
        refine lv_iconst (v := 0) hx hb dX1_readTower_40 (by decide) ?_
        exact W.zret hx hb hr (rfl) (nEnd hN hS ⟨_, _, rfl, rfl, ⟨by rw [hT]; rfl, by rw [hT]; rfl, (fun z => absurd z (by rw [hT]; exact Bool.false_ne_true)), ((((((mEq.rf.ji 13 rfl _).ji 14 rfl _).ji 12 rfl _).ji 12 rfl _).ji 12 rfl _).ji 13 rfl _).ja 15 rfl _⟩⟩) hS.2 dX1_readTower_41
    · have hsAn : ¬ (pSg (fun p => fa 4 (a + p)) cn (1) 45) = true := by rw [hsA]; exact Bool.false_ne_true
      have hN := hN.congr (c' := mPic G x ad (upd (upd (upd (upd fi 13 0) 14 0) 12 (nI (a + (0 + 1)))) 12 (nI (a + (1)))) fa) (by exact congrArg (fun z => mPic G x ad (upd (upd (upd (upd fi 13 0) 14 0) 12 (nI (a + (0 + 1)))) 12 (nI z)) fa) (if_neg hsAn))
      refine n_top (y := 0) (by exact congrArg zI hsA) ?_
      refine lv_if_eq (tgt := 40) hx hb dX1_readTower_29 (by decide) (fun c29 => ?_) (fun c29 => absurd c29 (fun z => z rfl))
      have hDv : pD (fun p => fa 4 (a + p)) cn 8 1 0 pZ = (false, 1, 0, pZ) := by rw [pD, if_neg (fun z => hsAn z.2)]; rfl
      have hT : pT (fun p => fa 4 (a + p)) cn = (false, 1, (0, pZ), (0, pZ, pZ, pZ)) := by unfold pT; rw [if_pos hs0, if_neg (by rw [hDv]; exact Bool.false_ne_true), hDv]
      refine lv_iconst (v := 0) hx hb dX1_readTower_40 (by decide) ?_
      exact W.zret hx hb hr (rfl) (nEnd hN hS ⟨_, _, rfl, rfl, ⟨by rw [hT]; rfl, by rw [hT]; rfl, (fun z => absurd z (by rw [hT]; exact Bool.false_ne_true)), (((mEq.rf.ji 13 rfl _).ji 14 rfl _).ji 12 rfl _).ji 12 rfl _⟩⟩) hS.2 dX1_readTower_41
  · have hs0n : ¬ (pSg (fun p => fa 4 (a + p)) cn (0) 117) = true := by rw [hs0]; exact Bool.false_ne_true
    have hN := hN.congr (c' := mPic G x ad (upd (upd (upd fi 13 0) 14 0) 12 (nI (a + (0)))) fa) (by exact congrArg (fun z => mPic G x ad (upd (upd (upd fi 13 0) 14 0) 12 (nI z)) fa) (if_neg hs0n))
    refine n_top (y := 0) (by exact congrArg zI hs0) ?_
    refine lv_if_ne (tgt := 22) hx hb dX1_readTower_17 (by decide) (fun c17 => absurd c17 (fun z => z rfl)) (fun c17 => ?_)
    have hT : pT (fun p => fa 4 (a + p)) cn = (false, 0, (0, pZ), (0, pZ, pZ, pZ)) := by unfold pT; rw [if_neg hs0n]
    refine lv_iconst (v := 0) hx hb dX1_readTower_20 (by decide) ?_
    exact W.zret hx hb hr (rfl) (nEnd hN hS ⟨_, _, rfl, rfl, ⟨by rw [hT]; rfl, by rw [hT]; rfl, (fun z => absurd z (by rw [hT]; exact Bool.false_ne_true)), ((mEq.rf.ji 13 rfl _).ji 14 rfl _).ji 12 rfl _⟩⟩) hS.2 dX1_readTower_21
set_option maxHeartbeats 4000000 in
set_option maxRecDepth 100000 in
theorem mX1_takeTower (l : Launch) (G : nG) (ad : Nat → Nat) (x : nPic) (fi : Nat → Int32) (fa : Nat → Nat → Int32) (nd2 np2 : Nat) (h13 : fi 13 = nI nd2) (h6 : nd2 ≤ 6) (h14 : fi 14 = nI np2) (h4 : np2 ≤ 4) : Met l yX1_takeTower (ws_ yX1_takeTower cX1_takeTower 2 none) (mR 0) (nPc G nCl (nK G) ad (mPic G x ad fi fa) [.ref (ad 50)]) (nQ G nCl (mP G ad x (fun rv fi' fa' => rv = none ∧ upd (upd (upd fi 5 (nI nd2)) 6 (nI np2)) 22 0 = fi' ∧ (va_up (va_up (va_up (va_up (va_up fa 7 (pTk nd2 (fa 15) (fa 7))) 8 (pTk np2 (fun j => fa 16 (3 * j)) (fa 8))) 9 (pTk np2 (fun j => fa 16 (3 * j + 1) &&& sMsk nd2) (fa 9))) 10 (pTk np2 (fun j => fa 16 (3 * j + 2)) (fa 10))) 11 (pTk np2 pZ (fa 11))) = fa'))) 0 0 (fun q => G.2 ≤ q) := by
  refine nMet RX1 (by decide) rfl (Nat.le_of_ble_eq_true rfl) ?_
  intro p e s m below meth c ls SS hR hK hN hS hl
  obtain ⟨hx, hb, hml, hown, hts⟩ := id SS
  obtain ⟨hr, hlk, hnm⟩ := hR
  generalize s.heap = H at hN hS ⊢
  generalize ([] : List Loc) = locs at hS ⊢
  have hl : lv_has ls 2 [(0, .ref (ad 50))] := hl
  refine lv_aload_n hx hb dX1_takeTower_0 rfl (lv_at hl 0 rfl) ?_
  refine lv_aload_n hx hb dX1_takeTower_1 rfl (lv_at hl 0 rfl) ?_
  refine m_get (v := .int (nI nd2)) SS hK hN 13 (by decide) q1132 rfl (by rw [← h13]; rfl) dX1_takeTower_2 ?_
  refine m_put SS hK hN hS 5 (by decide) q1124 rfl rfl rfl rfl dX1_takeTower_5 (fun H locs hN hS => ?_)
  refine lv_iconst (v := (nI 0)) hx hb dX1_takeTower_8 (rfl) ?_
  refine lv_istore_n (lv' := [(1, _), (0, _)]) hx hb dX1_takeTower_9 rfl hl (by decide) rfl (fun ls hl => ?_)
  have hN := hN.congr (c' := mPic G x ad (upd fi 5 (nI nd2)) (va_up fa 7 (pTk 0 (fa 15) (fa 7)))) (by rw [pTk_0, va_up_id _ 7 _ rfl])
  have loop10 : ∀ (n : Nat) (d : Nat) (H : Heap) (locs : List Loc) (ls : Array Slot), d ≤ nd2 → nd2 + 1 ≤ d + n → nOk G nCl ad (mPic G x ad (upd fi 5 (nI nd2)) (va_up fa 7 (pTk d (fa 15) (fa 7)))) H → nS G s H locs → lv_has ls 2 [(0, .ref (ad 50)), (1, .int (nI d))] → W p l e (mR 0) s m ([.ref (ad 50)] : List Value).toArray below meth c H locs 0 0 (MQ below (nQ G nCl (mP G ad x (fun rv fi' fa' => rv = none ∧ upd (upd (upd fi 5 (nI nd2)) 6 (nI np2)) 22 0 = fi' ∧ (va_up (va_up (va_up (va_up (va_up fa 7 (pTk nd2 (fa 15) (fa 7))) 8 (pTk np2 (fun j => fa 16 (3 * j)) (fa 8))) 9 (pTk np2 (fun j => fa 16 (3 * j + 1) &&& sMsk nd2) (fa 9))) 10 (pTk np2 (fun j => fa 16 (3 * j + 2)) (fa 10))) 11 (pTk np2 pZ (fa 11))) = fa'))) ([.ref (ad 50)] : List Value).toArray s 0 0 (fun q => G.2 ≤ q)) (F0 m 10 ls []) := by
    intro n
    induction n with
    | zero => intro d H locs ls hd hfuel hN hS hl; exact absurd hfuel (by omega)
    | succ n ih10 =>
      intro d H locs ls hd hfuel hN hS hl
      refine lv_iload_n hx hb dX1_takeTower_10 rfl (lv_at hl 1 rfl) ?_
      refine lv_aload_n hx hb dX1_takeTower_11 rfl (lv_at hl 0 rfl) ?_
      refine m_get (v := .int (nI nd2)) SS hK hN 5 (by decide) q1124 rfl (rfl) dX1_takeTower_12 ?_
      refine lv_icmp_ge (tgt := 36) hx hb dX1_takeTower_15 (by decide) (fun c15 => ?_) (fun c15 => ?_)
      · have c15 := (nI_leI (by omega) (by omega)).mp c15
        have c15 : nd2 = d := by omega
        subst c15
        refine lv_aload_n hx hb dX1_takeTower_36 rfl (lv_at hl 0 rfl) ?_
        refine lv_aload_n hx hb dX1_takeTower_37 rfl (lv_at hl 0 rfl) ?_
        refine m_get (v := .int (nI np2)) SS hK hN 14 (by decide) q1133 rfl (by rw [← h14]; rfl) dX1_takeTower_38 ?_
        refine m_put SS hK hN hS 6 (by decide) q1125 rfl rfl rfl rfl dX1_takeTower_41 (fun H locs hN hS => ?_)
        refine lv_iconst (v := (nI 0)) hx hb dX1_takeTower_44 (rfl) ?_
        refine lv_istore_n (lv' := [(1, _), (0, _)]) hx hb dX1_takeTower_45 rfl hl (by decide) rfl (fun ls hl => ?_)
        have hN := hN.congr (c' := mPic G x ad (upd (upd fi 5 (nI nd2)) 6 (nI np2)) (va_up (va_up (va_up (va_up (va_up fa 7 (pTk nd2 (fa 15) (fa 7))) 8 (pTk 0 (fun j => fa 16 (3 * j)) (fa 8))) 9 (pTk 0 (fun j => fa 16 (3 * j + 1) &&& sMsk nd2) (fa 9))) 10 (pTk 0 (fun j => fa 16 (3 * j + 2)) (fa 10))) 11 (pTk 0 pZ (fa 11)))) (by rw [pTk_0, pTk_0, pTk_0, pTk_0, va_up_id (va_up fa 7 (pTk nd2 (fa 15) (fa 7))) 8 (fa 8) rfl, va_up_id (va_up fa 7 (pTk nd2 (fa 15) (fa 7))) 9 (fa 9) rfl, va_up_id (va_up fa 7 (pTk nd2 (fa 15) (fa 7))) 10 (fa 10) rfl, va_up_id (va_up fa 7 (pTk nd2 (fa 15) (fa 7))) 11 (fa 11) rfl])
        have loop46 : ∀ (n : Nat) (q : Nat) (H : Heap) (locs : List Loc) (ls : Array Slot), q ≤ np2 → np2 + 1 ≤ q + n → nOk G nCl ad (mPic G x ad (upd (upd fi 5 (nI nd2)) 6 (nI np2)) (va_up (va_up (va_up (va_up (va_up fa 7 (pTk nd2 (fa 15) (fa 7))) 8 (pTk q (fun j => fa 16 (3 * j)) (fa 8))) 9 (pTk q (fun j => fa 16 (3 * j + 1) &&& sMsk nd2) (fa 9))) 10 (pTk q (fun j => fa 16 (3 * j + 2)) (fa 10))) 11 (pTk q pZ (fa 11)))) H → nS G s H locs → lv_has ls 2 [(0, .ref (ad 50)), (1, .int (nI q))] → W p l e (mR 0) s m ([.ref (ad 50)] : List Value).toArray below meth c H locs 0 0 (MQ below (nQ G nCl (mP G ad x (fun rv fi' fa' => rv = none ∧ upd (upd (upd fi 5 (nI nd2)) 6 (nI np2)) 22 0 = fi' ∧ (va_up (va_up (va_up (va_up (va_up fa 7 (pTk nd2 (fa 15) (fa 7))) 8 (pTk np2 (fun j => fa 16 (3 * j)) (fa 8))) 9 (pTk np2 (fun j => fa 16 (3 * j + 1) &&& sMsk nd2) (fa 9))) 10 (pTk np2 (fun j => fa 16 (3 * j + 2)) (fa 10))) 11 (pTk np2 pZ (fa 11))) = fa'))) ([.ref (ad 50)] : List Value).toArray s 0 0 (fun q => G.2 ≤ q)) (F0 m 46 ls []) := by
          intro n
          induction n with
          | zero => intro q H locs ls hq hfuel hN hS hl; exact absurd hfuel (by omega)
          | succ n ih46 =>
            intro q H locs ls hq hfuel hN hS hl
            refine lv_iload_n hx hb dX1_takeTower_46 rfl (lv_at hl 1 rfl) ?_
            refine lv_aload_n hx hb dX1_takeTower_47 rfl (lv_at hl 0 rfl) ?_
            refine m_get (v := .int (nI np2)) SS hK hN 6 (by decide) q1125 rfl (rfl) dX1_takeTower_48 ?_
            refine lv_icmp_ge (tgt := 122) hx hb dX1_takeTower_51 (by decide) (fun c51 => ?_) (fun c51 => ?_)
            · have c51 := (nI_leI (by omega) (by omega)).mp c51
              have c51 : np2 = q := by omega
              subst c51
              refine lv_aload_n hx hb dX1_takeTower_122 rfl (lv_at hl 0 rfl) ?_
              refine lv_iconst (v := 0) hx hb dX1_takeTower_123 (by decide) ?_
              refine m_put SS hK hN hS 22 (by decide) q1141 rfl rfl rfl rfl dX1_takeTower_124 (fun H locs hN hS => ?_)
              exact W.vret hx hb hr (nEnd hN hS ⟨_, _, rfl, rfl, ⟨rfl, rfl, rfl⟩⟩) hS.2 dX1_takeTower_127
            · have c51 : ¬ np2 ≤ q := fun z => c51 (nI_le z (by omega))
              refine lv_aload_n hx hb dX1_takeTower_54 rfl (lv_at hl 0 rfl) ?_
              refine m_get SS hK hN 8 (by decide) q1127 rfl rfl dX1_takeTower_55 ?_
              refine lv_iload_n hx hb dX1_takeTower_58 rfl (lv_at hl 1 rfl) ?_
              refine lv_aload_n hx hb dX1_takeTower_59 rfl (lv_at hl 0 rfl) ?_
              refine m_get SS hK hN 16 (by decide) q1135 rfl rfl dX1_takeTower_60 ?_
              refine lv_iconst (v := (nI 3)) hx hb dX1_takeTower_63 (rfl) ?_
              refine lv_iload_n hx hb dX1_takeTower_64 rfl (lv_at hl 1 rfl) ?_
              refine lv_imul hx hb dX1_takeTower_65 ?_
              refine n_top (y := nI (3 * q)) (pk_mul _ _) ?_
              refine m_ald SS hK hN 16 rfl (3 * q) (rfl) (by show _ < (12 : Nat); omega) dX1_takeTower_66 ?_
              refine n_top (y := fa 16 (3 * q)) (rfl) ?_
              refine m_ast SS hK hN hS 8 rfl (q) (rfl) (by show _ < (4 : Nat); omega) dX1_takeTower_67 (fun H locs hN hS => ?_)
              refine lv_aload_n hx hb dX1_takeTower_68 rfl (lv_at hl 0 rfl) ?_
              refine m_get SS hK hN 9 (by decide) q1128 rfl rfl dX1_takeTower_69 ?_
              refine lv_iload_n hx hb dX1_takeTower_72 rfl (lv_at hl 1 rfl) ?_
              refine lv_aload_n hx hb dX1_takeTower_73 rfl (lv_at hl 0 rfl) ?_
              refine m_get SS hK hN 16 (by decide) q1135 rfl rfl dX1_takeTower_74 ?_
              refine lv_iconst (v := (nI 3)) hx hb dX1_takeTower_77 (rfl) ?_
              refine lv_iload_n hx hb dX1_takeTower_78 rfl (lv_at hl 1 rfl) ?_
              refine lv_imul hx hb dX1_takeTower_79 ?_
              refine n_top (y := nI (3 * q)) (pk_mul _ _) ?_
              refine lv_iconst (v := 1) hx hb dX1_takeTower_80 (by decide) ?_
              refine lv_iadd hx hb dX1_takeTower_81 ?_
              refine n_top (y := nI (3 * q + 1)) (nI_1 _) ?_
              refine m_ald SS hK hN 16 rfl (3 * q + 1) (rfl) (by show _ < (12 : Nat); omega) dX1_takeTower_82 ?_
              refine n_top (y := fa 16 (3 * q + 1)) (rfl) ?_
              refine lv_iconst (v := 1) hx hb dX1_takeTower_83 (by decide) ?_
              refine lv_aload_n hx hb dX1_takeTower_84 rfl (lv_at hl 0 rfl) ?_
              refine m_get (v := .int (nI nd2)) SS hK hN 5 (by decide) q1124 rfl (rfl) dX1_takeTower_85 ?_
              refine lv_ishl hx hb dX1_takeTower_88 ?_
              refine n_top (y := sPw nd2) (rfl) ?_
              refine lv_iconst (v := 1) hx hb dX1_takeTower_89 (by decide) ?_
              refine lv_isub hx hb dX1_takeTower_90 ?_
              refine n_top (y := sMsk nd2) (rfl) ?_
              refine lv_iand hx hb dX1_takeTower_91 ?_
              refine m_ast SS hK hN hS 9 rfl (q) (rfl) (by show _ < (4 : Nat); omega) dX1_takeTower_92 (fun H locs hN hS => ?_)
              refine lv_aload_n hx hb dX1_takeTower_93 rfl (lv_at hl 0 rfl) ?_
              refine m_get SS hK hN 10 (by decide) q1129 rfl rfl dX1_takeTower_94 ?_
              refine lv_iload_n hx hb dX1_takeTower_97 rfl (lv_at hl 1 rfl) ?_
              refine lv_aload_n hx hb dX1_takeTower_98 rfl (lv_at hl 0 rfl) ?_
              refine m_get SS hK hN 16 (by decide) q1135 rfl rfl dX1_takeTower_99 ?_
              refine lv_iconst (v := (nI 3)) hx hb dX1_takeTower_102 (rfl) ?_
              refine lv_iload_n hx hb dX1_takeTower_103 rfl (lv_at hl 1 rfl) ?_
              refine lv_imul hx hb dX1_takeTower_104 ?_
              refine n_top (y := nI (3 * q)) (pk_mul _ _) ?_
              refine lv_iconst (v := 2) hx hb dX1_takeTower_105 (by decide) ?_
              refine lv_iadd hx hb dX1_takeTower_106 ?_
              refine n_top (y := nI (3 * q + 2)) (nI_add _ 2) ?_
              refine m_ald SS hK hN 16 rfl (3 * q + 2) (rfl) (by show _ < (12 : Nat); omega) dX1_takeTower_107 ?_
              refine n_top (y := fa 16 (3 * q + 2)) (rfl) ?_
              refine m_ast SS hK hN hS 10 rfl (q) (rfl) (by show _ < (4 : Nat); omega) dX1_takeTower_108 (fun H locs hN hS => ?_)
              refine lv_aload_n hx hb dX1_takeTower_109 rfl (lv_at hl 0 rfl) ?_
              refine m_get SS hK hN 11 (by decide) q1130 rfl rfl dX1_takeTower_110 ?_
              refine lv_iload_n hx hb dX1_takeTower_113 rfl (lv_at hl 1 rfl) ?_
              refine lv_iconst (v := 0) hx hb dX1_takeTower_114 (by decide) ?_
              refine m_ast SS hK hN hS 11 rfl (q) (rfl) (by show _ < (4 : Nat); omega) dX1_takeTower_115 (fun H locs hN hS => ?_)
              have e8 : upd (pTk q (fun j => fa 16 (3 * j)) (fa 8)) q (fa 16 (3 * q)) = pTk (q + 1) (fun j => fa 16 (3 * j)) (fa 8) := pTk_s (fun j => fa 16 (3 * j)) (fa 8) q
              have e9 : upd (pTk q (fun j => fa 16 (3 * j + 1) &&& sMsk nd2) (fa 9)) q (fa 16 (3 * q + 1) &&& sMsk nd2) = pTk (q + 1) (fun j => fa 16 (3 * j + 1) &&& sMsk nd2) (fa 9) := pTk_s (fun j => fa 16 (3 * j + 1) &&& sMsk nd2) (fa 9) q
              have e10 : upd (pTk q (fun j => fa 16 (3 * j + 2)) (fa 10)) q (fa 16 (3 * q + 2)) = pTk (q + 1) (fun j => fa 16 (3 * j + 2)) (fa 10) := pTk_s (fun j => fa 16 (3 * j + 2)) (fa 10) q
              have e11 : upd (pTk q pZ (fa 11)) q 0 = pTk (q + 1) pZ (fa 11) := pTk_s pZ (fa 11) q
              have hN := hN.congr (c' := mPic G x ad (upd (upd fi 5 (nI nd2)) 6 (nI np2)) (va_up (va_up (va_up (va_up (va_up fa 7 (pTk nd2 (fa 15) (fa 7))) 8 (pTk (q + 1) (fun j => fa 16 (3 * j)) (fa 8))) 9 (pTk (q + 1) (fun j => fa 16 (3 * j + 1) &&& sMsk nd2) (fa 9))) 10 (pTk (q + 1) (fun j => fa 16 (3 * j + 2)) (fa 10))) 11 (pTk (q + 1) pZ (fa 11)))) (by rw [← e8, ← e9, ← e10, ← e11]; exact congrArg (mPic G x ad (upd (upd fi 5 (nI nd2)) 6 (nI np2))) (up4 (va_up fa 7 (pTk nd2 (fa 15) (fa 7))) _ _ _ _ _ _ _ _))
              refine lv_iinc (v := (nI (q + 1))) (lv' := [(1, _), (0, _)]) hx hb dX1_takeTower_116 hl (k := 1) rfl (nI_inc q) (by decide) rfl (fun ls hl => ?_)
              refine lv_goto (tgt := 46) hx hb dX1_takeTower_119 (by decide) ?_
              exact ih46 (q + 1) _ _ _ (by omega) (by omega) hN hS (lv_sub hl [1, 0] (rfl))
        exact loop46 (np2 + 1) 0 _ _ _ (by omega) (by omega) hN hS (lv_sub hl [1, 0] rfl)
      · have c15 : ¬ nd2 ≤ d := fun z => c15 (nI_le z (by omega))
        refine lv_aload_n hx hb dX1_takeTower_18 rfl (lv_at hl 0 rfl) ?_
        refine m_get SS hK hN 7 (by decide) q1126 rfl rfl dX1_takeTower_19 ?_
        refine lv_iload_n hx hb dX1_takeTower_22 rfl (lv_at hl 1 rfl) ?_
        refine lv_aload_n hx hb dX1_takeTower_23 rfl (lv_at hl 0 rfl) ?_
        refine m_get SS hK hN 15 (by decide) q1134 rfl rfl dX1_takeTower_24 ?_
        refine lv_iload_n hx hb dX1_takeTower_27 rfl (lv_at hl 1 rfl) ?_
        refine m_ald SS hK hN 15 rfl (d) (rfl) (by show _ < (6 : Nat); omega) dX1_takeTower_28 ?_
        refine n_top (y := fa 15 d) (rfl) ?_
        refine m_ast SS hK hN hS 7 rfl (d) (rfl) (by show _ < (6 : Nat); omega) dX1_takeTower_29 (fun H locs hN hS => ?_)
        have hN := hN.congr (c' := mPic G x ad (upd fi 5 (nI nd2)) (va_up fa 7 (pTk (d + 1) (fa 15) (fa 7)))) (by rw [bx_uu]; congr 2; exact pTk_s (fa 15) (fa 7) d)
        refine lv_iinc (v := (nI (d + 1))) (lv' := [(1, _), (0, _)]) hx hb dX1_takeTower_30 hl (k := 1) rfl (nI_inc d) (by decide) rfl (fun ls hl => ?_)
        refine lv_goto (tgt := 10) hx hb dX1_takeTower_33 (by decide) ?_
        exact ih10 (d + 1) _ _ _ (by omega) (by omega) hN hS (lv_sub hl [1, 0] (rfl))
  exact loop10 (nd2 + 1) 0 _ _ _ (by omega) (by omega) hN hS (lv_sub hl [1, 0] rfl)
set_option maxHeartbeats 4000000 in
set_option maxRecDepth 100000 in
theorem mX1_tower (l : Launch) (G : nG) (ad : Nat → Nat) (x : nPic) (fi : Nat → Int32) (fa : Nat → Nat → Int32) (k sort i cn : Int32) (hSL : ∀ k, k < 4 → ¬ fa 2 k = -9 → ∃ L, L ≤ 60 ∧ fa 3 k = nI L) : Met l yX1_tower (ws_ yX1_tower cX1_tower 7 (some .int)) (mR 4) (nPc G nCl (nK G) ad (mPic G x ad fi fa) [.ref (ad 50), .int k, .int sort, .int i, .int cn]) (nQ G nCl (mP G ad x (fun rv fi' fa' => rv = some (.int (oTwr (fa 2) (fa 3) (fa 4) k sort i cn).1) ∧ ((oTwr (fa 2) (fa 3) (fa 4) k sort i cn).2.2 = false → mEq (upd fi 0 (oTwr (fa 2) (fa 3) (fa 4) k sort i cn).2.1) fa fi' fa') ∧ ((oTwr (fa 2) (fa 3) (fa 4) k sort i cn).2.2 = true → mEq (upd (upd (upd (upd fi 0 (oTwr (fa 2) (fa 3) (fa 4) k sort i cn).2.1) 5 (nI (pT (fun p => fa 4 (60 * tn k + tn i + p)) (tn cn)).2.2.1.1)) 6 (nI (pT (fun p => fa 4 (60 * tn k + tn i + p)) (tn cn)).2.2.2.1)) 22 0) (oTwN fa (pT (fun p => fa 4 (60 * tn k + tn i + p)) (tn cn))) fi' fa' ∧ (pT (fun p => fa 4 (60 * tn k + tn i + p)) (tn cn)).2.2.1.1 ≤ 6 ∧ (pT (fun p => fa 4 (60 * tn k + tn i + p)) (tn cn)).2.2.2.1 ≤ 4)))) 0 0 (fun q => G.2 ≤ q) := by
  refine nMet RX1 (by decide) rfl (Nat.le_of_ble_eq_true rfl) ?_
  intro p e s m below meth c ls SS hR hK hN hS hl
  obtain ⟨hx, hb, hml, hown, hts⟩ := id SS
  obtain ⟨hr, hlk, hnm⟩ := hR
  generalize s.heap = H at hN hS ⊢
  generalize ([] : List Loc) = locs at hS ⊢
  have hl : lv_has ls 7 [(0, .ref (ad 50)), (1, .int k), (2, .int sort), (3, .int i), (4, .int cn)] := hl
  refine lv_aload_n hx hb dX1_tower_0 rfl (lv_at hl 0 rfl) ?_
  refine lv_iconst (v := 0) hx hb dX1_tower_1 (by decide) ?_
  refine m_put SS hK hN hS 0 (by decide) q1119 rfl rfl rfl rfl dX1_tower_2 (fun H locs hN hS => ?_)
  refine lv_iload_n hx hb dX1_tower_5 rfl (lv_at hl 1 rfl) ?_
  refine n_callS (As := [_]) SS (nK_o G) hK (mX1_isSheet l G ad x (upd fi 0 0) fa k) (va_cwS 1 hts (lw_S q1199 q1200 q61 q1201) rfl rfl rfl (by decide +kernel) ⟨Nat.le_of_ble_eq_true rfl, Nat.le_of_ble_eq_true rfl⟩) hN hS rfl hl.1 rfl (Nat.le_of_ble_eq_true rfl) dX1_tower_6 ⟨Nat.le_of_ble_eq_true rfl, Nat.le_of_ble_eq_true rfl⟩ (fun v ad' c' H locs hv hN hS => ?_)
  obtain ⟨_, _, rfl, rfl, rfl, rfl, rfl⟩ := hv
  refine W.eq (g2 := F0 m 9 ls (_ :: _)) rfl ?_
  refine lv_if_ne (tgt := 14) hx hb dX1_tower_9 (by decide) (fun c9 => ?_) (fun c9 => ?_)
  · have c9 : sBt k 0 3 = true := by simpa [zI_0] using c9
    obtain ⟨kk, hkk, ekk, tkk⟩ := sBt_t 3 (by decide) c9
    rw [ekk] at hl
    refine lv_iload_n hx hb dX1_tower_14 rfl (lv_at hl 2 rfl) ?_
    refine n_callS (As := [_]) SS (nK_o G) hK (mX1_isSort l G ad x (upd fi 0 0) fa sort) (va_cwS 1 hts (lw_S q1205 q1206 q61 q1207) rfl rfl rfl (by decide +kernel) ⟨Nat.le_of_ble_eq_true rfl, Nat.le_of_ble_eq_true rfl⟩) hN hS rfl hl.1 rfl (Nat.le_of_ble_eq_true rfl) dX1_tower_15 ⟨Nat.le_of_ble_eq_true rfl, Nat.le_of_ble_eq_true rfl⟩ (fun v ad' c' H locs hv hN hS => ?_)
    obtain ⟨_, _, rfl, rfl, rfl, rfl, rfl⟩ := hv
    refine W.eq (g2 := F0 m 18 ls (_ :: _)) rfl ?_
    refine lv_if_ne (tgt := 24) hx hb dX1_tower_18 (by decide) (fun c18 => ?_) (fun c18 => ?_)
    · have c18 := zI_n0 c18
      refine lv_aload_n hx hb dX1_tower_24 rfl (lv_at hl 0 rfl) ?_
      refine lv_iload_n hx hb dX1_tower_25 rfl (lv_at hl 1 rfl) ?_
      refine lv_iload_n hx hb dX1_tower_26 rfl (lv_at hl 2 rfl) ?_
      refine lv_iload_n hx hb dX1_tower_27 rfl (lv_at hl 3 rfl) ?_
      refine lv_iload hx hb dX1_tower_28 (lv_at hl 4 rfl) ?_
      refine n_callV (C := RX1) (As := [_, _, _, _]) (b := 50) SS (nK_o G) hK hK (mX1_against l G ad x (upd fi 0 0) fa kk (by omega) sort i cn) (cwV 4 hts (lw_V q1208 q1210 qs33 q61 q1211) rfl rfl rfl (by decide +kernel) ⟨Nat.le_of_ble_eq_true rfl, Nat.le_of_ble_eq_true rfl⟩) hN hS mPic_o rfl rfl hl.1 rfl (Nat.le_of_ble_eq_true rfl) dX1_tower_30 ⟨Nat.le_of_ble_eq_true rfl, Nat.le_of_ble_eq_true rfl⟩ (fun v ad' c' H locs hv hN hS => ?_)
      obtain ⟨_, _, rfl, rfl, rfl, rfl, rfl⟩ := hv
      refine W.eq (g2 := F0 m 33 ls (_ :: _)) rfl ?_
      refine lv_istore (lv' := [(5, _), (0, _), (1, _), (2, _), (3, _), (4, _)]) hx hb dX1_tower_33 hl (by decide) rfl (fun ls hl => ?_)
      refine lv_iload hx hb dX1_tower_35 (lv_at hl 0 rfl) ?_
      refine lv_if_eq (tgt := 47) hx hb dX1_tower_37 (by decide) (fun c37 => ?_) (fun c37 => ?_)
      · have hso : ¬ fa 2 kk = -9 := by intro z; rw [sAgn] at c37; rw [if_neg (fun q => q.1 z), if_pos z] at c37; exact absurd c37 (by decide)
        obtain ⟨L, hL6, hL⟩ := hSL kk (by omega) hso
        obtain ⟨-, -, ii, nn, ei, ti, en, tnn, hin⟩ := sAgn_00 hL hL6 c37
        rw [ei, en] at hl
        have hTO : (pT (fun p => fa 4 (60 * tn k + tn i + p)) (tn cn)) = (pT (fun p => fa 4 (60 * kk + ii + p)) nn) := by rw [tkk, ti, tnn]
        refine lv_bipush (v := (nI 60)) hx hb dX1_tower_47 (rfl) ?_
        refine lv_iload_n hx hb dX1_tower_49 rfl (lv_at hl 2 rfl) ?_
        refine lv_imul hx hb dX1_tower_50 ?_
        refine n_top (y := nI (60 * kk)) (pk_mul _ _) ?_
        refine lv_iload_n hx hb dX1_tower_51 rfl (lv_at hl 4 rfl) ?_
        refine lv_iadd hx hb dX1_tower_52 ?_
        refine n_top (y := nI (60 * kk + ii)) (nI_add _ _) ?_
        refine lv_istore (lv' := [(6, _), (5, _), (0, _), (1, _), (2, _), (3, _), (4, _)]) hx hb dX1_tower_53 hl (by decide) rfl (fun ls hl => ?_)
        refine lv_aload_n hx hb dX1_tower_55 rfl (lv_at hl 2 rfl) ?_
        refine lv_iload hx hb dX1_tower_56 (lv_at hl 0 rfl) ?_
        refine m_put SS hK hN hS 12 (by decide) q1131 rfl rfl rfl rfl dX1_tower_58 (fun H locs hN hS => ?_)
        refine lv_aload_n hx hb dX1_tower_61 rfl (lv_at hl 2 rfl) ?_
        refine lv_iload hx hb dX1_tower_62 (lv_at hl 0 rfl) ?_
        refine lv_iload hx hb dX1_tower_64 (lv_at hl 6 rfl) ?_
        refine lv_iadd hx hb dX1_tower_66 ?_
        refine n_top (y := nI (60 * kk + ii + nn)) (nI_add _ _) ?_
        refine n_callV (C := RX1) (As := [_]) (b := 50) SS (nK_o G) hK hK (mX1_readTower l G ad x (upd (upd fi 0 0) 12 (nI (60 * kk + ii))) fa (60 * kk + ii) nn rfl (by omega)) (cwV 1 hts (lw_V q1216 q1218 qs35 q61 q1219) rfl rfl rfl (by decide +kernel) ⟨Nat.le_of_ble_eq_true rfl, Nat.le_of_ble_eq_true rfl⟩) hN hS mPic_o rfl rfl hl.1 rfl (Nat.le_of_ble_eq_true rfl) dX1_tower_67 ⟨Nat.le_of_ble_eq_true rfl, Nat.le_of_ble_eq_true rfl⟩ (fun v ad' c' H locs hv hN hS => ?_)
        obtain ⟨fi2, fa2, rfl, rfl, rfl, r12, rT, rE⟩ := hv
        refine W.eq (g2 := F0 m 70 ls (_ :: _)) rfl ?_
        refine lv_if_ne (tgt := 84) hx hb dX1_tower_70 (by decide) (fun c70 => ?_) (fun c70 => ?_)
        · have c70 := zI_n0 c70
          have rT := rT c70
          have hans : oTwr (fa 2) (fa 3) (fa 4) k sort i cn = (nI (pT (fun p => fa 4 (60 * kk + ii + p)) nn).2.2.2.1, 0, true) := by rw [oTwr, if_pos c9, if_pos c18, tkk, ti, tnn, if_pos c37, if_pos c70]
          refine lv_aload_n hx hb dX1_tower_84 rfl (lv_at hl 2 rfl) ?_
          refine n_callV (C := RX1) (As := []) (b := 50) SS (nK_o G) hK hK (mX1_takeTower l G ad x fi2 fa2 (pT (fun p => fa 4 (60 * kk + ii + p)) nn).2.2.1.1 (pT (fun p => fa 4 (60 * kk + ii + p)) nn).2.2.2.1 rT.1.1 rT.1.2.1 rT.2.1 rT.2.2.1) (cwV 0 hts (lw_V q1236 q1238 qs40 q61 q1239) rfl rfl rfl (by decide +kernel) ⟨Nat.le_of_ble_eq_true rfl, Nat.le_of_ble_eq_true rfl⟩) hN hS mPic_o rfl rfl hl.1 rfl (Nat.le_of_ble_eq_true rfl) dX1_tower_85 ⟨Nat.le_of_ble_eq_true rfl, Nat.le_of_ble_eq_true rfl⟩ (fun v ad' c' H locs hv hN hS => ?_)
          obtain ⟨_, _, rfl, rfl, rfl, rfl, rfl⟩ := hv
          refine W.eq (g2 := F0 m 88 ls _) rfl ?_
          refine lv_aload_n hx hb dX1_tower_88 rfl (lv_at hl 2 rfl) ?_
          refine m_get (v := .int (nI (pT (fun p => fa 4 (60 * kk + ii + p)) nn).2.2.2.1)) SS hK hN 6 (by decide) q1125 rfl (rfl) dX1_tower_89 ?_
          exact W.iret hx hb hr (nEnd hN hS ⟨_, _, rfl, rfl, ⟨by rw [hans], (fun z => absurd z (by rw [hans]; exact fun q => Bool.noConfusion q)), (fun _ => by rw [hans, hTO]; exact ⟨twTake rE rT.1.2.2 rT.2.2.2, rT.1.2.1, rT.2.2.1⟩)⟩⟩) hS.2 dX1_tower_92
        · have c70 := zI_0.mp c70
          have hans : oTwr (fa 2) (fa 3) (fa 4) k sort i cn = (-100 - nI (pT (fun p => fa 4 (60 * kk + ii + p)) nn).2.1, 0, false) := by rw [oTwr, if_pos c9, if_pos c18, tkk, ti, tnn, if_pos c37, if_neg (by rw [c70]; exact Bool.false_ne_true)]
          refine lv_bipush (v := (-100)) hx hb dX1_tower_73 (by decide) ?_
          refine lv_aload_n hx hb dX1_tower_75 rfl (lv_at hl 2 rfl) ?_
          refine m_get (v := .int (nI (60 * kk + ii + (pT (fun p => fa 4 (60 * kk + ii + p)) nn).2.1))) SS hK hN 12 (by decide) q1131 rfl (by rw [← r12]; rfl) dX1_tower_76 ?_
          refine lv_iload hx hb dX1_tower_79 (lv_at hl 0 rfl) ?_
          refine lv_isub hx hb dX1_tower_81 ?_
          refine n_top (y := nI (pT (fun p => fa 4 (60 * kk + ii + p)) nn).2.1) (by rw [pk_sub (by omega), Nat.add_sub_cancel_left]) ?_
          refine lv_isub hx hb dX1_tower_82 ?_
          exact W.iret hx hb hr (nEnd hN hS ⟨_, _, rfl, rfl, ⟨by rw [hans], (fun _ => by rw [hans]; exact (mEq.rf.ji 12 rfl _).tr rE), (fun z => absurd z (by rw [hans]; exact Bool.false_ne_true))⟩⟩) hS.2 dX1_tower_83
      · have hans : oTwr (fa 2) (fa 3) (fa 4) k sort i cn = (-10 - sAgn (fa 2) (fa 3) kk sort i cn, sAgn (fa 2) (fa 3) kk sort i cn, false) := by rw [oTwr, if_pos c9, if_pos c18, tkk, if_neg c37]
        refine lv_aload_n hx hb dX1_tower_40 rfl (lv_at hl 1 rfl) ?_
        refine lv_iload hx hb dX1_tower_41 (lv_at hl 0 rfl) ?_
        refine n_callV (C := RX1) (As := [_]) (b := 50) SS (nK_o G) hK hK (mX1_fails l G ad x (upd fi 0 0) fa (sAgn (fa 2) (fa 3) kk sort i cn)) (cwV 1 hts (lw_V q1212 q1214 qs34 q61 q1215) rfl rfl rfl (by decide +kernel) ⟨Nat.le_of_ble_eq_true rfl, Nat.le_of_ble_eq_true rfl⟩) hN hS mPic_o rfl rfl hl.1 rfl (Nat.le_of_ble_eq_true rfl) dX1_tower_43 ⟨Nat.le_of_ble_eq_true rfl, Nat.le_of_ble_eq_true rfl⟩ (fun v ad' c' H locs hv hN hS => ?_)
        obtain ⟨_, _, rfl, rfl, rfl, rfl, rfl⟩ := hv
        refine W.eq (g2 := F0 m 46 ls (_ :: _)) rfl ?_
        exact W.iret hx hb hr (nEnd hN hS ⟨_, _, rfl, rfl, ⟨by rw [hans], (fun _ => by rw [hans, upd_upd]; exact mEq.rf), (fun z => absurd z (by rw [hans]; exact Bool.false_ne_true))⟩⟩) hS.2 dX1_tower_46
    · have c18 := zI_0.mp c18
      have hans : oTwr (fa 2) (fa 3) (fa 4) k sort i cn = (-2, 0, false) := by rw [oTwr, if_pos c9, if_neg (by rw [c18]; exact Bool.false_ne_true)]
      refine lv_bipush (v := (-2)) hx hb dX1_tower_21 (by decide) ?_
      exact W.iret hx hb hr (nEnd hN hS ⟨_, _, rfl, rfl, ⟨by rw [hans], (fun _ => by rw [hans]; exact mEq.rf), (fun z => absurd z (by rw [hans]; exact Bool.false_ne_true))⟩⟩) hS.2 dX1_tower_23
  · have c9 : ¬ sBt k 0 3 = true := by simpa [zI_0] using c9
    have hans : oTwr (fa 2) (fa 3) (fa 4) k sort i cn = (-1, 0, false) := by rw [oTwr, if_neg c9]
    refine lv_iconst (v := (-1)) hx hb dX1_tower_12 (by decide) ?_
    exact W.iret hx hb hr (nEnd hN hS ⟨_, _, rfl, rfl, ⟨by rw [hans], (fun _ => by rw [hans]; exact mEq.rf), (fun z => absurd z (by rw [hans]; exact Bool.false_ne_true))⟩⟩) hS.2 dX1_tower_13
