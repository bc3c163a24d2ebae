/-! THE MODEL's tellings and simple questions: printed by wip/gen/m2.py -/
set_option maxHeartbeats 4000000 in
set_option maxRecDepth 100000 in
theorem mX1_asNow (l : Launch) (G : nG) (ad : Nat → Nat) (x : nPic) (fi : Nat → Int32) (fa : Nat → Nat → Int32) (np : Nat) (hnp : fi 6 = nI np) (h4 : np ≤ 4) : Met l yX1_asNow (ws_ yX1_asNow cX1_asNow 2 none) (mR 0) (nPc G nCl (nK G) ad (mPic G x ad fi fa) [.ref (ad 50)]) (nQ G nCl (mP G ad x (fun rv fi' fa' => rv = none ∧ fi = fi' ∧ va_up fa 17 (fun j => if j < np then fa 11 j else fa 17 j) = fa'))) 0 0 (fun q => G.2 ≤ q) := by
  refine nMet RX1 (by decide) rfl (Nat.le_of_ble_eq_true rfl) ?_
  intro p e s m below meth c ls SS hR hK hN hS hl
  obtain ⟨hx, hb, hml, hown, hts⟩ := id SS
  obtain ⟨hr, hlk, hnm⟩ := hR
  generalize s.heap = H at hN hS ⊢
  generalize ([] : List Loc) = locs at hS ⊢
  have hl : lv_has ls 2 [(0, .ref (ad 50))] := hl
  refine lv_iconst (v := (nI 0)) hx hb dX1_asNow_0 (rfl) ?_
  refine lv_istore_n (lv' := [(1, _), (0, _)]) hx hb dX1_asNow_1 rfl hl (by decide) rfl (fun ls hl => ?_)
  have hN : nOk G nCl ad (mPic G x ad fi (va_up fa 17 (fun j => if j < 0 then fa 11 j else fa 17 j))) H := hN.congr (by congr 1; funext k; by_cases hk : k = 17 <;> simp [va_up, hk])
  have loop2 : ∀ (n : Nat) (d : Nat) (H : Heap) (locs : List Loc) (ls : Array Slot), d ≤ np → np + 1 ≤ d + n → nOk G nCl ad (mPic G x ad fi (va_up fa 17 (fun j => if j < d then fa 11 j else fa 17 j))) H → nS G s H locs → lv_has ls 2 [(0, .ref (ad 50)), (1, .int (nI d))] → W p l e (mR 0) s m ([.ref (ad 50)] : List Value).toArray below meth c H locs 0 0 (MQ below (nQ G nCl (mP G ad x (fun rv fi' fa' => rv = none ∧ fi = fi' ∧ va_up fa 17 (fun j => if j < np then fa 11 j else fa 17 j) = fa'))) ([.ref (ad 50)] : List Value).toArray s 0 0 (fun q => G.2 ≤ q)) (F0 m 2 ls []) := by
    intro n
    induction n with
    | zero => intro d H locs ls hd hfuel hN hS hl; exact absurd hfuel (by omega)
    | succ n ih2 =>
      intro d H locs ls hd hfuel hN hS hl
      refine lv_iload_n hx hb dX1_asNow_2 rfl (lv_at hl 1 rfl) ?_
      refine lv_aload_n hx hb dX1_asNow_3 rfl (lv_at hl 0 rfl) ?_
      refine m_get (v := .int (nI np)) SS hK hN 6 (by decide) q1125 rfl (by rw [← hnp]; rfl) dX1_asNow_4 ?_
      refine lv_icmp_ge (tgt := 28) hx hb dX1_asNow_7 (by decide) (fun c7 => ?_) (fun c7 => ?_)
      · have c7 := (nI_leI (by omega) (by omega)).mp c7
        have c7 : d = np := by omega
        subst c7
        exact W.vret hx hb hr (nEnd hN hS ⟨_, _, rfl, rfl, ⟨rfl, rfl, rfl⟩⟩) hS.2 dX1_asNow_28
      · have c7 : ¬ np ≤ d := fun q => c7 (nI_le q (by omega))
        refine lv_aload_n hx hb dX1_asNow_10 rfl (lv_at hl 0 rfl) ?_
        refine m_get SS hK hN 17 (by decide) q1136 rfl rfl dX1_asNow_11 ?_
        refine lv_iload_n hx hb dX1_asNow_14 rfl (lv_at hl 1 rfl) ?_
        refine lv_aload_n hx hb dX1_asNow_15 rfl (lv_at hl 0 rfl) ?_
        refine m_get SS hK hN 11 (by decide) q1130 rfl rfl dX1_asNow_16 ?_
        refine lv_iload_n hx hb dX1_asNow_19 rfl (lv_at hl 1 rfl) ?_
        refine m_ald SS hK hN 11 rfl (d) (rfl) (by show _ < (4 : Nat); omega) dX1_asNow_20 ?_
        refine n_top (y := fa 11 d) (rfl) ?_
        refine m_ast SS hK hN hS 17 rfl (d) (rfl) (by show _ < (4 : Nat); omega) dX1_asNow_21 (fun H locs hN hS => ?_)
        have hN : nOk G nCl ad (mPic G x ad fi (va_up fa 17 (fun j => if j < d + 1 then fa 11 j else fa 17 j))) H := hN.congr (by congr 1; rw [bx_uu]; congr 1; exact upd_lt (fa 11) (fa 17) d)
        refine lv_iinc (v := (nI (d + 1))) (lv' := [(1, _), (0, _)]) hx hb dX1_asNow_22 hl (k := 1) rfl (nI_inc d) (by decide) rfl (fun ls hl => ?_)
        refine lv_goto (tgt := 2) hx hb dX1_asNow_25 (by decide) ?_
        exact ih2 (d + 1) _ _ _ (by omega) (by omega) hN hS (lv_sub hl [1, 0] (rfl))
  exact loop2 (np + 1) 0 _ _ _ (by omega) (by omega) hN hS (lv_sub hl [1, 0] rfl)
set_option maxHeartbeats 4000000 in
set_option maxRecDepth 100000 in
theorem mX1_isKnown (l : Launch) (G : nG) (ad : Nat → Nat) (x : nPic) (fi : Nat → Int32) (fa : Nat → Nat → Int32) (pp : Nat) (nd : Nat) (hnd : fi 5 = nI nd) (h6 : nd ≤ 6) (np : Nat) (hnp : fi 6 = nI np) (h4 : np ≤ 4) (hp : pp < np) : Met l yX1_isKnown (ws_ yX1_isKnown cX1_isKnown 4 (some .boolean)) (mR 2) (nPc G nCl (nK G) ad (mPic G x ad fi fa) [.ref (ad 50), .int (nI pp)]) (nQ G nCl (mP G ad x (fun rv fi' fa' => rv = some (.int (zI (sSeen (fa 7) (fa 8) (fa 10) (fa 17) nd pp np))) ∧ fi = fi' ∧ fa = fa'))) 0 0 (fun q => G.2 ≤ q) := by
  refine nMet RX1 (by decide) rfl (Nat.le_of_ble_eq_true rfl) ?_
  intro p e s m below meth c ls SS hR hK hN hS hl
  obtain ⟨hx, hb, hml, hown, hts⟩ := id SS
  obtain ⟨hr, hlk, hnm⟩ := hR
  generalize s.heap = H at hN hS ⊢
  generalize ([] : List Loc) = locs at hS ⊢
  have hl : lv_has ls 4 [(0, .ref (ad 50)), (1, .int (nI pp))] := hl
  refine lv_aload_n hx hb dX1_isKnown_0 rfl (lv_at hl 0 rfl) ?_
  refine lv_iload_n hx hb dX1_isKnown_1 rfl (lv_at hl 1 rfl) ?_
  refine lv_aload_n hx hb dX1_isKnown_2 rfl (lv_at hl 0 rfl) ?_
  refine m_get SS hK hN 17 (by decide) q1136 rfl rfl dX1_isKnown_3 ?_
  refine lv_iload_n hx hb dX1_isKnown_6 rfl (lv_at hl 1 rfl) ?_
  refine m_ald SS hK hN 17 rfl (pp) (rfl) (by show _ < (4 : Nat); omega) dX1_isKnown_7 ?_
  refine n_callV (C := RX1) (As := [_, _]) (b := 50) SS (nK_o G) hK hK (mX1_floorBy l G ad x fi fa pp (fa 17 pp) (by omega) nd hnd h6) (cwV 2 hts (lw_V q1248 q1250 qs42 q61 q1251) rfl rfl rfl (by decide +kernel) ⟨Nat.le_of_ble_eq_true rfl, Nat.le_of_ble_eq_true rfl⟩) hN hS mPic_o rfl rfl hl.1 rfl (Nat.le_of_ble_eq_true rfl) dX1_isKnown_8 ⟨Nat.le_of_ble_eq_true rfl, Nat.le_of_ble_eq_true rfl⟩ (fun v ad' c' H locs hv hN hS => ?_)
  obtain ⟨_, _, rfl, rfl, rfl, rfl, rfl⟩ := hv
  refine W.eq (g2 := F0 m 11 ls (_ :: _)) rfl ?_
  refine lv_istore_n (lv' := [(2, _), (0, _), (1, _)]) hx hb dX1_isKnown_11 rfl hl (by decide) rfl (fun ls hl => ?_)
  refine lv_iconst (v := (nI 0)) hx hb dX1_isKnown_12 (rfl) ?_
  refine lv_istore_n (lv' := [(3, _), (2, _), (0, _), (1, _)]) hx hb dX1_isKnown_13 rfl hl (by decide) rfl (fun ls hl => ?_)
  have loop14 : ∀ (n : Nat) (q : Nat) (H : Heap) (locs : List Loc) (ls : Array Slot), q ≤ np → np + 1 ≤ q + n → sSeen (fa 7) (fa 8) (fa 10) (fa 17) nd pp q = false → nOk G nCl ad (mPic G x ad fi fa) H → nS G s H locs → lv_has ls 4 [(0, .ref (ad 50)), (1, .int (nI pp)), (2, .int (sFl (fa 7) (fa 8) pp (fa 17 pp) nd)), (3, .int (nI q))] → W p l e (mR 2) s m ([.ref (ad 50), .int (nI pp)] : List Value).toArray below meth c H locs 0 0 (MQ below (nQ G nCl (mP G ad x (fun rv fi' fa' => rv = some (.int (zI (sSeen (fa 7) (fa 8) (fa 10) (fa 17) nd pp np))) ∧ fi = fi' ∧ fa = fa'))) ([.ref (ad 50), .int (nI pp)] : List Value).toArray s 0 0 (fun q => G.2 ≤ q)) (F0 m 14 ls []) := by
    intro n
    induction n with
    | zero => intro q H locs ls hq hfuel hs hN hS hl; exact absurd hfuel (by omega)
    | succ n ih14 =>
      intro q H locs ls hq hfuel hs hN hS hl
      refine lv_iload_n hx hb dX1_isKnown_14 rfl (lv_at hl 3 rfl) ?_
      refine lv_aload_n hx hb dX1_isKnown_15 rfl (lv_at hl 0 rfl) ?_
      refine m_get (v := .int (nI np)) SS hK hN 6 (by decide) q1125 rfl (by rw [← hnp]; rfl) dX1_isKnown_16 ?_
      refine lv_icmp_ge (tgt := 60) hx hb dX1_isKnown_19 (by decide) (fun c19 => ?_) (fun c19 => ?_)
      · have c19 := (nI_leI (by omega) (by omega)).mp c19
        have c19 : q = np := by omega
        subst c19
        refine lv_iconst (v := 0) hx hb dX1_isKnown_60 (by decide) ?_
        exact W.zret hx hb hr (rfl) (nEnd hN hS ⟨_, _, rfl, rfl, ⟨by congr 2; exact zI_f hs, rfl, rfl⟩⟩) hS.2 dX1_isKnown_61
      · have c19 : ¬ np ≤ q := fun z => c19 (nI_le z (by omega))
        refine lv_iload_n hx hb dX1_isKnown_22 rfl (lv_at hl 3 rfl) ?_
        refine lv_iload_n hx hb dX1_isKnown_23 rfl (lv_at hl 1 rfl) ?_
        refine lv_icmp_eq (tgt := 54) hx hb dX1_isKnown_24 (by decide) (fun c24 => ?_) (fun c24 => ?_)
        · have c24 := (nI_eq (by omega) (by omega)).mp c24
          refine lv_iinc (v := (nI (q + 1))) (lv' := [(3, _), (0, _), (1, _), (2, _)]) hx hb dX1_isKnown_54 hl (k := 3) rfl (nI_inc q) (by decide) rfl (fun ls hl => ?_)
          refine lv_goto (tgt := 14) hx hb dX1_isKnown_57 (by decide) ?_
          exact ih14 (q + 1) _ _ _ (by omega) (by omega) (by rw [sSeen, hs]; simp_all) hN hS (lv_sub hl [1, 2, 3, 0] (rfl))
        · have c24 : ¬ q = pp := fun z => c24 (by rw [z])
          refine lv_aload_n hx hb dX1_isKnown_27 rfl (lv_at hl 0 rfl) ?_
          refine m_get SS hK hN 10 (by decide) q1129 rfl rfl dX1_isKnown_28 ?_
          refine lv_iload_n hx hb dX1_isKnown_31 rfl (lv_at hl 3 rfl) ?_
          refine m_ald SS hK hN 10 rfl (q) (rfl) (by show _ < (4 : Nat); omega) dX1_isKnown_32 ?_
          refine lv_iload_n hx hb dX1_isKnown_33 rfl (lv_at hl 1 rfl) ?_
          refine lv_icmp_ne (tgt := 54) hx hb dX1_isKnown_34 (by decide) (fun c34 => ?_) (fun c34 => ?_)
          · refine lv_iinc (v := (nI (q + 1))) (lv' := [(3, _), (0, _), (1, _), (2, _)]) hx hb dX1_isKnown_54 hl (k := 3) rfl (nI_inc q) (by decide) rfl (fun ls hl => ?_)
            refine lv_goto (tgt := 14) hx hb dX1_isKnown_57 (by decide) ?_
            exact ih14 (q + 1) _ _ _ (by omega) (by omega) (by rw [sSeen, hs]; simp_all) hN hS (lv_sub hl [1, 2, 3, 0] (rfl))
          · refine lv_aload_n hx hb dX1_isKnown_37 rfl (lv_at hl 0 rfl) ?_
            refine lv_iload_n hx hb dX1_isKnown_38 rfl (lv_at hl 3 rfl) ?_
            refine lv_aload_n hx hb dX1_isKnown_39 rfl (lv_at hl 0 rfl) ?_
            refine m_get SS hK hN 17 (by decide) q1136 rfl rfl dX1_isKnown_40 ?_
            refine lv_iload_n hx hb dX1_isKnown_43 rfl (lv_at hl 3 rfl) ?_
            refine m_ald SS hK hN 17 rfl (q) (rfl) (by show _ < (4 : Nat); omega) dX1_isKnown_44 ?_
            refine n_callV (C := RX1) (As := [_, _]) (b := 50) SS (nK_o G) hK hK (mX1_floorBy l G ad x fi fa q (fa 17 q) (by omega) nd hnd h6) (cwV 2 hts (lw_V q1248 q1250 qs42 q61 q1251) rfl rfl rfl (by decide +kernel) ⟨Nat.le_of_ble_eq_true rfl, Nat.le_of_ble_eq_true rfl⟩) hN hS mPic_o rfl rfl hl.1 rfl (Nat.le_of_ble_eq_true rfl) dX1_isKnown_45 ⟨Nat.le_of_ble_eq_true rfl, Nat.le_of_ble_eq_true rfl⟩ (fun v ad' c' H locs hv hN hS => ?_)
            obtain ⟨_, _, rfl, rfl, rfl, rfl, rfl⟩ := hv
            refine W.eq (g2 := F0 m 48 ls (_ :: _)) rfl ?_
            refine lv_iload_n hx hb dX1_isKnown_48 rfl (lv_at hl 2 rfl) ?_
            refine lv_icmp_ne (tgt := 54) hx hb dX1_isKnown_49 (by decide) (fun c49 => ?_) (fun c49 => ?_)
            · refine lv_iinc (v := (nI (q + 1))) (lv' := [(3, _), (0, _), (1, _), (2, _)]) hx hb dX1_isKnown_54 hl (k := 3) rfl (nI_inc q) (by decide) rfl (fun ls hl => ?_)
              refine lv_goto (tgt := 14) hx hb dX1_isKnown_57 (by decide) ?_
              exact ih14 (q + 1) _ _ _ (by omega) (by omega) (by rw [sSeen, hs]; simp_all) hN hS (lv_sub hl [1, 2, 3, 0] (rfl))
            · refine lv_iconst (v := 1) hx hb dX1_isKnown_52 (by decide) ?_
              exact W.zret hx hb hr (rfl) (nEnd hN hS ⟨_, _, rfl, rfl, ⟨by congr 2; exact zI_t (sSeen_mono (a := q + 1) (by rw [sSeen]; simp_all) np (by omega)), rfl, rfl⟩⟩) hS.2 dX1_isKnown_53
  exact loop14 (np + 1) 0 _ _ _ (by omega) (by omega) rfl hN hS (lv_sub hl [2, 3, 1, 0] rfl)
set_option maxHeartbeats 4000000 in
set_option maxRecDepth 100000 in
theorem mX1_tells (l : Launch) (G : nG) (ad : Nat → Nat) (x : nPic) (fi : Nat → Int32) (fa : Nat → Nat → Int32) (pp d : Nat) (nd : Nat) (hnd : fi 5 = nI nd) (h6 : nd ≤ 6) (np : Nat) (hnp : fi 6 = nI np) (h4 : np ≤ 4) (hp : pp < np) (hd : d < nd) : Met l yX1_tells (ws_ yX1_tells cX1_tells 3 (some .boolean)) (mR 3) (nPc G nCl (nK G) ad (mPic G x ad fi fa) [.ref (ad 50), .int (nI pp), .int (nI d)]) (nQ G nCl (mP G ad x (fun rv fi' fa' => rv = some (.int (zI (sCgt (fa 7) (fa 8) (fa 9) (fa 10) nd np (fa 17) pp d))) ∧ fi = fi' ∧ va_up fa 17 (sTel (fa 7) (fa 8) (fa 9) (fa 10) nd np (fa 17) pp d) = fa'))) 0 0 (fun q => G.2 ≤ q) := by
  refine nMet RX1 (by decide) rfl (Nat.le_of_ble_eq_true rfl) ?_
  intro p e s m below meth c ls SS hR hK hN hS hl
  obtain ⟨hx, hb, hml, hown, hts⟩ := id SS
  obtain ⟨hr, hlk, hnm⟩ := hR
  generalize s.heap = H at hN hS ⊢
  generalize ([] : List Loc) = locs at hS ⊢
  have hl : lv_has ls 3 [(0, .ref (ad 50)), (1, .int (nI pp)), (2, .int (nI d))] := hl
  refine lv_aload_n hx hb dX1_tells_0 rfl (lv_at hl 0 rfl) ?_
  refine m_get SS hK hN 9 (by decide) q1128 rfl rfl dX1_tells_1 ?_
  refine lv_iload_n hx hb dX1_tells_4 rfl (lv_at hl 1 rfl) ?_
  refine m_ald SS hK hN 9 rfl (pp) (rfl) (by show _ < (4 : Nat); omega) dX1_tells_5 ?_
  refine lv_iload_n hx hb dX1_tells_6 rfl (lv_at hl 2 rfl) ?_
  refine lv_ishr hx hb dX1_tells_7 ?_
  refine lv_iconst (v := 1) hx hb dX1_tells_8 (by decide) ?_
  refine lv_iand hx hb dX1_tells_9 ?_
  refine n_top (y := sBit (fa 9 pp) d) (rfl) ?_
  refine lv_if_ne (tgt := 30) hx hb dX1_tells_10 (by decide) (fun c10 => ?_) (fun c10 => ?_)
  · have hc : sCgt (fa 7) (fa 8) (fa 9) (fa 10) nd np (fa 17) pp d = false := by rw [sCgt, decide_eq_false c10, Bool.false_and]
    refine lv_aload_n hx hb dX1_tells_30 rfl (lv_at hl 0 rfl) ?_
    refine m_get SS hK hN 17 (by decide) q1136 rfl rfl dX1_tells_31 ?_
    refine lv_iload_n hx hb dX1_tells_34 rfl (lv_at hl 1 rfl) ?_
    refine lv_dup2_11 hx hb dX1_tells_35 rfl rfl ?_
    refine m_ald SS hK hN 17 rfl (pp) (rfl) (by show _ < (4 : Nat); omega) dX1_tells_36 ?_
    refine lv_iconst (v := 1) hx hb dX1_tells_37 (by decide) ?_
    refine lv_iload_n hx hb dX1_tells_38 rfl (lv_at hl 2 rfl) ?_
    refine lv_ishl hx hb dX1_tells_39 ?_
    refine n_top (y := sPw d) (rfl) ?_
    refine lv_ior hx hb dX1_tells_40 ?_
    refine m_ast SS hK hN hS 17 rfl (pp) (rfl) (by show _ < (4 : Nat); omega) dX1_tells_41 (fun H locs hN hS => ?_)
    refine lv_iconst (v := 0) hx hb dX1_tells_42 (by decide) ?_
    exact W.zret hx hb hr (rfl) (nEnd hN hS ⟨_, _, rfl, rfl, ⟨by congr 2; exact zI_f hc, rfl, by rw [sTel, hc]; rfl⟩⟩) hS.2 dX1_tells_43
  · refine lv_aload_n hx hb dX1_tells_13 rfl (lv_at hl 0 rfl) ?_
    refine lv_iload_n hx hb dX1_tells_14 rfl (lv_at hl 1 rfl) ?_
    refine n_callV (C := RX1) (As := [_]) (b := 50) SS (nK_o G) hK hK (mX1_isKnown l G ad x fi fa pp nd hnd h6 np hnp h4 hp) (cwV 1 hts (lw_V q1284 q1286 qs47 q61 q1287) rfl rfl rfl (by decide +kernel) ⟨Nat.le_of_ble_eq_true rfl, Nat.le_of_ble_eq_true rfl⟩) hN hS mPic_o rfl rfl hl.1 rfl (Nat.le_of_ble_eq_true rfl) dX1_tells_15 ⟨Nat.le_of_ble_eq_true rfl, Nat.le_of_ble_eq_true rfl⟩ (fun v ad' c' H locs hv hN hS => ?_)
    obtain ⟨_, _, rfl, rfl, rfl, rfl, rfl⟩ := hv
    refine W.eq (g2 := F0 m 18 ls (_ :: _)) rfl ?_
    refine lv_if_eq (tgt := 30) hx hb dX1_tells_18 (by decide) (fun c18 => ?_) (fun c18 => ?_)
    · have c18 : sSeen (fa 7) (fa 8) (fa 10) (fa 17) nd pp np = false := zI_0.mp c18
      have hc : sCgt (fa 7) (fa 8) (fa 9) (fa 10) nd np (fa 17) pp d = false := by rw [sCgt, c18, Bool.and_false]
      refine lv_aload_n hx hb dX1_tells_30 rfl (lv_at hl 0 rfl) ?_
      refine m_get SS hK hN 17 (by decide) q1136 rfl rfl dX1_tells_31 ?_
      refine lv_iload_n hx hb dX1_tells_34 rfl (lv_at hl 1 rfl) ?_
      refine lv_dup2_11 hx hb dX1_tells_35 rfl rfl ?_
      refine m_ald SS hK hN 17 rfl (pp) (rfl) (by show _ < (4 : Nat); omega) dX1_tells_36 ?_
      refine lv_iconst (v := 1) hx hb dX1_tells_37 (by decide) ?_
      refine lv_iload_n hx hb dX1_tells_38 rfl (lv_at hl 2 rfl) ?_
      refine lv_ishl hx hb dX1_tells_39 ?_
      refine n_top (y := sPw d) (rfl) ?_
      refine lv_ior hx hb dX1_tells_40 ?_
      refine m_ast SS hK hN hS 17 rfl (pp) (rfl) (by show _ < (4 : Nat); omega) dX1_tells_41 (fun H locs hN hS => ?_)
      refine lv_iconst (v := 0) hx hb dX1_tells_42 (by decide) ?_
      exact W.zret hx hb hr (rfl) (nEnd hN hS ⟨_, _, rfl, rfl, ⟨by congr 2; exact zI_f hc, rfl, by rw [sTel, hc]; rfl⟩⟩) hS.2 dX1_tells_43
    · have c18 : sSeen (fa 7) (fa 8) (fa 10) (fa 17) nd pp np = true := by simpa [zI_0] using c18
      have hc : sCgt (fa 7) (fa 8) (fa 9) (fa 10) nd np (fa 17) pp d = true := by rw [sCgt, c18, decide_eq_true c10]; rfl
      refine lv_aload_n hx hb dX1_tells_21 rfl (lv_at hl 0 rfl) ?_
      refine m_get SS hK hN 17 (by decide) q1136 rfl rfl dX1_tells_22 ?_
      refine lv_iload_n hx hb dX1_tells_25 rfl (lv_at hl 1 rfl) ?_
      refine lv_iconst (v := 0) hx hb dX1_tells_26 (by decide) ?_
      refine m_ast SS hK hN hS 17 rfl (pp) (rfl) (by show _ < (4 : Nat); omega) dX1_tells_27 (fun H locs hN hS => ?_)
      refine lv_iconst (v := 1) hx hb dX1_tells_28 (by decide) ?_
      exact W.zret hx hb hr (rfl) (nEnd hN hS ⟨_, _, rfl, rfl, ⟨by congr 2; exact zI_t hc, rfl, by rw [sTel, if_pos hc]⟩⟩) hS.2 dX1_tells_29
set_option maxHeartbeats 4000000 in
set_option maxRecDepth 100000 in
theorem mX1_say (l : Launch) (G : nG) (ad : Nat → Nat) (x : nPic) (fi : Nat → Int32) (fa : Nat → Nat → Int32) (a b : Int32) (nd : Nat) (hnd : fi 5 = nI nd) (h6 : nd ≤ 6) (np : Nat) (hnp : fi 6 = nI np) (h4 : np ≤ 4) : Met l yX1_say (ws_ yX1_say cX1_say 3 (some .int)) (mR 4) (nPc G nCl (nK G) ad (mPic G x ad fi fa) [.ref (ad 50), .int a, .int b]) (nQ G nCl (mP G ad x (fun rv fi' fa' => rv = some (.int (oSay nd np (fa 7) (fa 8) (fa 9) (fa 10) (fa 11) a b).1) ∧ mEq fi (va_up fa 11 (oSay nd np (fa 7) (fa 8) (fa 9) (fa 10) (fa 11) a b).2) fi' fa'))) 0 0 (fun q => G.2 ≤ q) := by
  refine nMet RX1 (by decide) rfl (Nat.le_of_ble_eq_true rfl) ?_
  intro p e s m below meth c ls SS hR hK hN hS hl
  obtain ⟨hx, hb, hml, hown, hts⟩ := id SS
  obtain ⟨hr, hlk, hnm⟩ := hR
  generalize s.heap = H at hN hS ⊢
  generalize ([] : List Loc) = locs at hS ⊢
  have hl : lv_has ls 3 [(0, .ref (ad 50)), (1, .int a), (2, .int b)] := hl
  refine lv_aload_n hx hb dX1_say_0 rfl (lv_at hl 0 rfl) ?_
  refine lv_iload_n hx hb dX1_say_1 rfl (lv_at hl 1 rfl) ?_
  refine n_callV (C := RX1) (As := [_]) (b := 50) SS (nK_o G) hK hK (mX1_isPerson l G ad x fi fa a np hnp h4) (cwV 1 hts (lw_V q1244 q1246 qs41 q61 q1247) rfl rfl rfl (by decide +kernel) ⟨Nat.le_of_ble_eq_true rfl, Nat.le_of_ble_eq_true rfl⟩) hN hS mPic_o rfl rfl hl.1 rfl (Nat.le_of_ble_eq_true rfl) dX1_say_2 ⟨Nat.le_of_ble_eq_true rfl, Nat.le_of_ble_eq_true rfl⟩ (fun v ad' c' H locs hv hN hS => ?_)
  obtain ⟨_, _, rfl, rfl, rfl, rfl, rfl⟩ := hv
  refine W.eq (g2 := F0 m 5 ls (_ :: _)) rfl ?_
  refine lv_if_eq (tgt := 16) hx hb dX1_say_5 (by decide) (fun c5 => ?_) (fun c5 => ?_)
  · have c5 : ¬ sIn a np = true := by simpa [zI_0] using c5
    have hans : oSay nd np (fa 7) (fa 8) (fa 9) (fa 10) (fa 11) a b = (-1, fa 11) := by unfold oSay; rw [if_neg (fun z => by simp_all)]
    refine lv_iconst (v := (-1)) hx hb dX1_say_16 (by decide) ?_
    exact W.iret hx hb hr (nEnd hN hS ⟨_, _, rfl, rfl, ⟨by rw [hans], by rw [hans]; exact ⟨⟨rfl, rfl, rfl, rfl, rfl⟩, rfl, rfl, rfl, rfl, rfl, rfl, rfl, rfl, rfl, rfl⟩⟩⟩) hS.2 dX1_say_17
  · have c5 : sIn a np = true := by simpa [zI_0] using c5
    obtain ⟨pp, hpp, epp, tpp⟩ := sIn_t (by omega) c5
    have tpp : tn a = pp := tpp
    rw [epp] at hl
    refine lv_aload_n hx hb dX1_say_8 rfl (lv_at hl 0 rfl) ?_
    refine lv_iload_n hx hb dX1_say_9 rfl (lv_at hl 2 rfl) ?_
    refine n_callV (C := RX1) (As := [_]) (b := 50) SS (nK_o G) hK hK (mX1_isDeed l G ad x fi fa b nd hnd h6) (cwV 1 hts (lw_V q1260 q1262 qs44 q61 q1263) rfl rfl rfl (by decide +kernel) ⟨Nat.le_of_ble_eq_true rfl, Nat.le_of_ble_eq_true rfl⟩) hN hS mPic_o rfl rfl hl.1 rfl (Nat.le_of_ble_eq_true rfl) dX1_say_10 ⟨Nat.le_of_ble_eq_true rfl, Nat.le_of_ble_eq_true rfl⟩ (fun v ad' c' H locs hv hN hS => ?_)
    obtain ⟨_, _, rfl, rfl, rfl, rfl, rfl⟩ := hv
    refine W.eq (g2 := F0 m 13 ls (_ :: _)) rfl ?_
    refine lv_if_ne (tgt := 18) hx hb dX1_say_13 (by decide) (fun c13 => ?_) (fun c13 => ?_)
    · have c13 : sIn b nd = true := by simpa [zI_0] using c13
      obtain ⟨d, hd, ed, td⟩ := sIn_t (by omega) c13
      have td : tn b = d := td
      rw [ed] at hl
      refine lv_aload_n hx hb dX1_say_18 rfl (lv_at hl 0 rfl) ?_
      refine m_get SS hK hN 11 (by decide) q1130 rfl rfl dX1_say_19 ?_
      refine lv_iload_n hx hb dX1_say_22 rfl (lv_at hl 1 rfl) ?_
      refine m_ald SS hK hN 11 rfl (pp) (rfl) (by show _ < (4 : Nat); omega) dX1_say_23 ?_
      refine lv_iload_n hx hb dX1_say_24 rfl (lv_at hl 2 rfl) ?_
      refine lv_ishr hx hb dX1_say_25 ?_
      refine lv_iconst (v := 1) hx hb dX1_say_26 (by decide) ?_
      refine lv_iand hx hb dX1_say_27 ?_
      refine n_top (y := sBit (fa 11 pp) d) (rfl) ?_
      refine lv_iconst (v := 1) hx hb dX1_say_28 (by decide) ?_
      refine lv_icmp_ne (tgt := 35) hx hb dX1_say_29 (by decide) (fun c29 => ?_) (fun c29 => ?_)
      · refine lv_aload_n hx hb dX1_say_35 rfl (lv_at hl 0 rfl) ?_
        refine n_callV (C := RX1) (As := []) (b := 50) SS (nK_o G) hK hK (mX1_asNow l G ad x fi fa np hnp h4) (cwV 0 hts (lw_V q1276 q1278 qs45 q61 q1279) rfl rfl rfl (by decide +kernel) ⟨Nat.le_of_ble_eq_true rfl, Nat.le_of_ble_eq_true rfl⟩) hN hS mPic_o rfl rfl hl.1 rfl (Nat.le_of_ble_eq_true rfl) dX1_say_36 ⟨Nat.le_of_ble_eq_true rfl, Nat.le_of_ble_eq_true rfl⟩ (fun v ad' c' H locs hv hN hS => ?_)
        obtain ⟨_, _, rfl, rfl, rfl, rfl, rfl⟩ := hv
        refine W.eq (g2 := F0 m 39 ls _) rfl ?_
        obtain ⟨t0, ht0⟩ : ∃ t0 : AI, t0 = fun j => if j < np then fa 11 j else fa 17 j := ⟨_, rfl⟩
        rw [← ht0] at hN
        have hag : ∀ j, j < np → t0 j = fa 11 j := fun j hj => by rw [ht0]; simp [hj]
        have hans : oSay nd np (fa 7) (fa 8) (fa 9) (fa 10) (fa 11) a b = (sFl (fa 7) (fa 8) pp (sTel (fa 7) (fa 8) (fa 9) (fa 10) nd np (fa 11) pp d pp) nd, sTel (fa 7) (fa 8) (fa 9) (fa 10) nd np (fa 11) pp d) := by unfold oSay; rw [if_pos ⟨c5, c13⟩, tpp, td, if_neg c29]
        refine lv_aload_n hx hb dX1_say_39 rfl (lv_at hl 0 rfl) ?_
        refine lv_iload_n hx hb dX1_say_40 rfl (lv_at hl 1 rfl) ?_
        refine lv_iload_n hx hb dX1_say_41 rfl (lv_at hl 2 rfl) ?_
        refine n_callV (C := RX1) (As := [_, _]) (b := 50) SS (nK_o G) hK hK (mX1_tells l G ad x fi _ pp d nd hnd h6 np hnp h4 hpp hd) (cwV 2 hts (lw_V q1280 q1282 qs46 q61 q1283) rfl rfl rfl (by decide +kernel) ⟨Nat.le_of_ble_eq_true rfl, Nat.le_of_ble_eq_true rfl⟩) hN hS mPic_o rfl rfl hl.1 rfl (Nat.le_of_ble_eq_true rfl) dX1_say_42 ⟨Nat.le_of_ble_eq_true rfl, Nat.le_of_ble_eq_true rfl⟩ (fun v ad' c' H locs hv hN hS => ?_)
        obtain ⟨_, _, rfl, rfl, rfl, rfl, rfl⟩ := hv
        refine W.eq (g2 := F0 m 45 ls (_ :: _)) rfl ?_
        refine lv_pop hx hb dX1_say_45 rfl ?_
        refine lv_aload_n hx hb dX1_say_46 rfl (lv_at hl 0 rfl) ?_
        refine m_get SS hK hN 11 (by decide) q1130 rfl rfl dX1_say_47 ?_
        refine lv_iload_n hx hb dX1_say_50 rfl (lv_at hl 1 rfl) ?_
        refine lv_aload_n hx hb dX1_say_51 rfl (lv_at hl 0 rfl) ?_
        refine m_get SS hK hN 17 (by decide) q1136 rfl rfl dX1_say_52 ?_
        refine lv_iload_n hx hb dX1_say_55 rfl (lv_at hl 1 rfl) ?_
        refine m_ald SS hK hN 17 rfl (pp) (rfl) (by show _ < (4 : Nat); omega) dX1_say_56 ?_
        refine m_ast SS hK hN hS 11 rfl (pp) (rfl) (by show _ < (4 : Nat); omega) dX1_say_57 (fun H locs hN hS => ?_)
        have hte : upd (fa 11) pp (sTel (fa 7) (fa 8) (fa 9) (fa 10) nd np t0 pp d pp) = sTel (fa 7) (fa 8) (fa 9) (fa 10) nd np (fa 11) pp d := sTel_upd hpp hag
        refine lv_aload_n hx hb dX1_say_58 rfl (lv_at hl 0 rfl) ?_
        refine lv_iload_n hx hb dX1_say_59 rfl (lv_at hl 1 rfl) ?_
        refine lv_aload_n hx hb dX1_say_60 rfl (lv_at hl 0 rfl) ?_
        refine m_get SS hK hN 11 (by decide) q1130 rfl rfl dX1_say_61 ?_
        refine lv_iload_n hx hb dX1_say_64 rfl (lv_at hl 1 rfl) ?_
        refine m_ald SS hK hN 11 rfl (pp) (rfl) (by show _ < (4 : Nat); omega) dX1_say_65 ?_
        refine n_callV (C := RX1) (As := [_, _]) (b := 50) SS (nK_o G) hK hK (mX1_floorBy l G ad x fi _ pp _ (by omega) nd hnd h6) (cwV 2 hts (lw_V q1248 q1250 qs42 q61 q1251) rfl rfl rfl (by decide +kernel) ⟨Nat.le_of_ble_eq_true rfl, Nat.le_of_ble_eq_true rfl⟩) hN hS mPic_o rfl rfl hl.1 rfl (Nat.le_of_ble_eq_true rfl) dX1_say_66 ⟨Nat.le_of_ble_eq_true rfl, Nat.le_of_ble_eq_true rfl⟩ (fun v ad' c' H locs hv hN hS => ?_)
        obtain ⟨_, _, rfl, rfl, rfl, rfl, rfl⟩ := hv
        refine W.eq (g2 := F0 m 69 ls (_ :: _)) rfl ?_
        exact W.iret hx hb hr (nEnd hN hS ⟨_, _, rfl, rfl, ⟨by rw [hans]; show some (Value.int (sFl (fa 7) (fa 8) pp (upd (fa 11) pp (sTel (fa 7) (fa 8) (fa 9) (fa 10) nd np t0 pp d pp) pp) nd)) = _; rw [hte], by rw [hans]; exact ⟨⟨rfl, rfl, rfl, rfl, rfl⟩, rfl, rfl, rfl, rfl, rfl, rfl, rfl, hte, rfl, rfl⟩⟩⟩) hS.2 dX1_say_69
      · have hans : oSay nd np (fa 7) (fa 8) (fa 9) (fa 10) (fa 11) a b = (-3, fa 11) := by unfold oSay; rw [if_pos ⟨c5, c13⟩, tpp, td, if_pos c29]
        refine lv_bipush (v := (-3)) hx hb dX1_say_32 (by decide) ?_
        exact W.iret hx hb hr (nEnd hN hS ⟨_, _, rfl, rfl, ⟨by rw [hans], by rw [hans]; exact ⟨⟨rfl, rfl, rfl, rfl, rfl⟩, rfl, rfl, rfl, rfl, rfl, rfl, rfl, rfl, rfl, rfl⟩⟩⟩) hS.2 dX1_say_34
    · have c13 : ¬ sIn b nd = true := by simpa [zI_0] using c13
      have hans : oSay nd np (fa 7) (fa 8) (fa 9) (fa 10) (fa 11) a b = (-1, fa 11) := by unfold oSay; rw [if_neg (fun z => by simp_all)]
      refine lv_iconst (v := (-1)) hx hb dX1_say_16 (by decide) ?_
      exact W.iret hx hb hr (nEnd hN hS ⟨_, _, rfl, rfl, ⟨by rw [hans], by rw [hans]; exact ⟨⟨rfl, rfl, rfl, rfl, rfl⟩, rfl, rfl, rfl, rfl, rfl, rfl, rfl, rfl, rfl, rfl⟩⟩⟩) hS.2 dX1_say_17
set_option maxHeartbeats 4000000 in
set_option maxRecDepth 100000 in
theorem mX1_hush (l : Launch) (G : nG) (ad : Nat → Nat) (x : nPic) (fi : Nat → Int32) (fa : Nat → Nat → Int32) (a : Int32) (nd : Nat) (hnd : fi 5 = nI nd) (h6 : nd ≤ 6) (np : Nat) (hnp : fi 6 = nI np) (h4 : np ≤ 4) : Met l yX1_hush (ws_ yX1_hush cX1_hush 3 (some .int)) (mR 2) (nPc G nCl (nK G) ad (mPic G x ad fi fa) [.ref (ad 50), .int a]) (nQ G nCl (mP G ad x (fun rv fi' fa' => rv = some (.int (oHsh nd np (fa 7) (fa 8) (fa 11) a).1) ∧ fi = fi' ∧ va_up fa 11 (oHsh nd np (fa 7) (fa 8) (fa 11) a).2 = fa'))) 0 0 (fun q => G.2 ≤ q) := by
  refine nMet RX1 (by decide) rfl (Nat.le_of_ble_eq_true rfl) ?_
  intro p e s m below meth c ls SS hR hK hN hS hl
  obtain ⟨hx, hb, hml, hown, hts⟩ := id SS
  obtain ⟨hr, hlk, hnm⟩ := hR
  generalize s.heap = H at hN hS ⊢
  generalize ([] : List Loc) = locs at hS ⊢
  have hl : lv_has ls 3 [(0, .ref (ad 50)), (1, .int a)] := hl
  refine lv_aload_n hx hb dX1_hush_0 rfl (lv_at hl 0 rfl) ?_
  refine lv_iload_n hx hb dX1_hush_1 rfl (lv_at hl 1 rfl) ?_
  refine n_callV (C := RX1) (As := [_]) (b := 50) SS (nK_o G) hK hK (mX1_isPerson l G ad x fi fa a np hnp h4) (cwV 1 hts (lw_V q1244 q1246 qs41 q61 q1247) rfl rfl rfl (by decide +kernel) ⟨Nat.le_of_ble_eq_true rfl, Nat.le_of_ble_eq_true rfl⟩) hN hS mPic_o rfl rfl hl.1 rfl (Nat.le_of_ble_eq_true rfl) dX1_hush_2 ⟨Nat.le_of_ble_eq_true rfl, Nat.le_of_ble_eq_true rfl⟩ (fun v ad' c' H locs hv hN hS => ?_)
  obtain ⟨_, _, rfl, rfl, rfl, rfl, rfl⟩ := hv
  refine W.eq (g2 := F0 m 5 ls (_ :: _)) rfl ?_
  refine lv_if_ne (tgt := 10) hx hb dX1_hush_5 (by decide) (fun c5 => ?_) (fun c5 => ?_)
  · have c5 : sIn a np = true := by simpa [zI_0] using c5
    obtain ⟨pp, hpp, epp, tpp⟩ := sIn_t (by omega) c5
    have tpp : tn a = pp := tpp
    rw [epp] at hl
    refine lv_aload_n hx hb dX1_hush_10 rfl (lv_at hl 0 rfl) ?_
    refine lv_iload_n hx hb dX1_hush_11 rfl (lv_at hl 1 rfl) ?_
    refine lv_aload_n hx hb dX1_hush_12 rfl (lv_at hl 0 rfl) ?_
    refine m_get SS hK hN 11 (by decide) q1130 rfl rfl dX1_hush_13 ?_
    refine lv_iload_n hx hb dX1_hush_16 rfl (lv_at hl 1 rfl) ?_
    refine m_ald SS hK hN 11 rfl (pp) (rfl) (by show _ < (4 : Nat); omega) dX1_hush_17 ?_
    refine n_callV (C := RX1) (As := [_, _]) (b := 50) SS (nK_o G) hK hK (mX1_floorBy l G ad x fi fa pp _ (by omega) nd hnd h6) (cwV 2 hts (lw_V q1248 q1250 qs42 q61 q1251) rfl rfl rfl (by decide +kernel) ⟨Nat.le_of_ble_eq_true rfl, Nat.le_of_ble_eq_true rfl⟩) hN hS mPic_o rfl rfl hl.1 rfl (Nat.le_of_ble_eq_true rfl) dX1_hush_18 ⟨Nat.le_of_ble_eq_true rfl, Nat.le_of_ble_eq_true rfl⟩ (fun v ad' c' H locs hv hN hS => ?_)
    obtain ⟨_, _, rfl, rfl, rfl, rfl, rfl⟩ := hv
    refine W.eq (g2 := F0 m 21 ls (_ :: _)) rfl ?_
    refine lv_istore_n (lv' := [(2, _), (0, _), (1, _)]) hx hb dX1_hush_21 rfl hl (by decide) rfl (fun ls hl => ?_)
    refine lv_aload_n hx hb dX1_hush_22 rfl (lv_at hl 1 rfl) ?_
    refine m_get SS hK hN 11 (by decide) q1130 rfl rfl dX1_hush_23 ?_
    refine lv_iload_n hx hb dX1_hush_26 rfl (lv_at hl 2 rfl) ?_
    refine lv_iconst (v := 0) hx hb dX1_hush_27 (by decide) ?_
    refine m_ast SS hK hN hS 11 rfl (pp) (rfl) (by show _ < (4 : Nat); omega) dX1_hush_28 (fun H locs hN hS => ?_)
    refine lv_iload_n hx hb dX1_hush_29 rfl (lv_at hl 0 rfl) ?_
    exact W.iret hx hb hr (nEnd hN hS ⟨_, _, rfl, rfl, ⟨by rw [oHsh, if_pos c5, tpp], rfl, by rw [oHsh, if_pos c5, tpp]⟩⟩) hS.2 dX1_hush_30
  · have c5 : ¬ sIn a np = true := by simpa [zI_0] using c5
    refine lv_iconst (v := (-1)) hx hb dX1_hush_8 (by decide) ?_
    exact W.iret hx hb hr (nEnd hN hS ⟨_, _, rfl, rfl, ⟨by rw [oHsh, if_neg c5], rfl, by rw [oHsh, if_neg c5]; funext k; by_cases hk : k = 11 <;> simp [va_up, hk]⟩⟩) hS.2 dX1_hush_9
set_option maxHeartbeats 4000000 in
set_option maxRecDepth 100000 in
theorem mX1_landing (l : Launch) (G : nG) (ad : Nat → Nat) (x : nPic) (fi : Nat → Int32) (fa : Nat → Nat → Int32) (f : Int32) (nd : Nat) (hnd : fi 5 = nI nd) (h6 : nd ≤ 6) (np : Nat) (hnp : fi 6 = nI np) (h4 : np ≤ 4) : Met l yX1_landing (ws_ yX1_landing cX1_landing 4 (some .int)) (mR 2) (nPc G nCl (nK G) ad (mPic G x ad fi fa) [.ref (ad 50), .int f]) (nQ G nCl (mP G ad x (fun rv fi' fa' => rv = some (.int (oLnd nd np (fa 7) (fa 8) (fa 11) f)) ∧ fi = fi' ∧ fa = fa'))) 0 0 (fun q => G.2 ≤ q) := by
  refine nMet RX1 (by decide) rfl (Nat.le_of_ble_eq_true rfl) ?_
  intro p e s m below meth c ls SS hR hK hN hS hl
  obtain ⟨hx, hb, hml, hown, hts⟩ := id SS
  obtain ⟨hr, hlk, hnm⟩ := hR
  generalize s.heap = H at hN hS ⊢
  generalize ([] : List Loc) = locs at hS ⊢
  have hl : lv_has ls 4 [(0, .ref (ad 50)), (1, .int f)] := hl
  refine lv_aload_n hx hb dX1_landing_0 rfl (lv_at hl 0 rfl) ?_
  refine m_get (v := .int (nI np)) SS hK hN 6 (by decide) q1125 rfl (by rw [← hnp]; rfl) dX1_landing_1 ?_
  refine lv_if_ne (tgt := 10) hx hb dX1_landing_4 (by decide) (fun c4 => ?_) (fun c4 => ?_)
  · have c4 : ¬ np = 0 := fun z => c4 (by rw [z]; rfl)
    refine lv_iload_n hx hb dX1_landing_10 rfl (lv_at hl 1 rfl) ?_
    refine lv_if_ge (tgt := 17) hx hb dX1_landing_11 (by decide) (fun c11 => ?_) (fun c11 => ?_)
    · have c11 : ¬ f < 0 := by simpa using c11
      have hans : oLnd nd np (fa 7) (fa 8) (fa 11) f = sLand (fa 7) (fa 8) (fa 11) nd f np := by rw [oLnd, if_neg c4, if_neg c11]
      refine lv_iconst (v := (sLand (fa 7) (fa 8) (fa 11) nd f 0)) hx hb dX1_landing_17 (rfl) ?_
      refine lv_istore_n (lv' := [(2, _), (0, _), (1, _)]) hx hb dX1_landing_18 rfl hl (by decide) rfl (fun ls hl => ?_)
      refine lv_iconst (v := (nI 0)) hx hb dX1_landing_19 (rfl) ?_
      refine lv_istore_n (lv' := [(3, _), (2, _), (0, _), (1, _)]) hx hb dX1_landing_20 rfl hl (by decide) rfl (fun ls hl => ?_)
      have loop21 : ∀ (n : Nat) (q : Nat) (H : Heap) (locs : List Loc) (ls : Array Slot), q ≤ np → np + 1 ≤ q + n → nOk G nCl ad (mPic G x ad fi fa) H → nS G s H locs → lv_has ls 4 [(0, .ref (ad 50)), (1, .int f), (2, .int (sLand (fa 7) (fa 8) (fa 11) nd f q)), (3, .int (nI q))] → W p l e (mR 2) s m ([.ref (ad 50), .int f] : List Value).toArray below meth c H locs 0 0 (MQ below (nQ G nCl (mP G ad x (fun rv fi' fa' => rv = some (.int (oLnd nd np (fa 7) (fa 8) (fa 11) f)) ∧ fi = fi' ∧ fa = fa'))) ([.ref (ad 50), .int f] : List Value).toArray s 0 0 (fun q => G.2 ≤ q)) (F0 m 21 ls []) := by
        intro n
        induction n with
        | zero => intro q H locs ls hq hfuel hN hS hl; exact absurd hfuel (by omega)
        | succ n ih21 =>
          intro q H locs ls hq hfuel hN hS hl
          refine lv_iload_n hx hb dX1_landing_21 rfl (lv_at hl 3 rfl) ?_
          refine lv_aload_n hx hb dX1_landing_22 rfl (lv_at hl 0 rfl) ?_
          refine m_get (v := .int (nI np)) SS hK hN 6 (by decide) q1125 rfl (by rw [← hnp]; rfl) dX1_landing_23 ?_
          refine lv_icmp_ge (tgt := 60) hx hb dX1_landing_26 (by decide) (fun c26 => ?_) (fun c26 => ?_)
          · have c26 := (nI_leI (by omega) (by omega)).mp c26
            have c26 : q = np := by omega
            subst c26
            refine lv_iload_n hx hb dX1_landing_60 rfl (lv_at hl 2 rfl) ?_
            exact W.iret hx hb hr (nEnd hN hS ⟨_, _, rfl, rfl, ⟨by rw [hans], rfl, rfl⟩⟩) hS.2 dX1_landing_61
          · have c26 : ¬ np ≤ q := fun z => c26 (nI_le z (by omega))
            refine lv_iload_n hx hb dX1_landing_29 rfl (lv_at hl 2 rfl) ?_
            refine lv_aload_n hx hb dX1_landing_30 rfl (lv_at hl 0 rfl) ?_
            refine lv_iload_n hx hb dX1_landing_31 rfl (lv_at hl 3 rfl) ?_
            refine lv_aload_n hx hb dX1_landing_32 rfl (lv_at hl 0 rfl) ?_
            refine m_get SS hK hN 11 (by decide) q1130 rfl rfl dX1_landing_33 ?_
            refine lv_iload_n hx hb dX1_landing_36 rfl (lv_at hl 3 rfl) ?_
            refine m_ald SS hK hN 11 rfl (q) (rfl) (by show _ < (4 : Nat); omega) dX1_landing_37 ?_
            refine n_callV (C := RX1) (As := [_, _]) (b := 50) SS (nK_o G) hK hK (mX1_floorBy l G ad x fi fa q _ (by omega) nd hnd h6) (cwV 2 hts (lw_V q1248 q1250 qs42 q61 q1251) rfl rfl rfl (by decide +kernel) ⟨Nat.le_of_ble_eq_true rfl, Nat.le_of_ble_eq_true rfl⟩) hN hS mPic_o rfl rfl hl.1 rfl (Nat.le_of_ble_eq_true rfl) dX1_landing_38 ⟨Nat.le_of_ble_eq_true rfl, Nat.le_of_ble_eq_true rfl⟩ (fun v ad' c' H locs hv hN hS => ?_)
            obtain ⟨_, _, rfl, rfl, rfl, rfl, rfl⟩ := hv
            refine W.eq (g2 := F0 m 41 ls (_ :: _)) rfl ?_
            refine lv_iload_n hx hb dX1_landing_41 rfl (lv_at hl 1 rfl) ?_
            refine lv_icmp_ne (tgt := 51) hx hb dX1_landing_42 (by decide) (fun c42 => ?_) (fun c42 => ?_)
            · refine lv_iconst (v := 0) hx hb dX1_landing_51 (by decide) ?_
              refine lv_ior hx hb dX1_landing_52 ?_
              refine n_top (y := sLand (fa 7) (fa 8) (fa 11) nd f (q + 1)) (by rw [sLand]; simp [c42]) ?_
              refine lv_istore_n (lv' := [(2, _), (0, _), (1, _), (3, _)]) hx hb dX1_landing_53 rfl hl (by decide) rfl (fun ls hl => ?_)
              refine lv_iinc (v := (nI (q + 1))) (lv' := [(3, _), (2, _), (0, _), (1, _)]) hx hb dX1_landing_54 hl (k := 3) rfl (nI_inc q) (by decide) rfl (fun ls hl => ?_)
              refine lv_goto (tgt := 21) hx hb dX1_landing_57 (by decide) ?_
              exact ih21 (q + 1) _ _ _ (by omega) (by omega) hN hS (lv_sub hl [2, 3, 1, 0] (rfl))
            · refine lv_iconst (v := 1) hx hb dX1_landing_45 (by decide) ?_
              refine lv_iload_n hx hb dX1_landing_46 rfl (lv_at hl 3 rfl) ?_
              refine lv_ishl hx hb dX1_landing_47 ?_
              refine n_top (y := sPw q) (rfl) ?_
              refine lv_goto (tgt := 52) hx hb dX1_landing_48 (by decide) ?_
              refine lv_ior hx hb dX1_landing_52 ?_
              refine n_top (y := sLand (fa 7) (fa 8) (fa 11) nd f (q + 1)) (by rw [sLand]; simp [c42]) ?_
              refine lv_istore_n (lv' := [(2, _), (0, _), (1, _), (3, _)]) hx hb dX1_landing_53 rfl hl (by decide) rfl (fun ls hl => ?_)
              refine lv_iinc (v := (nI (q + 1))) (lv' := [(3, _), (2, _), (0, _), (1, _)]) hx hb dX1_landing_54 hl (k := 3) rfl (nI_inc q) (by decide) rfl (fun ls hl => ?_)
              refine lv_goto (tgt := 21) hx hb dX1_landing_57 (by decide) ?_
              exact ih21 (q + 1) _ _ _ (by omega) (by omega) hN hS (lv_sub hl [2, 3, 1, 0] (rfl))
      exact loop21 (np + 1) 0 _ _ _ (by omega) (by omega) hN hS (lv_sub hl [2, 3, 1, 0] rfl)
    · have c11 : f < 0 := by simpa using c11
      have hans : oLnd nd np (fa 7) (fa 8) (fa 11) f = -2 := by rw [oLnd, if_neg c4, if_pos c11]
      refine lv_bipush (v := (-2)) hx hb dX1_landing_14 (by decide) ?_
      exact W.iret hx hb hr (nEnd hN hS ⟨_, _, rfl, rfl, ⟨by rw [hans], rfl, rfl⟩⟩) hS.2 dX1_landing_16
  · have c4 : np = 0 := (nI_eq (by omega) (by omega)).mp c4
    have hans : oLnd nd np (fa 7) (fa 8) (fa 11) f = -3 := by rw [oLnd, if_pos c4]
    refine lv_bipush (v := (-3)) hx hb dX1_landing_7 (by decide) ?_
    exact W.iret hx hb hr (nEnd hN hS ⟨_, _, rfl, rfl, ⟨by rw [hans], rfl, rfl⟩⟩) hS.2 dX1_landing_9
set_option maxHeartbeats 4000000 in
set_option maxRecDepth 100000 in
theorem mX1_isTruths (l : Launch) (G : nG) (ad : Nat → Nat) (x : nPic) (fi : Nat → Int32) (fa : Nat → Nat → Int32) (pp q : Nat) (hp : pp < 4) : Met l yX1_isTruths (ws_ yX1_isTruths cX1_isTruths 3 (some .boolean)) (mR 0) (nPc G nCl (nK G) ad (mPic G x ad fi fa) [.ref (ad 50), .int (nI pp), .int (nI q)]) (nQ G nCl (mP G ad x (fun rv fi' fa' => rv = some (.int (zI (sTru (fa 9) pp q))) ∧ fi = fi' ∧ fa = fa'))) 0 0 (fun q => G.2 ≤ q) := by
  refine nMet RX1 (by decide) rfl (Nat.le_of_ble_eq_true rfl) ?_
  intro p e s m below meth c ls SS hR hK hN hS hl
  obtain ⟨hx, hb, hml, hown, hts⟩ := id SS
  obtain ⟨hr, hlk, hnm⟩ := hR
  generalize s.heap = H at hN hS ⊢
  generalize ([] : List Loc) = locs at hS ⊢
  have hl : lv_has ls 3 [(0, .ref (ad 50)), (1, .int (nI pp)), (2, .int (nI q))] := hl
  refine lv_iload_n hx hb dX1_isTruths_0 rfl (lv_at hl 2 rfl) ?_
  refine lv_aload_n hx hb dX1_isTruths_1 rfl (lv_at hl 0 rfl) ?_
  refine m_get SS hK hN 9 (by decide) q1128 rfl rfl dX1_isTruths_2 ?_
  refine lv_iload_n hx hb dX1_isTruths_5 rfl (lv_at hl 1 rfl) ?_
  refine m_ald SS hK hN 9 rfl (pp) (rfl) (by show _ < (4 : Nat); omega) dX1_isTruths_6 ?_
  refine lv_iconst (v := (-1)) hx hb dX1_isTruths_7 (by decide) ?_
  refine lv_ixor hx hb dX1_isTruths_8 ?_
  refine lv_iand hx hb dX1_isTruths_9 ?_
  refine lv_if_ne (tgt := 17) hx hb dX1_isTruths_10 (by decide) (fun c10 => ?_) (fun c10 => ?_)
  · refine lv_iconst (v := 0) hx hb dX1_isTruths_17 (by decide) ?_
    exact W.zret hx hb hr (rfl) (nEnd hN hS ⟨_, _, rfl, rfl, ⟨by congr 2; simp_all [sTru, zI], rfl, rfl⟩⟩) hS.2 dX1_isTruths_18
  · refine lv_iconst (v := 1) hx hb dX1_isTruths_13 (by decide) ?_
    refine lv_goto (tgt := 18) hx hb dX1_isTruths_14 (by decide) ?_
    exact W.zret hx hb hr (rfl) (nEnd hN hS ⟨_, _, rfl, rfl, ⟨by congr 2; simp_all [sTru, zI], rfl, rfl⟩⟩) hS.2 dX1_isTruths_18
set_option maxHeartbeats 4000000 in
set_option maxRecDepth 100000 in
theorem mX1_weight (l : Launch) (G : nG) (ad : Nat → Nat) (x : nPic) (fi : Nat → Int32) (fa : Nat → Nat → Int32) (a : Int32) (nd : Nat) (hnd : fi 5 = nI nd) (h6 : nd ≤ 6) : Met l yX1_weight (ws_ yX1_weight cX1_weight 2 (some .int)) (mR 1) (nPc G nCl (nK G) ad (mPic G x ad fi fa) [.ref (ad 50), .int a]) (nQ G nCl (mP G ad x (fun rv fi' fa' => rv = some (.int (oWgt nd (fa 7) a)) ∧ fi = fi' ∧ fa = fa'))) 0 0 (fun q => G.2 ≤ q) := by
  refine nMet RX1 (by decide) rfl (Nat.le_of_ble_eq_true rfl) ?_
  intro p e s m below meth c ls SS hR hK hN hS hl
  obtain ⟨hx, hb, hml, hown, hts⟩ := id SS
  obtain ⟨hr, hlk, hnm⟩ := hR
  generalize s.heap = H at hN hS ⊢
  generalize ([] : List Loc) = locs at hS ⊢
  have hl : lv_has ls 2 [(0, .ref (ad 50)), (1, .int a)] := hl
  refine lv_aload_n hx hb dX1_weight_0 rfl (lv_at hl 0 rfl) ?_
  refine lv_iload_n hx hb dX1_weight_1 rfl (lv_at hl 1 rfl) ?_
  refine n_callV (C := RX1) (As := [_]) (b := 50) SS (nK_o G) hK hK (mX1_isDeed l G ad x fi fa a nd hnd h6) (cwV 1 hts (lw_V q1260 q1262 qs44 q61 q1263) rfl rfl rfl (by decide +kernel) ⟨Nat.le_of_ble_eq_true rfl, Nat.le_of_ble_eq_true rfl⟩) hN hS mPic_o rfl rfl hl.1 rfl (Nat.le_of_ble_eq_true rfl) dX1_weight_2 ⟨Nat.le_of_ble_eq_true rfl, Nat.le_of_ble_eq_true rfl⟩ (fun v ad' c' H locs hv hN hS => ?_)
  obtain ⟨_, _, rfl, rfl, rfl, rfl, rfl⟩ := hv
  refine W.eq (g2 := F0 m 5 ls (_ :: _)) rfl ?_
  refine lv_if_eq (tgt := 17) hx hb dX1_weight_5 (by decide) (fun c5 => ?_) (fun c5 => ?_)
  · have c5 : ¬ sIn a nd = true := by simpa [zI_0] using c5
    refine lv_iconst (v := (-1)) hx hb dX1_weight_17 (by decide) ?_
    exact W.iret hx hb hr (nEnd hN hS ⟨_, _, rfl, rfl, ⟨by congr 2; simp_all [oWgt], rfl, rfl⟩⟩) hS.2 dX1_weight_18
  · have c5 : sIn a nd = true := by simpa [zI_0] using c5
    obtain ⟨d, hd, ed, td⟩ := sIn_t (by omega) c5
    have td : tn a = d := td
    rw [ed] at hl
    refine lv_aload_n hx hb dX1_weight_8 rfl (lv_at hl 0 rfl) ?_
    refine m_get SS hK hN 7 (by decide) q1126 rfl rfl dX1_weight_9 ?_
    refine lv_iload_n hx hb dX1_weight_12 rfl (lv_at hl 1 rfl) ?_
    refine m_ald SS hK hN 7 rfl (d) (rfl) (by show _ < (6 : Nat); omega) dX1_weight_13 ?_
    refine lv_goto (tgt := 18) hx hb dX1_weight_14 (by decide) ?_
    exact W.iret hx hb hr (nEnd hN hS ⟨_, _, rfl, rfl, ⟨by congr 2; simp_all [oWgt], rfl, rfl⟩⟩) hS.2 dX1_weight_18
set_option maxHeartbeats 4000000 in
set_option maxRecDepth 100000 in
theorem mX1_weigh (l : Launch) (G : nG) (ad : Nat → Nat) (x : nPic) (fi : Nat → Int32) (fa : Nat → Nat → Int32) (a b : Int32) (nd : Nat) (hnd : fi 5 = nI nd) (h6 : nd ≤ 6) : Met l yX1_weigh (ws_ yX1_weigh cX1_weigh 4 (some .int)) (mR 1) (nPc G nCl (nK G) ad (mPic G x ad fi fa) [.ref (ad 50), .int a, .int b]) (nQ G nCl (mP G ad x (fun rv fi' fa' => rv = some (.int (oWgh nd (fa 7) a b).1) ∧ fi = fi' ∧ va_up fa 7 (oWgh nd (fa 7) a b).2 = fa'))) 0 0 (fun q => G.2 ≤ q) := by
  refine nMet RX1 (by decide) rfl (Nat.le_of_ble_eq_true rfl) ?_
  intro p e s m below meth c ls SS hR hK hN hS hl
  obtain ⟨hx, hb, hml, hown, hts⟩ := id SS
  obtain ⟨hr, hlk, hnm⟩ := hR
  generalize s.heap = H at hN hS ⊢
  generalize ([] : List Loc) = locs at hS ⊢
  have hl : lv_has ls 4 [(0, .ref (ad 50)), (1, .int a), (2, .int b)] := hl
  refine lv_aload_n hx hb dX1_weigh_0 rfl (lv_at hl 0 rfl) ?_
  refine lv_iload_n hx hb dX1_weigh_1 rfl (lv_at hl 1 rfl) ?_
  refine n_callV (C := RX1) (As := [_]) (b := 50) SS (nK_o G) hK hK (mX1_isDeed l G ad x fi fa a nd hnd h6) (cwV 1 hts (lw_V q1260 q1262 qs44 q61 q1263) rfl rfl rfl (by decide +kernel) ⟨Nat.le_of_ble_eq_true rfl, Nat.le_of_ble_eq_true rfl⟩) hN hS mPic_o rfl rfl hl.1 rfl (Nat.le_of_ble_eq_true rfl) dX1_weigh_2 ⟨Nat.le_of_ble_eq_true rfl, Nat.le_of_ble_eq_true rfl⟩ (fun v ad' c' H locs hv hN hS => ?_)
  obtain ⟨_, _, rfl, rfl, rfl, rfl, rfl⟩ := hv
  refine W.eq (g2 := F0 m 5 ls (_ :: _)) rfl ?_
  refine lv_if_ne (tgt := 10) hx hb dX1_weigh_5 (by decide) (fun c5 => ?_) (fun c5 => ?_)
  · have c5 : sIn a nd = true := by simpa [zI_0] using c5
    obtain ⟨d, hd, ed, td⟩ := sIn_t (by omega) c5
    have td : tn a = d := td
    rw [ed] at hl
    refine lv_iload_n hx hb dX1_weigh_10 rfl (lv_at hl 2 rfl) ?_
    refine lv_iconst (v := 1) hx hb dX1_weigh_11 (by decide) ?_
    refine lv_bipush (v := 9) hx hb dX1_weigh_12 (by decide) ?_
    refine n_callS (As := [_, _, _]) SS (nK_o G) hK (mX1_within l G ad x fi fa b 1 9) (va_cwS 3 hts (lw_S q1202 q1203 q61 q1204) rfl rfl rfl (by decide +kernel) ⟨Nat.le_of_ble_eq_true rfl, Nat.le_of_ble_eq_true rfl⟩) hN hS rfl hl.1 rfl (Nat.le_of_ble_eq_true rfl) dX1_weigh_14 ⟨Nat.le_of_ble_eq_true rfl, Nat.le_of_ble_eq_true rfl⟩ (fun v ad' c' H locs hv hN hS => ?_)
    obtain ⟨_, _, rfl, rfl, rfl, rfl, rfl⟩ := hv
    refine W.eq (g2 := F0 m 17 ls (_ :: _)) rfl ?_
    refine lv_if_ne (tgt := 23) hx hb dX1_weigh_17 (by decide) (fun c17 => ?_) (fun c17 => ?_)
    · have c17 : sBt b 1 9 = true := by simpa [zI_0] using c17
      refine lv_aload_n hx hb dX1_weigh_23 rfl (lv_at hl 0 rfl) ?_
      refine m_get SS hK hN 7 (by decide) q1126 rfl rfl dX1_weigh_24 ?_
      refine lv_iload_n hx hb dX1_weigh_27 rfl (lv_at hl 1 rfl) ?_
      refine m_ald SS hK hN 7 rfl (d) (rfl) (by show _ < (6 : Nat); omega) dX1_weigh_28 ?_
      refine lv_istore_n (lv' := [(3, _), (0, _), (1, _), (2, _)]) hx hb dX1_weigh_29 rfl hl (by decide) rfl (fun ls hl => ?_)
      refine lv_aload_n hx hb dX1_weigh_30 rfl (lv_at hl 1 rfl) ?_
      refine m_get SS hK hN 7 (by decide) q1126 rfl rfl dX1_weigh_31 ?_
      refine lv_iload_n hx hb dX1_weigh_34 rfl (lv_at hl 2 rfl) ?_
      refine lv_iload_n hx hb dX1_weigh_35 rfl (lv_at hl 3 rfl) ?_
      refine m_ast SS hK hN hS 7 rfl (d) (rfl) (by show _ < (6 : Nat); omega) dX1_weigh_36 (fun H locs hN hS => ?_)
      refine lv_iload_n hx hb dX1_weigh_37 rfl (lv_at hl 0 rfl) ?_
      exact W.iret hx hb hr (nEnd hN hS ⟨_, _, rfl, rfl, ⟨by rw [oWgh, if_pos c5, if_pos c17, td], rfl, by rw [oWgh, if_pos c5, if_pos c17, td]⟩⟩) hS.2 dX1_weigh_38
    · have c17 : ¬ sBt b 1 9 = true := by simpa [zI_0] using c17
      refine lv_bipush (v := (-2)) hx hb dX1_weigh_20 (by decide) ?_
      exact W.iret hx hb hr (nEnd hN hS ⟨_, _, rfl, rfl, ⟨by rw [oWgh, if_pos c5, if_neg c17], rfl, by rw [oWgh, if_pos c5, if_neg c17]; funext k; by_cases hk : k = 7 <;> simp [va_up, hk]⟩⟩) hS.2 dX1_weigh_22
  · have c5 : ¬ sIn a nd = true := by simpa [zI_0] using c5
    refine lv_iconst (v := (-1)) hx hb dX1_weigh_8 (by decide) ?_
    exact W.iret hx hb hr (nEnd hN hS ⟨_, _, rfl, rfl, ⟨by rw [oWgh, if_neg c5], rfl, by rw [oWgh, if_neg c5]; funext k; by_cases hk : k = 7 <;> simp [va_up, hk]⟩⟩) hS.2 dX1_weigh_9
set_option maxHeartbeats 4000000 in
set_option maxRecDepth 100000 in
theorem mX1_storeys (l : Launch) (G : nG) (ad : Nat → Nat) (x : nPic) (fi : Nat → Int32) (fa : Nat → Nat → Int32) (a b : Int32) (nd : Nat) (hnd : fi 5 = nI nd) (h6 : nd ≤ 6) (np : Nat) (hnp : fi 6 = nI np) (h4 : np ≤ 4) : Met l yX1_storeys (ws_ yX1_storeys cX1_storeys 3 (some .int)) (mR 1) (nPc G nCl (nK G) ad (mPic G x ad fi fa) [.ref (ad 50), .int a, .int b]) (nQ G nCl (mP G ad x (fun rv fi' fa' => rv = some (.int (oSto nd np (fa 7) (fa 8) a b)) ∧ fi = fi' ∧ fa = fa'))) 0 0 (fun q => G.2 ≤ q) := by
  refine nMet RX1 (by decide) rfl (Nat.le_of_ble_eq_true rfl) ?_
  intro p e s m below meth c ls SS hR hK hN hS hl
  obtain ⟨hx, hb, hml, hown, hts⟩ := id SS
  obtain ⟨hr, hlk, hnm⟩ := hR
  generalize s.heap = H at hN hS ⊢
  generalize ([] : List Loc) = locs at hS ⊢
  have hl : lv_has ls 3 [(0, .ref (ad 50)), (1, .int a), (2, .int b)] := hl
  refine lv_aload_n hx hb dX1_storeys_0 rfl (lv_at hl 0 rfl) ?_
  refine lv_iload_n hx hb dX1_storeys_1 rfl (lv_at hl 1 rfl) ?_
  refine n_callV (C := RX1) (As := [_]) (b := 50) SS (nK_o G) hK hK (mX1_isPerson l G ad x fi fa a np hnp h4) (cwV 1 hts (lw_V q1244 q1246 qs41 q61 q1247) rfl rfl rfl (by decide +kernel) ⟨Nat.le_of_ble_eq_true rfl, Nat.le_of_ble_eq_true rfl⟩) hN hS mPic_o rfl rfl hl.1 rfl (Nat.le_of_ble_eq_true rfl) dX1_storeys_2 ⟨Nat.le_of_ble_eq_true rfl, Nat.le_of_ble_eq_true rfl⟩ (fun v ad' c' H locs hv hN hS => ?_)
  obtain ⟨_, _, rfl, rfl, rfl, rfl, rfl⟩ := hv
  refine W.eq (g2 := F0 m 5 ls (_ :: _)) rfl ?_
  refine lv_if_eq (tgt := 25) hx hb dX1_storeys_5 (by decide) (fun c5 => ?_) (fun c5 => ?_)
  · have c5 : ¬ sIn a np = true := by simpa [zI_0] using c5
    refine lv_iconst (v := (-1)) hx hb dX1_storeys_25 (by decide) ?_
    exact W.iret hx hb hr (nEnd hN hS ⟨_, _, rfl, rfl, ⟨by congr 2; simp_all [oSto], rfl, rfl⟩⟩) hS.2 dX1_storeys_26
  · have c5 : sIn a np = true := by simpa [zI_0] using c5
    obtain ⟨pp, hpp, epp, tpp⟩ := sIn_t (by omega) c5
    have tpp : tn a = pp := tpp
    rw [epp] at hl
    refine lv_aload_n hx hb dX1_storeys_8 rfl (lv_at hl 0 rfl) ?_
    refine lv_iload_n hx hb dX1_storeys_9 rfl (lv_at hl 2 rfl) ?_
    refine n_callV (C := RX1) (As := [_]) (b := 50) SS (nK_o G) hK hK (mX1_isDeed l G ad x fi fa b nd hnd h6) (cwV 1 hts (lw_V q1260 q1262 qs44 q61 q1263) rfl rfl rfl (by decide +kernel) ⟨Nat.le_of_ble_eq_true rfl, Nat.le_of_ble_eq_true rfl⟩) hN hS mPic_o rfl rfl hl.1 rfl (Nat.le_of_ble_eq_true rfl) dX1_storeys_10 ⟨Nat.le_of_ble_eq_true rfl, Nat.le_of_ble_eq_true rfl⟩ (fun v ad' c' H locs hv hN hS => ?_)
    obtain ⟨_, _, rfl, rfl, rfl, rfl, rfl⟩ := hv
    refine W.eq (g2 := F0 m 13 ls (_ :: _)) rfl ?_
    refine lv_if_eq (tgt := 25) hx hb dX1_storeys_13 (by decide) (fun c13 => ?_) (fun c13 => ?_)
    · have c13 : ¬ sIn b nd = true := by simpa [zI_0] using c13
      refine lv_iconst (v := (-1)) hx hb dX1_storeys_25 (by decide) ?_
      exact W.iret hx hb hr (nEnd hN hS ⟨_, _, rfl, rfl, ⟨by congr 2; simp_all [oSto], rfl, rfl⟩⟩) hS.2 dX1_storeys_26
    · have c13 : sIn b nd = true := by simpa [zI_0] using c13
      obtain ⟨d, hd, ed, td⟩ := sIn_t (by omega) c13
      have td : tn b = d := td
      rw [ed] at hl
      refine lv_aload_n hx hb dX1_storeys_16 rfl (lv_at hl 0 rfl) ?_
      refine lv_iload_n hx hb dX1_storeys_17 rfl (lv_at hl 1 rfl) ?_
      refine lv_iload_n hx hb dX1_storeys_18 rfl (lv_at hl 2 rfl) ?_
      refine n_callV (C := RX1) (As := [_, _]) (b := 50) SS (nK_o G) hK hK (mX1_storeysOf l G ad x fi fa pp d (by omega) (by omega)) (cwV 2 hts (lw_V q1252 q1254 qs43 q61 q1255) rfl rfl rfl (by decide +kernel) ⟨Nat.le_of_ble_eq_true rfl, Nat.le_of_ble_eq_true rfl⟩) hN hS mPic_o rfl rfl hl.1 rfl (Nat.le_of_ble_eq_true rfl) dX1_storeys_19 ⟨Nat.le_of_ble_eq_true rfl, Nat.le_of_ble_eq_true rfl⟩ (fun v ad' c' H locs hv hN hS => ?_)
      obtain ⟨_, _, rfl, rfl, rfl, rfl, rfl⟩ := hv
      refine W.eq (g2 := F0 m 22 ls (_ :: _)) rfl ?_
      refine lv_goto (tgt := 26) hx hb dX1_storeys_22 (by decide) ?_
      exact W.iret hx hb hr (nEnd hN hS ⟨_, _, rfl, rfl, ⟨by congr 2; simp_all [oSto], rfl, rfl⟩⟩) hS.2 dX1_storeys_26
set_option maxHeartbeats 4000000 in
set_option maxRecDepth 100000 in
theorem mX1_ofPerson (l : Launch) (G : nG) (ad : Nat → Nat) (x : nPic) (fi : Nat → Int32) (fa : Nat → Nat → Int32) (a b : Int32) (nd : Nat) (hnd : fi 5 = nI nd) (h6 : nd ≤ 6) (np : Nat) (hnp : fi 6 = nI np) (h4 : np ≤ 4) : Met l yX1_ofPerson (ws_ yX1_ofPerson cX1_ofPerson 3 (some .int)) (mR 2) (nPc G nCl (nK G) ad (mPic G x ad fi fa) [.ref (ad 50), .int a, .int b]) (nQ G nCl (mP G ad x (fun rv fi' fa' => rv = some (.int (oOfP nd np (fa 7) (fa 8) (fa 9) (fa 10) (fa 11) a b)) ∧ fi = fi' ∧ fa = fa'))) 0 0 (fun q => G.2 ≤ q) := by
  refine nMet RX1 (by decide) rfl (Nat.le_of_ble_eq_true rfl) ?_
  intro p e s m below meth c ls SS hR hK hN hS hl
  obtain ⟨hx, hb, hml, hown, hts⟩ := id SS
  obtain ⟨hr, hlk, hnm⟩ := hR
  generalize s.heap = H at hN hS ⊢
  generalize ([] : List Loc) = locs at hS ⊢
  have hl : lv_has ls 3 [(0, .ref (ad 50)), (1, .int a), (2, .int b)] := hl
  refine lv_aload_n hx hb dX1_ofPerson_0 rfl (lv_at hl 0 rfl) ?_
  refine lv_iload_n hx hb dX1_ofPerson_1 rfl (lv_at hl 1 rfl) ?_
  refine n_callV (C := RX1) (As := [_]) (b := 50) SS (nK_o G) hK hK (mX1_isPerson l G ad x fi fa a np hnp h4) (cwV 1 hts (lw_V q1244 q1246 qs41 q61 q1247) rfl rfl rfl (by decide +kernel) ⟨Nat.le_of_ble_eq_true rfl, Nat.le_of_ble_eq_true rfl⟩) hN hS mPic_o rfl rfl hl.1 rfl (Nat.le_of_ble_eq_true rfl) dX1_ofPerson_2 ⟨Nat.le_of_ble_eq_true rfl, Nat.le_of_ble_eq_true rfl⟩ (fun v ad' c' H locs hv hN hS => ?_)
  obtain ⟨_, _, rfl, rfl, rfl, rfl, rfl⟩ := hv
  refine W.eq (g2 := F0 m 5 ls (_ :: _)) rfl ?_
  refine lv_if_ne (tgt := 10) hx hb dX1_ofPerson_5 (by decide) (fun c5 => ?_) (fun c5 => ?_)
  · have c5 : sIn a np = true := by simpa [zI_0] using c5
    obtain ⟨pp, hpp, epp, tpp⟩ := sIn_t (by omega) c5
    have tpp : tn a = pp := tpp
    rw [epp] at hl
    refine lv_iload_n hx hb dX1_ofPerson_10 rfl (lv_at hl 2 rfl) ?_
    by_cases w0 : b = 0
    · refine lv_tableIn (tgt := 44) (off := 33) hx hb dX1_ofPerson_11 (by rw [w0]; decide) (by rw [w0]; decide) (by rw [w0]; rfl) (by decide) ?_
      refine lv_aload_n hx hb dX1_ofPerson_44 rfl (lv_at hl 0 rfl) ?_
      refine m_get SS hK hN 8 (by decide) q1127 rfl rfl dX1_ofPerson_45 ?_
      refine lv_iload_n hx hb dX1_ofPerson_48 rfl (lv_at hl 1 rfl) ?_
      refine m_ald SS hK hN 8 rfl (pp) (rfl) (by show _ < (4 : Nat); omega) dX1_ofPerson_49 ?_
      exact W.iret hx hb hr (nEnd hN hS ⟨_, _, rfl, rfl, ⟨by congr 2; simp_all [oOfP], rfl, rfl⟩⟩) hS.2 dX1_ofPerson_50
    by_cases w1 : b = 1
    · refine lv_tableIn (tgt := 51) (off := 40) hx hb dX1_ofPerson_11 (by rw [w1]; decide) (by rw [w1]; decide) (by rw [w1]; rfl) (by decide) ?_
      refine lv_aload_n hx hb dX1_ofPerson_51 rfl (lv_at hl 0 rfl) ?_
      refine m_get SS hK hN 9 (by decide) q1128 rfl rfl dX1_ofPerson_52 ?_
      refine lv_iload_n hx hb dX1_ofPerson_55 rfl (lv_at hl 1 rfl) ?_
      refine m_ald SS hK hN 9 rfl (pp) (rfl) (by show _ < (4 : Nat); omega) dX1_ofPerson_56 ?_
      exact W.iret hx hb hr (nEnd hN hS ⟨_, _, rfl, rfl, ⟨by congr 2; simp_all [oOfP], rfl, rfl⟩⟩) hS.2 dX1_ofPerson_57
    by_cases w2 : b = 2
    · refine lv_tableIn (tgt := 58) (off := 47) hx hb dX1_ofPerson_11 (by rw [w2]; decide) (by rw [w2]; decide) (by rw [w2]; rfl) (by decide) ?_
      refine lv_aload_n hx hb dX1_ofPerson_58 rfl (lv_at hl 0 rfl) ?_
      refine m_get SS hK hN 10 (by decide) q1129 rfl rfl dX1_ofPerson_59 ?_
      refine lv_iload_n hx hb dX1_ofPerson_62 rfl (lv_at hl 1 rfl) ?_
      refine m_ald SS hK hN 10 rfl (pp) (rfl) (by show _ < (4 : Nat); omega) dX1_ofPerson_63 ?_
      exact W.iret hx hb hr (nEnd hN hS ⟨_, _, rfl, rfl, ⟨by congr 2; simp_all [oOfP], rfl, rfl⟩⟩) hS.2 dX1_ofPerson_64
    by_cases w3 : b = 3
    · refine lv_tableIn (tgt := 65) (off := 54) hx hb dX1_ofPerson_11 (by rw [w3]; decide) (by rw [w3]; decide) (by rw [w3]; rfl) (by decide) ?_
      refine lv_aload_n hx hb dX1_ofPerson_65 rfl (lv_at hl 0 rfl) ?_
      refine m_get SS hK hN 11 (by decide) q1130 rfl rfl dX1_ofPerson_66 ?_
      refine lv_iload_n hx hb dX1_ofPerson_69 rfl (lv_at hl 1 rfl) ?_
      refine m_ald SS hK hN 11 rfl (pp) (rfl) (by show _ < (4 : Nat); omega) dX1_ofPerson_70 ?_
      exact W.iret hx hb hr (nEnd hN hS ⟨_, _, rfl, rfl, ⟨by congr 2; simp_all [oOfP], rfl, rfl⟩⟩) hS.2 dX1_ofPerson_71
    by_cases w4 : b = 4
    · refine lv_tableIn (tgt := 72) (off := 61) hx hb dX1_ofPerson_11 (by rw [w4]; decide) (by rw [w4]; decide) (by rw [w4]; rfl) (by decide) ?_
      refine lv_aload_n hx hb dX1_ofPerson_72 rfl (lv_at hl 0 rfl) ?_
      refine lv_iload_n hx hb dX1_ofPerson_73 rfl (lv_at hl 1 rfl) ?_
      refine lv_aload_n hx hb dX1_ofPerson_74 rfl (lv_at hl 0 rfl) ?_
      refine m_get SS hK hN 11 (by decide) q1130 rfl rfl dX1_ofPerson_75 ?_
      refine lv_iload_n hx hb dX1_ofPerson_78 rfl (lv_at hl 1 rfl) ?_
      refine m_ald SS hK hN 11 rfl (pp) (rfl) (by show _ < (4 : Nat); omega) dX1_ofPerson_79 ?_
      refine n_callV (C := RX1) (As := [_, _]) (b := 50) SS (nK_o G) hK hK (mX1_floorBy l G ad x fi fa pp _ (by omega) nd hnd h6) (cwV 2 hts (lw_V q1248 q1250 qs42 q61 q1251) rfl rfl rfl (by decide +kernel) ⟨Nat.le_of_ble_eq_true rfl, Nat.le_of_ble_eq_true rfl⟩) hN hS mPic_o rfl rfl hl.1 rfl (Nat.le_of_ble_eq_true rfl) dX1_ofPerson_80 ⟨Nat.le_of_ble_eq_true rfl, Nat.le_of_ble_eq_true rfl⟩ (fun v ad' c' H locs hv hN hS => ?_)
      obtain ⟨_, _, rfl, rfl, rfl, rfl, rfl⟩ := hv
      refine W.eq (g2 := F0 m 83 ls (_ :: _)) rfl ?_
      exact W.iret hx hb hr (nEnd hN hS ⟨_, _, rfl, rfl, ⟨by congr 2; simp_all [oOfP], rfl, rfl⟩⟩) hS.2 dX1_ofPerson_83
    refine lv_tableOut (tgt := 84) hx hb dX1_ofPerson_11 (n_swOut 4 (by decide) (by intro k hk; rcases (show k = 0 ∨ k = 1 ∨ k = 2 ∨ k = 3 ∨ k = 4 by omega) with rfl | rfl | rfl | rfl | rfl <;> assumption)) (by decide) ?_
    refine lv_bipush (v := (-2)) hx hb dX1_ofPerson_84 (by decide) ?_
    exact W.iret hx hb hr (nEnd hN hS ⟨_, _, rfl, rfl, ⟨by congr 2; simp_all [oOfP], rfl, rfl⟩⟩) hS.2 dX1_ofPerson_86
  · have c5 : ¬ sIn a np = true := by simpa [zI_0] using c5
    refine lv_iconst (v := (-1)) hx hb dX1_ofPerson_8 (by decide) ?_
    exact W.iret hx hb hr (nEnd hN hS ⟨_, _, rfl, rfl, ⟨by congr 2; simp_all [oOfP], rfl, rfl⟩⟩) hS.2 dX1_ofPerson_9
set_option maxHeartbeats 4000000 in
set_option maxRecDepth 100000 in
theorem mX1_roof (l : Launch) (G : nG) (ad : Nat → Nat) (x : nPic) (fi : Nat → Int32) (fa : Nat → Nat → Int32) (a : Int32) (nd : Nat) (hnd : fi 5 = nI nd) (h6 : nd ≤ 6) (np : Nat) (hnp : fi 6 = nI np) (h4 : np ≤ 4) : Met l yX1_roof (ws_ yX1_roof cX1_roof 2 (some .int)) (mR 2) (nPc G nCl (nK G) ad (mPic G x ad fi fa) [.ref (ad 50), .int a]) (nQ G nCl (mP G ad x (fun rv fi' fa' => rv = some (.int (oRof nd np (fa 7) (fa 8) (fa 9) a)) ∧ fi = fi' ∧ fa = fa'))) 0 0 (fun q => G.2 ≤ q) := by
  refine nMet RX1 (by decide) rfl (Nat.le_of_ble_eq_true rfl) ?_
  intro p e s m below meth c ls SS hR hK hN hS hl
  obtain ⟨hx, hb, hml, hown, hts⟩ := id SS
  obtain ⟨hr, hlk, hnm⟩ := hR
  generalize s.heap = H at hN hS ⊢
  generalize ([] : List Loc) = locs at hS ⊢
  have hl : lv_has ls 2 [(0, .ref (ad 50)), (1, .int a)] := hl
  refine lv_aload_n hx hb dX1_roof_0 rfl (lv_at hl 0 rfl) ?_
  refine lv_iload_n hx hb dX1_roof_1 rfl (lv_at hl 1 rfl) ?_
  refine n_callV (C := RX1) (As := [_]) (b := 50) SS (nK_o G) hK hK (mX1_isPerson l G ad x fi fa a np hnp h4) (cwV 1 hts (lw_V q1244 q1246 qs41 q61 q1247) rfl rfl rfl (by decide +kernel) ⟨Nat.le_of_ble_eq_true rfl, Nat.le_of_ble_eq_true rfl⟩) hN hS mPic_o rfl rfl hl.1 rfl (Nat.le_of_ble_eq_true rfl) dX1_roof_2 ⟨Nat.le_of_ble_eq_true rfl, Nat.le_of_ble_eq_true rfl⟩ (fun v ad' c' H locs hv hN hS => ?_)
  obtain ⟨_, _, rfl, rfl, rfl, rfl, rfl⟩ := hv
  refine W.eq (g2 := F0 m 5 ls (_ :: _)) rfl ?_
  refine lv_if_eq (tgt := 22) hx hb dX1_roof_5 (by decide) (fun c5 => ?_) (fun c5 => ?_)
  · have c5 : ¬ sIn a np = true := by simpa [zI_0] using c5
    refine lv_iconst (v := (-1)) hx hb dX1_roof_22 (by decide) ?_
    exact W.iret hx hb hr (nEnd hN hS ⟨_, _, rfl, rfl, ⟨by congr 2; simp_all [oRof], rfl, rfl⟩⟩) hS.2 dX1_roof_23
  · have c5 : sIn a np = true := by simpa [zI_0] using c5
    obtain ⟨pp, hpp, epp, tpp⟩ := sIn_t (by omega) c5
    have tpp : tn a = pp := tpp
    rw [epp] at hl
    refine lv_aload_n hx hb dX1_roof_8 rfl (lv_at hl 0 rfl) ?_
    refine lv_iload_n hx hb dX1_roof_9 rfl (lv_at hl 1 rfl) ?_
    refine lv_aload_n hx hb dX1_roof_10 rfl (lv_at hl 0 rfl) ?_
    refine m_get SS hK hN 9 (by decide) q1128 rfl rfl dX1_roof_11 ?_
    refine lv_iload_n hx hb dX1_roof_14 rfl (lv_at hl 1 rfl) ?_
    refine m_ald SS hK hN 9 rfl (pp) (rfl) (by show _ < (4 : Nat); omega) dX1_roof_15 ?_
    refine n_callV (C := RX1) (As := [_, _]) (b := 50) SS (nK_o G) hK hK (mX1_floorBy l G ad x fi fa pp _ (by omega) nd hnd h6) (cwV 2 hts (lw_V q1248 q1250 qs42 q61 q1251) rfl rfl rfl (by decide +kernel) ⟨Nat.le_of_ble_eq_true rfl, Nat.le_of_ble_eq_true rfl⟩) hN hS mPic_o rfl rfl hl.1 rfl (Nat.le_of_ble_eq_true rfl) dX1_roof_16 ⟨Nat.le_of_ble_eq_true rfl, Nat.le_of_ble_eq_true rfl⟩ (fun v ad' c' H locs hv hN hS => ?_)
    obtain ⟨_, _, rfl, rfl, rfl, rfl, rfl⟩ := hv
    refine W.eq (g2 := F0 m 19 ls (_ :: _)) rfl ?_
    refine lv_goto (tgt := 23) hx hb dX1_roof_19 (by decide) ?_
    exact W.iret hx hb hr (nEnd hN hS ⟨_, _, rfl, rfl, ⟨by congr 2; simp_all [oRof], rfl, rfl⟩⟩) hS.2 dX1_roof_23
set_option maxHeartbeats 4000000 in
set_option maxRecDepth 100000 in
theorem mX1_safe (l : Launch) (G : nG) (ad : Nat → Nat) (x : nPic) (fi : Nat → Int32) (fa : Nat → Nat → Int32) (a : Int32) (nd : Nat) (hnd : fi 5 = nI nd) (h6 : nd ≤ 6) (np : Nat) (hnp : fi 6 = nI np) (h4 : np ≤ 4) : Met l yX1_safe (ws_ yX1_safe cX1_safe 3 (some .int)) (mR 3) (nPc G nCl (nK G) ad (mPic G x ad fi fa) [.ref (ad 50), .int a]) (nQ G nCl (mP G ad x (fun rv fi' fa' => rv = some (.int (oSfe nd np (fa 7) (fa 8) (fa 9) (fa 10) (fa 11) a)) ∧ mEq fi fa fi' fa'))) 0 0 (fun q => G.2 ≤ q) := by
  refine nMet RX1 (by decide) rfl (Nat.le_of_ble_eq_true rfl) ?_
  intro p e s m below meth c ls SS hR hK hN hS hl
  obtain ⟨hx, hb, hml, hown, hts⟩ := id SS
  obtain ⟨hr, hlk, hnm⟩ := hR
  generalize s.heap = H at hN hS ⊢
  generalize ([] : List Loc) = locs at hS ⊢
  have hl : lv_has ls 3 [(0, .ref (ad 50)), (1, .int a)] := hl
  refine lv_aload_n hx hb dX1_safe_0 rfl (lv_at hl 0 rfl) ?_
  refine lv_iload_n hx hb dX1_safe_1 rfl (lv_at hl 1 rfl) ?_
  refine n_callV (C := RX1) (As := [_]) (b := 50) SS (nK_o G) hK hK (mX1_isPerson l G ad x fi fa a np hnp h4) (cwV 1 hts (lw_V q1244 q1246 qs41 q61 q1247) rfl rfl rfl (by decide +kernel) ⟨Nat.le_of_ble_eq_true rfl, Nat.le_of_ble_eq_true rfl⟩) hN hS mPic_o rfl rfl hl.1 rfl (Nat.le_of_ble_eq_true rfl) dX1_safe_2 ⟨Nat.le_of_ble_eq_true rfl, Nat.le_of_ble_eq_true rfl⟩ (fun v ad' c' H locs hv hN hS => ?_)
  obtain ⟨_, _, rfl, rfl, rfl, rfl, rfl⟩ := hv
  refine W.eq (g2 := F0 m 5 ls (_ :: _)) rfl ?_
  refine lv_if_ne (tgt := 10) hx hb dX1_safe_5 (by decide) (fun c5 => ?_) (fun c5 => ?_)
  · have c5 : sIn a np = true := by simpa [zI_0] using c5
    obtain ⟨pp, hpp, epp, tpp⟩ := sIn_t (by omega) c5
    have tpp : tn a = pp := tpp
    rw [epp] at hl
    refine lv_aload_n hx hb dX1_safe_10 rfl (lv_at hl 0 rfl) ?_
    refine n_callV (C := RX1) (As := []) (b := 50) SS (nK_o G) hK hK (mX1_asNow l G ad x fi fa np hnp h4) (cwV 0 hts (lw_V q1276 q1278 qs45 q61 q1279) rfl rfl rfl (by decide +kernel) ⟨Nat.le_of_ble_eq_true rfl, Nat.le_of_ble_eq_true rfl⟩) hN hS mPic_o rfl rfl hl.1 rfl (Nat.le_of_ble_eq_true rfl) dX1_safe_11 ⟨Nat.le_of_ble_eq_true rfl, Nat.le_of_ble_eq_true rfl⟩ (fun v ad' c' H locs hv hN hS => ?_)
    obtain ⟨_, _, rfl, rfl, rfl, rfl, rfl⟩ := hv
    refine W.eq (g2 := F0 m 14 ls _) rfl ?_
    refine lv_iconst (v := 1) hx hb dX1_safe_14 (by decide) ?_
    refine lv_aload_n hx hb dX1_safe_15 rfl (lv_at hl 0 rfl) ?_
    refine m_get (v := .int (nI nd)) SS hK hN 5 (by decide) q1124 rfl (by rw [← hnd]; rfl) dX1_safe_16 ?_
    refine lv_ishl hx hb dX1_safe_19 ?_
    refine n_top (y := sPw nd) (rfl) ?_
    refine lv_iconst (v := 1) hx hb dX1_safe_20 (by decide) ?_
    refine lv_isub hx hb dX1_safe_21 ?_
    refine n_top (y := sMsk nd) (rfl) ?_
    refine lv_aload_n hx hb dX1_safe_22 rfl (lv_at hl 0 rfl) ?_
    refine m_get SS hK hN 11 (by decide) q1130 rfl rfl dX1_safe_23 ?_
    refine lv_iload_n hx hb dX1_safe_26 rfl (lv_at hl 1 rfl) ?_
    refine m_ald SS hK hN 11 rfl (pp) (rfl) (by show _ < (4 : Nat); omega) dX1_safe_27 ?_
    refine lv_iconst (v := (-1)) hx hb dX1_safe_28 (by decide) ?_
    refine lv_ixor hx hb dX1_safe_29 ?_
    refine lv_iand hx hb dX1_safe_30 ?_
    refine lv_istore_n (lv' := [(2, _), (0, _), (1, _)]) hx hb dX1_safe_31 rfl hl (by decide) rfl (fun ls hl => ?_)
    refine lv_aload_n hx hb dX1_safe_32 rfl (lv_at hl 1 rfl) ?_
    refine lv_iload_n hx hb dX1_safe_33 rfl (lv_at hl 2 rfl) ?_
    refine n_callV (C := RX1) (As := [_]) (b := 50) SS (nK_o G) hK hK (mX1_isKnown l G ad x fi _ pp nd hnd h6 np hnp h4 hpp) (cwV 1 hts (lw_V q1284 q1286 qs47 q61 q1287) rfl rfl rfl (by decide +kernel) ⟨Nat.le_of_ble_eq_true rfl, Nat.le_of_ble_eq_true rfl⟩) hN hS mPic_o rfl rfl hl.1 rfl (Nat.le_of_ble_eq_true rfl) dX1_safe_34 ⟨Nat.le_of_ble_eq_true rfl, Nat.le_of_ble_eq_true rfl⟩ (fun v ad' c' H locs hv hN hS => ?_)
    obtain ⟨_, _, rfl, rfl, rfl, rfl, rfl⟩ := hv
    refine W.eq (g2 := F0 m 37 ls (_ :: _)) rfl ?_
    have hse : sSeen (fa 7) (fa 8) (fa 10) (fun j => if j < np then fa 11 j else fa 17 j) nd pp np = sSeen (fa 7) (fa 8) (fa 10) (fa 11) nd pp np := sSeen_congr hpp (fun j hj => by simp [hj]) np (Nat.le_refl _)
    refine n_top (y := zI (sSeen (fa 7) (fa 8) (fa 10) (fa 11) nd pp np)) (by rw [← hse]; rfl) ?_
    refine lv_if_eq (tgt := 51) hx hb dX1_safe_37 (by decide) (fun c37 => ?_) (fun c37 => ?_)
    · refine lv_iload_n hx hb dX1_safe_51 rfl (lv_at hl 0 rfl) ?_
      exact W.iret hx hb hr (nEnd hN hS ⟨_, _, rfl, rfl, ⟨by congr 2; simp_all [oSfe, zI_0, va_up], ⟨rfl, rfl, rfl, rfl, rfl⟩, rfl, rfl, rfl, rfl, rfl, rfl, rfl, rfl, rfl, rfl⟩⟩) hS.2 dX1_safe_52
    · refine lv_iload_n hx hb dX1_safe_40 rfl (lv_at hl 0 rfl) ?_
      refine lv_aload_n hx hb dX1_safe_41 rfl (lv_at hl 1 rfl) ?_
      refine m_get SS hK hN 9 (by decide) q1128 rfl rfl dX1_safe_42 ?_
      refine lv_iload_n hx hb dX1_safe_45 rfl (lv_at hl 2 rfl) ?_
      refine m_ald SS hK hN 9 rfl (pp) (rfl) (by show _ < (4 : Nat); omega) dX1_safe_46 ?_
      refine lv_iand hx hb dX1_safe_47 ?_
      refine lv_goto (tgt := 52) hx hb dX1_safe_48 (by decide) ?_
      exact W.iret hx hb hr (nEnd hN hS ⟨_, _, rfl, rfl, ⟨by congr 2; simp_all [oSfe, zI_0, va_up], ⟨rfl, rfl, rfl, rfl, rfl⟩, rfl, rfl, rfl, rfl, rfl, rfl, rfl, rfl, rfl, rfl⟩⟩) hS.2 dX1_safe_52
  · have c5 : ¬ sIn a np = true := by simpa [zI_0] using c5
    refine lv_iconst (v := (-1)) hx hb dX1_safe_8 (by decide) ?_
    exact W.iret hx hb hr (nEnd hN hS ⟨_, _, rfl, rfl, ⟨by congr 2; simp_all [oSfe], mEq.rf⟩⟩) hS.2 dX1_safe_9
set_option maxHeartbeats 4000000 in
set_option maxRecDepth 100000 in
theorem mX1_trace (l : Launch) (G : nG) (ad : Nat → Nat) (x : nPic) (fi : Nat → Int32) (fa : Nat → Nat → Int32)  : Met l yX1_trace (ws_ yX1_trace cX1_trace 1 (some .int)) (mR 0) (nPc G nCl (nK G) ad (mPic G x ad fi fa) [.ref (ad 50)]) (nQ G nCl (mP G ad x (fun rv fi' fa' => rv = some (.int (fi 1)) ∧ fi = fi' ∧ fa = fa'))) 0 0 (fun q => G.2 ≤ q) := by
  refine nMet RX1 (by decide) rfl (Nat.le_of_ble_eq_true rfl) ?_
  intro p e s m below meth c ls SS hR hK hN hS hl
  obtain ⟨hx, hb, hml, hown, hts⟩ := id SS
  obtain ⟨hr, hlk, hnm⟩ := hR
  generalize s.heap = H at hN hS ⊢
  generalize ([] : List Loc) = locs at hS ⊢
  have hl : lv_has ls 1 [(0, .ref (ad 50))] := hl
  refine lv_aload_n hx hb dX1_trace_0 rfl (lv_at hl 0 rfl) ?_
  refine m_get SS hK hN 1 (by decide) q1120 rfl rfl dX1_trace_1 ?_
  exact W.iret hx hb hr (nEnd hN hS ⟨_, _, rfl, rfl, ⟨rfl, rfl, rfl⟩⟩) hS.2 dX1_trace_4
set_option maxHeartbeats 4000000 in
set_option maxRecDepth 100000 in
theorem mX1_fault (l : Launch) (G : nG) (ad : Nat → Nat) (x : nPic) (fi : Nat → Int32) (fa : Nat → Nat → Int32)  : Met l yX1_fault (ws_ yX1_fault cX1_fault 1 (some .int)) (mR 0) (nPc G nCl (nK G) ad (mPic G x ad fi fa) [.ref (ad 50)]) (nQ G nCl (mP G ad x (fun rv fi' fa' => rv = some (.int (fi 0)) ∧ fi = fi' ∧ fa = fa'))) 0 0 (fun q => G.2 ≤ q) := by
  refine nMet RX1 (by decide) rfl (Nat.le_of_ble_eq_true rfl) ?_
  intro p e s m below meth c ls SS hR hK hN hS hl
  obtain ⟨hx, hb, hml, hown, hts⟩ := id SS
  obtain ⟨hr, hlk, hnm⟩ := hR
  generalize s.heap = H at hN hS ⊢
  generalize ([] : List Loc) = locs at hS ⊢
  have hl : lv_has ls 1 [(0, .ref (ad 50))] := hl
  refine lv_aload_n hx hb dX1_fault_0 rfl (lv_at hl 0 rfl) ?_
  refine m_get SS hK hN 0 (by decide) q1119 rfl rfl dX1_fault_1 ?_
  exact W.iret hx hb hr (nEnd hN hS ⟨_, _, rfl, rfl, ⟨rfl, rfl, rfl⟩⟩) hS.2 dX1_fault_4
set_option maxHeartbeats 4000000 in
set_option maxRecDepth 100000 in
theorem mX1_many (l : Launch) (G : nG) (ad : Nat → Nat) (x : nPic) (fi : Nat → Int32) (fa : Nat → Nat → Int32) (a : Int32) (nd : Nat) (hnd : fi 5 = nI nd) (h6 : nd ≤ 6) (np : Nat) (hnp : fi 6 = nI np) (h4 : np ≤ 4) (nr : Nat) (hnr : fi 22 = nI nr) (h8 : nr ≤ 8) : Met l yX1_many (ws_ yX1_many cX1_many 2 (some .int)) (mR 0) (nPc G nCl (nK G) ad (mPic G x ad fi fa) [.ref (ad 50), .int a]) (nQ G nCl (mP G ad x (fun rv fi' fa' => rv = some (.int (oMny nd np nr a)) ∧ fi = fi' ∧ fa = fa'))) 0 0 (fun q => G.2 ≤ q) := by
  refine nMet RX1 (by decide) rfl (Nat.le_of_ble_eq_true rfl) ?_
  intro p e s m below meth c ls SS hR hK hN hS hl
  obtain ⟨hx, hb, hml, hown, hts⟩ := id SS
  obtain ⟨hr, hlk, hnm⟩ := hR
  generalize s.heap = H at hN hS ⊢
  generalize ([] : List Loc) = locs at hS ⊢
  have hl : lv_has ls 2 [(0, .ref (ad 50)), (1, .int a)] := hl
  refine lv_iload_n hx hb dX1_many_0 rfl (lv_at hl 1 rfl) ?_
  refine lv_if_ne (tgt := 11) hx hb dX1_many_1 (by decide) (fun c1 => ?_) (fun c1 => ?_)
  · refine lv_iload_n hx hb dX1_many_11 rfl (lv_at hl 1 rfl) ?_
    refine lv_iconst (v := 1) hx hb dX1_many_12 (by decide) ?_
    refine lv_icmp_ne (tgt := 23) hx hb dX1_many_13 (by decide) (fun c13 => ?_) (fun c13 => ?_)
    · refine lv_iload_n hx hb dX1_many_23 rfl (lv_at hl 1 rfl) ?_
      refine lv_iconst (v := 2) hx hb dX1_many_24 (by decide) ?_
      refine lv_icmp_ne (tgt := 35) hx hb dX1_many_25 (by decide) (fun c25 => ?_) (fun c25 => ?_)
      · refine lv_bipush (v := (-2)) hx hb dX1_many_35 (by decide) ?_
        exact W.iret hx hb hr (nEnd hN hS ⟨_, _, rfl, rfl, ⟨by congr 2; simp_all [oMny], rfl, rfl⟩⟩) hS.2 dX1_many_37
      · refine lv_aload_n hx hb dX1_many_28 rfl (lv_at hl 0 rfl) ?_
        refine m_get (v := .int (nI nr)) SS hK hN 22 (by decide) q1141 rfl (by rw [← hnr]; rfl) dX1_many_29 ?_
        refine lv_goto (tgt := 37) hx hb dX1_many_32 (by decide) ?_
        exact W.iret hx hb hr (nEnd hN hS ⟨_, _, rfl, rfl, ⟨by congr 2; simp_all [oMny], rfl, rfl⟩⟩) hS.2 dX1_many_37
    · refine lv_aload_n hx hb dX1_many_16 rfl (lv_at hl 0 rfl) ?_
      refine m_get (v := .int (nI nd)) SS hK hN 5 (by decide) q1124 rfl (by rw [← hnd]; rfl) dX1_many_17 ?_
      refine lv_goto (tgt := 37) hx hb dX1_many_20 (by decide) ?_
      exact W.iret hx hb hr (nEnd hN hS ⟨_, _, rfl, rfl, ⟨by congr 2; simp_all [oMny], rfl, rfl⟩⟩) hS.2 dX1_many_37
  · refine lv_aload_n hx hb dX1_many_4 rfl (lv_at hl 0 rfl) ?_
    refine m_get (v := .int (nI np)) SS hK hN 6 (by decide) q1125 rfl (by rw [← hnp]; rfl) dX1_many_5 ?_
    refine lv_goto (tgt := 37) hx hb dX1_many_8 (by decide) ?_
    exact W.iret hx hb hr (nEnd hN hS ⟨_, _, rfl, rfl, ⟨by congr 2; simp_all [oMny], rfl, rfl⟩⟩) hS.2 dX1_many_37
set_option maxHeartbeats 4000000 in
set_option maxRecDepth 100000 in
theorem mX1_reading (l : Launch) (G : nG) (ad : Nat → Nat) (x : nPic) (fi : Nat → Int32) (fa : Nat → Nat → Int32) (a b : Int32) (np : Nat) (hnp : fi 6 = nI np) (h4 : np ≤ 4) (nr : Nat) (hnr : fi 22 = nI nr) (h8 : nr ≤ 8) : Met l yX1_reading (ws_ yX1_reading cX1_reading 3 (some .int)) (mR 1) (nPc G nCl (nK G) ad (mPic G x ad fi fa) [.ref (ad 50), .int a, .int b]) (nQ G nCl (mP G ad x (fun rv fi' fa' => rv = some (.int (oRdg np nr (fa 23) (fa 24) a b).1) ∧ upd fi 22 (nI (oRdg np nr (fa 23) (fa 24) a b).2.1) = fi' ∧ va_up (va_up fa 23 (oRdg np nr (fa 23) (fa 24) a b).2.2.1) 24 (oRdg np nr (fa 23) (fa 24) a b).2.2.2 = fa'))) 0 0 (fun q => G.2 ≤ q) := by
  refine nMet RX1 (by decide) rfl (Nat.le_of_ble_eq_true rfl) ?_
  intro p e s m below meth c ls SS hR hK hN hS hl
  obtain ⟨hx, hb, hml, hown, hts⟩ := id SS
  obtain ⟨hr, hlk, hnm⟩ := hR
  generalize s.heap = H at hN hS ⊢
  generalize ([] : List Loc) = locs at hS ⊢
  have hl : lv_has ls 3 [(0, .ref (ad 50)), (1, .int a), (2, .int b)] := hl
  refine lv_aload_n hx hb dX1_reading_0 rfl (lv_at hl 0 rfl) ?_
  refine lv_iload_n hx hb dX1_reading_1 rfl (lv_at hl 1 rfl) ?_
  refine n_callV (C := RX1) (As := [_]) (b := 50) SS (nK_o G) hK hK (mX1_isPerson l G ad x fi fa a np hnp h4) (cwV 1 hts (lw_V q1244 q1246 qs41 q61 q1247) rfl rfl rfl (by decide +kernel) ⟨Nat.le_of_ble_eq_true rfl, Nat.le_of_ble_eq_true rfl⟩) hN hS mPic_o rfl rfl hl.1 rfl (Nat.le_of_ble_eq_true rfl) dX1_reading_2 ⟨Nat.le_of_ble_eq_true rfl, Nat.le_of_ble_eq_true rfl⟩ (fun v ad' c' H locs hv hN hS => ?_)
  obtain ⟨_, _, rfl, rfl, rfl, rfl, rfl⟩ := hv
  refine W.eq (g2 := F0 m 5 ls (_ :: _)) rfl ?_
  refine lv_if_ne (tgt := 10) hx hb dX1_reading_5 (by decide) (fun c5 => ?_) (fun c5 => ?_)
  · have c5 : sIn a np = true := by simpa [zI_0] using c5
    refine lv_iload_n hx hb dX1_reading_10 rfl (lv_at hl 2 rfl) ?_
    refine lv_iconst (v := 0) hx hb dX1_reading_11 (by decide) ?_
    refine lv_bipush (v := 99) hx hb dX1_reading_12 (by decide) ?_
    refine n_callS (As := [_, _, _]) SS (nK_o G) hK (mX1_within l G ad x fi fa b 0 99) (va_cwS 3 hts (lw_S q1202 q1203 q61 q1204) rfl rfl rfl (by decide +kernel) ⟨Nat.le_of_ble_eq_true rfl, Nat.le_of_ble_eq_true rfl⟩) hN hS rfl hl.1 rfl (Nat.le_of_ble_eq_true rfl) dX1_reading_14 ⟨Nat.le_of_ble_eq_true rfl, Nat.le_of_ble_eq_true rfl⟩ (fun v ad' c' H locs hv hN hS => ?_)
    obtain ⟨_, _, rfl, rfl, rfl, rfl, rfl⟩ := hv
    refine W.eq (g2 := F0 m 17 ls (_ :: _)) rfl ?_
    refine lv_if_ne (tgt := 23) hx hb dX1_reading_17 (by decide) (fun c17 => ?_) (fun c17 => ?_)
    · have c17 : sBt b 0 99 = true := by simpa [zI_0] using c17
      refine lv_aload_n hx hb dX1_reading_23 rfl (lv_at hl 0 rfl) ?_
      refine m_get (v := .int (nI nr)) SS hK hN 22 (by decide) q1141 rfl (by rw [← hnr]; rfl) dX1_reading_24 ?_
      refine lv_bipush (v := 8) hx hb dX1_reading_27 (by decide) ?_
      refine lv_icmp_ne (tgt := 35) hx hb dX1_reading_29 (by decide) (fun c29 => ?_) (fun c29 => ?_)
      · have c29 : ¬ nr = 8 := fun z => c29 (by rw [z]; rfl)
        have hans : oRdg np nr (fa 23) (fa 24) a b = (nI nr, nr + 1, upd (fa 23) nr a, upd (fa 24) nr b) := by rw [oRdg, if_pos c5, if_pos c17, if_neg c29]
        refine lv_aload_n hx hb dX1_reading_35 rfl (lv_at hl 0 rfl) ?_
        refine m_get SS hK hN 23 (by decide) q1142 rfl rfl dX1_reading_36 ?_
        refine lv_aload_n hx hb dX1_reading_39 rfl (lv_at hl 0 rfl) ?_
        refine m_get (v := .int (nI nr)) SS hK hN 22 (by decide) q1141 rfl (by rw [← hnr]; rfl) dX1_reading_40 ?_
        refine lv_iload_n hx hb dX1_reading_43 rfl (lv_at hl 1 rfl) ?_
        refine m_ast SS hK hN hS 23 rfl (nr) (rfl) (by show _ < (8 : Nat); omega) dX1_reading_44 (fun H locs hN hS => ?_)
        refine lv_aload_n hx hb dX1_reading_45 rfl (lv_at hl 0 rfl) ?_
        refine m_get SS hK hN 24 (by decide) q1143 rfl rfl dX1_reading_46 ?_
        refine lv_aload_n hx hb dX1_reading_49 rfl (lv_at hl 0 rfl) ?_
        refine m_get (v := .int (nI nr)) SS hK hN 22 (by decide) q1141 rfl (by rw [← hnr]; rfl) dX1_reading_50 ?_
        refine lv_iload_n hx hb dX1_reading_53 rfl (lv_at hl 2 rfl) ?_
        refine m_ast SS hK hN hS 24 rfl (nr) (rfl) (by show _ < (8 : Nat); omega) dX1_reading_54 (fun H locs hN hS => ?_)
        refine lv_aload_n hx hb dX1_reading_55 rfl (lv_at hl 0 rfl) ?_
        refine lv_dup hx hb dX1_reading_56 rfl ?_
        refine m_get (v := .int (nI nr)) SS hK hN 22 (by decide) q1141 rfl (by rw [← hnr]; rfl) dX1_reading_57 ?_
        refine lv_iconst (v := 1) hx hb dX1_reading_60 (by decide) ?_
        refine lv_iadd hx hb dX1_reading_61 ?_
        refine n_top (y := nI (nr + 1)) (nI_1 nr) ?_
        refine m_put SS hK hN hS 22 (by decide) q1141 rfl rfl rfl rfl dX1_reading_62 (fun H locs hN hS => ?_)
        refine lv_aload_n hx hb dX1_reading_65 rfl (lv_at hl 0 rfl) ?_
        refine m_get (v := .int (nI (nr + 1))) SS hK hN 22 (by decide) q1141 rfl (rfl) dX1_reading_66 ?_
        refine lv_iconst (v := 1) hx hb dX1_reading_69 (by decide) ?_
        refine lv_isub hx hb dX1_reading_70 ?_
        refine n_top (y := nI nr) (nI_pred nr) ?_
        exact W.iret hx hb hr (nEnd hN hS ⟨_, _, rfl, rfl, ⟨by rw [hans], by rw [hans], by rw [hans]; rfl⟩⟩) hS.2 dX1_reading_71
      · have c29 : nr = 8 := (nI_eq (by omega) (by omega)).mp c29
        have hans : oRdg np nr (fa 23) (fa 24) a b = (-4, nr, fa 23, fa 24) := by rw [oRdg, if_pos c5, if_pos c17, if_pos c29]
        refine lv_bipush (v := (-4)) hx hb dX1_reading_32 (by decide) ?_
        exact W.iret hx hb hr (nEnd hN hS ⟨_, _, rfl, rfl, ⟨by rw [hans], by rw [hans]; funext k; by_cases hk : k = 22 <;> simp [upd, hk, hnr], by rw [hans]; funext k; by_cases hk : k = 24 <;> by_cases hk2 : k = 23 <;> simp [va_up, hk, hk2]⟩⟩) hS.2 dX1_reading_34
    · have c17 : ¬ sBt b 0 99 = true := by simpa [zI_0] using c17
      have hans : oRdg np nr (fa 23) (fa 24) a b = (-2, nr, fa 23, fa 24) := by rw [oRdg, if_pos c5, if_neg c17]
      refine lv_bipush (v := (-2)) hx hb dX1_reading_20 (by decide) ?_
      exact W.iret hx hb hr (nEnd hN hS ⟨_, _, rfl, rfl, ⟨by rw [hans], by rw [hans]; funext k; by_cases hk : k = 22 <;> simp [upd, hk, hnr], by rw [hans]; funext k; by_cases hk : k = 24 <;> by_cases hk2 : k = 23 <;> simp [va_up, hk, hk2]⟩⟩) hS.2 dX1_reading_22
  · have c5 : ¬ sIn a np = true := by simpa [zI_0] using c5
    have hans : oRdg np nr (fa 23) (fa 24) a b = (-1, nr, fa 23, fa 24) := by rw [oRdg, if_neg c5]
    refine lv_iconst (v := (-1)) hx hb dX1_reading_8 (by decide) ?_
    exact W.iret hx hb hr (nEnd hN hS ⟨_, _, rfl, rfl, ⟨by rw [hans], by rw [hans]; funext k; by_cases hk : k = 22 <;> simp [upd, hk, hnr], by rw [hans]; funext k; by_cases hk : k = 24 <;> by_cases hk2 : k = 23 <;> simp [va_up, hk, hk2]⟩⟩) hS.2 dX1_reading_9
set_option maxHeartbeats 4000000 in
set_option maxRecDepth 100000 in
theorem mX1_back (l : Launch) (G : nG) (ad : Nat → Nat) (x : nPic) (fi : Nat → Int32) (fa : Nat → Nat → Int32) (a : Int32) (nr : Nat) (hnr : fi 22 = nI nr) (h8 : nr ≤ 8) : Met l yX1_back (ws_ yX1_back cX1_back 2 (some .int)) (mR 1) (nPc G nCl (nK G) ad (mPic G x ad fi fa) [.ref (ad 50), .int a]) (nQ G nCl (mP G ad x (fun rv fi' fa' => rv = some (.int (oBck nr a).1) ∧ upd fi 22 (nI (oBck nr a).2) = fi' ∧ fa = fa'))) 0 0 (fun q => G.2 ≤ q) := by
  refine nMet RX1 (by decide) rfl (Nat.le_of_ble_eq_true rfl) ?_
  intro p e s m below meth c ls SS hR hK hN hS hl
  obtain ⟨hx, hb, hml, hown, hts⟩ := id SS
  obtain ⟨hr, hlk, hnm⟩ := hR
  generalize s.heap = H at hN hS ⊢
  generalize ([] : List Loc) = locs at hS ⊢
  have hl : lv_has ls 2 [(0, .ref (ad 50)), (1, .int a)] := hl
  refine lv_iload_n hx hb dX1_back_0 rfl (lv_at hl 1 rfl) ?_
  refine lv_iconst (v := 0) hx hb dX1_back_1 (by decide) ?_
  refine lv_aload_n hx hb dX1_back_2 rfl (lv_at hl 0 rfl) ?_
  refine m_get (v := .int (nI nr)) SS hK hN 22 (by decide) q1141 rfl (by rw [← hnr]; rfl) dX1_back_3 ?_
  refine n_callS (As := [_, _, _]) SS (nK_o G) hK (mX1_within l G ad x fi fa a 0 (nI nr)) (va_cwS 3 hts (lw_S q1202 q1203 q61 q1204) rfl rfl rfl (by decide +kernel) ⟨Nat.le_of_ble_eq_true rfl, Nat.le_of_ble_eq_true rfl⟩) hN hS rfl hl.1 rfl (Nat.le_of_ble_eq_true rfl) dX1_back_6 ⟨Nat.le_of_ble_eq_true rfl, Nat.le_of_ble_eq_true rfl⟩ (fun v ad' c' H locs hv hN hS => ?_)
  obtain ⟨_, _, rfl, rfl, rfl, rfl, rfl⟩ := hv
  refine W.eq (g2 := F0 m 9 ls (_ :: _)) rfl ?_
  refine lv_if_ne (tgt := 15) hx hb dX1_back_9 (by decide) (fun c9 => ?_) (fun c9 => ?_)
  · have c9 : sBt a 0 (nI nr) = true := by simpa [zI_0] using c9
    obtain ⟨j, hj, ej⟩ : ∃ j : Nat, j ≤ nr ∧ a = nI j := by simp [sBt] at c9; exact nI_of2 (nI_toInt (by omega)) (by simpa using c9.1) c9.2
    rw [ej] at hl
    have hans : oBck nr a = (nI (nr - j), nr - j) := by rw [oBck, if_pos c9, ej, tn_nI (by omega)]
    refine lv_aload_n hx hb dX1_back_15 rfl (lv_at hl 0 rfl) ?_
    refine lv_dup hx hb dX1_back_16 rfl ?_
    refine m_get (v := .int (nI nr)) SS hK hN 22 (by decide) q1141 rfl (by rw [← hnr]; rfl) dX1_back_17 ?_
    refine lv_iload_n hx hb dX1_back_20 rfl (lv_at hl 1 rfl) ?_
    refine lv_isub hx hb dX1_back_21 ?_
    refine n_top (y := nI (nr - j)) (pk_sub hj) ?_
    refine m_put SS hK hN hS 22 (by decide) q1141 rfl rfl rfl rfl dX1_back_22 (fun H locs hN hS => ?_)
    refine lv_aload_n hx hb dX1_back_25 rfl (lv_at hl 0 rfl) ?_
    refine m_get (v := .int (nI (nr - j))) SS hK hN 22 (by decide) q1141 rfl (rfl) dX1_back_26 ?_
    exact W.iret hx hb hr (nEnd hN hS ⟨_, _, rfl, rfl, ⟨by rw [hans], by rw [hans], rfl⟩⟩) hS.2 dX1_back_29
  · have c9 : ¬ sBt a 0 (nI nr) = true := by simpa [zI_0] using c9
    refine lv_bipush (v := (-2)) hx hb dX1_back_12 (by decide) ?_
    exact W.iret hx hb hr (nEnd hN hS ⟨_, _, rfl, rfl, ⟨by rw [oBck, if_neg c9], by rw [oBck, if_neg c9]; funext k; by_cases hk : k = 22 <;> simp [upd, hk, hnr], rfl⟩⟩) hS.2 dX1_back_14
set_option maxHeartbeats 4000000 in
set_option maxRecDepth 100000 in
theorem mX1_begins (l : Launch) (G : nG) (ad : Nat → Nat) (x : nPic) (fi : Nat → Int32) (fa : Nat → Nat → Int32) (b : Int32) : Met l yX1_begins (ws_ yX1_begins cX1_begins 2 none) (mR 0) (nPc G nCl (nK G) ad (mPic G x ad fi fa) [.ref (ad 50), .int b]) (nQ G nCl (mP G ad x (fun rv fi' fa' => rv = none ∧ upd fi 1 (sTr (fi 1) b) = fi' ∧ fa = fa'))) 0 0 (fun q => G.2 ≤ q) := by
  refine nMet RX1 (by decide) rfl (Nat.le_of_ble_eq_true rfl) ?_
  intro p e s m below meth c ls SS hR hK hN hS hl
  obtain ⟨hx, hb, hml, hown, hts⟩ := id SS
  obtain ⟨hr, hlk, hnm⟩ := hR
  generalize s.heap = H at hN hS ⊢
  generalize ([] : List Loc) = locs at hS ⊢
  have hl : lv_has ls 2 [(0, .ref (ad 50)), (1, .int b)] := hl
  refine lv_aload_n hx hb dX1_begins_0 rfl (lv_at hl 0 rfl) ?_
  refine lv_bipush (v := 31) hx hb dX1_begins_1 (by decide) ?_
  refine lv_aload_n hx hb dX1_begins_3 rfl (lv_at hl 0 rfl) ?_
  refine m_get SS hK hN 1 (by decide) q1120 rfl rfl dX1_begins_4 ?_
  refine lv_imul hx hb dX1_begins_7 ?_
  refine lv_iload_n hx hb dX1_begins_8 rfl (lv_at hl 1 rfl) ?_
  refine lv_iadd hx hb dX1_begins_9 ?_
  refine n_top (y := sTr (fi 1) b) (rfl) ?_
  refine m_put SS hK hN hS 1 (by decide) q1120 rfl rfl rfl rfl dX1_begins_10 (fun H locs hN hS => ?_)
  exact W.vret hx hb hr (nEnd hN hS ⟨_, _, rfl, rfl, ⟨rfl, rfl, rfl⟩⟩) hS.2 dX1_begins_13
