/-! THE MODEL's ways, odds, sheets, parts: printed by wip/gen/m5.py -/
set_option maxHeartbeats 4000000 in
set_option maxRecDepth 100000 in
theorem mX1_size (l : Launch) (G : nG) (ad : Nat → Nat) (x : nPic) (fi : Nat → Int32) (fa : Nat → Nat → Int32) (q : Nat) (hq : q < 64) : Met l yX1_size (ws_ yX1_size cX1_size 3 (some .int)) (mR 0) (nPc G nCl (nK G) ad (mPic G x ad fi fa) [.int (nI q)]) (nQ G nCl (mP G ad x (fun rv fi' fa' => rv = some (.int (nI (sPc q))) ∧ fi = fi' ∧ fa = fa'))) 0 0 (fun q => G.2 ≤ q) := by
  refine nMet RX1 (by decide) rfl (Nat.le_of_ble_eq_true rfl) ?_
  intro p e s m below meth c ls SS hR hK hN hS hl
  obtain ⟨hx, hb, hml, hown, hts⟩ := id SS
  obtain ⟨hr, hlk, hnm⟩ := hR
  generalize s.heap = H at hN hS ⊢
  generalize ([] : List Loc) = locs at hS ⊢
  have hl : lv_has ls 3 [(0, .int (nI q))] := hl
  refine lv_iconst (v := (nI 0)) hx hb dX1_size_0 (rfl) ?_
  refine lv_istore_n (lv' := [(1, _), (0, _)]) hx hb dX1_size_1 rfl hl (by decide) rfl (fun ls hl => ?_)
  refine lv_iload_n hx hb dX1_size_2 rfl (lv_at hl 1 rfl) ?_
  refine lv_istore_n (lv' := [(2, _), (1, _), (0, _)]) hx hb dX1_size_3 rfl hl (by decide) rfl (fun ls hl => ?_)
  have loop4 : ∀ (n : Nat) (f a t : Nat) (H : Heap) (locs : List Loc) (ls : Array Slot), t < 2 ^ f → t < 2 ^ 31 → a + sPop f t = sPc q → f + 1 ≤ n → nOk G nCl ad (mPic G x ad fi fa) H → nS G s H locs → lv_has ls 3 [(0, .int (nI q)), (1, .int (nI a)), (2, .int (nI t))] → W p l e (mR 0) s m ([.int (nI q)] : List Value).toArray below meth c H locs 0 0 (MQ below (nQ G nCl (mP G ad x (fun rv fi' fa' => rv = some (.int (nI (sPc q))) ∧ fi = fi' ∧ fa = fa'))) ([.int (nI q)] : List Value).toArray s 0 0 (fun q => G.2 ≤ q)) (F0 m 4 ls []) := by
    intro n
    induction n with
    | zero => intro f a t H locs ls hf h31 hs hfuel hN hS hl; exact absurd hfuel (by omega)
    | succ n ih4 =>
      intro f a t H locs ls hf h31 hs hfuel hN hS hl
      refine lv_iload_n hx hb dX1_size_4 rfl (lv_at hl 2 rfl) ?_
      refine lv_if_le (tgt := 21) hx hb dX1_size_5 (by decide) (fun c5 => ?_) (fun c5 => ?_)
      · have c5 : t = 0 := by rcases Nat.eq_zero_or_pos t with q | q; { exact q }; { exact absurd c5 (nI_nle q h31) }
        subst c5
        rw [sPop_0] at hs
        have hs : a = sPc q := by omega
        refine lv_iload_n hx hb dX1_size_21 rfl (lv_at hl 1 rfl) ?_
        exact W.iret hx hb hr (nEnd hN hS ⟨_, _, rfl, rfl, ⟨by rw [hs], rfl, rfl⟩⟩) hS.2 dX1_size_22
      · have c5 : 0 < t := by rcases Nat.eq_zero_or_pos t with q | q; { subst q; exact absurd (by decide) c5 }; { exact q }
        obtain ⟨f, rfl⟩ : ∃ g, f = g + 1 := ⟨f - 1, by rcases Nat.eq_zero_or_pos f with q | q; { subst q; omega }; { omega }⟩
        refine lv_iload_n hx hb dX1_size_8 rfl (lv_at hl 1 rfl) ?_
        refine lv_iload_n hx hb dX1_size_9 rfl (lv_at hl 2 rfl) ?_
        refine lv_iconst (v := 1) hx hb dX1_size_10 (by decide) ?_
        refine lv_iand hx hb dX1_size_11 ?_
        refine n_top (y := nI (t % 2)) (pk_andN (by omega) 1 rfl) ?_
        refine lv_iadd hx hb dX1_size_12 ?_
        refine n_top (y := nI (a + t % 2)) (nI_add _ _) ?_
        refine lv_istore_n (lv' := [(1, _), (0, _), (2, _)]) hx hb dX1_size_13 rfl hl (by decide) rfl (fun ls hl => ?_)
        refine lv_iload_n hx hb dX1_size_14 rfl (lv_at hl 2 rfl) ?_
        refine lv_iconst (v := 1) hx hb dX1_size_15 (by decide) ?_
        refine lv_ishr hx hb dX1_size_16 ?_
        refine n_top (y := nI (t / 2)) (pk_shrN h31 _ 1 (by decide)) ?_
        refine lv_istore_n (lv' := [(2, _), (1, _), (0, _)]) hx hb dX1_size_17 rfl hl (by decide) rfl (fun ls hl => ?_)
        refine lv_goto (tgt := 4) hx hb dX1_size_18 (by decide) ?_
        exact ih4 f (a + t % 2) (t / 2) _ _ _ (by rw [Nat.pow_succ] at hf; omega) (by omega) (by rw [sPop_s c5] at hs; omega) (by omega) hN hS (lv_sub hl [2, 1, 0] (rfl))
  exact loop4 33 32 0 q _ _ _ (by omega) (by omega) (Nat.zero_add _) (by omega) hN hS (lv_sub hl [2, 1, 0] rfl)
set_option maxHeartbeats 4000000 in
set_option maxRecDepth 100000 in
theorem mX1_way (l : Launch) (G : nG) (ad : Nat → Nat) (x : nPic) (fi : Nat → Int32) (fa : Nat → Nat → Int32) (a b : Int32) (nd : Nat) (hnd : fi 5 = nI nd) (h6 : nd ≤ 6) (np : Nat) (hnp : fi 6 = nI np) (h4 : np ≤ 4) : Met l yX1_way (ws_ yX1_way cX1_way 5 (some .int)) (mR 2) (nPc G nCl (nK G) ad (mPic G x ad fi fa) [.ref (ad 50), .int a, .int b]) (nQ G nCl (mP G ad x (fun rv fi' fa' => rv = some (.int (oWay nd np (fa 7) (fa 8) (fa 9) a b)) ∧ fi = fi' ∧ fa = fa'))) 0 0 (fun q => G.2 ≤ q) := by
  refine nMet RX1 (by decide) rfl (Nat.le_of_ble_eq_true rfl) ?_
  intro p e s m below meth c ls SS hR hK hN hS hl
  obtain ⟨hx, hb, hml, hown, hts⟩ := id SS
  obtain ⟨hr, hlk, hnm⟩ := hR
  generalize s.heap = H at hN hS ⊢
  generalize ([] : List Loc) = locs at hS ⊢
  have hl : lv_has ls 5 [(0, .ref (ad 50)), (1, .int a), (2, .int b)] := hl
  have h64 := p2_64 h6
  refine lv_aload_n hx hb dX1_way_0 rfl (lv_at hl 0 rfl) ?_
  refine lv_iload_n hx hb dX1_way_1 rfl (lv_at hl 1 rfl) ?_
  refine n_callV (C := RX1) (As := [_]) (b := 50) SS (nK_o G) hK hK (mX1_isPerson l G ad x fi fa a np hnp h4) (cwV 1 hts (lw_V q1244 q1246 qs41 q61 q1247) rfl rfl rfl (by decide +kernel) ⟨Nat.le_of_ble_eq_true rfl, Nat.le_of_ble_eq_true rfl⟩) hN hS mPic_o rfl rfl hl.1 rfl (Nat.le_of_ble_eq_true rfl) dX1_way_2 ⟨Nat.le_of_ble_eq_true rfl, Nat.le_of_ble_eq_true rfl⟩ (fun v ad' c' H locs hv hN hS => ?_)
  obtain ⟨_, _, rfl, rfl, rfl, rfl, rfl⟩ := hv
  refine W.eq (g2 := F0 m 5 ls (_ :: _)) rfl ?_
  refine lv_if_ne (tgt := 10) hx hb dX1_way_5 (by decide) (fun c5 => ?_) (fun c5 => ?_)
  · have c5 : sIn a np = true := by simpa [zI_0] using c5
    obtain ⟨pp, hpp, epp, tpp⟩ := sIn_t (by omega) c5
    have tpp : tn a = pp := tpp
    rw [epp] at hl
    refine lv_iload_n hx hb dX1_way_10 rfl (lv_at hl 2 rfl) ?_
    refine lv_if_ge (tgt := 17) hx hb dX1_way_11 (by decide) (fun c11 => ?_) (fun c11 => ?_)
    · have c11 : ¬ b < 0 := by simpa using c11
      have hans : oWay nd np (fa 7) (fa 8) (fa 9) a b = sWay (fa 7) (fa 8) (fa 9) nd pp b (2 ^ nd) := by rw [oWay, if_pos c5, if_neg c11, tpp]
      refine lv_bipush (v := (sWay (fa 7) (fa 8) (fa 9) nd pp b 0)) hx hb dX1_way_17 (rfl) ?_
      refine lv_istore_n (lv' := [(3, _), (0, _), (1, _), (2, _)]) hx hb dX1_way_19 rfl hl (by decide) rfl (fun ls hl => ?_)
      refine lv_iconst (v := (nI 0)) hx hb dX1_way_20 (rfl) ?_
      refine lv_istore (lv' := [(4, _), (3, _), (0, _), (1, _), (2, _)]) hx hb dX1_way_21 hl (by decide) rfl (fun ls hl => ?_)
      have loop23 : ∀ (n : Nat) (q : Nat) (H : Heap) (locs : List Loc) (ls : Array Slot), q ≤ 2 ^ nd → 2 ^ nd + 1 ≤ q + n → nOk G nCl ad (mPic G x ad fi fa) H → nS G s H locs → lv_has ls 5 [(0, .ref (ad 50)), (1, .int (nI pp)), (2, .int b), (3, .int (sWay (fa 7) (fa 8) (fa 9) nd pp b q)), (4, .int (nI q))] → W p l e (mR 2) s m ([.ref (ad 50), .int a, .int b] : List Value).toArray below meth c H locs 0 0 (MQ below (nQ G nCl (mP G ad x (fun rv fi' fa' => rv = some (.int (oWay nd np (fa 7) (fa 8) (fa 9) a b)) ∧ fi = fi' ∧ fa = fa'))) ([.ref (ad 50), .int a, .int b] : List Value).toArray s 0 0 (fun q => G.2 ≤ q)) (F0 m 23 ls []) := by
        intro n
        induction n with
        | zero => intro q H locs ls hq hfuel hN hS hl; exact absurd hfuel (by omega)
        | succ n ih23 =>
          intro q H locs ls hq hfuel hN hS hl
          refine lv_iload hx hb dX1_way_23 (lv_at hl 4 rfl) ?_
          refine lv_iconst (v := 1) hx hb dX1_way_25 (by decide) ?_
          refine lv_aload_n hx hb dX1_way_26 rfl (lv_at hl 0 rfl) ?_
          refine m_get (v := .int (nI nd)) SS hK hN 5 (by decide) q1124 rfl (by rw [← hnd]; rfl) dX1_way_27 ?_
          refine lv_ishl hx hb dX1_way_30 ?_
          refine n_top (y := nI (2 ^ nd)) (sPw_nI (by omega)) ?_
          refine lv_icmp_ge (tgt := 82) hx hb dX1_way_31 (by decide) (fun c31 => ?_) (fun c31 => ?_)
          · have c31 := (nI_leI (by omega) (by omega)).mp c31
            have c31 : 2 ^ nd = q := by omega
            subst c31
            refine lv_iload_n hx hb dX1_way_82 rfl (lv_at hl 3 rfl) ?_
            exact W.iret hx hb hr (nEnd hN hS ⟨_, _, rfl, rfl, ⟨by rw [hans], rfl, rfl⟩⟩) hS.2 dX1_way_83
          · have c31 : ¬ 2 ^ nd ≤ q := fun z => c31 (nI_le z (by omega))
            refine lv_aload_n hx hb dX1_way_34 rfl (lv_at hl 0 rfl) ?_
            refine lv_iload_n hx hb dX1_way_35 rfl (lv_at hl 1 rfl) ?_
            refine lv_iload hx hb dX1_way_36 (lv_at hl 4 rfl) ?_
            refine n_callV (C := RX1) (As := [_, _]) (b := 50) SS (nK_o G) hK hK (mX1_isTruths l G ad x fi fa pp q (by omega)) (cwV 2 hts (lw_V q1319 q1321 qs51 q61 q1322) rfl rfl rfl (by decide +kernel) ⟨Nat.le_of_ble_eq_true rfl, Nat.le_of_ble_eq_true rfl⟩) hN hS mPic_o rfl rfl hl.1 rfl (Nat.le_of_ble_eq_true rfl) dX1_way_38 ⟨Nat.le_of_ble_eq_true rfl, Nat.le_of_ble_eq_true rfl⟩ (fun v ad' c' H locs hv hN hS => ?_)
            obtain ⟨_, _, rfl, rfl, rfl, rfl, rfl⟩ := hv
            refine W.eq (g2 := F0 m 41 ls (_ :: _)) rfl ?_
            refine lv_if_eq (tgt := 76) hx hb dX1_way_41 (by decide) (fun c41 => ?_) (fun c41 => ?_)
            · have c41 := zI_0.mp c41
              have hw : sWay (fa 7) (fa 8) (fa 9) nd pp b (q + 1) = sWay (fa 7) (fa 8) (fa 9) nd pp b q := by rw [sWay, if_neg (fun z => by rw [c41] at z; exact absurd z.1 (by simp))]
              refine lv_iinc (v := (nI (q + 1))) (lv' := [(4, _), (0, _), (1, _), (2, _), (3, _)]) hx hb dX1_way_76 hl (k := 4) rfl (nI_inc q) (by decide) rfl (fun ls hl => ?_)
              refine lv_goto (tgt := 23) hx hb dX1_way_79 (by decide) ?_
              exact ih23 (q + 1) _ _ _ (by omega) (by omega) hN hS (lv_sub hl [1, 2, 3, 4, 0] (by rw [hw]; rfl))
            · have c41 := zI_n0 c41
              refine lv_aload_n hx hb dX1_way_44 rfl (lv_at hl 0 rfl) ?_
              refine lv_iload_n hx hb dX1_way_45 rfl (lv_at hl 1 rfl) ?_
              refine lv_iload hx hb dX1_way_46 (lv_at hl 4 rfl) ?_
              refine n_callV (C := RX1) (As := [_, _]) (b := 50) SS (nK_o G) hK hK (mX1_floorBy l G ad x fi fa pp (nI q) (by omega) nd hnd h6) (cwV 2 hts (lw_V q1248 q1250 qs42 q61 q1251) rfl rfl rfl (by decide +kernel) ⟨Nat.le_of_ble_eq_true rfl, Nat.le_of_ble_eq_true rfl⟩) hN hS mPic_o rfl rfl hl.1 rfl (Nat.le_of_ble_eq_true rfl) dX1_way_48 ⟨Nat.le_of_ble_eq_true rfl, Nat.le_of_ble_eq_true rfl⟩ (fun v ad' c' H locs hv hN hS => ?_)
              obtain ⟨_, _, rfl, rfl, rfl, rfl, rfl⟩ := hv
              refine W.eq (g2 := F0 m 51 ls (_ :: _)) rfl ?_
              refine lv_iload_n hx hb dX1_way_51 rfl (lv_at hl 2 rfl) ?_
              refine lv_icmp_ne (tgt := 76) hx hb dX1_way_52 (by decide) (fun c52 => ?_) (fun c52 => ?_)
              · have hw : sWay (fa 7) (fa 8) (fa 9) nd pp b (q + 1) = sWay (fa 7) (fa 8) (fa 9) nd pp b q := by rw [sWay, if_neg (fun z => by rw [decide_eq_false c52, Bool.and_false] at z; exact absurd z.1 (by decide))]
                refine lv_iinc (v := (nI (q + 1))) (lv' := [(4, _), (0, _), (1, _), (2, _), (3, _)]) hx hb dX1_way_76 hl (k := 4) rfl (nI_inc q) (by decide) rfl (fun ls hl => ?_)
                refine lv_goto (tgt := 23) hx hb dX1_way_79 (by decide) ?_
                exact ih23 (q + 1) _ _ _ (by omega) (by omega) hN hS (lv_sub hl [1, 2, 3, 4, 0] (by rw [hw]; rfl))
              · refine lv_iload_n hx hb dX1_way_55 rfl (lv_at hl 3 rfl) ?_
                refine lv_bipush (v := (-9)) hx hb dX1_way_56 (by decide) ?_
                refine lv_icmp_eq (tgt := 73) hx hb dX1_way_58 (by decide) (fun c58 => ?_) (fun c58 => ?_)
                · have hw : sWay (fa 7) (fa 8) (fa 9) nd pp b (q + 1) = nI q := by rw [sWay, if_pos ⟨by rw [c41, decide_eq_true c52]; rfl, Or.inl c58⟩]
                  refine lv_iload hx hb dX1_way_73 (lv_at hl 4 rfl) ?_
                  refine lv_istore_n (lv' := [(3, _), (0, _), (1, _), (2, _), (4, _)]) hx hb dX1_way_75 rfl hl (by decide) rfl (fun ls hl => ?_)
                  refine lv_iinc (v := (nI (q + 1))) (lv' := [(4, _), (3, _), (0, _), (1, _), (2, _)]) hx hb dX1_way_76 hl (k := 4) rfl (nI_inc q) (by decide) rfl (fun ls hl => ?_)
                  refine lv_goto (tgt := 23) hx hb dX1_way_79 (by decide) ?_
                  exact ih23 (q + 1) _ _ _ (by omega) (by omega) hN hS (lv_sub hl [2, 3, 4, 1, 0] (by rw [hw]; rfl))
                · obtain ⟨j, hj, ej⟩ := (sWay_in (fa 7) (fa 8) (fa 9) nd pp b q).resolve_left c58
                  have hsz := mX1_size l G ad x fi fa j (by omega)
                  rw [← ej] at hsz
                  have hj6 := sPc_lt j (by omega)
                  have hq6 := sPc_lt q (by omega)
                  refine lv_iload hx hb dX1_way_61 (lv_at hl 4 rfl) ?_
                  refine n_callS (As := [_]) SS (nK_o G) hK (mX1_size l G ad x fi fa q (by omega)) (va_cwS 1 hts (lw_S q1323 q1324 q61 q1325) rfl rfl rfl (by decide +kernel) ⟨Nat.le_of_ble_eq_true rfl, Nat.le_of_ble_eq_true rfl⟩) hN hS rfl hl.1 rfl (Nat.le_of_ble_eq_true rfl) dX1_way_63 ⟨Nat.le_of_ble_eq_true rfl, Nat.le_of_ble_eq_true rfl⟩ (fun v ad' c' H locs hv hN hS => ?_)
                  obtain ⟨_, _, rfl, rfl, rfl, rfl, rfl⟩ := hv
                  refine W.eq (g2 := F0 m 66 ls (_ :: _)) rfl ?_
                  refine lv_iload_n hx hb dX1_way_66 rfl (lv_at hl 3 rfl) ?_
                  refine n_callS (As := [_]) SS (nK_o G) hK (hsz) (va_cwS 1 hts (lw_S q1323 q1324 q61 q1325) rfl rfl rfl (by decide +kernel) ⟨Nat.le_of_ble_eq_true rfl, Nat.le_of_ble_eq_true rfl⟩) hN hS rfl hl.1 rfl (Nat.le_of_ble_eq_true rfl) dX1_way_67 ⟨Nat.le_of_ble_eq_true rfl, Nat.le_of_ble_eq_true rfl⟩ (fun v ad' c' H locs hv hN hS => ?_)
                  obtain ⟨_, _, rfl, rfl, rfl, rfl, rfl⟩ := hv
                  refine W.eq (g2 := F0 m 70 ls (_ :: _)) rfl ?_
                  refine lv_icmp_ge (tgt := 76) hx hb dX1_way_70 (by decide) (fun c70 => ?_) (fun c70 => ?_)
                  · have c70 := (nI_leI (by omega) (by omega)).mp c70
                    have hw : sWay (fa 7) (fa 8) (fa 9) nd pp b (q + 1) = sWay (fa 7) (fa 8) (fa 9) nd pp b q := by rw [sWay, if_neg (fun z => by rcases z.2 with y | y; { exact c58 y }; { rw [ej, tn_nI (by omega)] at y; omega })]
                    refine lv_iinc (v := (nI (q + 1))) (lv' := [(4, _), (0, _), (1, _), (2, _), (3, _)]) hx hb dX1_way_76 hl (k := 4) rfl (nI_inc q) (by decide) rfl (fun ls hl => ?_)
                    refine lv_goto (tgt := 23) hx hb dX1_way_79 (by decide) ?_
                    exact ih23 (q + 1) _ _ _ (by omega) (by omega) hN hS (lv_sub hl [1, 2, 3, 4, 0] (by rw [hw]; rfl))
                  · have hw : sWay (fa 7) (fa 8) (fa 9) nd pp b (q + 1) = nI q := by rw [sWay, if_pos ⟨by rw [c41, decide_eq_true c52]; rfl, Or.inr (by rw [ej, tn_nI (by omega)]; rcases Nat.lt_or_ge (sPc q) (sPc j) with y | y; { exact y }; { exact absurd (nI_le y (by omega)) c70 })⟩]
                    refine lv_iload hx hb dX1_way_73 (lv_at hl 4 rfl) ?_
                    refine lv_istore_n (lv' := [(3, _), (0, _), (1, _), (2, _), (4, _)]) hx hb dX1_way_75 rfl hl (by decide) rfl (fun ls hl => ?_)
                    refine lv_iinc (v := (nI (q + 1))) (lv' := [(4, _), (3, _), (0, _), (1, _), (2, _)]) hx hb dX1_way_76 hl (k := 4) rfl (nI_inc q) (by decide) rfl (fun ls hl => ?_)
                    refine lv_goto (tgt := 23) hx hb dX1_way_79 (by decide) ?_
                    exact ih23 (q + 1) _ _ _ (by omega) (by omega) hN hS (lv_sub hl [2, 3, 4, 1, 0] (by rw [hw]; rfl))
      exact loop23 (2 ^ nd + 1) 0 _ _ _ (Nat.zero_le _) (by omega) hN hS (lv_sub hl [2, 3, 4, 1, 0] rfl)
    · have c11 : b < 0 := by simpa using c11
      have hans : oWay nd np (fa 7) (fa 8) (fa 9) a b = -2 := by rw [oWay, if_pos c5, if_pos c11]
      refine lv_bipush (v := (-2)) hx hb dX1_way_14 (by decide) ?_
      exact W.iret hx hb hr (nEnd hN hS ⟨_, _, rfl, rfl, ⟨by rw [hans], rfl, rfl⟩⟩) hS.2 dX1_way_16
  · have c5 : ¬ sIn a np = true := by simpa [zI_0] using c5
    have hans : oWay nd np (fa 7) (fa 8) (fa 9) a b = -1 := by rw [oWay, if_neg c5]
    refine lv_iconst (v := (-1)) hx hb dX1_way_8 (by decide) ?_
    exact W.iret hx hb hr (nEnd hN hS ⟨_, _, rfl, rfl, ⟨by rw [hans], rfl, rfl⟩⟩) hS.2 dX1_way_9
set_option maxHeartbeats 4000000 in
set_option maxRecDepth 100000 in
theorem mX1_kept (l : Launch) (G : nG) (ad : Nat → Nat) (x : nPic) (fi : Nat → Int32) (fa : Nat → Nat → Int32) (a b : Int32) (nd : Nat) (hnd : fi 5 = nI nd) (h6 : nd ≤ 6) (np : Nat) (hnp : fi 6 = nI np) (h4 : np ≤ 4) : Met l yX1_kept (ws_ yX1_kept cX1_kept 5 (some .int)) (mR 2) (nPc G nCl (nK G) ad (mPic G x ad fi fa) [.ref (ad 50), .int a, .int b]) (nQ G nCl (mP G ad x (fun rv fi' fa' => rv = some (.int (oKpt nd np (fa 7) (fa 8) (fa 9) a b)) ∧ fi = fi' ∧ fa = fa'))) 0 0 (fun q => G.2 ≤ q) := by
  refine nMet RX1 (by decide) rfl (Nat.le_of_ble_eq_true rfl) ?_
  intro p e s m below meth c ls SS hR hK hN hS hl
  obtain ⟨hx, hb, hml, hown, hts⟩ := id SS
  obtain ⟨hr, hlk, hnm⟩ := hR
  generalize s.heap = H at hN hS ⊢
  generalize ([] : List Loc) = locs at hS ⊢
  have hl : lv_has ls 5 [(0, .ref (ad 50)), (1, .int a), (2, .int b)] := hl
  have h64 := p2_64 h6
  refine lv_aload_n hx hb dX1_kept_0 rfl (lv_at hl 0 rfl) ?_
  refine lv_iload_n hx hb dX1_kept_1 rfl (lv_at hl 1 rfl) ?_
  refine n_callV (C := RX1) (As := [_]) (b := 50) SS (nK_o G) hK hK (mX1_isPerson l G ad x fi fa a np hnp h4) (cwV 1 hts (lw_V q1244 q1246 qs41 q61 q1247) rfl rfl rfl (by decide +kernel) ⟨Nat.le_of_ble_eq_true rfl, Nat.le_of_ble_eq_true rfl⟩) hN hS mPic_o rfl rfl hl.1 rfl (Nat.le_of_ble_eq_true rfl) dX1_kept_2 ⟨Nat.le_of_ble_eq_true rfl, Nat.le_of_ble_eq_true rfl⟩ (fun v ad' c' H locs hv hN hS => ?_)
  obtain ⟨_, _, rfl, rfl, rfl, rfl, rfl⟩ := hv
  refine W.eq (g2 := F0 m 5 ls (_ :: _)) rfl ?_
  refine lv_if_ne (tgt := 10) hx hb dX1_kept_5 (by decide) (fun c5 => ?_) (fun c5 => ?_)
  · have c5 : sIn a np = true := by simpa [zI_0] using c5
    obtain ⟨pp, hpp, epp, tpp⟩ := sIn_t (by omega) c5
    have tpp : tn a = pp := tpp
    rw [epp] at hl
    refine lv_iload_n hx hb dX1_kept_10 rfl (lv_at hl 2 rfl) ?_
    refine lv_if_ge (tgt := 17) hx hb dX1_kept_11 (by decide) (fun c11 => ?_) (fun c11 => ?_)
    · have c11 : ¬ b < 0 := by simpa using c11
      have hans : oKpt nd np (fa 7) (fa 8) (fa 9) a b = sKept (fa 7) (fa 8) (fa 9) nd pp b (2 ^ nd) := by rw [oKpt, if_pos c5, if_neg c11, tpp]
      refine lv_bipush (v := (sKept (fa 7) (fa 8) (fa 9) nd pp b 0)) hx hb dX1_kept_17 (rfl) ?_
      refine lv_istore_n (lv' := [(3, _), (0, _), (1, _), (2, _)]) hx hb dX1_kept_19 rfl hl (by decide) rfl (fun ls hl => ?_)
      refine lv_iconst (v := (nI 0)) hx hb dX1_kept_20 (rfl) ?_
      refine lv_istore (lv' := [(4, _), (3, _), (0, _), (1, _), (2, _)]) hx hb dX1_kept_21 hl (by decide) rfl (fun ls hl => ?_)
      have loop23 : ∀ (n : Nat) (q : Nat) (H : Heap) (locs : List Loc) (ls : Array Slot), q ≤ 2 ^ nd → 2 ^ nd + 1 ≤ q + n → nOk G nCl ad (mPic G x ad fi fa) H → nS G s H locs → lv_has ls 5 [(0, .ref (ad 50)), (1, .int (nI pp)), (2, .int b), (3, .int (sKept (fa 7) (fa 8) (fa 9) nd pp b q)), (4, .int (nI q))] → W p l e (mR 2) s m ([.ref (ad 50), .int a, .int b] : List Value).toArray below meth c H locs 0 0 (MQ below (nQ G nCl (mP G ad x (fun rv fi' fa' => rv = some (.int (oKpt nd np (fa 7) (fa 8) (fa 9) a b)) ∧ fi = fi' ∧ fa = fa'))) ([.ref (ad 50), .int a, .int b] : List Value).toArray s 0 0 (fun q => G.2 ≤ q)) (F0 m 23 ls []) := by
        intro n
        induction n with
        | zero => intro q H locs ls hq hfuel hN hS hl; exact absurd hfuel (by omega)
        | succ n ih23 =>
          intro q H locs ls hq hfuel hN hS hl
          refine lv_iload hx hb dX1_kept_23 (lv_at hl 4 rfl) ?_
          refine lv_iconst (v := 1) hx hb dX1_kept_25 (by decide) ?_
          refine lv_aload_n hx hb dX1_kept_26 rfl (lv_at hl 0 rfl) ?_
          refine m_get (v := .int (nI nd)) SS hK hN 5 (by decide) q1124 rfl (by rw [← hnd]; rfl) dX1_kept_27 ?_
          refine lv_ishl hx hb dX1_kept_30 ?_
          refine n_top (y := nI (2 ^ nd)) (sPw_nI (by omega)) ?_
          refine lv_icmp_ge (tgt := 77) hx hb dX1_kept_31 (by decide) (fun c31 => ?_) (fun c31 => ?_)
          · have c31 := (nI_leI (by omega) (by omega)).mp c31
            have c31 : 2 ^ nd = q := by omega
            subst c31
            refine lv_iload_n hx hb dX1_kept_77 rfl (lv_at hl 3 rfl) ?_
            exact W.iret hx hb hr (nEnd hN hS ⟨_, _, rfl, rfl, ⟨by rw [hans], rfl, rfl⟩⟩) hS.2 dX1_kept_78
          · have c31 : ¬ 2 ^ nd ≤ q := fun z => c31 (nI_le z (by omega))
            refine lv_aload_n hx hb dX1_kept_34 rfl (lv_at hl 0 rfl) ?_
            refine lv_iload_n hx hb dX1_kept_35 rfl (lv_at hl 1 rfl) ?_
            refine lv_iload hx hb dX1_kept_36 (lv_at hl 4 rfl) ?_
            refine n_callV (C := RX1) (As := [_, _]) (b := 50) SS (nK_o G) hK hK (mX1_isTruths l G ad x fi fa pp q (by omega)) (cwV 2 hts (lw_V q1319 q1321 qs51 q61 q1322) rfl rfl rfl (by decide +kernel) ⟨Nat.le_of_ble_eq_true rfl, Nat.le_of_ble_eq_true rfl⟩) hN hS mPic_o rfl rfl hl.1 rfl (Nat.le_of_ble_eq_true rfl) dX1_kept_38 ⟨Nat.le_of_ble_eq_true rfl, Nat.le_of_ble_eq_true rfl⟩ (fun v ad' c' H locs hv hN hS => ?_)
            obtain ⟨_, _, rfl, rfl, rfl, rfl, rfl⟩ := hv
            refine W.eq (g2 := F0 m 41 ls (_ :: _)) rfl ?_
            refine lv_if_eq (tgt := 71) hx hb dX1_kept_41 (by decide) (fun c41 => ?_) (fun c41 => ?_)
            · have c41 := zI_0.mp c41
              have hw : sKept (fa 7) (fa 8) (fa 9) nd pp b (q + 1) = sKept (fa 7) (fa 8) (fa 9) nd pp b q := by rw [sKept, if_neg (fun z => by rw [c41] at z; exact absurd z (by simp))]
              refine lv_iinc (v := (nI (q + 1))) (lv' := [(4, _), (0, _), (1, _), (2, _), (3, _)]) hx hb dX1_kept_71 hl (k := 4) rfl (nI_inc q) (by decide) rfl (fun ls hl => ?_)
              refine lv_goto (tgt := 23) hx hb dX1_kept_74 (by decide) ?_
              exact ih23 (q + 1) _ _ _ (by omega) (by omega) hN hS (lv_sub hl [1, 2, 3, 4, 0] (by rw [hw]; rfl))
            · have c41 := zI_n0 c41
              refine lv_aload_n hx hb dX1_kept_44 rfl (lv_at hl 0 rfl) ?_
              refine lv_iload_n hx hb dX1_kept_45 rfl (lv_at hl 1 rfl) ?_
              refine lv_iload hx hb dX1_kept_46 (lv_at hl 4 rfl) ?_
              refine n_callV (C := RX1) (As := [_, _]) (b := 50) SS (nK_o G) hK hK (mX1_floorBy l G ad x fi fa pp (nI q) (by omega) nd hnd h6) (cwV 2 hts (lw_V q1248 q1250 qs42 q61 q1251) rfl rfl rfl (by decide +kernel) ⟨Nat.le_of_ble_eq_true rfl, Nat.le_of_ble_eq_true rfl⟩) hN hS mPic_o rfl rfl hl.1 rfl (Nat.le_of_ble_eq_true rfl) dX1_kept_48 ⟨Nat.le_of_ble_eq_true rfl, Nat.le_of_ble_eq_true rfl⟩ (fun v ad' c' H locs hv hN hS => ?_)
              obtain ⟨_, _, rfl, rfl, rfl, rfl, rfl⟩ := hv
              refine W.eq (g2 := F0 m 51 ls (_ :: _)) rfl ?_
              refine lv_iload_n hx hb dX1_kept_51 rfl (lv_at hl 2 rfl) ?_
              refine lv_icmp_ne (tgt := 71) hx hb dX1_kept_52 (by decide) (fun c52 => ?_) (fun c52 => ?_)
              · have hw : sKept (fa 7) (fa 8) (fa 9) nd pp b (q + 1) = sKept (fa 7) (fa 8) (fa 9) nd pp b q := by rw [sKept, if_neg (fun z => by rw [decide_eq_false c52, Bool.and_false] at z; exact absurd z (by decide))]
                refine lv_iinc (v := (nI (q + 1))) (lv' := [(4, _), (0, _), (1, _), (2, _), (3, _)]) hx hb dX1_kept_71 hl (k := 4) rfl (nI_inc q) (by decide) rfl (fun ls hl => ?_)
                refine lv_goto (tgt := 23) hx hb dX1_kept_74 (by decide) ?_
                exact ih23 (q + 1) _ _ _ (by omega) (by omega) hN hS (lv_sub hl [1, 2, 3, 4, 0] (by rw [hw]; rfl))
              · refine lv_iload_n hx hb dX1_kept_55 rfl (lv_at hl 3 rfl) ?_
                refine lv_bipush (v := (-9)) hx hb dX1_kept_56 (by decide) ?_
                refine lv_icmp_ne (tgt := 66) hx hb dX1_kept_58 (by decide) (fun c58 => ?_) (fun c58 => ?_)
                · have hw : sKept (fa 7) (fa 8) (fa 9) nd pp b (q + 1) = sKept (fa 7) (fa 8) (fa 9) nd pp b q &&& nI q := by rw [sKept, if_pos (by rw [c41, decide_eq_true c52]; rfl), if_neg c58]
                  refine lv_iload_n hx hb dX1_kept_66 rfl (lv_at hl 3 rfl) ?_
                  refine lv_iload hx hb dX1_kept_67 (lv_at hl 4 rfl) ?_
                  refine lv_iand hx hb dX1_kept_69 ?_
                  refine lv_istore_n (lv' := [(3, _), (0, _), (1, _), (2, _), (4, _)]) hx hb dX1_kept_70 rfl hl (by decide) rfl (fun ls hl => ?_)
                  refine lv_iinc (v := (nI (q + 1))) (lv' := [(4, _), (3, _), (0, _), (1, _), (2, _)]) hx hb dX1_kept_71 hl (k := 4) rfl (nI_inc q) (by decide) rfl (fun ls hl => ?_)
                  refine lv_goto (tgt := 23) hx hb dX1_kept_74 (by decide) ?_
                  exact ih23 (q + 1) _ _ _ (by omega) (by omega) hN hS (lv_sub hl [2, 3, 4, 1, 0] (by rw [hw]; rfl))
                · have hw : sKept (fa 7) (fa 8) (fa 9) nd pp b (q + 1) = nI q := by rw [sKept, if_pos (by rw [c41, decide_eq_true c52]; rfl), if_pos c58]
                  refine lv_iload hx hb dX1_kept_61 (lv_at hl 4 rfl) ?_
                  refine lv_goto (tgt := 70) hx hb dX1_kept_63 (by decide) ?_
                  refine lv_istore_n (lv' := [(3, _), (0, _), (1, _), (2, _), (4, _)]) hx hb dX1_kept_70 rfl hl (by decide) rfl (fun ls hl => ?_)
                  refine lv_iinc (v := (nI (q + 1))) (lv' := [(4, _), (3, _), (0, _), (1, _), (2, _)]) hx hb dX1_kept_71 hl (k := 4) rfl (nI_inc q) (by decide) rfl (fun ls hl => ?_)
                  refine lv_goto (tgt := 23) hx hb dX1_kept_74 (by decide) ?_
                  exact ih23 (q + 1) _ _ _ (by omega) (by omega) hN hS (lv_sub hl [2, 3, 4, 1, 0] (by rw [hw]; rfl))
      exact loop23 (2 ^ nd + 1) 0 _ _ _ (Nat.zero_le _) (by omega) hN hS (lv_sub hl [2, 3, 4, 1, 0] rfl)
    · have c11 : b < 0 := by simpa using c11
      have hans : oKpt nd np (fa 7) (fa 8) (fa 9) a b = -2 := by rw [oKpt, if_pos c5, if_pos c11]
      refine lv_bipush (v := (-2)) hx hb dX1_kept_14 (by decide) ?_
      exact W.iret hx hb hr (nEnd hN hS ⟨_, _, rfl, rfl, ⟨by rw [hans], rfl, rfl⟩⟩) hS.2 dX1_kept_16
  · have c5 : ¬ sIn a np = true := by simpa [zI_0] using c5
    have hans : oKpt nd np (fa 7) (fa 8) (fa 9) a b = -1 := by rw [oKpt, if_neg c5]
    refine lv_iconst (v := (-1)) hx hb dX1_kept_8 (by decide) ?_
    exact W.iret hx hb hr (nEnd hN hS ⟨_, _, rfl, rfl, ⟨by rw [hans], rfl, rfl⟩⟩) hS.2 dX1_kept_9
set_option maxHeartbeats 4000000 in
set_option maxRecDepth 100000 in
theorem mX1_inLeastTerms (l : Launch) (G : nG) (ad : Nat → Nat) (x : nPic) (fi : Nat → Int32) (fa : Nat → Nat → Int32) (u d : Nat) (a : Int32) (hu : u < 2 ^ 30) (hd : d < 2 ^ 30) (hd0 : 0 < d) : Met l yX1_inLeastTerms (ws_ yX1_inLeastTerms cX1_inLeastTerms 11 (some .long)) (mR 0) (nPc G nCl (nK G) ad (mPic G x ad fi fa) [.long (lN u), .long (lN d), .int a]) (nQ G nCl (mP G ad x (fun rv fi' fa' => rv = some (.long (if a = 0 then lN (u / Nat.gcd u d) else lN (d / Nat.gcd u d))) ∧ fi = fi' ∧ fa = fa'))) 0 0 (fun q => G.2 ≤ q) := by
  refine nMet RX1 (by decide) rfl (Nat.le_of_ble_eq_true rfl) ?_
  intro p e s m below meth c ls SS hR hK hN hS hl
  obtain ⟨hx, hb, hml, hown, hts⟩ := id SS
  obtain ⟨hr, hlk, hnm⟩ := hR
  generalize s.heap = H at hN hS ⊢
  generalize ([] : List Loc) = locs at hS ⊢
  have hl : lv_has ls 11 [(0, .long (lN u)), (2, .long (lN d)), (4, .int a)] := hl
  refine lv_lload_n hx hb dX1_inLeastTerms_0 rfl (lv_at hl 0 rfl) ?_
  refine lv_lstore (lv' := [(5, _), (0, _), (2, _), (4, _)]) hx hb dX1_inLeastTerms_1 hl (by decide) rfl (fun ls hl => ?_)
  refine lv_lload_n hx hb dX1_inLeastTerms_3 rfl (lv_at hl 2 rfl) ?_
  refine lv_lstore (lv' := [(7, _), (5, _), (0, _), (2, _), (4, _)]) hx hb dX1_inLeastTerms_4 hl (by decide) rfl (fun ls hl => ?_)
  have loop6 : ∀ (n : Nat) (X Y : Nat) (H : Heap) (locs : List Loc) (ls : Array Slot), Y + 1 ≤ n → X < 2 ^ 30 → Y < 2 ^ 30 → 0 < X + Y → Nat.gcd X Y = Nat.gcd u d → nOk G nCl ad (mPic G x ad fi fa) H → nS G s H locs → lv_has ls 11 [(0, .long (lN u)), (2, .long (lN d)), (4, .int a), (5, .long (lN X)), (7, .long (lN Y))] → W p l e (mR 0) s m ([.long (lN u), .long (lN d), .int a] : List Value).toArray below meth c H locs 0 0 (MQ below (nQ G nCl (mP G ad x (fun rv fi' fa' => rv = some (.long (if a = 0 then lN (u / Nat.gcd u d) else lN (d / Nat.gcd u d))) ∧ fi = fi' ∧ fa = fa'))) ([.long (lN u), .long (lN d), .int a] : List Value).toArray s 0 0 (fun q => G.2 ≤ q)) (F0 m 6 ls []) := by
    intro n
    induction n with
    | zero => intro X Y H locs ls hfuel hX hY hXY hg hN hS hl; exact absurd hfuel (by omega)
    | succ n ih6 =>
      intro X Y H locs ls hfuel hX hY hXY hg hN hS hl
      refine lv_lload hx hb dX1_inLeastTerms_6 (lv_at hl 4 rfl) ?_
      refine lv_lconst (v := 0) hx hb dX1_inLeastTerms_8 (by decide) ?_
      refine W.lcmp hx hb dX1_inLeastTerms_9 ?_
      refine lv_if_eq (tgt := 31) hx hb dX1_inLeastTerms_10 (by decide) (fun c10 => ?_) (fun c10 => ?_)
      · have c10 := (lg_cmp0 _).mp c10
        have c10 : Y = 0 := (pk_lEQ (b := 0) (by omega) (by omega)).mp c10
        subst c10
        rw [Nat.gcd_zero_right] at hg
        refine lv_iload hx hb dX1_inLeastTerms_31 (lv_at hl 2 rfl) ?_
        refine lv_if_ne (tgt := 43) hx hb dX1_inLeastTerms_33 (by decide) (fun c33 => ?_) (fun c33 => ?_)
        · refine lv_lload_n hx hb dX1_inLeastTerms_43 rfl (lv_at hl 1 rfl) ?_
          refine lv_lload hx hb dX1_inLeastTerms_44 (lv_at hl 3 rfl) ?_
          refine lv_ldiv hx hb dX1_inLeastTerms_46 (fun z => by have := (pk_lEQ (b := 0) (by omega) (by omega)).mp z; omega) ?_
          refine n_topl (y := lN (d / X)) (pk_lDiv (by omega) (by omega) (by omega)) ?_
          exact W.lret hx hb hr (nEnd hN hS ⟨_, _, rfl, rfl, ⟨by rw [← hg]; simp [c33], rfl, rfl⟩⟩) hS.2 dX1_inLeastTerms_47
        · refine lv_lload_n hx hb dX1_inLeastTerms_36 rfl (lv_at hl 0 rfl) ?_
          refine lv_lload hx hb dX1_inLeastTerms_37 (lv_at hl 3 rfl) ?_
          refine lv_ldiv hx hb dX1_inLeastTerms_39 (fun z => by have := (pk_lEQ (b := 0) (by omega) (by omega)).mp z; omega) ?_
          refine n_topl (y := lN (u / X)) (pk_lDiv (by omega) (by omega) (by omega)) ?_
          refine lv_goto (tgt := 47) hx hb dX1_inLeastTerms_40 (by decide) ?_
          exact W.lret hx hb hr (nEnd hN hS ⟨_, _, rfl, rfl, ⟨by rw [← hg]; simp [c33], rfl, rfl⟩⟩) hS.2 dX1_inLeastTerms_47
      · have hY0 : 0 < Y := by rcases Nat.eq_zero_or_pos Y with q | q; { subst q; exact absurd ((lg_cmp0 _).mpr rfl) c10 }; { exact q }
        refine lv_lload hx hb dX1_inLeastTerms_13 (lv_at hl 3 rfl) ?_
        refine lv_lload hx hb dX1_inLeastTerms_15 (lv_at hl 4 rfl) ?_
        refine lv_lrem hx hb dX1_inLeastTerms_17 (fun z => by have := (pk_lEQ (b := 0) (by omega) (by omega)).mp z; omega) ?_
        refine n_topl (y := lN (X % Y)) (pk_lRem (by omega) hY0 (by omega)) ?_
        refine lv_lstore (lv' := [(9, _), (0, _), (2, _), (4, _), (5, _), (7, _)]) hx hb dX1_inLeastTerms_18 hl (by decide) rfl (fun ls hl => ?_)
        refine lv_lload hx hb dX1_inLeastTerms_20 (lv_at hl 5 rfl) ?_
        refine lv_lstore (lv' := [(5, _), (9, _), (0, _), (2, _), (4, _), (7, _)]) hx hb dX1_inLeastTerms_22 hl (by decide) rfl (fun ls hl => ?_)
        refine lv_lload hx hb dX1_inLeastTerms_24 (lv_at hl 1 rfl) ?_
        refine lv_lstore (lv' := [(7, _), (5, _), (9, _), (0, _), (2, _), (4, _)]) hx hb dX1_inLeastTerms_26 hl (by decide) rfl (fun ls hl => ?_)
        refine lv_goto (tgt := 6) hx hb dX1_inLeastTerms_28 (by decide) ?_
        exact ih6 Y (X % Y) _ _ _ (by have := Nat.mod_lt X hY0; omega) hY (by have := Nat.mod_lt X hY0; omega) (by omega) (by rw [Nat.gcd_comm Y, ← hg, Nat.gcd_comm X, ← Nat.gcd_rec Y X]) hN hS (lv_sub hl [3, 4, 5, 1, 0] (rfl))
  exact loop6 (d + 1) u d _ _ _ (by omega) hu hd (by omega) rfl hN hS (lv_sub hl [2, 3, 4, 1, 0] rfl)
set_option maxHeartbeats 4000000 in
set_option maxRecDepth 100000 in
theorem mX1_odds (l : Launch) (G : nG) (ad : Nat → Nat) (x : nPic) (fi : Nat → Int32) (fa : Nat → Nat → Int32) (a b w_ : Int32) (nd : Nat) (hnd : fi 5 = nI nd) (h6 : nd ≤ 6) (np : Nat) (hnp : fi 6 = nI np) (h4 : np ≤ 4) (hDN : ∀ p, p < np → ∃ v, v < 2 ^ nd ∧ fa 9 p = nI v) : Met l yX1_odds (ws_ yX1_odds cX1_odds 6 (some .long)) (mR 2) (nPc G nCl (nK G) ad (mPic G x ad fi fa) [.ref (ad 50), .int a, .int b, .int w_]) (nQ G nCl (mP G ad x (fun rv fi' fa' => rv = some (.long (oOds nd np (fa 7) (fa 8) (fa 9) a b w_)) ∧ fi = fi' ∧ fa = fa'))) 0 0 (fun q => G.2 ≤ q) := by
  refine nMet RX1 (by decide) rfl (Nat.le_of_ble_eq_true rfl) ?_
  intro p e s m below meth c ls SS hR hK hN hS hl
  obtain ⟨hx, hb, hml, hown, hts⟩ := id SS
  obtain ⟨hr, hlk, hnm⟩ := hR
  generalize s.heap = H at hN hS ⊢
  generalize ([] : List Loc) = locs at hS ⊢
  have hl : lv_has ls 6 [(0, .ref (ad 50)), (1, .int a), (2, .int b), (3, .int w_)] := hl
  have h64 := p2_64 h6
  refine lv_aload_n hx hb dX1_odds_0 rfl (lv_at hl 0 rfl) ?_
  refine lv_iload_n hx hb dX1_odds_1 rfl (lv_at hl 1 rfl) ?_
  refine n_callV (C := RX1) (As := [_]) (b := 50) SS (nK_o G) hK hK (mX1_isPerson l G ad x fi fa a np hnp h4) (cwV 1 hts (lw_V q1244 q1246 qs41 q61 q1247) rfl rfl rfl (by decide +kernel) ⟨Nat.le_of_ble_eq_true rfl, Nat.le_of_ble_eq_true rfl⟩) hN hS mPic_o rfl rfl hl.1 rfl (Nat.le_of_ble_eq_true rfl) dX1_odds_2 ⟨Nat.le_of_ble_eq_true rfl, Nat.le_of_ble_eq_true rfl⟩ (fun v ad' c' H locs hv hN hS => ?_)
  obtain ⟨_, _, rfl, rfl, rfl, rfl, rfl⟩ := hv
  refine W.eq (g2 := F0 m 5 ls (_ :: _)) rfl ?_
  refine lv_if_eq (tgt := 21) hx hb dX1_odds_5 (by decide) (fun c5 => ?_) (fun c5 => ?_)
  · have hno : ¬ (sIn a np = true ∧ ¬ b < 0 ∧ sBt w_ 0 1 = true) := by intro z; simp_all [zI_0]
    have hans : oOds nd np (fa 7) (fa 8) (fa 9) a b w_ = LOST := by rw [oOds, if_neg hno]
    refine lv_ldc2 hx hb hown (hts _ q1370) dX1_odds_21 ?_
    exact W.lret hx hb hr (nEnd hN hS ⟨_, _, rfl, rfl, ⟨by rw [hans]; try rfl, rfl, rfl⟩⟩) hS.2 dX1_odds_24
  · have c5 : sIn a np = true := by simpa [zI_0] using c5
    obtain ⟨pp, hpp, epp, tpp⟩ := sIn_t (by omega) c5
    have tpp : tn a = pp := tpp
    rw [epp] at hl
    refine lv_iload_n hx hb dX1_odds_8 rfl (lv_at hl 2 rfl) ?_
    refine lv_if_lt (tgt := 21) hx hb dX1_odds_9 (by decide) (fun c9 => ?_) (fun c9 => ?_)
    · have hno : ¬ (sIn a np = true ∧ ¬ b < 0 ∧ sBt w_ 0 1 = true) := fun z => z.2.1 c9
      have hans : oOds nd np (fa 7) (fa 8) (fa 9) a b w_ = LOST := by rw [oOds, if_neg hno]
      refine lv_ldc2 hx hb hown (hts _ q1370) dX1_odds_21 ?_
      exact W.lret hx hb hr (nEnd hN hS ⟨_, _, rfl, rfl, ⟨by rw [hans]; try rfl, rfl, rfl⟩⟩) hS.2 dX1_odds_24
    · refine lv_iload_n hx hb dX1_odds_12 rfl (lv_at hl 3 rfl) ?_
      refine lv_iconst (v := 0) hx hb dX1_odds_13 (by decide) ?_
      refine lv_iconst (v := 1) hx hb dX1_odds_14 (by decide) ?_
      refine n_callS (As := [_, _, _]) SS (nK_o G) hK (mX1_within l G ad x fi fa w_ 0 1) (va_cwS 3 hts (lw_S q1202 q1203 q61 q1204) rfl rfl rfl (by decide +kernel) ⟨Nat.le_of_ble_eq_true rfl, Nat.le_of_ble_eq_true rfl⟩) hN hS rfl hl.1 rfl (Nat.le_of_ble_eq_true rfl) dX1_odds_15 ⟨Nat.le_of_ble_eq_true rfl, Nat.le_of_ble_eq_true rfl⟩ (fun v ad' c' H locs hv hN hS => ?_)
      obtain ⟨_, _, rfl, rfl, rfl, rfl, rfl⟩ := hv
      refine W.eq (g2 := F0 m 18 ls (_ :: _)) rfl ?_
      refine lv_if_ne (tgt := 25) hx hb dX1_odds_18 (by decide) (fun c18 => ?_) (fun c18 => ?_)
      · have c18 := zI_n0 c18
        obtain ⟨v, hv2, ev⟩ := hDN pp hpp
        have hAll : sAll (fa 9) pp (2 ^ nd) = 2 ^ sPc v := by rw [sAll_fn, ev]; exact sAll_pc nd (by omega) v (by omega) hv2
        have hans : oOds nd np (fa 7) (fa 8) (fa 9) a b w_ = if w_ = 0 then lN (sMany (fa 7) (fa 8) (fa 9) nd pp b (2 ^ nd) / Nat.gcd (sMany (fa 7) (fa 8) (fa 9) nd pp b (2 ^ nd)) (sAll (fa 9) pp (2 ^ nd))) else lN (sAll (fa 9) pp (2 ^ nd) / Nat.gcd (sMany (fa 7) (fa 8) (fa 9) nd pp b (2 ^ nd)) (sAll (fa 9) pp (2 ^ nd))) := by rw [oOds, if_pos ⟨c5, c9, c18⟩, tpp]
        refine lv_iconst (v := (nI (sMany (fa 7) (fa 8) (fa 9) nd pp b 0))) hx hb dX1_odds_25 (rfl) ?_
        refine lv_istore (lv' := [(4, _), (0, _), (1, _), (2, _), (3, _)]) hx hb dX1_odds_26 hl (by decide) rfl (fun ls hl => ?_)
        refine lv_iconst (v := (nI 0)) hx hb dX1_odds_28 (rfl) ?_
        refine lv_istore (lv' := [(5, _), (4, _), (0, _), (1, _), (2, _), (3, _)]) hx hb dX1_odds_29 hl (by decide) rfl (fun ls hl => ?_)
        have loop31 : ∀ (n : Nat) (q : Nat) (H : Heap) (locs : List Loc) (ls : Array Slot), q ≤ 2 ^ nd → 2 ^ nd + 1 ≤ q + n → nOk G nCl ad (mPic G x ad fi fa) H → nS G s H locs → lv_has ls 6 [(0, .ref (ad 50)), (1, .int (nI pp)), (2, .int b), (3, .int w_), (4, .int (nI (sMany (fa 7) (fa 8) (fa 9) nd pp b q))), (5, .int (nI q))] → W p l e (mR 2) s m ([.ref (ad 50), .int a, .int b, .int w_] : List Value).toArray below meth c H locs 0 0 (MQ below (nQ G nCl (mP G ad x (fun rv fi' fa' => rv = some (.long (oOds nd np (fa 7) (fa 8) (fa 9) a b w_)) ∧ fi = fi' ∧ fa = fa'))) ([.ref (ad 50), .int a, .int b, .int w_] : List Value).toArray s 0 0 (fun q => G.2 ≤ q)) (F0 m 31 ls []) := by
          intro n
          induction n with
          | zero => intro q H locs ls hq hfuel hN hS hl; exact absurd hfuel (by omega)
          | succ n ih31 =>
            intro q H locs ls hq hfuel hN hS hl
            refine lv_iload hx hb dX1_odds_31 (lv_at hl 5 rfl) ?_
            refine lv_iconst (v := 1) hx hb dX1_odds_33 (by decide) ?_
            refine lv_aload_n hx hb dX1_odds_34 rfl (lv_at hl 0 rfl) ?_
            refine m_get (v := .int (nI nd)) SS hK hN 5 (by decide) q1124 rfl (by rw [← hnd]; rfl) dX1_odds_35 ?_
            refine lv_ishl hx hb dX1_odds_38 ?_
            refine n_top (y := nI (2 ^ nd)) (sPw_nI (by omega)) ?_
            refine lv_icmp_ge (tgt := 79) hx hb dX1_odds_39 (by decide) (fun c39 => ?_) (fun c39 => ?_)
            · have c39 := (nI_leI (by omega) (by omega)).mp c39
              have c39 : 2 ^ nd = q := by omega
              subst c39
              have hsz := mX1_size l G ad x fi fa v (by omega)
              rw [← ev] at hsz
              have hmle := sMany_le (fa 7) (fa 8) (fa 9) nd pp b (2 ^ nd)
              refine lv_iload hx hb dX1_odds_79 (lv_at hl 4 rfl) ?_
              refine lv_i2l (v := lN (sMany (fa 7) (fa 8) (fa 9) nd pp b (2 ^ nd))) hx hb dX1_odds_81 (nI_l (by omega)) ?_
              refine lv_lconst (v := 1) hx hb dX1_odds_82 (by decide) ?_
              refine lv_aload_n hx hb dX1_odds_83 rfl (lv_at hl 0 rfl) ?_
              refine m_get SS hK hN 9 (by decide) q1128 rfl rfl dX1_odds_84 ?_
              refine lv_iload_n hx hb dX1_odds_87 rfl (lv_at hl 1 rfl) ?_
              refine m_ald SS hK hN 9 rfl (pp) (rfl) (by show _ < (4 : Nat); omega) dX1_odds_88 ?_
              refine n_callS (As := [_]) SS (nK_o G) hK (hsz) (va_cwS 1 hts (lw_S q1323 q1324 q61 q1325) rfl rfl rfl (by decide +kernel) ⟨Nat.le_of_ble_eq_true rfl, Nat.le_of_ble_eq_true rfl⟩) hN hS rfl hl.1 rfl (Nat.le_of_ble_eq_true rfl) dX1_odds_89 ⟨Nat.le_of_ble_eq_true rfl, Nat.le_of_ble_eq_true rfl⟩ (fun v ad' c' H locs hv hN hS => ?_)
              obtain ⟨_, _, rfl, rfl, rfl, rfl, rfl⟩ := hv
              refine W.eq (g2 := F0 m 92 ls (_ :: _)) rfl ?_
              refine lv_lshl (v := lN (sAll (fa 9) pp (2 ^ nd))) hx hb dX1_odds_92 (by rw [hAll]; exact lsh_pc _ (by have := sPc_lt v (by omega); omega)) ?_
              refine lv_iload_n hx hb dX1_odds_93 rfl (lv_at hl 3 rfl) ?_
              refine n_callS (As := [_, _, _]) SS (nK_o G) hK (mX1_inLeastTerms l G ad x fi fa (sMany (fa 7) (fa 8) (fa 9) nd pp b (2 ^ nd)) (sAll (fa 9) pp (2 ^ nd)) w_ (by have := sMany_le (fa 7) (fa 8) (fa 9) nd pp b (2 ^ nd); omega) (by rw [hAll]; have := Nat.pow_le_pow_right (n := 2) (by omega) (sPc_lt v (by omega)); omega) (by rw [hAll]; exact Nat.two_pow_pos _)) (va_cwS 3 hts (lw_S q1371 q1372 q61 q1373) rfl rfl rfl (by decide +kernel) ⟨Nat.le_of_ble_eq_true rfl, Nat.le_of_ble_eq_true rfl⟩) hN hS rfl hl.1 rfl (Nat.le_of_ble_eq_true rfl) dX1_odds_94 ⟨Nat.le_of_ble_eq_true rfl, Nat.le_of_ble_eq_true rfl⟩ (fun v ad' c' H locs hv hN hS => ?_)
              obtain ⟨_, _, rfl, rfl, rfl, rfl, rfl⟩ := hv
              refine W.eq (g2 := F0 m 97 ls (_ :: _)) rfl ?_
              exact W.lret hx hb hr (nEnd hN hS ⟨_, _, rfl, rfl, ⟨by rw [hans], rfl, rfl⟩⟩) hS.2 dX1_odds_97
            · have c39 : ¬ 2 ^ nd ≤ q := fun z => c39 (nI_le z (by omega))
              refine lv_iload hx hb dX1_odds_42 (lv_at hl 4 rfl) ?_
              refine lv_aload_n hx hb dX1_odds_44 rfl (lv_at hl 0 rfl) ?_
              refine lv_iload_n hx hb dX1_odds_45 rfl (lv_at hl 1 rfl) ?_
              refine lv_iload hx hb dX1_odds_46 (lv_at hl 5 rfl) ?_
              refine n_callV (C := RX1) (As := [_, _]) (b := 50) SS (nK_o G) hK hK (mX1_isTruths l G ad x fi fa pp q (by omega)) (cwV 2 hts (lw_V q1319 q1321 qs51 q61 q1322) rfl rfl rfl (by decide +kernel) ⟨Nat.le_of_ble_eq_true rfl, Nat.le_of_ble_eq_true rfl⟩) hN hS mPic_o rfl rfl hl.1 rfl (Nat.le_of_ble_eq_true rfl) dX1_odds_48 ⟨Nat.le_of_ble_eq_true rfl, Nat.le_of_ble_eq_true rfl⟩ (fun v ad' c' H locs hv hN hS => ?_)
              obtain ⟨_, _, rfl, rfl, rfl, rfl, rfl⟩ := hv
              refine W.eq (g2 := F0 m 51 ls (_ :: _)) rfl ?_
              refine lv_if_eq (tgt := 69) hx hb dX1_odds_51 (by decide) (fun c51 => ?_) (fun c51 => ?_)
              · have c51 := zI_0.mp c51
                have hm : sMany (fa 7) (fa 8) (fa 9) nd pp b (q + 1) = sMany (fa 7) (fa 8) (fa 9) nd pp b q := by rw [sMany, if_neg (fun z => by rw [c51] at z; exact absurd z.1 (by decide))]; rfl
                refine lv_iconst (v := 0) hx hb dX1_odds_69 (by decide) ?_
                refine lv_iadd hx hb dX1_odds_70 ?_
                refine n_top (y := nI (sMany (fa 7) (fa 8) (fa 9) nd pp b (q + 1))) (by rw [hm]; first | exact nI_1 _ | exact nI_add _ 0) ?_
                refine lv_istore (lv' := [(4, _), (0, _), (1, _), (2, _), (3, _), (5, _)]) hx hb dX1_odds_71 hl (by decide) rfl (fun ls hl => ?_)
                refine lv_iinc (v := (nI (q + 1))) (lv' := [(5, _), (4, _), (0, _), (1, _), (2, _), (3, _)]) hx hb dX1_odds_73 hl (k := 5) rfl (nI_inc q) (by decide) rfl (fun ls hl => ?_)
                refine lv_goto (tgt := 31) hx hb dX1_odds_76 (by decide) ?_
                exact ih31 (q + 1) _ _ _ (by omega) (by omega) hN hS (lv_sub hl [2, 3, 4, 5, 1, 0] (rfl))
              · have c51 := zI_n0 c51
                refine lv_aload_n hx hb dX1_odds_54 rfl (lv_at hl 0 rfl) ?_
                refine lv_iload_n hx hb dX1_odds_55 rfl (lv_at hl 1 rfl) ?_
                refine lv_iload hx hb dX1_odds_56 (lv_at hl 5 rfl) ?_
                refine n_callV (C := RX1) (As := [_, _]) (b := 50) SS (nK_o G) hK hK (mX1_floorBy l G ad x fi fa pp (nI q) (by omega) nd hnd h6) (cwV 2 hts (lw_V q1248 q1250 qs42 q61 q1251) rfl rfl rfl (by decide +kernel) ⟨Nat.le_of_ble_eq_true rfl, Nat.le_of_ble_eq_true rfl⟩) hN hS mPic_o rfl rfl hl.1 rfl (Nat.le_of_ble_eq_true rfl) dX1_odds_58 ⟨Nat.le_of_ble_eq_true rfl, Nat.le_of_ble_eq_true rfl⟩ (fun v ad' c' H locs hv hN hS => ?_)
                obtain ⟨_, _, rfl, rfl, rfl, rfl, rfl⟩ := hv
                refine W.eq (g2 := F0 m 61 ls (_ :: _)) rfl ?_
                refine lv_iload_n hx hb dX1_odds_61 rfl (lv_at hl 2 rfl) ?_
                refine lv_icmp_lt (tgt := 69) hx hb dX1_odds_62 (by decide) (fun c62 => ?_) (fun c62 => ?_)
                · have hm : sMany (fa 7) (fa 8) (fa 9) nd pp b (q + 1) = sMany (fa 7) (fa 8) (fa 9) nd pp b q := by rw [sMany, if_neg (fun z => z.2 c62)]; rfl
                  refine lv_iconst (v := 0) hx hb dX1_odds_69 (by decide) ?_
                  refine lv_iadd hx hb dX1_odds_70 ?_
                  refine n_top (y := nI (sMany (fa 7) (fa 8) (fa 9) nd pp b (q + 1))) (by rw [hm]; first | exact nI_1 _ | exact nI_add _ 0) ?_
                  refine lv_istore (lv' := [(4, _), (0, _), (1, _), (2, _), (3, _), (5, _)]) hx hb dX1_odds_71 hl (by decide) rfl (fun ls hl => ?_)
                  refine lv_iinc (v := (nI (q + 1))) (lv' := [(5, _), (4, _), (0, _), (1, _), (2, _), (3, _)]) hx hb dX1_odds_73 hl (k := 5) rfl (nI_inc q) (by decide) rfl (fun ls hl => ?_)
                  refine lv_goto (tgt := 31) hx hb dX1_odds_76 (by decide) ?_
                  exact ih31 (q + 1) _ _ _ (by omega) (by omega) hN hS (lv_sub hl [2, 3, 4, 5, 1, 0] (rfl))
                · have hm : sMany (fa 7) (fa 8) (fa 9) nd pp b (q + 1) = sMany (fa 7) (fa 8) (fa 9) nd pp b q + 1 := by rw [sMany, if_pos ⟨c51, c62⟩]
                  refine lv_iconst (v := 1) hx hb dX1_odds_65 (by decide) ?_
                  refine lv_goto (tgt := 70) hx hb dX1_odds_66 (by decide) ?_
                  refine lv_iadd hx hb dX1_odds_70 ?_
                  refine n_top (y := nI (sMany (fa 7) (fa 8) (fa 9) nd pp b (q + 1))) (by rw [hm]; first | exact nI_1 _ | exact nI_add _ 0) ?_
                  refine lv_istore (lv' := [(4, _), (0, _), (1, _), (2, _), (3, _), (5, _)]) hx hb dX1_odds_71 hl (by decide) rfl (fun ls hl => ?_)
                  refine lv_iinc (v := (nI (q + 1))) (lv' := [(5, _), (4, _), (0, _), (1, _), (2, _), (3, _)]) hx hb dX1_odds_73 hl (k := 5) rfl (nI_inc q) (by decide) rfl (fun ls hl => ?_)
                  refine lv_goto (tgt := 31) hx hb dX1_odds_76 (by decide) ?_
                  exact ih31 (q + 1) _ _ _ (by omega) (by omega) hN hS (lv_sub hl [2, 3, 4, 5, 1, 0] (rfl))
        exact loop31 (2 ^ nd + 1) 0 _ _ _ (Nat.zero_le _) (by omega) hN hS (lv_sub hl [2, 3, 4, 5, 1, 0] rfl)
      · have hno : ¬ (sIn a np = true ∧ ¬ b < 0 ∧ sBt w_ 0 1 = true) := by intro z; simp_all [zI_0]
        have hans : oOds nd np (fa 7) (fa 8) (fa 9) a b w_ = LOST := by rw [oOds, if_neg hno]
        refine lv_ldc2 hx hb hown (hts _ q1370) dX1_odds_21 ?_
        exact W.lret hx hb hr (nEnd hN hS ⟨_, _, rfl, rfl, ⟨by rw [hans]; try rfl, rfl, rfl⟩⟩) hS.2 dX1_odds_24
set_option maxHeartbeats 4000000 in
set_option maxRecDepth 100000 in
theorem mX1_sheet (l : Launch) (G : nG) (ad : Nat → Nat) (x : nPic) (fi : Nat → Int32) (fa : Nat → Nat → Int32) (k sort cn : Int32) : Met l yX1_sheet (ws_ yX1_sheet cX1_sheet 5 (some .int)) (mR 2) (nPc G nCl (nK G) ad (mPic G x ad fi fa) [.ref (ad 50), .int k, .int sort, .int cn]) (nQ G nCl (mP G ad x (fun rv fi' fa' => rv = some (.int (oSht (fa 2) (fa 3) (fa 4) k sort cn).1) ∧ upd fi 0 (oSht (fa 2) (fa 3) (fa 4) k sort cn).2.1 = fi' ∧ va_up (va_up (va_up fa 2 (oSht (fa 2) (fa 3) (fa 4) k sort cn).2.2.1) 3 (oSht (fa 2) (fa 3) (fa 4) k sort cn).2.2.2.1) 4 (oSht (fa 2) (fa 3) (fa 4) k sort cn).2.2.2.2 = fa'))) 0 0 (fun q => G.2 ≤ q) := by
  refine nMet RX1 (by decide) rfl (Nat.le_of_ble_eq_true rfl) ?_
  intro p e s m below meth c ls SS hR hK hN hS hl
  obtain ⟨hx, hb, hml, hown, hts⟩ := id SS
  obtain ⟨hr, hlk, hnm⟩ := hR
  generalize s.heap = H at hN hS ⊢
  generalize ([] : List Loc) = locs at hS ⊢
  have hl : lv_has ls 5 [(0, .ref (ad 50)), (1, .int k), (2, .int sort), (3, .int cn)] := hl
  refine lv_aload_n hx hb dX1_sheet_0 rfl (lv_at hl 0 rfl) ?_
  refine lv_iconst (v := 0) hx hb dX1_sheet_1 (by decide) ?_
  refine m_put SS hK hN hS 0 (by decide) q1119 rfl rfl rfl rfl dX1_sheet_2 (fun H locs hN hS => ?_)
  refine lv_iload_n hx hb dX1_sheet_5 rfl (lv_at hl 1 rfl) ?_
  refine n_callS (As := [_]) SS (nK_o G) hK (mX1_isSheet l G ad x (upd fi 0 0) fa k) (va_cwS 1 hts (lw_S q1199 q1200 q61 q1201) rfl rfl rfl (by decide +kernel) ⟨Nat.le_of_ble_eq_true rfl, Nat.le_of_ble_eq_true rfl⟩) hN hS rfl hl.1 rfl (Nat.le_of_ble_eq_true rfl) dX1_sheet_6 ⟨Nat.le_of_ble_eq_true rfl, Nat.le_of_ble_eq_true rfl⟩ (fun v ad' c' H locs hv hN hS => ?_)
  obtain ⟨_, _, rfl, rfl, rfl, rfl, rfl⟩ := hv
  refine W.eq (g2 := F0 m 9 ls (_ :: _)) rfl ?_
  refine lv_if_ne (tgt := 14) hx hb dX1_sheet_9 (by decide) (fun c9 => ?_) (fun c9 => ?_)
  · have c9 : sBt k 0 3 = true := by simpa [zI_0] using c9
    obtain ⟨kk, hkk, ekk, tkk⟩ := sBt_t 3 (by decide) c9
    rw [ekk] at hl
    refine lv_iload_n hx hb dX1_sheet_14 rfl (lv_at hl 2 rfl) ?_
    refine n_callS (As := [_]) SS (nK_o G) hK (mX1_isSort l G ad x (upd fi 0 0) fa sort) (va_cwS 1 hts (lw_S q1205 q1206 q61 q1207) rfl rfl rfl (by decide +kernel) ⟨Nat.le_of_ble_eq_true rfl, Nat.le_of_ble_eq_true rfl⟩) hN hS rfl hl.1 rfl (Nat.le_of_ble_eq_true rfl) dX1_sheet_15 ⟨Nat.le_of_ble_eq_true rfl, Nat.le_of_ble_eq_true rfl⟩ (fun v ad' c' H locs hv hN hS => ?_)
    obtain ⟨_, _, rfl, rfl, rfl, rfl, rfl⟩ := hv
    refine W.eq (g2 := F0 m 18 ls (_ :: _)) rfl ?_
    refine lv_if_eq (tgt := 27) hx hb dX1_sheet_18 (by decide) (fun c18 => ?_) (fun c18 => ?_)
    · have hno : ¬ (sBt sort 0 2 = true ∧ ¬ 60 < cn) := by intro z; simp_all [zI_0]
      have hans : oSht (fa 2) (fa 3) (fa 4) k sort cn = (-2, 0, fa 2, fa 3, fa 4) := by rw [oSht, if_pos c9, if_neg hno]
      refine lv_bipush (v := (-2)) hx hb dX1_sheet_27 (by decide) ?_
      exact W.iret hx hb hr (nEnd hN hS ⟨_, _, rfl, rfl, ⟨by rw [hans], by rw [hans], by rw [hans]; exact va_id3 fa⟩⟩) hS.2 dX1_sheet_29
    · have c18 := zI_n0 c18
      refine lv_iload_n hx hb dX1_sheet_21 rfl (lv_at hl 3 rfl) ?_
      refine lv_bipush (v := 60) hx hb dX1_sheet_22 (by decide) ?_
      refine lv_icmp_le (tgt := 30) hx hb dX1_sheet_24 (by decide) (fun c24 => ?_) (fun c24 => ?_)
      · have c24 : ¬ 60 < cn := by simpa using c24
        refine lv_iload_n hx hb dX1_sheet_30 rfl (lv_at hl 3 rfl) ?_
        refine lv_if_ge (tgt := 40) hx hb dX1_sheet_31 (by decide) (fun c31 => ?_) (fun c31 => ?_)
        · have c31 : ¬ cn < 0 := by simpa using c31
          have hans : oSht (fa 2) (fa 3) (fa 4) k sort cn = (1, 0, upd (fa 2) kk sort, upd (fa 3) kk cn, sZr (fa 4) kk 60) := by rw [oSht, if_pos c9, if_pos ⟨c18, c24⟩, if_neg c31, tkk]; rfl
          refine lv_aload_n hx hb dX1_sheet_40 rfl (lv_at hl 0 rfl) ?_
          refine m_get SS hK hN 2 (by decide) q1121 rfl rfl dX1_sheet_41 ?_
          refine lv_iload_n hx hb dX1_sheet_44 rfl (lv_at hl 1 rfl) ?_
          refine lv_iload_n hx hb dX1_sheet_45 rfl (lv_at hl 2 rfl) ?_
          refine m_ast SS hK hN hS 2 rfl (kk) (rfl) (by show _ < (4 : Nat); omega) dX1_sheet_46 (fun H locs hN hS => ?_)
          refine lv_aload_n hx hb dX1_sheet_47 rfl (lv_at hl 0 rfl) ?_
          refine m_get SS hK hN 3 (by decide) q1122 rfl rfl dX1_sheet_48 ?_
          refine lv_iload_n hx hb dX1_sheet_51 rfl (lv_at hl 1 rfl) ?_
          refine lv_iload_n hx hb dX1_sheet_52 rfl (lv_at hl 3 rfl) ?_
          refine m_ast SS hK hN hS 3 rfl (kk) (rfl) (by show _ < (4 : Nat); omega) dX1_sheet_53 (fun H locs hN hS => ?_)
          refine lv_iconst (v := (nI 0)) hx hb dX1_sheet_54 (rfl) ?_
          refine lv_istore (lv' := [(4, _), (0, _), (1, _), (2, _), (3, _)]) hx hb dX1_sheet_55 hl (by decide) rfl (fun ls hl => ?_)
          have hN := hN.congr (c' := mPic G x ad (upd fi 0 0) (va_up (va_up (va_up fa 2 (upd (fa 2) kk sort)) 3 (upd (fa 3) kk cn)) 4 (sZr (fa 4) kk 0))) (by rw [va_up_id _ 4 (sZr (fa 4) kk 0) (by funext z; unfold sZr; rw [if_neg (by omega)]; rfl)]; rfl)
          have loop57 : ∀ (n : Nat) (j : Nat) (H : Heap) (locs : List Loc) (ls : Array Slot), j ≤ 60 → 61 ≤ j + n → nOk G nCl ad (mPic G x ad (upd fi 0 0) (va_up (va_up (va_up fa 2 (upd (fa 2) kk sort)) 3 (upd (fa 3) kk cn)) 4 (sZr (fa 4) kk j))) H → nS G s H locs → lv_has ls 5 [(0, .ref (ad 50)), (1, .int (nI kk)), (4, .int (nI j))] → W p l e (mR 2) s m ([.ref (ad 50), .int k, .int sort, .int cn] : List Value).toArray below meth c H locs 0 0 (MQ below (nQ G nCl (mP G ad x (fun rv fi' fa' => rv = some (.int (oSht (fa 2) (fa 3) (fa 4) k sort cn).1) ∧ upd fi 0 (oSht (fa 2) (fa 3) (fa 4) k sort cn).2.1 = fi' ∧ va_up (va_up (va_up fa 2 (oSht (fa 2) (fa 3) (fa 4) k sort cn).2.2.1) 3 (oSht (fa 2) (fa 3) (fa 4) k sort cn).2.2.2.1) 4 (oSht (fa 2) (fa 3) (fa 4) k sort cn).2.2.2.2 = fa'))) ([.ref (ad 50), .int k, .int sort, .int cn] : List Value).toArray s 0 0 (fun q => G.2 ≤ q)) (F0 m 57 ls []) := by
            intro n
            induction n with
            | zero => intro j H locs ls hj hfuel hN hS hl; exact absurd hfuel (by omega)
            | succ n ih57 =>
              intro j H locs ls hj hfuel hN hS hl
              refine lv_iload hx hb dX1_sheet_57 (lv_at hl 2 rfl) ?_
              refine lv_bipush (v := (nI 60)) hx hb dX1_sheet_59 (rfl) ?_
              refine lv_icmp_ge (tgt := 83) hx hb dX1_sheet_61 (by decide) (fun c61 => ?_) (fun c61 => ?_)
              · have c61 := (nI_leI (by omega) (by omega)).mp c61
                have c61 : 60 = j := by omega
                subst c61
                refine lv_iconst (v := 1) hx hb dX1_sheet_83 (by decide) ?_
                exact W.iret hx hb hr (nEnd hN hS ⟨_, _, rfl, rfl, ⟨by rw [hans], by rw [hans], by rw [hans]⟩⟩) hS.2 dX1_sheet_84
              · have c61 : ¬ 60 ≤ j := fun z => c61 (nI_le z (by omega))
                refine lv_aload_n hx hb dX1_sheet_64 rfl (lv_at hl 0 rfl) ?_
                refine m_get SS hK hN 4 (by decide) q1123 rfl rfl dX1_sheet_65 ?_
                refine lv_bipush (v := (nI 60)) hx hb dX1_sheet_68 (rfl) ?_
                refine lv_iload_n hx hb dX1_sheet_70 rfl (lv_at hl 1 rfl) ?_
                refine lv_imul hx hb dX1_sheet_71 ?_
                refine n_top (y := nI (60 * kk)) (pk_mul _ _) ?_
                refine lv_iload hx hb dX1_sheet_72 (lv_at hl 2 rfl) ?_
                refine lv_iadd hx hb dX1_sheet_74 ?_
                refine n_top (y := nI (60 * kk + j)) (nI_add _ _) ?_
                refine lv_iconst (v := 0) hx hb dX1_sheet_75 (by decide) ?_
                refine m_ast SS hK hN hS 4 rfl (60 * kk + j) (rfl) (by show _ < (240 : Nat); omega) dX1_sheet_76 (fun H locs hN hS => ?_)
                have hN := hN.congr (c' := mPic G x ad (upd fi 0 0) (va_up (va_up (va_up fa 2 (upd (fa 2) kk sort)) 3 (upd (fa 3) kk cn)) 4 (sZr (fa 4) kk (j + 1)))) (by rw [bx_uu]; congr 2; exact sZr_s (fa 4) kk j)
                refine lv_iinc (v := (nI (j + 1))) (lv' := [(4, _), (0, _), (1, _)]) hx hb dX1_sheet_77 hl (k := 2) rfl (nI_inc j) (by decide) rfl (fun ls hl => ?_)
                refine lv_goto (tgt := 57) hx hb dX1_sheet_80 (by decide) ?_
                exact ih57 (j + 1) _ _ _ (by omega) (by omega) hN hS (lv_sub hl [1, 2, 0] (rfl))
          exact loop57 61 0 _ _ _ (by omega) (by omega) hN hS (lv_sub hl [1, 2, 0] rfl)
        · have c31 : cn < 0 := by simpa using c31
          have hans : oSht (fa 2) (fa 3) (fa 4) k sort cn = (-14, 4, fa 2, fa 3, fa 4) := by rw [oSht, if_pos c9, if_pos ⟨c18, c24⟩, if_pos c31]
          refine lv_aload_n hx hb dX1_sheet_34 rfl (lv_at hl 0 rfl) ?_
          refine lv_iconst (v := 4) hx hb dX1_sheet_35 (by decide) ?_
          refine n_callV (C := RX1) (As := [_]) (b := 50) SS (nK_o G) hK hK (mX1_fails l G ad x (upd fi 0 0) fa 4) (cwV 1 hts (lw_V q1212 q1214 qs34 q61 q1215) rfl rfl rfl (by decide +kernel) ⟨Nat.le_of_ble_eq_true rfl, Nat.le_of_ble_eq_true rfl⟩) hN hS mPic_o rfl rfl hl.1 rfl (Nat.le_of_ble_eq_true rfl) dX1_sheet_36 ⟨Nat.le_of_ble_eq_true rfl, Nat.le_of_ble_eq_true rfl⟩ (fun v ad' c' H locs hv hN hS => ?_)
          obtain ⟨_, _, rfl, rfl, rfl, rfl, rfl⟩ := hv
          refine W.eq (g2 := F0 m 39 ls (_ :: _)) rfl ?_
          exact W.iret hx hb hr (nEnd hN hS ⟨_, _, rfl, rfl, ⟨by rw [hans]; try rfl, by rw [hans, upd_upd], by rw [hans]; exact va_id3 fa⟩⟩) hS.2 dX1_sheet_39
      · have hno : ¬ (sBt sort 0 2 = true ∧ ¬ 60 < cn) := fun z => z.2 (by simpa using c24)
        have hans : oSht (fa 2) (fa 3) (fa 4) k sort cn = (-2, 0, fa 2, fa 3, fa 4) := by rw [oSht, if_pos c9, if_neg hno]
        refine lv_bipush (v := (-2)) hx hb dX1_sheet_27 (by decide) ?_
        exact W.iret hx hb hr (nEnd hN hS ⟨_, _, rfl, rfl, ⟨by rw [hans], by rw [hans], by rw [hans]; exact va_id3 fa⟩⟩) hS.2 dX1_sheet_29
  · have c9 : ¬ sBt k 0 3 = true := by simpa [zI_0] using c9
    have hans : oSht (fa 2) (fa 3) (fa 4) k sort cn = (-1, 0, fa 2, fa 3, fa 4) := by rw [oSht, if_neg c9]
    refine lv_iconst (v := (-1)) hx hb dX1_sheet_12 (by decide) ?_
    exact W.iret hx hb hr (nEnd hN hS ⟨_, _, rfl, rfl, ⟨by rw [hans], by rw [hans], by rw [hans]; exact va_id3 fa⟩⟩) hS.2 dX1_sheet_13
set_option maxHeartbeats 4000000 in
set_option maxRecDepth 100000 in
theorem mX1_lose (l : Launch) (G : nG) (ad : Nat → Nat) (x : nPic) (fi : Nat → Int32) (fa : Nat → Nat → Int32) (k : Int32) : Met l yX1_lose (ws_ yX1_lose cX1_lose 3 (some .int)) (mR 2) (nPc G nCl (nK G) ad (mPic G x ad fi fa) [.ref (ad 50), .int k]) (nQ G nCl (mP G ad x (fun rv fi' fa' => rv = some (.int (oLse (fa 2) k).1) ∧ fi = fi' ∧ va_up fa 2 (oLse (fa 2) k).2 = fa'))) 0 0 (fun q => G.2 ≤ q) := by
  refine nMet RX1 (by decide) rfl (Nat.le_of_ble_eq_true rfl) ?_
  intro p e s m below meth c ls SS hR hK hN hS hl
  obtain ⟨hx, hb, hml, hown, hts⟩ := id SS
  obtain ⟨hr, hlk, hnm⟩ := hR
  generalize s.heap = H at hN hS ⊢
  generalize ([] : List Loc) = locs at hS ⊢
  have hl : lv_has ls 3 [(0, .ref (ad 50)), (1, .int k)] := hl
  refine lv_iload_n hx hb dX1_lose_0 rfl (lv_at hl 1 rfl) ?_
  refine n_callS (As := [_]) SS (nK_o G) hK (mX1_isSheet l G ad x fi fa k) (va_cwS 1 hts (lw_S q1199 q1200 q61 q1201) rfl rfl rfl (by decide +kernel) ⟨Nat.le_of_ble_eq_true rfl, Nat.le_of_ble_eq_true rfl⟩) hN hS rfl hl.1 rfl (Nat.le_of_ble_eq_true rfl) dX1_lose_1 ⟨Nat.le_of_ble_eq_true rfl, Nat.le_of_ble_eq_true rfl⟩ (fun v ad' c' H locs hv hN hS => ?_)
  obtain ⟨_, _, rfl, rfl, rfl, rfl, rfl⟩ := hv
  refine W.eq (g2 := F0 m 4 ls (_ :: _)) rfl ?_
  refine lv_if_ne (tgt := 9) hx hb dX1_lose_4 (by decide) (fun c4 => ?_) (fun c4 => ?_)
  · have c4 : sBt k 0 3 = true := by simpa [zI_0] using c4
    obtain ⟨kk, hkk, ekk, tkk⟩ := sBt_t 3 (by decide) c4
    rw [ekk] at hl
    have hans : oLse (fa 2) k = ((if fa 2 kk = -9 then 0 else 1), upd (fa 2) kk (-9)) := by rw [oLse, if_pos c4, tkk]
    refine lv_aload_n hx hb dX1_lose_9 rfl (lv_at hl 0 rfl) ?_
    refine m_get SS hK hN 2 (by decide) q1121 rfl rfl dX1_lose_10 ?_
    refine lv_iload_n hx hb dX1_lose_13 rfl (lv_at hl 1 rfl) ?_
    refine m_ald SS hK hN 2 rfl (kk) (rfl) (by show _ < (4 : Nat); omega) dX1_lose_14 ?_
    refine lv_bipush (v := (-9)) hx hb dX1_lose_15 (by decide) ?_
    refine lv_icmp_ne (tgt := 24) hx hb dX1_lose_17 (by decide) (fun c17 => ?_) (fun c17 => ?_)
    · refine lv_iconst (v := 1) hx hb dX1_lose_24 (by decide) ?_
      refine lv_istore_n (lv' := [(2, _), (0, _), (1, _)]) hx hb dX1_lose_25 rfl hl (by decide) rfl (fun ls hl => ?_)
      refine lv_aload_n hx hb dX1_lose_26 rfl (lv_at hl 1 rfl) ?_
      refine m_get SS hK hN 2 (by decide) q1121 rfl rfl dX1_lose_27 ?_
      refine lv_iload_n hx hb dX1_lose_30 rfl (lv_at hl 2 rfl) ?_
      refine lv_bipush (v := (-9)) hx hb dX1_lose_31 (by decide) ?_
      refine m_ast SS hK hN hS 2 rfl (kk) (rfl) (by show _ < (4 : Nat); omega) dX1_lose_33 (fun H locs hN hS => ?_)
      refine lv_iload_n hx hb dX1_lose_34 rfl (lv_at hl 0 rfl) ?_
      exact W.iret hx hb hr (nEnd hN hS ⟨_, _, rfl, rfl, ⟨by rw [hans]; simp [c17], rfl, by rw [hans]⟩⟩) hS.2 dX1_lose_35
    · refine lv_iconst (v := 0) hx hb dX1_lose_20 (by decide) ?_
      refine lv_goto (tgt := 25) hx hb dX1_lose_21 (by decide) ?_
      refine lv_istore_n (lv' := [(2, _), (0, _), (1, _)]) hx hb dX1_lose_25 rfl hl (by decide) rfl (fun ls hl => ?_)
      refine lv_aload_n hx hb dX1_lose_26 rfl (lv_at hl 1 rfl) ?_
      refine m_get SS hK hN 2 (by decide) q1121 rfl rfl dX1_lose_27 ?_
      refine lv_iload_n hx hb dX1_lose_30 rfl (lv_at hl 2 rfl) ?_
      refine lv_bipush (v := (-9)) hx hb dX1_lose_31 (by decide) ?_
      refine m_ast SS hK hN hS 2 rfl (kk) (rfl) (by show _ < (4 : Nat); omega) dX1_lose_33 (fun H locs hN hS => ?_)
      refine lv_iload_n hx hb dX1_lose_34 rfl (lv_at hl 0 rfl) ?_
      exact W.iret hx hb hr (nEnd hN hS ⟨_, _, rfl, rfl, ⟨by rw [hans]; simp [c17], rfl, by rw [hans]⟩⟩) hS.2 dX1_lose_35
  · have c4 : ¬ sBt k 0 3 = true := by simpa [zI_0] using c4
    refine lv_iconst (v := (-1)) hx hb dX1_lose_7 (by decide) ?_
    exact W.iret hx hb hr (nEnd hN hS ⟨_, _, rfl, rfl, ⟨by rw [oLse, if_neg c4], rfl, by rw [oLse, if_neg c4]; rw [va_up_id _ 2 _ rfl]⟩⟩) hS.2 dX1_lose_8
set_option maxHeartbeats 4000000 in
set_option maxRecDepth 100000 in
theorem mX1_put (l : Launch) (G : nG) (ad : Nat → Nat) (x : nPic) (fi : Nat → Int32) (fa : Nat → Nat → Int32) (k i v : Int32) (hSL : ∀ k, k < 4 → ¬ fa 2 k = -9 → ∃ L, L ≤ 60 ∧ fa 3 k = nI L) : Met l yX1_put (ws_ yX1_put cX1_put 4 (some .int)) (mR 2) (nPc G nCl (nK G) ad (mPic G x ad fi fa) [.ref (ad 50), .int k, .int i, .int v]) (nQ G nCl (mP G ad x (fun rv fi' fa' => rv = some (.int (oPut (fa 2) (fa 3) (fa 4) k i v).1) ∧ upd fi 0 (oPut (fa 2) (fa 3) (fa 4) k i v).2.1 = fi' ∧ va_up fa 4 (oPut (fa 2) (fa 3) (fa 4) k i v).2.2 = fa'))) 0 0 (fun q => G.2 ≤ q) := by
  refine nMet RX1 (by decide) rfl (Nat.le_of_ble_eq_true rfl) ?_
  intro p e s m below meth c ls SS hR hK hN hS hl
  obtain ⟨hx, hb, hml, hown, hts⟩ := id SS
  obtain ⟨hr, hlk, hnm⟩ := hR
  generalize s.heap = H at hN hS ⊢
  generalize ([] : List Loc) = locs at hS ⊢
  have hl : lv_has ls 4 [(0, .ref (ad 50)), (1, .int k), (2, .int i), (3, .int v)] := hl
  refine lv_aload_n hx hb dX1_put_0 rfl (lv_at hl 0 rfl) ?_
  refine lv_iconst (v := 0) hx hb dX1_put_1 (by decide) ?_
  refine m_put SS hK hN hS 0 (by decide) q1119 rfl rfl rfl rfl dX1_put_2 (fun H locs hN hS => ?_)
  refine lv_iload_n hx hb dX1_put_5 rfl (lv_at hl 1 rfl) ?_
  refine n_callS (As := [_]) SS (nK_o G) hK (mX1_isSheet l G ad x (upd fi 0 0) fa k) (va_cwS 1 hts (lw_S q1199 q1200 q61 q1201) rfl rfl rfl (by decide +kernel) ⟨Nat.le_of_ble_eq_true rfl, Nat.le_of_ble_eq_true rfl⟩) hN hS rfl hl.1 rfl (Nat.le_of_ble_eq_true rfl) dX1_put_6 ⟨Nat.le_of_ble_eq_true rfl, Nat.le_of_ble_eq_true rfl⟩ (fun v ad' c' H locs hv hN hS => ?_)
  obtain ⟨_, _, rfl, rfl, rfl, rfl, rfl⟩ := hv
  refine W.eq (g2 := F0 m 9 ls (_ :: _)) rfl ?_
  refine lv_if_ne (tgt := 14) hx hb dX1_put_9 (by decide) (fun c9 => ?_) (fun c9 => ?_)
  · have c9 : sBt k 0 3 = true := by simpa [zI_0] using c9
    obtain ⟨kk, hkk, ekk, tkk⟩ := sBt_t 3 (by decide) c9
    rw [ekk] at hl
    refine lv_aload_n hx hb dX1_put_14 rfl (lv_at hl 0 rfl) ?_
    refine m_get SS hK hN 2 (by decide) q1121 rfl rfl dX1_put_15 ?_
    refine lv_iload_n hx hb dX1_put_18 rfl (lv_at hl 1 rfl) ?_
    refine m_ald SS hK hN 2 rfl (kk) (rfl) (by show _ < (4 : Nat); omega) dX1_put_19 ?_
    refine lv_bipush (v := (-9)) hx hb dX1_put_20 (by decide) ?_
    refine lv_icmp_ne (tgt := 31) hx hb dX1_put_22 (by decide) (fun c22 => ?_) (fun c22 => ?_)
    · refine lv_iload_n hx hb dX1_put_31 rfl (lv_at hl 2 rfl) ?_
      refine lv_iconst (v := 0) hx hb dX1_put_32 (by decide) ?_
      refine lv_aload_n hx hb dX1_put_33 rfl (lv_at hl 0 rfl) ?_
      refine m_get SS hK hN 3 (by decide) q1122 rfl rfl dX1_put_34 ?_
      refine lv_iload_n hx hb dX1_put_37 rfl (lv_at hl 1 rfl) ?_
      refine m_ald SS hK hN 3 rfl (kk) (rfl) (by show _ < (4 : Nat); omega) dX1_put_38 ?_
      refine lv_iconst (v := 1) hx hb dX1_put_39 (by decide) ?_
      refine lv_isub hx hb dX1_put_40 ?_
      refine n_callS (As := [_, _, _]) SS (nK_o G) hK (mX1_within l G ad x (upd fi 0 0) fa i 0 (fa 3 kk - 1)) (va_cwS 3 hts (lw_S q1202 q1203 q61 q1204) rfl rfl rfl (by decide +kernel) ⟨Nat.le_of_ble_eq_true rfl, Nat.le_of_ble_eq_true rfl⟩) hN hS rfl hl.1 rfl (Nat.le_of_ble_eq_true rfl) dX1_put_41 ⟨Nat.le_of_ble_eq_true rfl, Nat.le_of_ble_eq_true rfl⟩ (fun v ad' c' H locs hv hN hS => ?_)
      obtain ⟨_, _, rfl, rfl, rfl, rfl, rfl⟩ := hv
      refine W.eq (g2 := F0 m 44 ls (_ :: _)) rfl ?_
      refine lv_if_ne (tgt := 53) hx hb dX1_put_44 (by decide) (fun c44 => ?_) (fun c44 => ?_)
      · have c44 := zI_n0 c44
        have c44s := c44
        obtain ⟨L, hL6, hL⟩ := hSL kk (by omega) c22
        rw [hL, sBt_in (by omega)] at c44s
        obtain ⟨ii, hii, ei, ti⟩ := sIn_t (by omega) c44s
        have ti : tn i = ii := ti
        rw [ei] at hl
        have hans : oPut (fa 2) (fa 3) (fa 4) k i v = (1, 0, upd (fa 4) (60 * kk + ii) (sNar (fa 2 kk) v)) := by rw [oPut, if_pos c9, tkk, if_neg c22, if_pos c44, ti]
        refine lv_aload_n hx hb dX1_put_53 rfl (lv_at hl 0 rfl) ?_
        refine m_get SS hK hN 4 (by decide) q1123 rfl rfl dX1_put_54 ?_
        refine lv_bipush (v := (nI 60)) hx hb dX1_put_57 (rfl) ?_
        refine lv_iload_n hx hb dX1_put_59 rfl (lv_at hl 1 rfl) ?_
        refine lv_imul hx hb dX1_put_60 ?_
        refine n_top (y := nI (60 * kk)) (pk_mul _ _) ?_
        refine lv_iload_n hx hb dX1_put_61 rfl (lv_at hl 2 rfl) ?_
        refine lv_iadd hx hb dX1_put_62 ?_
        refine n_top (y := nI (60 * kk + ii)) (nI_add _ _) ?_
        refine lv_aload_n hx hb dX1_put_63 rfl (lv_at hl 0 rfl) ?_
        refine m_get SS hK hN 2 (by decide) q1121 rfl rfl dX1_put_64 ?_
        refine lv_iload_n hx hb dX1_put_67 rfl (lv_at hl 1 rfl) ?_
        refine m_ald SS hK hN 2 rfl (kk) (rfl) (by show _ < (4 : Nat); omega) dX1_put_68 ?_
        refine lv_if_ne (tgt := 77) hx hb dX1_put_69 (by decide) (fun c69 => ?_) (fun c69 => ?_)
        · refine lv_aload_n hx hb dX1_put_77 rfl (lv_at hl 0 rfl) ?_
          refine m_get SS hK hN 2 (by decide) q1121 rfl rfl dX1_put_78 ?_
          refine lv_iload_n hx hb dX1_put_81 rfl (lv_at hl 1 rfl) ?_
          refine m_ald SS hK hN 2 rfl (kk) (rfl) (by show _ < (4 : Nat); omega) dX1_put_82 ?_
          refine lv_iconst (v := 1) hx hb dX1_put_83 (by decide) ?_
          refine lv_icmp_ne (tgt := 92) hx hb dX1_put_84 (by decide) (fun c84 => ?_) (fun c84 => ?_)
          · refine lv_iload_n hx hb dX1_put_92 rfl (lv_at hl 3 rfl) ?_
            refine m_ast SS hK hN hS 4 rfl (60 * kk + ii) (rfl) (by show _ < (240 : Nat); omega) dX1_put_93 (fun H locs hN hS => ?_)
            refine lv_iconst (v := 1) hx hb dX1_put_94 (by decide) ?_
            exact W.iret hx hb hr (nEnd hN hS ⟨_, _, rfl, rfl, ⟨by rw [hans], by rw [hans], by rw [hans]; try rw [sNar, if_neg c69, if_neg c84]⟩⟩) hS.2 dX1_put_95
          · refine lv_iload_n hx hb dX1_put_87 rfl (lv_at hl 3 rfl) ?_
            refine lv_i2s hx hb dX1_put_88 rfl ?_
            refine n_top (y := sNar (fa 2 kk) v) (by rw [sNar, if_neg c69, if_pos c84]) ?_
            refine lv_goto (tgt := 93) hx hb dX1_put_89 (by decide) ?_
            refine m_ast SS hK hN hS 4 rfl (60 * kk + ii) (rfl) (by show _ < (240 : Nat); omega) dX1_put_93 (fun H locs hN hS => ?_)
            refine lv_iconst (v := 1) hx hb dX1_put_94 (by decide) ?_
            exact W.iret hx hb hr (nEnd hN hS ⟨_, _, rfl, rfl, ⟨by rw [hans], by rw [hans], by rw [hans]; try rw [sNar, if_neg c69, if_neg c84]⟩⟩) hS.2 dX1_put_95
        · refine lv_iload_n hx hb dX1_put_72 rfl (lv_at hl 3 rfl) ?_
          refine lv_i2b hx hb dX1_put_73 rfl ?_
          refine n_top (y := sNar (fa 2 kk) v) (by rw [sNar, if_pos c69]) ?_
          refine lv_goto (tgt := 93) hx hb dX1_put_74 (by decide) ?_
          refine m_ast SS hK hN hS 4 rfl (60 * kk + ii) (rfl) (by show _ < (240 : Nat); omega) dX1_put_93 (fun H locs hN hS => ?_)
          refine lv_iconst (v := 1) hx hb dX1_put_94 (by decide) ?_
          exact W.iret hx hb hr (nEnd hN hS ⟨_, _, rfl, rfl, ⟨by rw [hans], by rw [hans], by rw [hans]; try rw [sNar, if_neg c69, if_neg c84]⟩⟩) hS.2 dX1_put_95
      · have c44 := zI_0.mp c44
        have hans : oPut (fa 2) (fa 3) (fa 4) k i v = (-13, 3, fa 4) := by rw [oPut, if_pos c9, tkk, if_neg c22, if_neg (by rw [c44]; decide)]
        refine lv_aload_n hx hb dX1_put_47 rfl (lv_at hl 0 rfl) ?_
        refine lv_iconst (v := 3) hx hb dX1_put_48 (by decide) ?_
        refine n_callV (C := RX1) (As := [_]) (b := 50) SS (nK_o G) hK hK (mX1_fails l G ad x (upd fi 0 0) fa 3) (cwV 1 hts (lw_V q1212 q1214 qs34 q61 q1215) rfl rfl rfl (by decide +kernel) ⟨Nat.le_of_ble_eq_true rfl, Nat.le_of_ble_eq_true rfl⟩) hN hS mPic_o rfl rfl hl.1 rfl (Nat.le_of_ble_eq_true rfl) dX1_put_49 ⟨Nat.le_of_ble_eq_true rfl, Nat.le_of_ble_eq_true rfl⟩ (fun v ad' c' H locs hv hN hS => ?_)
        obtain ⟨_, _, rfl, rfl, rfl, rfl, rfl⟩ := hv
        refine W.eq (g2 := F0 m 52 ls (_ :: _)) rfl ?_
        exact W.iret hx hb hr (nEnd hN hS ⟨_, _, rfl, rfl, ⟨by rw [hans]; try rfl, by rw [hans, upd_upd], by rw [hans]; rw [va_up_id _ 4 _ rfl]⟩⟩) hS.2 dX1_put_52
    · have hans : oPut (fa 2) (fa 3) (fa 4) k i v = (-11, 1, fa 4) := by rw [oPut, if_pos c9, tkk, if_pos c22]
      refine lv_aload_n hx hb dX1_put_25 rfl (lv_at hl 0 rfl) ?_
      refine lv_iconst (v := 1) hx hb dX1_put_26 (by decide) ?_
      refine n_callV (C := RX1) (As := [_]) (b := 50) SS (nK_o G) hK hK (mX1_fails l G ad x (upd fi 0 0) fa 1) (cwV 1 hts (lw_V q1212 q1214 qs34 q61 q1215) rfl rfl rfl (by decide +kernel) ⟨Nat.le_of_ble_eq_true rfl, Nat.le_of_ble_eq_true rfl⟩) hN hS mPic_o rfl rfl hl.1 rfl (Nat.le_of_ble_eq_true rfl) dX1_put_27 ⟨Nat.le_of_ble_eq_true rfl, Nat.le_of_ble_eq_true rfl⟩ (fun v ad' c' H locs hv hN hS => ?_)
      obtain ⟨_, _, rfl, rfl, rfl, rfl, rfl⟩ := hv
      refine W.eq (g2 := F0 m 30 ls (_ :: _)) rfl ?_
      exact W.iret hx hb hr (nEnd hN hS ⟨_, _, rfl, rfl, ⟨by rw [hans]; try rfl, by rw [hans, upd_upd], by rw [hans]; rw [va_up_id _ 4 _ rfl]⟩⟩) hS.2 dX1_put_30
  · have c9 : ¬ sBt k 0 3 = true := by simpa [zI_0] using c9
    have hans : oPut (fa 2) (fa 3) (fa 4) k i v = (-1, 0, fa 4) := by rw [oPut, if_neg c9]
    refine lv_iconst (v := (-1)) hx hb dX1_put_12 (by decide) ?_
    exact W.iret hx hb hr (nEnd hN hS ⟨_, _, rfl, rfl, ⟨by rw [hans], by rw [hans], by rw [hans]; rw [va_up_id _ 4 _ rfl]⟩⟩) hS.2 dX1_put_13
set_option maxHeartbeats 4000000 in
set_option maxRecDepth 100000 in
theorem mX1_cell (l : Launch) (G : nG) (ad : Nat → Nat) (x : nPic) (fi : Nat → Int32) (fa : Nat → Nat → Int32) (k i sort : Int32) (hSL : ∀ k, k < 4 → ¬ fa 2 k = -9 → ∃ L, L ≤ 60 ∧ fa 3 k = nI L) : Met l yX1_cell (ws_ yX1_cell cX1_cell 4 (some .long)) (mR 2) (nPc G nCl (nK G) ad (mPic G x ad fi fa) [.ref (ad 50), .int k, .int i, .int sort]) (nQ G nCl (mP G ad x (fun rv fi' fa' => rv = some (.long (oCel (fa 2) (fa 3) (fa 4) k i sort).1) ∧ upd fi 0 (oCel (fa 2) (fa 3) (fa 4) k i sort).2 = fi' ∧ fa = fa'))) 0 0 (fun q => G.2 ≤ q) := by
  refine nMet RX1 (by decide) rfl (Nat.le_of_ble_eq_true rfl) ?_
  intro p e s m below meth c ls SS hR hK hN hS hl
  obtain ⟨hx, hb, hml, hown, hts⟩ := id SS
  obtain ⟨hr, hlk, hnm⟩ := hR
  generalize s.heap = H at hN hS ⊢
  generalize ([] : List Loc) = locs at hS ⊢
  have hl : lv_has ls 4 [(0, .ref (ad 50)), (1, .int k), (2, .int i), (3, .int sort)] := hl
  refine lv_aload_n hx hb dX1_cell_0 rfl (lv_at hl 0 rfl) ?_
  refine lv_iconst (v := 0) hx hb dX1_cell_1 (by decide) ?_
  refine m_put SS hK hN hS 0 (by decide) q1119 rfl rfl rfl rfl dX1_cell_2 (fun H locs hN hS => ?_)
  refine lv_iload_n hx hb dX1_cell_5 rfl (lv_at hl 1 rfl) ?_
  refine n_callS (As := [_]) SS (nK_o G) hK (mX1_isSheet l G ad x (upd fi 0 0) fa k) (va_cwS 1 hts (lw_S q1199 q1200 q61 q1201) rfl rfl rfl (by decide +kernel) ⟨Nat.le_of_ble_eq_true rfl, Nat.le_of_ble_eq_true rfl⟩) hN hS rfl hl.1 rfl (Nat.le_of_ble_eq_true rfl) dX1_cell_6 ⟨Nat.le_of_ble_eq_true rfl, Nat.le_of_ble_eq_true rfl⟩ (fun v ad' c' H locs hv hN hS => ?_)
  obtain ⟨_, _, rfl, rfl, rfl, rfl, rfl⟩ := hv
  refine W.eq (g2 := F0 m 9 ls (_ :: _)) rfl ?_
  refine lv_if_eq (tgt := 19) hx hb dX1_cell_9 (by decide) (fun c9 => ?_) (fun c9 => ?_)
  · have hno : ¬ (sBt k 0 3 = true ∧ sBt sort 0 2 = true) := by intro z; simp_all [zI_0]
    have hans : oCel (fa 2) (fa 3) (fa 4) k i sort = (LOST, 0) := by rw [oCel, if_neg hno]
    refine lv_ldc2 hx hb hown (hts _ q1370) dX1_cell_19 ?_
    exact W.lret hx hb hr (nEnd hN hS ⟨_, _, rfl, rfl, ⟨by rw [hans]; try rfl, by rw [hans], rfl⟩⟩) hS.2 dX1_cell_22
  · have c9 : sBt k 0 3 = true := by simpa [zI_0] using c9
    obtain ⟨kk, hkk, ekk, tkk⟩ := sBt_t 3 (by decide) c9
    rw [ekk] at hl
    refine lv_iload_n hx hb dX1_cell_12 rfl (lv_at hl 3 rfl) ?_
    refine n_callS (As := [_]) SS (nK_o G) hK (mX1_isSort l G ad x (upd fi 0 0) fa sort) (va_cwS 1 hts (lw_S q1205 q1206 q61 q1207) rfl rfl rfl (by decide +kernel) ⟨Nat.le_of_ble_eq_true rfl, Nat.le_of_ble_eq_true rfl⟩) hN hS rfl hl.1 rfl (Nat.le_of_ble_eq_true rfl) dX1_cell_13 ⟨Nat.le_of_ble_eq_true rfl, Nat.le_of_ble_eq_true rfl⟩ (fun v ad' c' H locs hv hN hS => ?_)
    obtain ⟨_, _, rfl, rfl, rfl, rfl, rfl⟩ := hv
    refine W.eq (g2 := F0 m 16 ls (_ :: _)) rfl ?_
    refine lv_if_ne (tgt := 23) hx hb dX1_cell_16 (by decide) (fun c16 => ?_) (fun c16 => ?_)
    · have c16 := zI_n0 c16
      refine lv_aload_n hx hb dX1_cell_23 rfl (lv_at hl 0 rfl) ?_
      refine m_get SS hK hN 2 (by decide) q1121 rfl rfl dX1_cell_24 ?_
      refine lv_iload_n hx hb dX1_cell_27 rfl (lv_at hl 1 rfl) ?_
      refine m_ald SS hK hN 2 rfl (kk) (rfl) (by show _ < (4 : Nat); omega) dX1_cell_28 ?_
      refine lv_bipush (v := (-9)) hx hb dX1_cell_29 (by decide) ?_
      refine lv_icmp_eq (tgt := 50) hx hb dX1_cell_31 (by decide) (fun c31 => ?_) (fun c31 => ?_)
      · have hsk : fa 2 kk = -9 ∨ fa 2 kk = sort := Or.inl c31
        refine lv_aload_n hx hb dX1_cell_50 rfl (lv_at hl 0 rfl) ?_
        refine m_get SS hK hN 2 (by decide) q1121 rfl rfl dX1_cell_51 ?_
        refine lv_iload_n hx hb dX1_cell_54 rfl (lv_at hl 1 rfl) ?_
        refine m_ald SS hK hN 2 rfl (kk) (rfl) (by show _ < (4 : Nat); omega) dX1_cell_55 ?_
        refine lv_bipush (v := (-9)) hx hb dX1_cell_56 (by decide) ?_
        refine lv_icmp_ne (tgt := 67) hx hb dX1_cell_58 (by decide) (fun c58 => ?_) (fun c58 => ?_)
        · refine lv_iload_n hx hb dX1_cell_67 rfl (lv_at hl 2 rfl) ?_
          refine lv_iconst (v := 0) hx hb dX1_cell_68 (by decide) ?_
          refine lv_aload_n hx hb dX1_cell_69 rfl (lv_at hl 0 rfl) ?_
          refine m_get SS hK hN 3 (by decide) q1122 rfl rfl dX1_cell_70 ?_
          refine lv_iload_n hx hb dX1_cell_73 rfl (lv_at hl 1 rfl) ?_
          refine m_ald SS hK hN 3 rfl (kk) (rfl) (by show _ < (4 : Nat); omega) dX1_cell_74 ?_
          refine lv_iconst (v := 1) hx hb dX1_cell_75 (by decide) ?_
          refine lv_isub hx hb dX1_cell_76 ?_
          refine n_callS (As := [_, _, _]) SS (nK_o G) hK (mX1_within l G ad x (upd fi 0 0) fa i 0 (fa 3 kk - 1)) (va_cwS 3 hts (lw_S q1202 q1203 q61 q1204) rfl rfl rfl (by decide +kernel) ⟨Nat.le_of_ble_eq_true rfl, Nat.le_of_ble_eq_true rfl⟩) hN hS rfl hl.1 rfl (Nat.le_of_ble_eq_true rfl) dX1_cell_77 ⟨Nat.le_of_ble_eq_true rfl, Nat.le_of_ble_eq_true rfl⟩ (fun v ad' c' H locs hv hN hS => ?_)
          obtain ⟨_, _, rfl, rfl, rfl, rfl, rfl⟩ := hv
          refine W.eq (g2 := F0 m 80 ls (_ :: _)) rfl ?_
          refine lv_if_ne (tgt := 89) hx hb dX1_cell_80 (by decide) (fun c80 => ?_) (fun c80 => ?_)
          · have c80 := zI_n0 c80
            have c80s := c80
            obtain ⟨L, hL6, hL⟩ := hSL kk (by omega) c58
            rw [hL, sBt_in (by omega)] at c80s
            obtain ⟨ii, hii, ei, ti⟩ := sIn_t (by omega) c80s
            have ti : tn i = ii := ti
            rw [ei] at hl
            have hans : oCel (fa 2) (fa 3) (fa 4) k i sort = ((fa 4 (60 * kk + ii)).toInt64, 0) := by rw [oCel, if_pos ⟨c9, c16⟩, tkk, if_neg (fun z => by rcases hsk with q | q; { exact z.1 q }; { exact z.2 q }), if_neg c58, if_pos c80, ti]
            refine lv_aload_n hx hb dX1_cell_89 rfl (lv_at hl 0 rfl) ?_
            refine m_get SS hK hN 4 (by decide) q1123 rfl rfl dX1_cell_90 ?_
            refine lv_bipush (v := (nI 60)) hx hb dX1_cell_93 (rfl) ?_
            refine lv_iload_n hx hb dX1_cell_95 rfl (lv_at hl 1 rfl) ?_
            refine lv_imul hx hb dX1_cell_96 ?_
            refine n_top (y := nI (60 * kk)) (pk_mul _ _) ?_
            refine lv_iload_n hx hb dX1_cell_97 rfl (lv_at hl 2 rfl) ?_
            refine lv_iadd hx hb dX1_cell_98 ?_
            refine n_top (y := nI (60 * kk + ii)) (nI_add _ _) ?_
            refine m_ald SS hK hN 4 rfl (60 * kk + ii) (rfl) (by show _ < (240 : Nat); omega) dX1_cell_99 ?_
            refine lv_i2l hx hb dX1_cell_100 rfl ?_
            exact W.lret hx hb hr (nEnd hN hS ⟨_, _, rfl, rfl, ⟨by rw [hans], by rw [hans], rfl⟩⟩) hS.2 dX1_cell_101
          · have c80 := zI_0.mp c80
            have hans : oCel (fa 2) (fa 3) (fa 4) k i sort = (LOST, 3) := by rw [oCel, if_pos ⟨c9, c16⟩, tkk, if_neg (fun z => by simp_all), if_neg c58, if_neg (by rw [c80]; decide)]
            refine lv_aload_n hx hb dX1_cell_83 rfl (lv_at hl 0 rfl) ?_
            refine lv_iconst (v := 3) hx hb dX1_cell_84 (by decide) ?_
            refine n_callV (C := RX1) (As := [_]) (b := 50) SS (nK_o G) hK hK (mX1_lost l G ad x (upd fi 0 0) fa 3) (cwV 1 hts (lw_V q1390 q1392 qs54 q61 q1393) rfl rfl rfl (by decide +kernel) ⟨Nat.le_of_ble_eq_true rfl, Nat.le_of_ble_eq_true rfl⟩) hN hS mPic_o rfl rfl hl.1 rfl (Nat.le_of_ble_eq_true rfl) dX1_cell_85 ⟨Nat.le_of_ble_eq_true rfl, Nat.le_of_ble_eq_true rfl⟩ (fun v ad' c' H locs hv hN hS => ?_)
            obtain ⟨_, _, rfl, rfl, rfl, rfl, rfl⟩ := hv
            refine W.eq (g2 := F0 m 88 ls (_ :: _)) rfl ?_
            exact W.lret hx hb hr (nEnd hN hS ⟨_, _, rfl, rfl, ⟨by rw [hans]; try rfl, by rw [hans, upd_upd], rfl⟩⟩) hS.2 dX1_cell_88
        · have hans : oCel (fa 2) (fa 3) (fa 4) k i sort = (LOST, 1) := by rw [oCel, if_pos ⟨c9, c16⟩, tkk, if_neg (fun z => z.1 c58), if_pos c58]
          refine lv_aload_n hx hb dX1_cell_61 rfl (lv_at hl 0 rfl) ?_
          refine lv_iconst (v := 1) hx hb dX1_cell_62 (by decide) ?_
          refine n_callV (C := RX1) (As := [_]) (b := 50) SS (nK_o G) hK hK (mX1_lost l G ad x (upd fi 0 0) fa 1) (cwV 1 hts (lw_V q1390 q1392 qs54 q61 q1393) rfl rfl rfl (by decide +kernel) ⟨Nat.le_of_ble_eq_true rfl, Nat.le_of_ble_eq_true rfl⟩) hN hS mPic_o rfl rfl hl.1 rfl (Nat.le_of_ble_eq_true rfl) dX1_cell_63 ⟨Nat.le_of_ble_eq_true rfl, Nat.le_of_ble_eq_true rfl⟩ (fun v ad' c' H locs hv hN hS => ?_)
          obtain ⟨_, _, rfl, rfl, rfl, rfl, rfl⟩ := hv
          refine W.eq (g2 := F0 m 66 ls (_ :: _)) rfl ?_
          exact W.lret hx hb hr (nEnd hN hS ⟨_, _, rfl, rfl, ⟨by rw [hans]; try rfl, by rw [hans, upd_upd], rfl⟩⟩) hS.2 dX1_cell_66
      · refine lv_aload_n hx hb dX1_cell_34 rfl (lv_at hl 0 rfl) ?_
        refine m_get SS hK hN 2 (by decide) q1121 rfl rfl dX1_cell_35 ?_
        refine lv_iload_n hx hb dX1_cell_38 rfl (lv_at hl 1 rfl) ?_
        refine m_ald SS hK hN 2 rfl (kk) (rfl) (by show _ < (4 : Nat); omega) dX1_cell_39 ?_
        refine lv_iload_n hx hb dX1_cell_40 rfl (lv_at hl 3 rfl) ?_
        refine lv_icmp_eq (tgt := 50) hx hb dX1_cell_41 (by decide) (fun c41 => ?_) (fun c41 => ?_)
        · have hsk : fa 2 kk = -9 ∨ fa 2 kk = sort := Or.inr c41
          refine lv_aload_n hx hb dX1_cell_50 rfl (lv_at hl 0 rfl) ?_
          refine m_get SS hK hN 2 (by decide) q1121 rfl rfl dX1_cell_51 ?_
          refine lv_iload_n hx hb dX1_cell_54 rfl (lv_at hl 1 rfl) ?_
          refine m_ald SS hK hN 2 rfl (kk) (rfl) (by show _ < (4 : Nat); omega) dX1_cell_55 ?_
          refine lv_bipush (v := (-9)) hx hb dX1_cell_56 (by decide) ?_
          refine lv_icmp_ne (tgt := 67) hx hb dX1_cell_58 (by decide) (fun c58 => ?_) (fun c58 => ?_)
          · refine lv_iload_n hx hb dX1_cell_67 rfl (lv_at hl 2 rfl) ?_
            refine lv_iconst (v := 0) hx hb dX1_cell_68 (by decide) ?_
            refine lv_aload_n hx hb dX1_cell_69 rfl (lv_at hl 0 rfl) ?_
            refine m_get SS hK hN 3 (by decide) q1122 rfl rfl dX1_cell_70 ?_
            refine lv_iload_n hx hb dX1_cell_73 rfl (lv_at hl 1 rfl) ?_
            refine m_ald SS hK hN 3 rfl (kk) (rfl) (by show _ < (4 : Nat); omega) dX1_cell_74 ?_
            refine lv_iconst (v := 1) hx hb dX1_cell_75 (by decide) ?_
            refine lv_isub hx hb dX1_cell_76 ?_
            refine n_callS (As := [_, _, _]) SS (nK_o G) hK (mX1_within l G ad x (upd fi 0 0) fa i 0 (fa 3 kk - 1)) (va_cwS 3 hts (lw_S q1202 q1203 q61 q1204) rfl rfl rfl (by decide +kernel) ⟨Nat.le_of_ble_eq_true rfl, Nat.le_of_ble_eq_true rfl⟩) hN hS rfl hl.1 rfl (Nat.le_of_ble_eq_true rfl) dX1_cell_77 ⟨Nat.le_of_ble_eq_true rfl, Nat.le_of_ble_eq_true rfl⟩ (fun v ad' c' H locs hv hN hS => ?_)
            obtain ⟨_, _, rfl, rfl, rfl, rfl, rfl⟩ := hv
            refine W.eq (g2 := F0 m 80 ls (_ :: _)) rfl ?_
            refine lv_if_ne (tgt := 89) hx hb dX1_cell_80 (by decide) (fun c80 => ?_) (fun c80 => ?_)
            · have c80 := zI_n0 c80
              have c80s := c80
              obtain ⟨L, hL6, hL⟩ := hSL kk (by omega) c58
              rw [hL, sBt_in (by omega)] at c80s
              obtain ⟨ii, hii, ei, ti⟩ := sIn_t (by omega) c80s
              have ti : tn i = ii := ti
              rw [ei] at hl
              have hans : oCel (fa 2) (fa 3) (fa 4) k i sort = ((fa 4 (60 * kk + ii)).toInt64, 0) := by rw [oCel, if_pos ⟨c9, c16⟩, tkk, if_neg (fun z => by rcases hsk with q | q; { exact z.1 q }; { exact z.2 q }), if_neg c58, if_pos c80, ti]
              refine lv_aload_n hx hb dX1_cell_89 rfl (lv_at hl 0 rfl) ?_
              refine m_get SS hK hN 4 (by decide) q1123 rfl rfl dX1_cell_90 ?_
              refine lv_bipush (v := (nI 60)) hx hb dX1_cell_93 (rfl) ?_
              refine lv_iload_n hx hb dX1_cell_95 rfl (lv_at hl 1 rfl) ?_
              refine lv_imul hx hb dX1_cell_96 ?_
              refine n_top (y := nI (60 * kk)) (pk_mul _ _) ?_
              refine lv_iload_n hx hb dX1_cell_97 rfl (lv_at hl 2 rfl) ?_
              refine lv_iadd hx hb dX1_cell_98 ?_
              refine n_top (y := nI (60 * kk + ii)) (nI_add _ _) ?_
              refine m_ald SS hK hN 4 rfl (60 * kk + ii) (rfl) (by show _ < (240 : Nat); omega) dX1_cell_99 ?_
              refine lv_i2l hx hb dX1_cell_100 rfl ?_
              exact W.lret hx hb hr (nEnd hN hS ⟨_, _, rfl, rfl, ⟨by rw [hans], by rw [hans], rfl⟩⟩) hS.2 dX1_cell_101
            · have c80 := zI_0.mp c80
              have hans : oCel (fa 2) (fa 3) (fa 4) k i sort = (LOST, 3) := by rw [oCel, if_pos ⟨c9, c16⟩, tkk, if_neg (fun z => by simp_all), if_neg c58, if_neg (by rw [c80]; decide)]
              refine lv_aload_n hx hb dX1_cell_83 rfl (lv_at hl 0 rfl) ?_
              refine lv_iconst (v := 3) hx hb dX1_cell_84 (by decide) ?_
              refine n_callV (C := RX1) (As := [_]) (b := 50) SS (nK_o G) hK hK (mX1_lost l G ad x (upd fi 0 0) fa 3) (cwV 1 hts (lw_V q1390 q1392 qs54 q61 q1393) rfl rfl rfl (by decide +kernel) ⟨Nat.le_of_ble_eq_true rfl, Nat.le_of_ble_eq_true rfl⟩) hN hS mPic_o rfl rfl hl.1 rfl (Nat.le_of_ble_eq_true rfl) dX1_cell_85 ⟨Nat.le_of_ble_eq_true rfl, Nat.le_of_ble_eq_true rfl⟩ (fun v ad' c' H locs hv hN hS => ?_)
              obtain ⟨_, _, rfl, rfl, rfl, rfl, rfl⟩ := hv
              refine W.eq (g2 := F0 m 88 ls (_ :: _)) rfl ?_
              exact W.lret hx hb hr (nEnd hN hS ⟨_, _, rfl, rfl, ⟨by rw [hans]; try rfl, by rw [hans, upd_upd], rfl⟩⟩) hS.2 dX1_cell_88
          · have hans : oCel (fa 2) (fa 3) (fa 4) k i sort = (LOST, 1) := by rw [oCel, if_pos ⟨c9, c16⟩, tkk, if_neg (fun z => z.1 c58), if_pos c58]
            refine lv_aload_n hx hb dX1_cell_61 rfl (lv_at hl 0 rfl) ?_
            refine lv_iconst (v := 1) hx hb dX1_cell_62 (by decide) ?_
            refine n_callV (C := RX1) (As := [_]) (b := 50) SS (nK_o G) hK hK (mX1_lost l G ad x (upd fi 0 0) fa 1) (cwV 1 hts (lw_V q1390 q1392 qs54 q61 q1393) rfl rfl rfl (by decide +kernel) ⟨Nat.le_of_ble_eq_true rfl, Nat.le_of_ble_eq_true rfl⟩) hN hS mPic_o rfl rfl hl.1 rfl (Nat.le_of_ble_eq_true rfl) dX1_cell_63 ⟨Nat.le_of_ble_eq_true rfl, Nat.le_of_ble_eq_true rfl⟩ (fun v ad' c' H locs hv hN hS => ?_)
            obtain ⟨_, _, rfl, rfl, rfl, rfl, rfl⟩ := hv
            refine W.eq (g2 := F0 m 66 ls (_ :: _)) rfl ?_
            exact W.lret hx hb hr (nEnd hN hS ⟨_, _, rfl, rfl, ⟨by rw [hans]; try rfl, by rw [hans, upd_upd], rfl⟩⟩) hS.2 dX1_cell_66
        · have hans : oCel (fa 2) (fa 3) (fa 4) k i sort = (LOST, 2) := by rw [oCel, if_pos ⟨c9, c16⟩, tkk, if_pos ⟨c31, c41⟩]
          refine lv_aload_n hx hb dX1_cell_44 rfl (lv_at hl 0 rfl) ?_
          refine lv_iconst (v := 2) hx hb dX1_cell_45 (by decide) ?_
          refine n_callV (C := RX1) (As := [_]) (b := 50) SS (nK_o G) hK hK (mX1_lost l G ad x (upd fi 0 0) fa 2) (cwV 1 hts (lw_V q1390 q1392 qs54 q61 q1393) rfl rfl rfl (by decide +kernel) ⟨Nat.le_of_ble_eq_true rfl, Nat.le_of_ble_eq_true rfl⟩) hN hS mPic_o rfl rfl hl.1 rfl (Nat.le_of_ble_eq_true rfl) dX1_cell_46 ⟨Nat.le_of_ble_eq_true rfl, Nat.le_of_ble_eq_true rfl⟩ (fun v ad' c' H locs hv hN hS => ?_)
          obtain ⟨_, _, rfl, rfl, rfl, rfl, rfl⟩ := hv
          refine W.eq (g2 := F0 m 49 ls (_ :: _)) rfl ?_
          exact W.lret hx hb hr (nEnd hN hS ⟨_, _, rfl, rfl, ⟨by rw [hans]; try rfl, by rw [hans, upd_upd], rfl⟩⟩) hS.2 dX1_cell_49
    · have hno : ¬ (sBt k 0 3 = true ∧ sBt sort 0 2 = true) := by intro z; simp_all [zI_0]
      have hans : oCel (fa 2) (fa 3) (fa 4) k i sort = (LOST, 0) := by rw [oCel, if_neg hno]
      refine lv_ldc2 hx hb hown (hts _ q1370) dX1_cell_19 ?_
      exact W.lret hx hb hr (nEnd hN hS ⟨_, _, rfl, rfl, ⟨by rw [hans]; try rfl, by rw [hans], rfl⟩⟩) hS.2 dX1_cell_22
set_option maxHeartbeats 4000000 in
set_option maxRecDepth 100000 in
theorem mX1_copy (l : Launch) (G : nG) (ad : Nat → Nat) (x : nPic) (fi : Nat → Int32) (fa : Nat → Nat → Int32) (k i o_ j cn : Int32) (hSL : ∀ k, k < 4 → ¬ fa 2 k = -9 → ∃ L, L ≤ 60 ∧ fa 3 k = nI L) : Met l yX1_copy (ws_ yX1_copy cX1_copy 10 (some .int)) (mR 2) (nPc G nCl (nK G) ad (mPic G x ad fi fa) [.ref (ad 50), .int k, .int i, .int o_, .int j, .int cn]) (nQ G nCl (mP G ad x (fun rv fi' fa' => rv = some (.int (oCpy (fa 2) (fa 3) (fa 4) k i o_ j cn).1) ∧ upd fi 0 (oCpy (fa 2) (fa 3) (fa 4) k i o_ j cn).2.1 = fi' ∧ va_up fa 4 (oCpy (fa 2) (fa 3) (fa 4) k i o_ j cn).2.2 = fa'))) 0 0 (fun q => G.2 ≤ q) := by
  refine nMet RX1 (by decide) rfl (Nat.le_of_ble_eq_true rfl) ?_
  intro p e s m below meth c ls SS hR hK hN hS hl
  obtain ⟨hx, hb, hml, hown, hts⟩ := id SS
  obtain ⟨hr, hlk, hnm⟩ := hR
  generalize s.heap = H at hN hS ⊢
  generalize ([] : List Loc) = locs at hS ⊢
  have hl : lv_has ls 10 [(0, .ref (ad 50)), (1, .int k), (2, .int i), (3, .int o_), (4, .int j), (5, .int cn)] := hl
  refine lv_aload_n hx hb dX1_copy_0 rfl (lv_at hl 0 rfl) ?_
  refine lv_iconst (v := 0) hx hb dX1_copy_1 (by decide) ?_
  refine m_put SS hK hN hS 0 (by decide) q1119 rfl rfl rfl rfl dX1_copy_2 (fun H locs hN hS => ?_)
  refine lv_iload_n hx hb dX1_copy_5 rfl (lv_at hl 1 rfl) ?_
  refine n_callS (As := [_]) SS (nK_o G) hK (mX1_isSheet l G ad x (upd fi 0 0) fa k) (va_cwS 1 hts (lw_S q1199 q1200 q61 q1201) rfl rfl rfl (by decide +kernel) ⟨Nat.le_of_ble_eq_true rfl, Nat.le_of_ble_eq_true rfl⟩) hN hS rfl hl.1 rfl (Nat.le_of_ble_eq_true rfl) dX1_copy_6 ⟨Nat.le_of_ble_eq_true rfl, Nat.le_of_ble_eq_true rfl⟩ (fun v ad' c' H locs hv hN hS => ?_)
  obtain ⟨_, _, rfl, rfl, rfl, rfl, rfl⟩ := hv
  refine W.eq (g2 := F0 m 9 ls (_ :: _)) rfl ?_
  refine lv_if_eq (tgt := 19) hx hb dX1_copy_9 (by decide) (fun c9 => ?_) (fun c9 => ?_)
  · have hno : ¬ (sBt k 0 3 = true ∧ sBt o_ 0 3 = true) := by intro z; simp_all [zI_0]
    have hans : oCpy (fa 2) (fa 3) (fa 4) k i o_ j cn = (-1, 0, fa 4) := by rw [oCpy, if_neg hno]
    refine lv_iconst (v := (-1)) hx hb dX1_copy_19 (by decide) ?_
    exact W.iret hx hb hr (nEnd hN hS ⟨_, _, rfl, rfl, ⟨by rw [hans], by rw [hans], by rw [hans]; rw [va_up_id _ 4 _ rfl]⟩⟩) hS.2 dX1_copy_20
  · have c9 : sBt k 0 3 = true := by simpa [zI_0] using c9
    obtain ⟨kk, hkk, ekk, tkk⟩ := sBt_t 3 (by decide) c9
    rw [ekk] at hl
    refine lv_iload_n hx hb dX1_copy_12 rfl (lv_at hl 3 rfl) ?_
    refine n_callS (As := [_]) SS (nK_o G) hK (mX1_isSheet l G ad x (upd fi 0 0) fa o_) (va_cwS 1 hts (lw_S q1199 q1200 q61 q1201) rfl rfl rfl (by decide +kernel) ⟨Nat.le_of_ble_eq_true rfl, Nat.le_of_ble_eq_true rfl⟩) hN hS rfl hl.1 rfl (Nat.le_of_ble_eq_true rfl) dX1_copy_13 ⟨Nat.le_of_ble_eq_true rfl, Nat.le_of_ble_eq_true rfl⟩ (fun v ad' c' H locs hv hN hS => ?_)
    obtain ⟨_, _, rfl, rfl, rfl, rfl, rfl⟩ := hv
    refine W.eq (g2 := F0 m 16 ls (_ :: _)) rfl ?_
    refine lv_if_ne (tgt := 21) hx hb dX1_copy_16 (by decide) (fun c16 => ?_) (fun c16 => ?_)
    · have c16 : sBt o_ 0 3 = true := by simpa [zI_0] using c16
      obtain ⟨oo, hoo, eoo, too⟩ := sBt_t 3 (by decide) c16
      rw [eoo] at hl
      refine lv_aload_n hx hb dX1_copy_21 rfl (lv_at hl 0 rfl) ?_
      refine m_get SS hK hN 2 (by decide) q1121 rfl rfl dX1_copy_22 ?_
      refine lv_iload_n hx hb dX1_copy_25 rfl (lv_at hl 1 rfl) ?_
      refine m_ald SS hK hN 2 rfl (kk) (rfl) (by show _ < (4 : Nat); omega) dX1_copy_26 ?_
      refine lv_bipush (v := (-9)) hx hb dX1_copy_27 (by decide) ?_
      refine lv_icmp_eq (tgt := 43) hx hb dX1_copy_29 (by decide) (fun c29 => ?_) (fun c29 => ?_)
      · have hnn : fa 2 kk = -9 ∨ fa 2 oo = -9 := Or.inl c29
        have hans : oCpy (fa 2) (fa 3) (fa 4) k i o_ j cn = (-11, 1, fa 4) := by rw [oCpy, if_pos ⟨c9, c16⟩, tkk, too, if_pos hnn]
        refine lv_aload_n hx hb dX1_copy_43 rfl (lv_at hl 0 rfl) ?_
        refine lv_iconst (v := 1) hx hb dX1_copy_44 (by decide) ?_
        refine n_callV (C := RX1) (As := [_]) (b := 50) SS (nK_o G) hK hK (mX1_fails l G ad x (upd fi 0 0) fa 1) (cwV 1 hts (lw_V q1212 q1214 qs34 q61 q1215) rfl rfl rfl (by decide +kernel) ⟨Nat.le_of_ble_eq_true rfl, Nat.le_of_ble_eq_true rfl⟩) hN hS mPic_o rfl rfl hl.1 rfl (Nat.le_of_ble_eq_true rfl) dX1_copy_45 ⟨Nat.le_of_ble_eq_true rfl, Nat.le_of_ble_eq_true rfl⟩ (fun v ad' c' H locs hv hN hS => ?_)
        obtain ⟨_, _, rfl, rfl, rfl, rfl, rfl⟩ := hv
        refine W.eq (g2 := F0 m 48 ls (_ :: _)) rfl ?_
        exact W.iret hx hb hr (nEnd hN hS ⟨_, _, rfl, rfl, ⟨by rw [hans]; try rfl, by rw [hans, upd_upd], by rw [hans]; rw [va_up_id _ 4 _ rfl]⟩⟩) hS.2 dX1_copy_48
      · refine lv_aload_n hx hb dX1_copy_32 rfl (lv_at hl 0 rfl) ?_
        refine m_get SS hK hN 2 (by decide) q1121 rfl rfl dX1_copy_33 ?_
        refine lv_iload_n hx hb dX1_copy_36 rfl (lv_at hl 3 rfl) ?_
        refine m_ald SS hK hN 2 rfl (oo) (rfl) (by show _ < (4 : Nat); omega) dX1_copy_37 ?_
        refine lv_bipush (v := (-9)) hx hb dX1_copy_38 (by decide) ?_
        refine lv_icmp_ne (tgt := 49) hx hb dX1_copy_40 (by decide) (fun c40 => ?_) (fun c40 => ?_)
        · refine lv_aload_n hx hb dX1_copy_49 rfl (lv_at hl 0 rfl) ?_
          refine m_get SS hK hN 2 (by decide) q1121 rfl rfl dX1_copy_50 ?_
          refine lv_iload_n hx hb dX1_copy_53 rfl (lv_at hl 1 rfl) ?_
          refine m_ald SS hK hN 2 rfl (kk) (rfl) (by show _ < (4 : Nat); omega) dX1_copy_54 ?_
          refine lv_aload_n hx hb dX1_copy_55 rfl (lv_at hl 0 rfl) ?_
          refine m_get SS hK hN 2 (by decide) q1121 rfl rfl dX1_copy_56 ?_
          refine lv_iload_n hx hb dX1_copy_59 rfl (lv_at hl 3 rfl) ?_
          refine m_ald SS hK hN 2 rfl (oo) (rfl) (by show _ < (4 : Nat); omega) dX1_copy_60 ?_
          refine lv_icmp_eq (tgt := 70) hx hb dX1_copy_61 (by decide) (fun c61 => ?_) (fun c61 => ?_)
          · have j110 : ∀ (b : Bool), b = (!decide (i < 0) && !decide (j < 0) && !decide (cn < 0) && !decide (fa 3 kk < i) && !decide (fa 3 oo < j)) → W p l e (mR 2) s m ([.ref (ad 50), .int k, .int i, .int o_, .int j, .int cn] : List Value).toArray below meth c H locs 0 0 (MQ below (nQ G nCl (mP G ad x (fun rv fi' fa' => rv = some (.int (oCpy (fa 2) (fa 3) (fa 4) k i o_ j cn).1) ∧ upd fi 0 (oCpy (fa 2) (fa 3) (fa 4) k i o_ j cn).2.1 = fi' ∧ va_up fa 4 (oCpy (fa 2) (fa 3) (fa 4) k i o_ j cn).2.2 = fa'))) ([.ref (ad 50), .int k, .int i, .int o_, .int j, .int cn] : List Value).toArray s 0 0 (fun q => G.2 ≤ q)) (F0 m 110 ls [.int (zI b)]) := by
              intro b hbb
              refine lv_istore (lv' := [(6, _), (0, _), (1, _), (2, _), (3, _), (4, _), (5, _)]) hx hb dX1_copy_110 hl (by decide) rfl (fun ls hl => ?_)
              refine lv_iload hx hb dX1_copy_112 (lv_at hl 0 rfl) ?_
              refine lv_if_eq (tgt := 144) hx hb dX1_copy_114 (by decide) (fun c114 => ?_) (fun c114 => ?_)
              · have c114 := zI_0.mp c114
                have hth : sThr (fa 3) kk oo i j cn = false := by unfold sThr; rw [← hbb, c114]; rfl
                have hans : oCpy (fa 2) (fa 3) (fa 4) k i o_ j cn = (-13, 3, fa 4) := by rw [oCpy, if_pos ⟨c9, c16⟩, tkk, too, if_neg (by simp_all), if_neg (fun z => z c61), if_neg (by rw [hth]; decide)]
                refine lv_aload_n hx hb dX1_copy_144 rfl (lv_at hl 1 rfl) ?_
                refine lv_iconst (v := 3) hx hb dX1_copy_145 (by decide) ?_
                refine n_callV (C := RX1) (As := [_]) (b := 50) SS (nK_o G) hK hK (mX1_fails l G ad x (upd fi 0 0) fa 3) (cwV 1 hts (lw_V q1212 q1214 qs34 q61 q1215) rfl rfl rfl (by decide +kernel) ⟨Nat.le_of_ble_eq_true rfl, Nat.le_of_ble_eq_true rfl⟩) hN hS mPic_o rfl rfl hl.1 rfl (Nat.le_of_ble_eq_true rfl) dX1_copy_146 ⟨Nat.le_of_ble_eq_true rfl, Nat.le_of_ble_eq_true rfl⟩ (fun v ad' c' H locs hv hN hS => ?_)
                obtain ⟨_, _, rfl, rfl, rfl, rfl, rfl⟩ := hv
                refine W.eq (g2 := F0 m 149 ls (_ :: _)) rfl ?_
                exact W.iret hx hb hr (nEnd hN hS ⟨_, _, rfl, rfl, ⟨by rw [hans]; try rfl, by rw [hans, upd_upd], by rw [hans]; rw [va_up_id _ 4 _ rfl]⟩⟩) hS.2 dX1_copy_149
              · have c114 := zI_n0 c114
                rw [hbb] at c114
                simp only [Bool.and_eq_true, Bool.not_eq_true', decide_eq_false_iff_not] at c114
                refine lv_iload hx hb dX1_copy_117 (lv_at hl 6 rfl) ?_
                refine lv_aload_n hx hb dX1_copy_119 rfl (lv_at hl 1 rfl) ?_
                refine m_get SS hK hN 3 (by decide) q1122 rfl rfl dX1_copy_120 ?_
                refine lv_iload_n hx hb dX1_copy_123 rfl (lv_at hl 2 rfl) ?_
                refine m_ald SS hK hN 3 rfl (kk) (rfl) (by show _ < (4 : Nat); omega) dX1_copy_124 ?_
                refine lv_iload_n hx hb dX1_copy_125 rfl (lv_at hl 3 rfl) ?_
                refine lv_isub hx hb dX1_copy_126 ?_
                refine lv_icmp_gt (tgt := 144) hx hb dX1_copy_127 (by decide) (fun c127 => ?_) (fun c127 => ?_)
                · have hth : sThr (fa 3) kk oo i j cn = false := by unfold sThr; rw [decide_eq_true (show fa 3 kk - i < cn from c127), Bool.not_true, Bool.and_false, Bool.false_and]
                  have hans : oCpy (fa 2) (fa 3) (fa 4) k i o_ j cn = (-13, 3, fa 4) := by rw [oCpy, if_pos ⟨c9, c16⟩, tkk, too, if_neg (by simp_all), if_neg (fun z => z c61), if_neg (by rw [hth]; decide)]
                  refine lv_aload_n hx hb dX1_copy_144 rfl (lv_at hl 1 rfl) ?_
                  refine lv_iconst (v := 3) hx hb dX1_copy_145 (by decide) ?_
                  refine n_callV (C := RX1) (As := [_]) (b := 50) SS (nK_o G) hK hK (mX1_fails l G ad x (upd fi 0 0) fa 3) (cwV 1 hts (lw_V q1212 q1214 qs34 q61 q1215) rfl rfl rfl (by decide +kernel) ⟨Nat.le_of_ble_eq_true rfl, Nat.le_of_ble_eq_true rfl⟩) hN hS mPic_o rfl rfl hl.1 rfl (Nat.le_of_ble_eq_true rfl) dX1_copy_146 ⟨Nat.le_of_ble_eq_true rfl, Nat.le_of_ble_eq_true rfl⟩ (fun v ad' c' H locs hv hN hS => ?_)
                  obtain ⟨_, _, rfl, rfl, rfl, rfl, rfl⟩ := hv
                  refine W.eq (g2 := F0 m 149 ls (_ :: _)) rfl ?_
                  exact W.iret hx hb hr (nEnd hN hS ⟨_, _, rfl, rfl, ⟨by rw [hans]; try rfl, by rw [hans, upd_upd], by rw [hans]; rw [va_up_id _ 4 _ rfl]⟩⟩) hS.2 dX1_copy_149
                · have c127 : ¬ fa 3 kk - i < cn := c127
                  refine lv_iload hx hb dX1_copy_130 (lv_at hl 6 rfl) ?_
                  refine lv_aload_n hx hb dX1_copy_132 rfl (lv_at hl 1 rfl) ?_
                  refine m_get SS hK hN 3 (by decide) q1122 rfl rfl dX1_copy_133 ?_
                  refine lv_iload_n hx hb dX1_copy_136 rfl (lv_at hl 4 rfl) ?_
                  refine m_ald SS hK hN 3 rfl (oo) (rfl) (by show _ < (4 : Nat); omega) dX1_copy_137 ?_
                  refine lv_iload hx hb dX1_copy_138 (lv_at hl 5 rfl) ?_
                  refine lv_isub hx hb dX1_copy_140 ?_
                  refine lv_icmp_le (tgt := 150) hx hb dX1_copy_141 (by decide) (fun c141 => ?_) (fun c141 => ?_)
                  · have c141 : ¬ fa 3 oo - j < cn := by simpa using c141
                    have hth : sThr (fa 3) kk oo i j cn = true := by unfold sThr; rw [← hbb]; simp only [decide_eq_false c127, decide_eq_false c141, Bool.not_false, Bool.and_true]; rw [hbb]; simp only [Bool.and_eq_true, Bool.not_eq_true', decide_eq_false_iff_not]; exact c114
                    obtain ⟨L, hL6, hL⟩ := hSL kk (by omega) c29
                    obtain ⟨M, hM6, hM⟩ := hSL oo (by omega) c40
                    obtain ⟨ii, hii, ei⟩ := nI_of c114.1.1.1.1
                    obtain ⟨jj, hjj, ej⟩ := nI_of c114.1.1.1.2
                    obtain ⟨cc_, hcc, ec⟩ := nI_of c114.1.1.2
                    have g1 : ii ≤ L := by rcases Nat.lt_or_ge L ii with z | z; { exact absurd (by rw [hL, ei]; exact nI_lt z hii) c114.1.2 }; { exact z }
                    have g2 : jj ≤ M := by rcases Nat.lt_or_ge M jj with z | z; { exact absurd (by rw [hM, ej]; exact nI_lt z hjj) c114.2 }; { exact z }
                    rw [hL, ei, ec, pk_sub g1] at c127
                    rw [hM, ej, ec, pk_sub g2] at c141
                    have g3 : cc_ ≤ L - ii := by rcases Nat.lt_or_ge (L - ii) cc_ with z | z; { exact absurd (nI_lt z hcc) c127 }; { exact z }
                    have g4 : cc_ ≤ M - jj := by rcases Nat.lt_or_ge (M - jj) cc_ with z | z; { exact absurd (nI_lt z hcc) c141 }; { exact z }
                    rw [ei, ej, ec] at hl
                    have hans : oCpy (fa 2) (fa 3) (fa 4) k i o_ j cn = (cn, 0, sCpy (fa 4) (60 * kk + ii) (60 * oo + jj) cc_) := by rw [oCpy, if_pos ⟨c9, c16⟩, tkk, too, if_neg (by simp_all), if_neg (fun z => z c61), if_pos hth, ei, ej, ec, tn_nI hii, tn_nI hjj, tn_nI hcc]
                    refine lv_iload_n hx hb dX1_copy_150 rfl (lv_at hl 3 rfl) ?_
                    refine lv_iload hx hb dX1_copy_151 (lv_at hl 5 rfl) ?_
                    refine lv_icmp_ge (tgt := 160) hx hb dX1_copy_153 (by decide) (fun c153 => ?_) (fun c153 => ?_)
                    · have c153 := (nI_leI hjj hii).mp c153
                      refine lv_iconst (v := 0) hx hb dX1_copy_160 (by decide) ?_
                      refine lv_istore (lv' := [(7, _), (6, _), (0, _), (1, _), (2, _), (3, _), (4, _), (5, _)]) hx hb dX1_copy_161 hl (by decide) rfl (fun ls hl => ?_)
                      refine lv_iconst (v := (nI 0)) hx hb dX1_copy_163 (rfl) ?_
                      refine lv_istore (lv' := [(8, _), (7, _), (6, _), (0, _), (1, _), (2, _), (3, _), (4, _), (5, _)]) hx hb dX1_copy_164 hl (by decide) rfl (fun ls hl => ?_)
                      have hN := hN.congr (c' := mPic G x ad (upd fi 0 0) (va_up fa 4 (sCpy (fa 4) (60 * kk + ii) (60 * oo + jj) 0))) (by rw [sCpy_0, va_up_id _ 4 _ rfl])
                      have loop166 : ∀ (n : Nat) (q : Nat) (H : Heap) (locs : List Loc) (ls : Array Slot), q ≤ cc_ → cc_ + 1 ≤ q + n → nOk G nCl ad (mPic G x ad (upd fi 0 0) (va_up fa 4 (sCpy (fa 4) (60 * kk + ii) (60 * oo + jj) q))) H → nS G s H locs → lv_has ls 10 [(0, .ref (ad 50)), (1, .int (nI kk)), (2, .int (nI ii)), (3, .int (nI oo)), (4, .int (nI jj)), (5, .int (nI cc_)), (7, .int 0), (8, .int (nI q))] → W p l e (mR 2) s m ([.ref (ad 50), .int k, .int i, .int o_, .int j, .int cn] : List Value).toArray below meth c H locs 0 0 (MQ below (nQ G nCl (mP G ad x (fun rv fi' fa' => rv = some (.int (oCpy (fa 2) (fa 3) (fa 4) k i o_ j cn).1) ∧ upd fi 0 (oCpy (fa 2) (fa 3) (fa 4) k i o_ j cn).2.1 = fi' ∧ va_up fa 4 (oCpy (fa 2) (fa 3) (fa 4) k i o_ j cn).2.2 = fa'))) ([.ref (ad 50), .int k, .int i, .int o_, .int j, .int cn] : List Value).toArray s 0 0 (fun q => G.2 ≤ q)) (F0 m 166 ls []) := by
                        intro n
                        induction n with
                        | zero => intro q H locs ls hq hfuel hN hS hl; exact absurd hfuel (by omega)
                        | succ n ih166 =>
                          intro q H locs ls hq hfuel hN hS hl
                          refine lv_iload hx hb dX1_copy_166 (lv_at hl 7 rfl) ?_
                          refine lv_iload hx hb dX1_copy_168 (lv_at hl 5 rfl) ?_
                          refine lv_icmp_ge (tgt := 227) hx hb dX1_copy_170 (by decide) (fun c170 => ?_) (fun c170 => ?_)
                          · have c170 := (nI_leI (by omega) (by omega)).mp c170
                            have c170 : cc_ = q := by omega
                            subst c170
                            refine lv_iload hx hb dX1_copy_227 (lv_at hl 5 rfl) ?_
                            exact W.iret hx hb hr (nEnd hN hS ⟨_, _, rfl, rfl, ⟨by rw [hans, ec], by rw [hans], by rw [hans]⟩⟩) hS.2 dX1_copy_229
                          · have c170 : ¬ cc_ ≤ q := fun z => c170 (nI_le z (by omega))
                            refine lv_iload hx hb dX1_copy_173 (lv_at hl 6 rfl) ?_
                            refine lv_if_eq (tgt := 188) hx hb dX1_copy_175 (by decide) (fun c175 => ?_) (fun c175 => absurd c175 (fun z => z rfl))
                            refine lv_iload hx hb dX1_copy_188 (lv_at hl 7 rfl) ?_
                            refine lv_istore (lv' := [(9, _), (0, _), (1, _), (2, _), (3, _), (4, _), (5, _), (7, _), (8, _)]) hx hb dX1_copy_190 hl (by decide) rfl (fun ls hl => ?_)
                            refine lv_aload_n hx hb dX1_copy_192 rfl (lv_at hl 1 rfl) ?_
                            refine m_get SS hK hN 4 (by decide) q1123 rfl rfl dX1_copy_193 ?_
                            refine lv_bipush (v := (nI 60)) hx hb dX1_copy_196 (rfl) ?_
                            refine lv_iload_n hx hb dX1_copy_198 rfl (lv_at hl 4 rfl) ?_
                            refine lv_imul hx hb dX1_copy_199 ?_
                            refine n_top (y := nI (60 * oo)) (pk_mul _ _) ?_
                            refine lv_iload hx hb dX1_copy_200 (lv_at hl 5 rfl) ?_
                            refine lv_iadd hx hb dX1_copy_202 ?_
                            refine n_top (y := nI (60 * oo + jj)) (nI_add _ _) ?_
                            refine lv_iload hx hb dX1_copy_203 (lv_at hl 0 rfl) ?_
                            refine lv_iadd hx hb dX1_copy_205 ?_
                            refine n_top (y := nI (60 * oo + jj + q)) (nI_add _ _) ?_
                            refine lv_aload_n hx hb dX1_copy_206 rfl (lv_at hl 1 rfl) ?_
                            refine m_get SS hK hN 4 (by decide) q1123 rfl rfl dX1_copy_207 ?_
                            refine lv_bipush (v := (nI 60)) hx hb dX1_copy_210 (rfl) ?_
                            refine lv_iload_n hx hb dX1_copy_212 rfl (lv_at hl 2 rfl) ?_
                            refine lv_imul hx hb dX1_copy_213 ?_
                            refine n_top (y := nI (60 * kk)) (pk_mul _ _) ?_
                            refine lv_iload_n hx hb dX1_copy_214 rfl (lv_at hl 3 rfl) ?_
                            refine lv_iadd hx hb dX1_copy_215 ?_
                            refine n_top (y := nI (60 * kk + ii)) (nI_add _ _) ?_
                            refine lv_iload hx hb dX1_copy_216 (lv_at hl 0 rfl) ?_
                            refine lv_iadd hx hb dX1_copy_218 ?_
                            refine n_top (y := nI (60 * kk + ii + q)) (nI_add _ _) ?_
                            refine m_ald SS hK hN 4 rfl (60 * kk + ii + q) (rfl) (by show _ < (240 : Nat); omega) dX1_copy_219 ?_
                            refine m_ast SS hK hN hS 4 rfl (60 * oo + jj + q) (rfl) (by show _ < (240 : Nat); omega) dX1_copy_220 (fun H locs hN hS => ?_)
                            have hN := hN.congr (c' := mPic G x ad (upd fi 0 0) (va_up fa 4 (sCpy (fa 4) (60 * kk + ii) (60 * oo + jj) (q + 1)))) (by rw [bx_uu]; congr 2; exact sCpy_s (by omega))
                            refine lv_iinc (v := (nI (q + 1))) (lv' := [(8, _), (9, _), (0, _), (1, _), (2, _), (3, _), (4, _), (5, _), (7, _)]) hx hb dX1_copy_221 hl (k := 8) rfl (nI_inc q) (by decide) rfl (fun ls hl => ?_)
                            refine lv_goto (tgt := 166) hx hb dX1_copy_224 (by decide) ?_
                            exact ih166 (q + 1) _ _ _ (by omega) (by omega) hN hS (lv_sub hl [2, 3, 4, 5, 6, 7, 8, 0] (rfl))
                      exact loop166 (cc_ + 1) 0 _ _ _ (by omega) (by omega) hN hS (lv_sub hl [3, 4, 5, 6, 7, 8, 1, 0] rfl)
                    · have c153 : ii < jj := by rcases Nat.lt_or_ge ii jj with z | z; { exact z }; { exact absurd (nI_le z hii) c153 }
                      refine lv_iconst (v := 1) hx hb dX1_copy_156 (by decide) ?_
                      refine lv_goto (tgt := 161) hx hb dX1_copy_157 (by decide) ?_
                      refine lv_istore (lv' := [(7, _), (6, _), (0, _), (1, _), (2, _), (3, _), (4, _), (5, _)]) hx hb dX1_copy_161 hl (by decide) rfl (fun ls hl => ?_)
                      refine lv_iconst (v := (nI 0)) hx hb dX1_copy_163 (rfl) ?_
                      refine lv_istore (lv' := [(8, _), (7, _), (6, _), (0, _), (1, _), (2, _), (3, _), (4, _), (5, _)]) hx hb dX1_copy_164 hl (by decide) rfl (fun ls hl => ?_)
                      have hN := hN.congr (c' := mPic G x ad (upd fi 0 0) (va_up fa 4 (sCpyD (fa 4) (60 * kk + ii) (60 * oo + jj) cc_ 0))) (by rw [sCpyD_0, va_up_id _ 4 _ rfl])
                      have loop166 : ∀ (n : Nat) (q : Nat) (H : Heap) (locs : List Loc) (ls : Array Slot), q ≤ cc_ → cc_ + 1 ≤ q + n → nOk G nCl ad (mPic G x ad (upd fi 0 0) (va_up fa 4 (sCpyD (fa 4) (60 * kk + ii) (60 * oo + jj) cc_ q))) H → nS G s H locs → lv_has ls 10 [(0, .ref (ad 50)), (1, .int (nI kk)), (2, .int (nI ii)), (3, .int (nI oo)), (4, .int (nI jj)), (5, .int (nI cc_)), (7, .int 1), (8, .int (nI q))] → W p l e (mR 2) s m ([.ref (ad 50), .int k, .int i, .int o_, .int j, .int cn] : List Value).toArray below meth c H locs 0 0 (MQ below (nQ G nCl (mP G ad x (fun rv fi' fa' => rv = some (.int (oCpy (fa 2) (fa 3) (fa 4) k i o_ j cn).1) ∧ upd fi 0 (oCpy (fa 2) (fa 3) (fa 4) k i o_ j cn).2.1 = fi' ∧ va_up fa 4 (oCpy (fa 2) (fa 3) (fa 4) k i o_ j cn).2.2 = fa'))) ([.ref (ad 50), .int k, .int i, .int o_, .int j, .int cn] : List Value).toArray s 0 0 (fun q => G.2 ≤ q)) (F0 m 166 ls []) := by
                        intro n
                        induction n with
                        | zero => intro q H locs ls hq hfuel hN hS hl; exact absurd hfuel (by omega)
                        | succ n ih166 =>
                          intro q H locs ls hq hfuel hN hS hl
                          refine lv_iload hx hb dX1_copy_166 (lv_at hl 7 rfl) ?_
                          refine lv_iload hx hb dX1_copy_168 (lv_at hl 5 rfl) ?_
                          refine lv_icmp_ge (tgt := 227) hx hb dX1_copy_170 (by decide) (fun c170 => ?_) (fun c170 => ?_)
                          · have c170 := (nI_leI (by omega) (by omega)).mp c170
                            have c170 : cc_ = q := by omega
                            subst c170
                            refine lv_iload hx hb dX1_copy_227 (lv_at hl 5 rfl) ?_
                            exact W.iret hx hb hr (nEnd hN hS ⟨_, _, rfl, rfl, ⟨by rw [hans, ec], by rw [hans], by rw [hans, sCpyD_n]⟩⟩) hS.2 dX1_copy_229
                          · have c170 : ¬ cc_ ≤ q := fun z => c170 (nI_le z (by omega))
                            refine lv_iload hx hb dX1_copy_173 (lv_at hl 6 rfl) ?_
                            refine lv_if_eq (tgt := 188) hx hb dX1_copy_175 (by decide) (fun c175 => absurd c175 (by decide)) (fun c175 => ?_)
                            refine lv_iload hx hb dX1_copy_178 (lv_at hl 5 rfl) ?_
                            refine lv_iconst (v := 1) hx hb dX1_copy_180 (by decide) ?_
                            refine lv_isub hx hb dX1_copy_181 ?_
                            refine n_top (y := nI (cc_ - 1)) (pk_sub1 (by omega)) ?_
                            refine lv_iload hx hb dX1_copy_182 (lv_at hl 7 rfl) ?_
                            refine lv_isub hx hb dX1_copy_184 ?_
                            refine n_top (y := nI (cc_ - 1 - q)) (pk_sub (by omega)) ?_
                            refine lv_goto (tgt := 190) hx hb dX1_copy_185 (by decide) ?_
                            refine lv_istore (lv' := [(9, _), (0, _), (1, _), (2, _), (3, _), (4, _), (5, _), (7, _), (8, _)]) hx hb dX1_copy_190 hl (by decide) rfl (fun ls hl => ?_)
                            refine lv_aload_n hx hb dX1_copy_192 rfl (lv_at hl 1 rfl) ?_
                            refine m_get SS hK hN 4 (by decide) q1123 rfl rfl dX1_copy_193 ?_
                            refine lv_bipush (v := (nI 60)) hx hb dX1_copy_196 (rfl) ?_
                            refine lv_iload_n hx hb dX1_copy_198 rfl (lv_at hl 4 rfl) ?_
                            refine lv_imul hx hb dX1_copy_199 ?_
                            refine n_top (y := nI (60 * oo)) (pk_mul _ _) ?_
                            refine lv_iload hx hb dX1_copy_200 (lv_at hl 5 rfl) ?_
                            refine lv_iadd hx hb dX1_copy_202 ?_
                            refine n_top (y := nI (60 * oo + jj)) (nI_add _ _) ?_
                            refine lv_iload hx hb dX1_copy_203 (lv_at hl 0 rfl) ?_
                            refine lv_iadd hx hb dX1_copy_205 ?_
                            refine n_top (y := nI (60 * oo + jj + (cc_ - 1 - q))) (nI_add _ _) ?_
                            refine lv_aload_n hx hb dX1_copy_206 rfl (lv_at hl 1 rfl) ?_
                            refine m_get SS hK hN 4 (by decide) q1123 rfl rfl dX1_copy_207 ?_
                            refine lv_bipush (v := (nI 60)) hx hb dX1_copy_210 (rfl) ?_
                            refine lv_iload_n hx hb dX1_copy_212 rfl (lv_at hl 2 rfl) ?_
                            refine lv_imul hx hb dX1_copy_213 ?_
                            refine n_top (y := nI (60 * kk)) (pk_mul _ _) ?_
                            refine lv_iload_n hx hb dX1_copy_214 rfl (lv_at hl 3 rfl) ?_
                            refine lv_iadd hx hb dX1_copy_215 ?_
                            refine n_top (y := nI (60 * kk + ii)) (nI_add _ _) ?_
                            refine lv_iload hx hb dX1_copy_216 (lv_at hl 0 rfl) ?_
                            refine lv_iadd hx hb dX1_copy_218 ?_
                            refine n_top (y := nI (60 * kk + ii + (cc_ - 1 - q))) (nI_add _ _) ?_
                            refine m_ald SS hK hN 4 rfl (60 * kk + ii + (cc_ - 1 - q)) (rfl) (by show _ < (240 : Nat); omega) dX1_copy_219 ?_
                            refine m_ast SS hK hN hS 4 rfl (60 * oo + jj + (cc_ - 1 - q)) (rfl) (by show _ < (240 : Nat); omega) dX1_copy_220 (fun H locs hN hS => ?_)
                            have hN := hN.congr (c' := mPic G x ad (upd fi 0 0) (va_up fa 4 (sCpyD (fa 4) (60 * kk + ii) (60 * oo + jj) cc_ (q + 1)))) (by rw [bx_uu]; congr 2; exact sCpyD_s (by omega) (by omega))
                            refine lv_iinc (v := (nI (q + 1))) (lv' := [(8, _), (9, _), (0, _), (1, _), (2, _), (3, _), (4, _), (5, _), (7, _)]) hx hb dX1_copy_221 hl (k := 8) rfl (nI_inc q) (by decide) rfl (fun ls hl => ?_)
                            refine lv_goto (tgt := 166) hx hb dX1_copy_224 (by decide) ?_
                            exact ih166 (q + 1) _ _ _ (by omega) (by omega) hN hS (lv_sub hl [2, 3, 4, 5, 6, 7, 8, 0] (rfl))
                      exact loop166 (cc_ + 1) 0 _ _ _ (by omega) (by omega) hN hS (lv_sub hl [3, 4, 5, 6, 7, 8, 1, 0] rfl)
                  · have hth : sThr (fa 3) kk oo i j cn = false := by unfold sThr; rw [decide_eq_true (show fa 3 oo - j < cn by simpa using c141), Bool.not_true, Bool.and_false]
                    have hans : oCpy (fa 2) (fa 3) (fa 4) k i o_ j cn = (-13, 3, fa 4) := by rw [oCpy, if_pos ⟨c9, c16⟩, tkk, too, if_neg (by simp_all), if_neg (fun z => z c61), if_neg (by rw [hth]; decide)]
                    refine lv_aload_n hx hb dX1_copy_144 rfl (lv_at hl 1 rfl) ?_
                    refine lv_iconst (v := 3) hx hb dX1_copy_145 (by decide) ?_
                    refine n_callV (C := RX1) (As := [_]) (b := 50) SS (nK_o G) hK hK (mX1_fails l G ad x (upd fi 0 0) fa 3) (cwV 1 hts (lw_V q1212 q1214 qs34 q61 q1215) rfl rfl rfl (by decide +kernel) ⟨Nat.le_of_ble_eq_true rfl, Nat.le_of_ble_eq_true rfl⟩) hN hS mPic_o rfl rfl hl.1 rfl (Nat.le_of_ble_eq_true rfl) dX1_copy_146 ⟨Nat.le_of_ble_eq_true rfl, Nat.le_of_ble_eq_true rfl⟩ (fun v ad' c' H locs hv hN hS => ?_)
                    obtain ⟨_, _, rfl, rfl, rfl, rfl, rfl⟩ := hv
                    refine W.eq (g2 := F0 m 149 ls (_ :: _)) rfl ?_
                    exact W.iret hx hb hr (nEnd hN hS ⟨_, _, rfl, rfl, ⟨by rw [hans]; try rfl, by rw [hans, upd_upd], by rw [hans]; rw [va_up_id _ 4 _ rfl]⟩⟩) hS.2 dX1_copy_149
            refine lv_iload_n hx hb dX1_copy_70 rfl (lv_at hl 2 rfl) ?_
            refine lv_if_lt (tgt := 109) hx hb dX1_copy_71 (by decide) (fun c71 => ?_) (fun c71 => ?_)
            · refine lv_iconst (v := 0) hx hb dX1_copy_109 (by decide) ?_
              first | exact j110 true (by simp_all) | exact j110 false (by simp_all)
            · refine lv_iload hx hb dX1_copy_74 (lv_at hl 4 rfl) ?_
              refine lv_if_lt (tgt := 109) hx hb dX1_copy_76 (by decide) (fun c76 => ?_) (fun c76 => ?_)
              · refine lv_iconst (v := 0) hx hb dX1_copy_109 (by decide) ?_
                first | exact j110 true (by simp_all) | exact j110 false (by simp_all)
              · refine lv_iload hx hb dX1_copy_79 (lv_at hl 5 rfl) ?_
                refine lv_if_lt (tgt := 109) hx hb dX1_copy_81 (by decide) (fun c81 => ?_) (fun c81 => ?_)
                · refine lv_iconst (v := 0) hx hb dX1_copy_109 (by decide) ?_
                  first | exact j110 true (by simp_all) | exact j110 false (by simp_all)
                · refine lv_iload_n hx hb dX1_copy_84 rfl (lv_at hl 2 rfl) ?_
                  refine lv_aload_n hx hb dX1_copy_85 rfl (lv_at hl 0 rfl) ?_
                  refine m_get SS hK hN 3 (by decide) q1122 rfl rfl dX1_copy_86 ?_
                  refine lv_iload_n hx hb dX1_copy_89 rfl (lv_at hl 1 rfl) ?_
                  refine m_ald SS hK hN 3 rfl (kk) (rfl) (by show _ < (4 : Nat); omega) dX1_copy_90 ?_
                  refine lv_icmp_gt (tgt := 109) hx hb dX1_copy_91 (by decide) (fun c91 => ?_) (fun c91 => ?_)
                  · refine lv_iconst (v := 0) hx hb dX1_copy_109 (by decide) ?_
                    first | exact j110 true (by simp_all) | exact j110 false (by simp_all)
                  · refine lv_iload hx hb dX1_copy_94 (lv_at hl 4 rfl) ?_
                    refine lv_aload_n hx hb dX1_copy_96 rfl (lv_at hl 0 rfl) ?_
                    refine m_get SS hK hN 3 (by decide) q1122 rfl rfl dX1_copy_97 ?_
                    refine lv_iload_n hx hb dX1_copy_100 rfl (lv_at hl 3 rfl) ?_
                    refine m_ald SS hK hN 3 rfl (oo) (rfl) (by show _ < (4 : Nat); omega) dX1_copy_101 ?_
                    refine lv_icmp_gt (tgt := 109) hx hb dX1_copy_102 (by decide) (fun c102 => ?_) (fun c102 => ?_)
                    · refine lv_iconst (v := 0) hx hb dX1_copy_109 (by decide) ?_
                      first | exact j110 true (by simp_all) | exact j110 false (by simp_all)
                    · refine lv_iconst (v := 1) hx hb dX1_copy_105 (by decide) ?_
                      refine lv_goto (tgt := 110) hx hb dX1_copy_106 (by decide) ?_
                      first | exact j110 true (by simp_all) | exact j110 false (by simp_all)
          · have hans : oCpy (fa 2) (fa 3) (fa 4) k i o_ j cn = (-12, 2, fa 4) := by rw [oCpy, if_pos ⟨c9, c16⟩, tkk, too, if_neg (by simp_all), if_pos c61]
            refine lv_aload_n hx hb dX1_copy_64 rfl (lv_at hl 0 rfl) ?_
            refine lv_iconst (v := 2) hx hb dX1_copy_65 (by decide) ?_
            refine n_callV (C := RX1) (As := [_]) (b := 50) SS (nK_o G) hK hK (mX1_fails l G ad x (upd fi 0 0) fa 2) (cwV 1 hts (lw_V q1212 q1214 qs34 q61 q1215) rfl rfl rfl (by decide +kernel) ⟨Nat.le_of_ble_eq_true rfl, Nat.le_of_ble_eq_true rfl⟩) hN hS mPic_o rfl rfl hl.1 rfl (Nat.le_of_ble_eq_true rfl) dX1_copy_66 ⟨Nat.le_of_ble_eq_true rfl, Nat.le_of_ble_eq_true rfl⟩ (fun v ad' c' H locs hv hN hS => ?_)
            obtain ⟨_, _, rfl, rfl, rfl, rfl, rfl⟩ := hv
            refine W.eq (g2 := F0 m 69 ls (_ :: _)) rfl ?_
            exact W.iret hx hb hr (nEnd hN hS ⟨_, _, rfl, rfl, ⟨by rw [hans]; try rfl, by rw [hans, upd_upd], by rw [hans]; rw [va_up_id _ 4 _ rfl]⟩⟩) hS.2 dX1_copy_69
        · have hnn : fa 2 kk = -9 ∨ fa 2 oo = -9 := Or.inr c40
          have hans : oCpy (fa 2) (fa 3) (fa 4) k i o_ j cn = (-11, 1, fa 4) := by rw [oCpy, if_pos ⟨c9, c16⟩, tkk, too, if_pos hnn]
          refine lv_aload_n hx hb dX1_copy_43 rfl (lv_at hl 0 rfl) ?_
          refine lv_iconst (v := 1) hx hb dX1_copy_44 (by decide) ?_
          refine n_callV (C := RX1) (As := [_]) (b := 50) SS (nK_o G) hK hK (mX1_fails l G ad x (upd fi 0 0) fa 1) (cwV 1 hts (lw_V q1212 q1214 qs34 q61 q1215) rfl rfl rfl (by decide +kernel) ⟨Nat.le_of_ble_eq_true rfl, Nat.le_of_ble_eq_true rfl⟩) hN hS mPic_o rfl rfl hl.1 rfl (Nat.le_of_ble_eq_true rfl) dX1_copy_45 ⟨Nat.le_of_ble_eq_true rfl, Nat.le_of_ble_eq_true rfl⟩ (fun v ad' c' H locs hv hN hS => ?_)
          obtain ⟨_, _, rfl, rfl, rfl, rfl, rfl⟩ := hv
          refine W.eq (g2 := F0 m 48 ls (_ :: _)) rfl ?_
          exact W.iret hx hb hr (nEnd hN hS ⟨_, _, rfl, rfl, ⟨by rw [hans]; try rfl, by rw [hans, upd_upd], by rw [hans]; rw [va_up_id _ 4 _ rfl]⟩⟩) hS.2 dX1_copy_48
    · have hno : ¬ (sBt k 0 3 = true ∧ sBt o_ 0 3 = true) := by intro z; simp_all [zI_0]
      have hans : oCpy (fa 2) (fa 3) (fa 4) k i o_ j cn = (-1, 0, fa 4) := by rw [oCpy, if_neg hno]
      refine lv_iconst (v := (-1)) hx hb dX1_copy_19 (by decide) ?_
      exact W.iret hx hb hr (nEnd hN hS ⟨_, _, rfl, rfl, ⟨by rw [hans], by rw [hans], by rw [hans]; rw [va_up_id _ 4 _ rfl]⟩⟩) hS.2 dX1_copy_20
set_option maxHeartbeats 4000000 in
set_option maxRecDepth 100000 in
theorem mX1_tell (l : Launch) (G : nG) (ad : Nat → Nat) (x : nPic) (fi : Nat → Int32) (fa : Nat → Nat → Int32) (a : Int32) (np : Nat) (hnp : fi 6 = nI np) (h4 : np ≤ 4) : Met l yX1_tell (ws_ yX1_tell cX1_tell 3 (some .int)) (mR 1) (nPc G nCl (nK G) ad (mPic G x ad fi fa) [.ref (ad 50), .int a]) (nQ G nCl (mP G ad x (fun rv fi' fa' => rv = some (.int (oTel np (fa 8) (fa 10) (fi 1) a).1) ∧ upd fi 1 (oTel np (fa 8) (fa 10) (fi 1) a).2 = fi' ∧ fa = fa'))) 0 0 (fun q => G.2 ≤ q) := by
  refine nMet RX1 (by decide) rfl (Nat.le_of_ble_eq_true rfl) ?_
  intro p e s m below meth c ls SS hR hK hN hS hl
  obtain ⟨hx, hb, hml, hown, hts⟩ := id SS
  obtain ⟨hr, hlk, hnm⟩ := hR
  generalize s.heap = H at hN hS ⊢
  generalize ([] : List Loc) = locs at hS ⊢
  have hl : lv_has ls 3 [(0, .ref (ad 50)), (1, .int a)] := hl
  refine lv_aload_n hx hb dX1_tell_0 rfl (lv_at hl 0 rfl) ?_
  refine lv_iload_n hx hb dX1_tell_1 rfl (lv_at hl 1 rfl) ?_
  refine n_callV (C := RX1) (As := [_]) (b := 50) SS (nK_o G) hK hK (mX1_isPerson l G ad x fi fa a np hnp h4) (cwV 1 hts (lw_V q1244 q1246 qs41 q61 q1247) rfl rfl rfl (by decide +kernel) ⟨Nat.le_of_ble_eq_true rfl, Nat.le_of_ble_eq_true rfl⟩) hN hS mPic_o rfl rfl hl.1 rfl (Nat.le_of_ble_eq_true rfl) dX1_tell_2 ⟨Nat.le_of_ble_eq_true rfl, Nat.le_of_ble_eq_true rfl⟩ (fun v ad' c' H locs hv hN hS => ?_)
  obtain ⟨_, _, rfl, rfl, rfl, rfl, rfl⟩ := hv
  refine W.eq (g2 := F0 m 5 ls (_ :: _)) rfl ?_
  refine lv_if_ne (tgt := 10) hx hb dX1_tell_5 (by decide) (fun c5 => ?_) (fun c5 => ?_)
  · have c5 : sIn a np = true := by simpa [zI_0] using c5
    obtain ⟨pp, hpp, epp, tpp⟩ := sIn_t (by omega) c5
    have tpp : tn a = pp := tpp
    rw [epp] at hl
    refine lv_aload_n hx hb dX1_tell_10 rfl (lv_at hl 0 rfl) ?_
    refine m_get SS hK hN 10 (by decide) q1129 rfl rfl dX1_tell_11 ?_
    refine lv_iload_n hx hb dX1_tell_14 rfl (lv_at hl 1 rfl) ?_
    refine m_ald SS hK hN 10 rfl (pp) (rfl) (by show _ < (4 : Nat); omega) dX1_tell_15 ?_
    refine lv_istore_n (lv' := [(2, _), (0, _), (1, _)]) hx hb dX1_tell_16 rfl hl (by decide) rfl (fun ls hl => ?_)
    refine lv_aload_n hx hb dX1_tell_17 rfl (lv_at hl 1 rfl) ?_
    refine m_get SS hK hN 8 (by decide) q1127 rfl rfl dX1_tell_18 ?_
    refine lv_iload_n hx hb dX1_tell_21 rfl (lv_at hl 2 rfl) ?_
    refine m_ald SS hK hN 8 rfl (pp) (rfl) (by show _ < (4 : Nat); omega) dX1_tell_22 ?_
    by_cases w1 : fa 8 pp = 1
    · refine lv_lookup (tgt := 48) (off := 25) hx hb dX1_tell_23 rfl (by rw [w1]; decide) (by decide) ?_
      refine lv_aload_n hx hb dX1_tell_48 rfl (lv_at hl 1 rfl) ?_
      refine lv_iconst (v := 2) hx hb dX1_tell_49 (by decide) ?_
      refine n_callV (C := RX1) (As := [_]) (b := 50) SS (nK_o G) hK hK (mX1_begins l G ad x fi fa 2) (cwV 1 hts (lw_V q1402 q1404 qs55 q61 q1405) rfl rfl rfl (by decide +kernel) ⟨Nat.le_of_ble_eq_true rfl, Nat.le_of_ble_eq_true rfl⟩) hN hS mPic_o rfl rfl hl.1 rfl (Nat.le_of_ble_eq_true rfl) dX1_tell_50 ⟨Nat.le_of_ble_eq_true rfl, Nat.le_of_ble_eq_true rfl⟩ (fun v ad' c' H locs hv hN hS => ?_)
      obtain ⟨_, _, rfl, rfl, rfl, rfl, rfl⟩ := hv
      refine W.eq (g2 := F0 m 53 ls _) rfl ?_
      refine lv_aload_n hx hb dX1_tell_53 rfl (lv_at hl 1 rfl) ?_
      refine lv_iconst (v := 1) hx hb dX1_tell_54 (by decide) ?_
      refine n_callV (C := RX1) (As := [_]) (b := 50) SS (nK_o G) hK hK (mX1_begins l G ad x (upd fi 1 (sTr (fi 1) 2)) fa 1) (cwV 1 hts (lw_V q1402 q1404 qs55 q61 q1405) rfl rfl rfl (by decide +kernel) ⟨Nat.le_of_ble_eq_true rfl, Nat.le_of_ble_eq_true rfl⟩) hN hS mPic_o rfl rfl hl.1 rfl (Nat.le_of_ble_eq_true rfl) dX1_tell_55 ⟨Nat.le_of_ble_eq_true rfl, Nat.le_of_ble_eq_true rfl⟩ (fun v ad' c' H locs hv hN hS => ?_)
      obtain ⟨_, _, rfl, rfl, rfl, rfl, rfl⟩ := hv
      refine W.eq (g2 := F0 m 58 ls _) rfl ?_
      refine lv_iload_n hx hb dX1_tell_58 rfl (lv_at hl 0 rfl) ?_
      refine lv_bipush (v := 100) hx hb dX1_tell_59 (by decide) ?_
      refine lv_iadd hx hb dX1_tell_61 ?_
      exact W.iret hx hb hr (nEnd hN hS ⟨_, _, rfl, rfl, ⟨by rw [oTel, if_pos c5, tpp, if_pos w1], by rw [oTel, if_pos c5, tpp, if_pos w1, upd_upd]; rfl, rfl⟩⟩) hS.2 dX1_tell_62
    by_cases w2 : fa 8 pp = 2
    · refine lv_lookup (tgt := 63) (off := 40) hx hb dX1_tell_23 rfl (by rw [w2]; decide) (by decide) ?_
      refine lv_aload_n hx hb dX1_tell_63 rfl (lv_at hl 1 rfl) ?_
      refine lv_iconst (v := 3) hx hb dX1_tell_64 (by decide) ?_
      refine n_callV (C := RX1) (As := [_]) (b := 50) SS (nK_o G) hK hK (mX1_begins l G ad x fi fa 3) (cwV 1 hts (lw_V q1402 q1404 qs55 q61 q1405) rfl rfl rfl (by decide +kernel) ⟨Nat.le_of_ble_eq_true rfl, Nat.le_of_ble_eq_true rfl⟩) hN hS mPic_o rfl rfl hl.1 rfl (Nat.le_of_ble_eq_true rfl) dX1_tell_65 ⟨Nat.le_of_ble_eq_true rfl, Nat.le_of_ble_eq_true rfl⟩ (fun v ad' c' H locs hv hN hS => ?_)
      obtain ⟨_, _, rfl, rfl, rfl, rfl, rfl⟩ := hv
      refine W.eq (g2 := F0 m 68 ls _) rfl ?_
      refine lv_aload_n hx hb dX1_tell_68 rfl (lv_at hl 1 rfl) ?_
      refine lv_iconst (v := 2) hx hb dX1_tell_69 (by decide) ?_
      refine n_callV (C := RX1) (As := [_]) (b := 50) SS (nK_o G) hK hK (mX1_begins l G ad x (upd fi 1 (sTr (fi 1) 3)) fa 2) (cwV 1 hts (lw_V q1402 q1404 qs55 q61 q1405) rfl rfl rfl (by decide +kernel) ⟨Nat.le_of_ble_eq_true rfl, Nat.le_of_ble_eq_true rfl⟩) hN hS mPic_o rfl rfl hl.1 rfl (Nat.le_of_ble_eq_true rfl) dX1_tell_70 ⟨Nat.le_of_ble_eq_true rfl, Nat.le_of_ble_eq_true rfl⟩ (fun v ad' c' H locs hv hN hS => ?_)
      obtain ⟨_, _, rfl, rfl, rfl, rfl, rfl⟩ := hv
      refine W.eq (g2 := F0 m 73 ls _) rfl ?_
      refine lv_aload_n hx hb dX1_tell_73 rfl (lv_at hl 1 rfl) ?_
      refine lv_iconst (v := 1) hx hb dX1_tell_74 (by decide) ?_
      refine n_callV (C := RX1) (As := [_]) (b := 50) SS (nK_o G) hK hK (mX1_begins l G ad x (upd (upd fi 1 (sTr (fi 1) 3)) 1 (sTr ((upd fi 1 (sTr (fi 1) 3)) 1) 2)) fa 1) (cwV 1 hts (lw_V q1402 q1404 qs55 q61 q1405) rfl rfl rfl (by decide +kernel) ⟨Nat.le_of_ble_eq_true rfl, Nat.le_of_ble_eq_true rfl⟩) hN hS mPic_o rfl rfl hl.1 rfl (Nat.le_of_ble_eq_true rfl) dX1_tell_75 ⟨Nat.le_of_ble_eq_true rfl, Nat.le_of_ble_eq_true rfl⟩ (fun v ad' c' H locs hv hN hS => ?_)
      obtain ⟨_, _, rfl, rfl, rfl, rfl, rfl⟩ := hv
      refine W.eq (g2 := F0 m 78 ls _) rfl ?_
      refine lv_aload_n hx hb dX1_tell_78 rfl (lv_at hl 1 rfl) ?_
      refine lv_iconst (v := 1) hx hb dX1_tell_79 (by decide) ?_
      refine n_callV (C := RX1) (As := [_]) (b := 50) SS (nK_o G) hK hK (mX1_begins l G ad x (upd (upd (upd fi 1 (sTr (fi 1) 3)) 1 (sTr ((upd fi 1 (sTr (fi 1) 3)) 1) 2)) 1 (sTr ((upd (upd fi 1 (sTr (fi 1) 3)) 1 (sTr ((upd fi 1 (sTr (fi 1) 3)) 1) 2)) 1) 1)) fa 1) (cwV 1 hts (lw_V q1402 q1404 qs55 q61 q1405) rfl rfl rfl (by decide +kernel) ⟨Nat.le_of_ble_eq_true rfl, Nat.le_of_ble_eq_true rfl⟩) hN hS mPic_o rfl rfl hl.1 rfl (Nat.le_of_ble_eq_true rfl) dX1_tell_80 ⟨Nat.le_of_ble_eq_true rfl, Nat.le_of_ble_eq_true rfl⟩ (fun v ad' c' H locs hv hN hS => ?_)
      obtain ⟨_, _, rfl, rfl, rfl, rfl, rfl⟩ := hv
      refine W.eq (g2 := F0 m 83 ls _) rfl ?_
      refine lv_iconst (v := 2) hx hb dX1_tell_83 (by decide) ?_
      refine lv_iload_n hx hb dX1_tell_84 rfl (lv_at hl 0 rfl) ?_
      refine lv_imul hx hb dX1_tell_85 ?_
      refine lv_bipush (v := 100) hx hb dX1_tell_86 (by decide) ?_
      refine lv_iadd hx hb dX1_tell_88 ?_
      exact W.iret hx hb hr (nEnd hN hS ⟨_, _, rfl, rfl, ⟨by rw [oTel, if_pos c5, tpp, if_neg w1, if_pos w2], by rw [oTel, if_pos c5, tpp, if_neg w1, if_pos w2]; simp only [upd_upd, pk_us], rfl⟩⟩) hS.2 dX1_tell_89
    refine lv_lookup (tgt := 90) (off := 67) hx hb dX1_tell_23 rfl (n_lk2 (fun z => w1 (Int32.toInt_inj.mp z)) (fun z => w2 (Int32.toInt_inj.mp z))) (by decide) ?_
    refine lv_aload_n hx hb dX1_tell_90 rfl (lv_at hl 1 rfl) ?_
    refine lv_iconst (v := 1) hx hb dX1_tell_91 (by decide) ?_
    refine n_callV (C := RX1) (As := [_]) (b := 50) SS (nK_o G) hK hK (mX1_begins l G ad x fi fa 1) (cwV 1 hts (lw_V q1402 q1404 qs55 q61 q1405) rfl rfl rfl (by decide +kernel) ⟨Nat.le_of_ble_eq_true rfl, Nat.le_of_ble_eq_true rfl⟩) hN hS mPic_o rfl rfl hl.1 rfl (Nat.le_of_ble_eq_true rfl) dX1_tell_92 ⟨Nat.le_of_ble_eq_true rfl, Nat.le_of_ble_eq_true rfl⟩ (fun v ad' c' H locs hv hN hS => ?_)
    obtain ⟨_, _, rfl, rfl, rfl, rfl, rfl⟩ := hv
    refine W.eq (g2 := F0 m 95 ls _) rfl ?_
    refine lv_iload_n hx hb dX1_tell_95 rfl (lv_at hl 0 rfl) ?_
    exact W.iret hx hb hr (nEnd hN hS ⟨_, _, rfl, rfl, ⟨by rw [oTel, if_pos c5, tpp, if_neg w1, if_neg w2], by rw [oTel, if_pos c5, tpp, if_neg w1, if_neg w2], rfl⟩⟩) hS.2 dX1_tell_96
  · have c5 : ¬ sIn a np = true := by simpa [zI_0] using c5
    refine lv_iconst (v := (-1)) hx hb dX1_tell_8 (by decide) ?_
    exact W.iret hx hb hr (nEnd hN hS ⟨_, _, rfl, rfl, ⟨by rw [oTel, if_neg c5], by rw [oTel, if_neg c5]; exact upd_self _ _ _ rfl, rfl⟩⟩) hS.2 dX1_tell_9
set_option maxHeartbeats 4000000 in
set_option maxRecDepth 100000 in
theorem mX1_greet (l : Launch) (G : nG) (ad : Nat → Nat) (x : nPic) (fi : Nat → Int32) (fa : Nat → Nat → Int32) (a : Int32) (np : Nat) (hnp : fi 6 = nI np) (h4 : np ≤ 4) : Met l yX1_greet (ws_ yX1_greet cX1_greet 2 (some .int)) (mR 1) (nPc G nCl (nK G) ad (mPic G x ad fi fa) [.ref (ad 50), .int a]) (nQ G nCl (mP G ad x (fun rv fi' fa' => rv = some (.int (oGrt np (fa 8) (fi 1) a).1) ∧ upd fi 1 (oGrt np (fa 8) (fi 1) a).2 = fi' ∧ fa = fa'))) 0 0 (fun q => G.2 ≤ q) := by
  refine nMet RX1 (by decide) rfl (Nat.le_of_ble_eq_true rfl) ?_
  intro p e s m below meth c ls SS hR hK hN hS hl
  obtain ⟨hx, hb, hml, hown, hts⟩ := id SS
  obtain ⟨hr, hlk, hnm⟩ := hR
  generalize s.heap = H at hN hS ⊢
  generalize ([] : List Loc) = locs at hS ⊢
  have hl : lv_has ls 2 [(0, .ref (ad 50)), (1, .int a)] := hl
  refine lv_aload_n hx hb dX1_greet_0 rfl (lv_at hl 0 rfl) ?_
  refine lv_iload_n hx hb dX1_greet_1 rfl (lv_at hl 1 rfl) ?_
  refine n_callV (C := RX1) (As := [_]) (b := 50) SS (nK_o G) hK hK (mX1_isPerson l G ad x fi fa a np hnp h4) (cwV 1 hts (lw_V q1244 q1246 qs41 q61 q1247) rfl rfl rfl (by decide +kernel) ⟨Nat.le_of_ble_eq_true rfl, Nat.le_of_ble_eq_true rfl⟩) hN hS mPic_o rfl rfl hl.1 rfl (Nat.le_of_ble_eq_true rfl) dX1_greet_2 ⟨Nat.le_of_ble_eq_true rfl, Nat.le_of_ble_eq_true rfl⟩ (fun v ad' c' H locs hv hN hS => ?_)
  obtain ⟨_, _, rfl, rfl, rfl, rfl, rfl⟩ := hv
  refine W.eq (g2 := F0 m 5 ls (_ :: _)) rfl ?_
  refine lv_if_ne (tgt := 10) hx hb dX1_greet_5 (by decide) (fun c5 => ?_) (fun c5 => ?_)
  · have c5 : sIn a np = true := by simpa [zI_0] using c5
    obtain ⟨pp, hpp, epp, tpp⟩ := sIn_t (by omega) c5
    have tpp : tn a = pp := tpp
    rw [epp] at hl
    refine lv_aload_n hx hb dX1_greet_10 rfl (lv_at hl 0 rfl) ?_
    refine lv_aload_n hx hb dX1_greet_11 rfl (lv_at hl 0 rfl) ?_
    refine m_get SS hK hN 8 (by decide) q1127 rfl rfl dX1_greet_12 ?_
    refine lv_iload_n hx hb dX1_greet_15 rfl (lv_at hl 1 rfl) ?_
    refine m_ald SS hK hN 8 rfl (pp) (rfl) (by show _ < (4 : Nat); omega) dX1_greet_16 ?_
    refine lv_iconst (v := 2) hx hb dX1_greet_17 (by decide) ?_
    refine lv_icmp_ne (tgt := 25) hx hb dX1_greet_18 (by decide) (fun c18 => ?_) (fun c18 => ?_)
    · refine lv_iconst (v := 4) hx hb dX1_greet_25 (by decide) ?_
      refine n_callV (C := RX1) (As := [_]) (b := 50) SS (nK_o G) hK hK (mX1_begins l G ad x fi fa _) (cwV 1 hts (lw_V q1402 q1404 qs55 q61 q1405) rfl rfl rfl (by decide +kernel) ⟨Nat.le_of_ble_eq_true rfl, Nat.le_of_ble_eq_true rfl⟩) hN hS mPic_o rfl rfl hl.1 rfl (Nat.le_of_ble_eq_true rfl) dX1_greet_26 ⟨Nat.le_of_ble_eq_true rfl, Nat.le_of_ble_eq_true rfl⟩ (fun v ad' c' H locs hv hN hS => ?_)
      obtain ⟨_, _, rfl, rfl, rfl, rfl, rfl⟩ := hv
      refine W.eq (g2 := F0 m 29 ls _) rfl ?_
      refine lv_aload_n hx hb dX1_greet_29 rfl (lv_at hl 0 rfl) ?_
      refine m_get SS hK hN 8 (by decide) q1127 rfl rfl dX1_greet_30 ?_
      refine lv_iload_n hx hb dX1_greet_33 rfl (lv_at hl 1 rfl) ?_
      refine m_ald SS hK hN 8 rfl (pp) (rfl) (by show _ < (4 : Nat); omega) dX1_greet_34 ?_
      refine lv_iconst (v := 2) hx hb dX1_greet_35 (by decide) ?_
      refine lv_icmp_ne (tgt := 44) hx hb dX1_greet_36 (by decide) (fun c36 => ?_) (fun c36 => ?_)
      · refine lv_iload_n hx hb dX1_greet_44 rfl (lv_at hl 1 rfl) ?_
        exact W.iret hx hb hr (nEnd hN hS ⟨_, _, rfl, rfl, ⟨by rw [oGrt, if_pos c5, tpp]; simp_all, by rw [oGrt, if_pos c5, tpp]; simp_all, rfl⟩⟩) hS.2 dX1_greet_45
      · refine lv_bipush (v := 80) hx hb dX1_greet_39 (by decide) ?_
        refine lv_goto (tgt := 45) hx hb dX1_greet_41 (by decide) ?_
        exact W.iret hx hb hr (nEnd hN hS ⟨_, _, rfl, rfl, ⟨by rw [oGrt, if_pos c5, tpp]; simp_all, by rw [oGrt, if_pos c5, tpp]; simp_all, rfl⟩⟩) hS.2 dX1_greet_45
    · refine lv_iconst (v := 5) hx hb dX1_greet_21 (by decide) ?_
      refine lv_goto (tgt := 26) hx hb dX1_greet_22 (by decide) ?_
      refine n_callV (C := RX1) (As := [_]) (b := 50) SS (nK_o G) hK hK (mX1_begins l G ad x fi fa _) (cwV 1 hts (lw_V q1402 q1404 qs55 q61 q1405) rfl rfl rfl (by decide +kernel) ⟨Nat.le_of_ble_eq_true rfl, Nat.le_of_ble_eq_true rfl⟩) hN hS mPic_o rfl rfl hl.1 rfl (Nat.le_of_ble_eq_true rfl) dX1_greet_26 ⟨Nat.le_of_ble_eq_true rfl, Nat.le_of_ble_eq_true rfl⟩ (fun v ad' c' H locs hv hN hS => ?_)
      obtain ⟨_, _, rfl, rfl, rfl, rfl, rfl⟩ := hv
      refine W.eq (g2 := F0 m 29 ls _) rfl ?_
      refine lv_aload_n hx hb dX1_greet_29 rfl (lv_at hl 0 rfl) ?_
      refine m_get SS hK hN 8 (by decide) q1127 rfl rfl dX1_greet_30 ?_
      refine lv_iload_n hx hb dX1_greet_33 rfl (lv_at hl 1 rfl) ?_
      refine m_ald SS hK hN 8 rfl (pp) (rfl) (by show _ < (4 : Nat); omega) dX1_greet_34 ?_
      refine lv_iconst (v := 2) hx hb dX1_greet_35 (by decide) ?_
      refine lv_icmp_ne (tgt := 44) hx hb dX1_greet_36 (by decide) (fun c36 => ?_) (fun c36 => ?_)
      · refine lv_iload_n hx hb dX1_greet_44 rfl (lv_at hl 1 rfl) ?_
        exact W.iret hx hb hr (nEnd hN hS ⟨_, _, rfl, rfl, ⟨by rw [oGrt, if_pos c5, tpp]; simp_all, by rw [oGrt, if_pos c5, tpp]; simp_all, rfl⟩⟩) hS.2 dX1_greet_45
      · refine lv_bipush (v := 80) hx hb dX1_greet_39 (by decide) ?_
        refine lv_goto (tgt := 45) hx hb dX1_greet_41 (by decide) ?_
        exact W.iret hx hb hr (nEnd hN hS ⟨_, _, rfl, rfl, ⟨by rw [oGrt, if_pos c5, tpp]; simp_all, by rw [oGrt, if_pos c5, tpp]; simp_all, rfl⟩⟩) hS.2 dX1_greet_45
  · have c5 : ¬ sIn a np = true := by simpa [zI_0] using c5
    refine lv_iconst (v := (-1)) hx hb dX1_greet_8 (by decide) ?_
    exact W.iret hx hb hr (nEnd hN hS ⟨_, _, rfl, rfl, ⟨by rw [oGrt, if_neg c5], by rw [oGrt, if_neg c5]; exact upd_self _ _ _ rfl, rfl⟩⟩) hS.2 dX1_greet_9
set_option maxHeartbeats 4000000 in
set_option maxRecDepth 100000 in
theorem mX1_as (l : Launch) (G : nG) (ad : Nat → Nat) (x : nPic) (fi : Nat → Int32) (fa : Nat → Nat → Int32) (a b : Int32) (np : Nat) (hnp : fi 6 = nI np) (h4 : np ≤ 4) : Met l yX1_as (ws_ yX1_as cX1_as 3 (some .int)) (mR 1) (nPc G nCl (nK G) ad (mPic G x ad fi fa) [.ref (ad 50), .int a, .int b]) (nQ G nCl (mP G ad x (fun rv fi' fa' => rv = some (.int (oAs np (fa 8) a b).1) ∧ upd fi 0 (oAs np (fa 8) a b).2 = fi' ∧ fa = fa'))) 0 0 (fun q => G.2 ≤ q) := by
  refine nMet RX1 (by decide) rfl (Nat.le_of_ble_eq_true rfl) ?_
  intro p e s m below meth c ls SS hR hK hN hS hl
  obtain ⟨hx, hb, hml, hown, hts⟩ := id SS
  obtain ⟨hr, hlk, hnm⟩ := hR
  generalize s.heap = H at hN hS ⊢
  generalize ([] : List Loc) = locs at hS ⊢
  have hl : lv_has ls 3 [(0, .ref (ad 50)), (1, .int a), (2, .int b)] := hl
  refine lv_aload_n hx hb dX1_as_0 rfl (lv_at hl 0 rfl) ?_
  refine lv_iconst (v := 0) hx hb dX1_as_1 (by decide) ?_
  refine m_put SS hK hN hS 0 (by decide) q1119 rfl rfl rfl rfl dX1_as_2 (fun H locs hN hS => ?_)
  refine lv_aload_n hx hb dX1_as_5 rfl (lv_at hl 0 rfl) ?_
  refine lv_iload_n hx hb dX1_as_6 rfl (lv_at hl 1 rfl) ?_
  refine n_callV (C := RX1) (As := [_]) (b := 50) SS (nK_o G) hK hK (mX1_isPerson l G ad x (upd fi 0 0) fa a np hnp h4) (cwV 1 hts (lw_V q1244 q1246 qs41 q61 q1247) rfl rfl rfl (by decide +kernel) ⟨Nat.le_of_ble_eq_true rfl, Nat.le_of_ble_eq_true rfl⟩) hN hS mPic_o rfl rfl hl.1 rfl (Nat.le_of_ble_eq_true rfl) dX1_as_7 ⟨Nat.le_of_ble_eq_true rfl, Nat.le_of_ble_eq_true rfl⟩ (fun v ad' c' H locs hv hN hS => ?_)
  obtain ⟨_, _, rfl, rfl, rfl, rfl, rfl⟩ := hv
  refine W.eq (g2 := F0 m 10 ls (_ :: _)) rfl ?_
  refine lv_if_ne (tgt := 15) hx hb dX1_as_10 (by decide) (fun c10 => ?_) (fun c10 => ?_)
  · have c10 : sIn a np = true := by simpa [zI_0] using c10
    obtain ⟨pp, hpp, epp, tpp⟩ := sIn_t (by omega) c10
    have tpp : tn a = pp := tpp
    rw [epp] at hl
    refine lv_iload_n hx hb dX1_as_15 rfl (lv_at hl 2 rfl) ?_
    refine lv_iconst (v := 0) hx hb dX1_as_16 (by decide) ?_
    refine lv_iconst (v := 2) hx hb dX1_as_17 (by decide) ?_
    refine n_callS (As := [_, _, _]) SS (nK_o G) hK (mX1_within l G ad x (upd fi 0 0) fa b 0 2) (va_cwS 3 hts (lw_S q1202 q1203 q61 q1204) rfl rfl rfl (by decide +kernel) ⟨Nat.le_of_ble_eq_true rfl, Nat.le_of_ble_eq_true rfl⟩) hN hS rfl hl.1 rfl (Nat.le_of_ble_eq_true rfl) dX1_as_18 ⟨Nat.le_of_ble_eq_true rfl, Nat.le_of_ble_eq_true rfl⟩ (fun v ad' c' H locs hv hN hS => ?_)
    obtain ⟨_, _, rfl, rfl, rfl, rfl, rfl⟩ := hv
    refine W.eq (g2 := F0 m 21 ls (_ :: _)) rfl ?_
    refine lv_if_ne (tgt := 27) hx hb dX1_as_21 (by decide) (fun c21 => ?_) (fun c21 => ?_)
    · have c21 := zI_n0 c21
      refine lv_aload_n hx hb dX1_as_27 rfl (lv_at hl 0 rfl) ?_
      refine m_get SS hK hN 8 (by decide) q1127 rfl rfl dX1_as_28 ?_
      refine lv_iload_n hx hb dX1_as_31 rfl (lv_at hl 1 rfl) ?_
      refine m_ald SS hK hN 8 rfl (pp) (rfl) (by show _ < (4 : Nat); omega) dX1_as_32 ?_
      refine lv_iload_n hx hb dX1_as_33 rfl (lv_at hl 2 rfl) ?_
      refine lv_icmp_lt (tgt := 41) hx hb dX1_as_34 (by decide) (fun c34 => ?_) (fun c34 => ?_)
      · have hans : oAs np (fa 8) a b = (-12, 2) := by rw [oAs, if_pos c10, tpp, if_pos c21, if_pos c34]
        refine lv_aload_n hx hb dX1_as_41 rfl (lv_at hl 0 rfl) ?_
        refine lv_iconst (v := 2) hx hb dX1_as_42 (by decide) ?_
        refine n_callV (C := RX1) (As := [_]) (b := 50) SS (nK_o G) hK hK (mX1_fails l G ad x (upd fi 0 0) fa 2) (cwV 1 hts (lw_V q1212 q1214 qs34 q61 q1215) rfl rfl rfl (by decide +kernel) ⟨Nat.le_of_ble_eq_true rfl, Nat.le_of_ble_eq_true rfl⟩) hN hS mPic_o rfl rfl hl.1 rfl (Nat.le_of_ble_eq_true rfl) dX1_as_43 ⟨Nat.le_of_ble_eq_true rfl, Nat.le_of_ble_eq_true rfl⟩ (fun v ad' c' H locs hv hN hS => ?_)
        obtain ⟨_, _, rfl, rfl, rfl, rfl, rfl⟩ := hv
        refine W.eq (g2 := F0 m 46 ls (_ :: _)) rfl ?_
        exact W.iret hx hb hr (nEnd hN hS ⟨_, _, rfl, rfl, ⟨by rw [hans]; try rfl, by first | rw [hans, upd_upd] | rw [hans], rfl⟩⟩) hS.2 dX1_as_46
      · have hans : oAs np (fa 8) a b = (1, 0) := by rw [oAs, if_pos c10, tpp, if_pos c21, if_neg c34]
        refine lv_iconst (v := 1) hx hb dX1_as_37 (by decide) ?_
        refine lv_goto (tgt := 46) hx hb dX1_as_38 (by decide) ?_
        exact W.iret hx hb hr (nEnd hN hS ⟨_, _, rfl, rfl, ⟨by rw [hans]; try rfl, by first | rw [hans, upd_upd] | rw [hans], rfl⟩⟩) hS.2 dX1_as_46
    · have c21 := zI_0.mp c21
      have hans : oAs np (fa 8) a b = (-2, 0) := by rw [oAs, if_pos c10, if_neg (by rw [c21]; decide)]
      refine lv_bipush (v := (-2)) hx hb dX1_as_24 (by decide) ?_
      exact W.iret hx hb hr (nEnd hN hS ⟨_, _, rfl, rfl, ⟨by rw [hans]; try rfl, by first | rw [hans, upd_upd] | rw [hans], rfl⟩⟩) hS.2 dX1_as_26
  · have c10 : ¬ sIn a np = true := by simpa [zI_0] using c10
    have hans : oAs np (fa 8) a b = (-1, 0) := by rw [oAs, if_neg c10]
    refine lv_iconst (v := (-1)) hx hb dX1_as_13 (by decide) ?_
    exact W.iret hx hb hr (nEnd hN hS ⟨_, _, rfl, rfl, ⟨by rw [hans]; try rfl, by first | rw [hans, upd_upd] | rw [hans], rfl⟩⟩) hS.2 dX1_as_14
