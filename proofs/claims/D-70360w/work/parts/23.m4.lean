/-! THE MODEL's days and what-ifs: printed by wip/gen/m4.py -/
set_option maxHeartbeats 4000000 in
set_option maxRecDepth 100000 in
theorem mX1_days (l : Launch) (G : nG) (ad : Nat → Nat) (x : nPic) (fi : Nat → Int32) (fa : Nat → Nat → Int32) (k sort i n a : Int32) (hSL : ∀ k, k < 4 → ¬ fa 2 k = -9 → ∃ L, L ≤ 60 ∧ fa 3 k = nI L) (nd : Nat) (hnd : fi 5 = nI nd) (h6 : nd ≤ 6) (np : Nat) (hnp : fi 6 = nI np) (h4 : np ≤ 4) : Met l yX1_days (ws_ yX1_days cX1_days 8 (some .int)) (mR 5) (nPc G nCl (nK G) ad (mPic G x ad fi fa) [.ref (ad 50), .int k, .int sort, .int i, .int n, .int a]) (nQ G nCl (mP G ad x (fun rv fi' fa' => rv = some (.int (oDys nd np (fa 7) (fa 8) (fa 9) (fa 10) (fa 11) (fa 2) (fa 3) (fa 4) k sort i n a).1) ∧ mEq (upd fi 0 (oDys nd np (fa 7) (fa 8) (fa 9) (fa 10) (fa 11) (fa 2) (fa 3) (fa 4) k sort i n a).2) fa fi' fa'))) 0 0 (fun q => G.2 ≤ q) := by
  refine nMet RX1 (by decide) rfl (Nat.le_of_ble_eq_true rfl) ?_
  intro p e s m below meth c ls SS hR hK hN hS hl
  obtain ⟨hx, hb, hml, hown, hts⟩ := id SS
  obtain ⟨hr, hlk, hnm⟩ := hR
  generalize s.heap = H at hN hS ⊢
  generalize ([] : List Loc) = locs at hS ⊢
  have hl : lv_has ls 8 [(0, .ref (ad 50)), (1, .int k), (2, .int sort), (3, .int i), (4, .int n), (5, .int a)] := hl
  refine lv_aload_n hx hb dX1_days_0 rfl (lv_at hl 0 rfl) ?_
  refine lv_iconst (v := 0) hx hb dX1_days_1 (by decide) ?_
  refine m_put SS hK hN hS 0 (by decide) q1119 rfl rfl rfl rfl dX1_days_2 (fun H locs hN hS => ?_)
  refine lv_iload_n hx hb dX1_days_5 rfl (lv_at hl 1 rfl) ?_
  refine n_callS (As := [_]) SS (nK_o G) hK (mX1_isSheet l G ad x (upd fi 0 0) fa k) (va_cwS 1 hts (lw_S q1199 q1200 q61 q1201) rfl rfl rfl (by decide +kernel) ⟨Nat.le_of_ble_eq_true rfl, Nat.le_of_ble_eq_true rfl⟩) hN hS rfl hl.1 rfl (Nat.le_of_ble_eq_true rfl) dX1_days_6 ⟨Nat.le_of_ble_eq_true rfl, Nat.le_of_ble_eq_true rfl⟩ (fun v ad' c' H locs hv hN hS => ?_)
  obtain ⟨_, _, rfl, rfl, rfl, rfl, rfl⟩ := hv
  refine W.eq (g2 := F0 m 9 ls (_ :: _)) rfl ?_
  refine lv_if_ne (tgt := 14) hx hb dX1_days_9 (by decide) (fun c9 => ?_) (fun c9 => ?_)
  · have c9 : sBt k 0 3 = true := by simpa [zI_0] using c9
    obtain ⟨kk, hkk, ekk, tkk⟩ := sBt_t 3 (by decide) c9
    rw [ekk] at hl
    refine lv_iload_n hx hb dX1_days_14 rfl (lv_at hl 2 rfl) ?_
    refine lv_iload hx hb dX1_days_15 (lv_at hl 4 rfl) ?_
    refine n_callS (As := [_, _]) SS (nK_o G) hK (mX1_isRow l G ad x (upd fi 0 0) fa sort n) (va_cwS 2 hts (lw_S q1300 q1301 q61 q1302) rfl rfl rfl (by decide +kernel) ⟨Nat.le_of_ble_eq_true rfl, Nat.le_of_ble_eq_true rfl⟩) hN hS rfl hl.1 rfl (Nat.le_of_ble_eq_true rfl) dX1_days_17 ⟨Nat.le_of_ble_eq_true rfl, Nat.le_of_ble_eq_true rfl⟩ (fun v ad' c' H locs hv hN hS => ?_)
    obtain ⟨_, _, rfl, rfl, rfl, rfl, rfl⟩ := hv
    refine W.eq (g2 := F0 m 20 ls (_ :: _)) rfl ?_
    refine lv_if_eq (tgt := 57) hx hb dX1_days_20 (by decide) (fun c20 => ?_) (fun c20 => ?_)
    · have hno : ¬ (sBt sort 0 2 = true ∧ sBt n 0 20 = true ∧ sAsk a = true) := by intro z; simp_all [zI_0]
      have hans : oDys nd np (fa 7) (fa 8) (fa 9) (fa 10) (fa 11) (fa 2) (fa 3) (fa 4) k sort i n a = (-2, 0) := by rw [oDys, if_pos c9, if_neg hno]
      refine lv_bipush (v := (-2)) hx hb dX1_days_57 (by decide) ?_
      exact W.iret hx hb hr (nEnd hN hS ⟨_, _, rfl, rfl, ⟨by rw [hans], by rw [hans]; exact mEq.rf⟩⟩) hS.2 dX1_days_59
    · have c20 : sBt sort 0 2 = true ∧ sBt n 0 20 = true := by simpa [zI_0] using c20
      obtain ⟨pm, hpm, en, tnn⟩ := sBt_t 20 (by decide) c20.2
      rw [en] at hl
      refine lv_iload hx hb dX1_days_23 (lv_at hl 5 rfl) ?_
      refine lv_iconst (v := 0) hx hb dX1_days_25 (by decide) ?_
      refine lv_iconst (v := 2) hx hb dX1_days_26 (by decide) ?_
      refine n_callS (As := [_, _, _]) SS (nK_o G) hK (mX1_within l G ad x (upd fi 0 0) fa a 0 2) (va_cwS 3 hts (lw_S q1202 q1203 q61 q1204) rfl rfl rfl (by decide +kernel) ⟨Nat.le_of_ble_eq_true rfl, Nat.le_of_ble_eq_true rfl⟩) hN hS rfl hl.1 rfl (Nat.le_of_ble_eq_true rfl) dX1_days_27 ⟨Nat.le_of_ble_eq_true rfl, Nat.le_of_ble_eq_true rfl⟩ (fun v ad' c' H locs hv hN hS => ?_)
      obtain ⟨_, _, rfl, rfl, rfl, rfl, rfl⟩ := hv
      refine W.eq (g2 := F0 m 30 ls (_ :: _)) rfl ?_
      refine lv_if_ne (tgt := 60) hx hb dX1_days_30 (by decide) (fun c30 => ?_) (fun c30 => ?_)
      · have hask : sAsk a = true := by simp_all [zI_0, sAsk]
        refine lv_aload_n hx hb dX1_days_60 rfl (lv_at hl 0 rfl) ?_
        refine lv_iload_n hx hb dX1_days_61 rfl (lv_at hl 1 rfl) ?_
        refine lv_iload_n hx hb dX1_days_62 rfl (lv_at hl 2 rfl) ?_
        refine lv_iload_n hx hb dX1_days_63 rfl (lv_at hl 3 rfl) ?_
        refine lv_iload hx hb dX1_days_64 (lv_at hl 4 rfl) ?_
        refine n_callV (C := RX1) (As := [_, _, _, _]) (b := 50) SS (nK_o G) hK hK (mX1_layDays l G ad x (upd fi 0 0) fa kk (by omega) sort i pm hpm rfl hSL nd hnd h6 np hnp h4) (cwV 4 hts (lw_V q1303 q1305 qs48 q61 q1306) rfl rfl rfl (by decide +kernel) ⟨Nat.le_of_ble_eq_true rfl, Nat.le_of_ble_eq_true rfl⟩) hN hS mPic_o rfl rfl hl.1 rfl (Nat.le_of_ble_eq_true rfl) dX1_days_66 ⟨Nat.le_of_ble_eq_true rfl, Nat.le_of_ble_eq_true rfl⟩ (fun v ad' c' H locs hv hN hS => ?_)
        obtain ⟨fi2, fa2, rfl, rfl, rfl, hE, hpr⟩ := hv
        refine W.eq (g2 := F0 m 69 ls (_ :: _)) rfl ?_
        refine lv_istore (lv' := [(6, _), (0, _), (1, _), (2, _), (3, _), (4, _), (5, _)]) hx hb dX1_days_69 hl (by decide) rfl (fun ls hl => ?_)
        refine lv_iload hx hb dX1_days_71 (lv_at hl 0 rfl) ?_
        refine lv_if_eq (tgt := 79) hx hb dX1_days_73 (by decide) (fun c73 => ?_) (fun c73 => ?_)
        · obtain ⟨hrow, hn0, hL2⟩ := sLay_0 c73
          obtain ⟨⟨a0, a1, a5, a6, a22⟩, b2, b3, b4, b7, b8, b9, b10, b11, b23, b24⟩ := id hE
          refine lv_aload_n hx hb dX1_days_79 rfl (lv_at hl 1 rfl) ?_
          refine n_callV (C := RX1) (As := []) (b := 50) SS (nK_o G) hK hK (mX1_goDays l G ad x fi2 fa2 nd (a5.trans hnd) h6 np (a6.trans hnp) h4 pm hpm (hpr c73).1 (sWh (fa 4) (60 * kk + tn i)) (sWt (fa 4) (60 * kk + tn i)) (fun j hj => by obtain ⟨q1, q2⟩ := (hpr c73).2 j hj; rw [q1, q2]; exact row_w hrow (by omega) (by omega) j hj)) (cwV 0 hts (lw_V q1307 q1309 qs49 q61 q1310) rfl rfl rfl (by decide +kernel) ⟨Nat.le_of_ble_eq_true rfl, Nat.le_of_ble_eq_true rfl⟩) hN hS mPic_o rfl rfl hl.1 rfl (Nat.le_of_ble_eq_true rfl) dX1_days_80 ⟨Nat.le_of_ble_eq_true rfl, Nat.le_of_ble_eq_true rfl⟩ (fun v ad' c' H locs hv hN hS => ?_)
          obtain ⟨_, _, rfl, rfl, rfl, rfl, rfl⟩ := hv
          refine W.eq (g2 := F0 m 83 ls (_ :: _)) rfl ?_
          obtain ⟨g, hg⟩ : ∃ g, g = sGo (fa2 7) (fa2 8) (fa2 9) (fa2 10) nd np (sWh (fa 4) (60 * kk + tn i)) (sWt (fa 4) (60 * kk + tn i)) pm 0 (fun j => if j < np then fa2 11 j else fa2 17 j) 0 := ⟨_, rfl⟩
          rw [← hg] at hN ⊢
          obtain ⟨hc1, hc2, hc3⟩ := sGo_congr (w := fa 7) (kd := fa 8) (dn := fa 9) (kn := fa 10) (nd := nd) (np := np) (wh := (sWh (fa 4) (60 * kk + tn i))) (wt := (sWt (fa 4) (60 * kk + tn i))) pm 0 (fun j => if j < np then fa2 11 j else fa2 17 j) (fa 11) 0 (fun j _ hj => (row_w hrow (by omega) (by omega) j (by omega)).2.1) (fun j hj => by simp [hj, b11])
          rw [← b7, ← b8, ← b9, ← b10, ← hg, b7, b8, b9, b10] at hc1 hc2 hc3
          have hans : oDys nd np (fa 7) (fa 8) (fa 9) (fa 10) (fa 11) (fa 2) (fa 3) (fa 4) k sort i n a = (sGoA (sGo (fa 7) (fa 8) (fa 9) (fa 10) nd np (sWh (fa 4) (60 * kk + tn i)) (sWt (fa 4) (60 * kk + tn i)) pm 0 (fa 11) 0) (fa 7) (fa 8) nd np a, 0) := by rw [oDys, if_pos c9, if_pos ⟨c20.1, c20.2, hask⟩, tkk, tnn, if_pos c73]
          refine lv_istore (lv' := [(7, _), (6, _), (0, _), (1, _), (2, _), (3, _), (4, _), (5, _)]) hx hb dX1_days_83 hl (by decide) rfl (fun ls hl => ?_)
          refine lv_iload hx hb dX1_days_85 (lv_at hl 7 rfl) ?_
          refine lv_iconst (v := 1) hx hb dX1_days_87 (by decide) ?_
          refine lv_icmp_ne (tgt := 94) hx hb dX1_days_88 (by decide) (fun c88 => ?_) (fun c88 => ?_)
          · refine lv_iload hx hb dX1_days_94 (lv_at hl 0 rfl) ?_
            refine lv_bipush (v := (-9)) hx hb dX1_days_96 (by decide) ?_
            refine lv_icmp_ne (tgt := 110) hx hb dX1_days_98 (by decide) (fun c98 => ?_) (fun c98 => ?_)
            · refine lv_bipush (v := (-100)) hx hb dX1_days_110 (by decide) ?_
              refine lv_iload hx hb dX1_days_112 (lv_at hl 0 rfl) ?_
              refine lv_isub hx hb dX1_days_114 ?_
              exact W.iret hx hb hr (nEnd hN hS ⟨_, _, rfl, rfl, ⟨by rw [hans]; show _ = some (Value.int (sGoA _ _ _ _ _ _)); rw [sGoA, if_neg c88]; first | rw [if_pos (by rw [← hc1]; exact c98)] | rw [if_neg (by rw [← hc1]; exact c98), hc1], by rw [hans]; rw [hL2, upd_upd] at hE; exact (hE.ji 21 rfl _).ja 17 rfl _⟩⟩) hS.2 dX1_days_115
            · refine lv_aload_n hx hb dX1_days_101 rfl (lv_at hl 2 rfl) ?_
              refine lv_iload hx hb dX1_days_102 (lv_at hl 7 rfl) ?_
              refine n_callV (C := RX1) (As := [_]) (b := 50) SS (nK_o G) hK hK (mX1_tellDays l G ad x (upd fi2 21 g.2.2) (va_up fa2 17 g.2.1) a nd (a5.trans hnd) h6 np (a6.trans hnp) h4) (cwV 1 hts (lw_V q1311 q1313 qs50 q61 q1314) rfl rfl rfl (by decide +kernel) ⟨Nat.le_of_ble_eq_true rfl, Nat.le_of_ble_eq_true rfl⟩) hN hS mPic_o rfl rfl hl.1 rfl (Nat.le_of_ble_eq_true rfl) dX1_days_104 ⟨Nat.le_of_ble_eq_true rfl, Nat.le_of_ble_eq_true rfl⟩ (fun v ad' c' H locs hv hN hS => ?_)
              obtain ⟨_, _, rfl, rfl, rfl, rfl, rfl⟩ := hv
              refine W.eq (g2 := F0 m 107 ls (_ :: _)) rfl ?_
              refine n_top (y := sTd (fa 7) (fa 8) (sGo (fa 7) (fa 8) (fa 9) (fa 10) nd np (sWh (fa 4) (60 * kk + tn i)) (sWt (fa 4) (60 * kk + tn i)) pm 0 (fa 11) 0).2.1 nd np (sGo (fa 7) (fa 8) (fa 9) (fa 10) nd np (sWh (fa 4) (60 * kk + tn i)) (sWt (fa 4) (60 * kk + tn i)) pm 0 (fa 11) 0).2.2 a) (by show sTd (fa2 7) (fa2 8) g.2.1 nd np g.2.2 a = _; rw [b7, b8, hc2]; exact sTd_congr (by omega) hc3 _ _) ?_
              refine lv_goto (tgt := 115) hx hb dX1_days_107 (by decide) ?_
              exact W.iret hx hb hr (nEnd hN hS ⟨_, _, rfl, rfl, ⟨by rw [hans]; show _ = some (Value.int (sGoA _ _ _ _ _ _)); rw [sGoA, if_neg c88]; first | rw [if_pos (by rw [← hc1]; exact c98)] | rw [if_neg (by rw [← hc1]; exact c98), hc1], by rw [hans]; rw [hL2, upd_upd] at hE; exact (hE.ji 21 rfl _).ja 17 rfl _⟩⟩) hS.2 dX1_days_115
          · refine lv_iload hx hb dX1_days_91 (lv_at hl 0 rfl) ?_
            exact W.iret hx hb hr (nEnd hN hS ⟨_, _, rfl, rfl, ⟨by rw [hans]; show _ = some (Value.int (sGoA _ _ _ _ _ _)); rw [sGoA, if_pos c88, hc1], by rw [hans]; rw [hL2, upd_upd] at hE; exact (hE.ji 21 rfl _).ja 17 rfl _⟩⟩) hS.2 dX1_days_93
        · have hans : oDys nd np (fa 7) (fa 8) (fa 9) (fa 10) (fa 11) (fa 2) (fa 3) (fa 4) k sort i n a = sLay (fa 2) (fa 3) (fa 4) nd np kk sort i pm := by rw [oDys, if_pos c9, if_pos ⟨c20.1, c20.2, hask⟩, tkk, tnn, if_neg c73]
          refine lv_iload hx hb dX1_days_76 (lv_at hl 0 rfl) ?_
          exact W.iret hx hb hr (nEnd hN hS ⟨_, _, rfl, rfl, ⟨by rw [hans], by rw [hans]; rw [upd_upd] at hE; exact hE⟩⟩) hS.2 dX1_days_78
      · refine lv_iload hx hb dX1_days_33 (lv_at hl 5 rfl) ?_
        refine lv_bipush (v := 10) hx hb dX1_days_35 (by decide) ?_
        refine lv_bipush (v := 13) hx hb dX1_days_37 (by decide) ?_
        refine n_callS (As := [_, _, _]) SS (nK_o G) hK (mX1_within l G ad x (upd fi 0 0) fa a 10 13) (va_cwS 3 hts (lw_S q1202 q1203 q61 q1204) rfl rfl rfl (by decide +kernel) ⟨Nat.le_of_ble_eq_true rfl, Nat.le_of_ble_eq_true rfl⟩) hN hS rfl hl.1 rfl (Nat.le_of_ble_eq_true rfl) dX1_days_39 ⟨Nat.le_of_ble_eq_true rfl, Nat.le_of_ble_eq_true rfl⟩ (fun v ad' c' H locs hv hN hS => ?_)
        obtain ⟨_, _, rfl, rfl, rfl, rfl, rfl⟩ := hv
        refine W.eq (g2 := F0 m 42 ls (_ :: _)) rfl ?_
        refine lv_if_ne (tgt := 60) hx hb dX1_days_42 (by decide) (fun c42 => ?_) (fun c42 => ?_)
        · have hask : sAsk a = true := by simp_all [zI_0, sAsk]
          refine lv_aload_n hx hb dX1_days_60 rfl (lv_at hl 0 rfl) ?_
          refine lv_iload_n hx hb dX1_days_61 rfl (lv_at hl 1 rfl) ?_
          refine lv_iload_n hx hb dX1_days_62 rfl (lv_at hl 2 rfl) ?_
          refine lv_iload_n hx hb dX1_days_63 rfl (lv_at hl 3 rfl) ?_
          refine lv_iload hx hb dX1_days_64 (lv_at hl 4 rfl) ?_
          refine n_callV (C := RX1) (As := [_, _, _, _]) (b := 50) SS (nK_o G) hK hK (mX1_layDays l G ad x (upd fi 0 0) fa kk (by omega) sort i pm hpm rfl hSL nd hnd h6 np hnp h4) (cwV 4 hts (lw_V q1303 q1305 qs48 q61 q1306) rfl rfl rfl (by decide +kernel) ⟨Nat.le_of_ble_eq_true rfl, Nat.le_of_ble_eq_true rfl⟩) hN hS mPic_o rfl rfl hl.1 rfl (Nat.le_of_ble_eq_true rfl) dX1_days_66 ⟨Nat.le_of_ble_eq_true rfl, Nat.le_of_ble_eq_true rfl⟩ (fun v ad' c' H locs hv hN hS => ?_)
          obtain ⟨fi2, fa2, rfl, rfl, rfl, hE, hpr⟩ := hv
          refine W.eq (g2 := F0 m 69 ls (_ :: _)) rfl ?_
          refine lv_istore (lv' := [(6, _), (0, _), (1, _), (2, _), (3, _), (4, _), (5, _)]) hx hb dX1_days_69 hl (by decide) rfl (fun ls hl => ?_)
          refine lv_iload hx hb dX1_days_71 (lv_at hl 0 rfl) ?_
          refine lv_if_eq (tgt := 79) hx hb dX1_days_73 (by decide) (fun c73 => ?_) (fun c73 => ?_)
          · obtain ⟨hrow, hn0, hL2⟩ := sLay_0 c73
            obtain ⟨⟨a0, a1, a5, a6, a22⟩, b2, b3, b4, b7, b8, b9, b10, b11, b23, b24⟩ := id hE
            refine lv_aload_n hx hb dX1_days_79 rfl (lv_at hl 1 rfl) ?_
            refine n_callV (C := RX1) (As := []) (b := 50) SS (nK_o G) hK hK (mX1_goDays l G ad x fi2 fa2 nd (a5.trans hnd) h6 np (a6.trans hnp) h4 pm hpm (hpr c73).1 (sWh (fa 4) (60 * kk + tn i)) (sWt (fa 4) (60 * kk + tn i)) (fun j hj => by obtain ⟨q1, q2⟩ := (hpr c73).2 j hj; rw [q1, q2]; exact row_w hrow (by omega) (by omega) j hj)) (cwV 0 hts (lw_V q1307 q1309 qs49 q61 q1310) rfl rfl rfl (by decide +kernel) ⟨Nat.le_of_ble_eq_true rfl, Nat.le_of_ble_eq_true rfl⟩) hN hS mPic_o rfl rfl hl.1 rfl (Nat.le_of_ble_eq_true rfl) dX1_days_80 ⟨Nat.le_of_ble_eq_true rfl, Nat.le_of_ble_eq_true rfl⟩ (fun v ad' c' H locs hv hN hS => ?_)
            obtain ⟨_, _, rfl, rfl, rfl, rfl, rfl⟩ := hv
            refine W.eq (g2 := F0 m 83 ls (_ :: _)) rfl ?_
            obtain ⟨g, hg⟩ : ∃ g, g = sGo (fa2 7) (fa2 8) (fa2 9) (fa2 10) nd np (sWh (fa 4) (60 * kk + tn i)) (sWt (fa 4) (60 * kk + tn i)) pm 0 (fun j => if j < np then fa2 11 j else fa2 17 j) 0 := ⟨_, rfl⟩
            rw [← hg] at hN ⊢
            obtain ⟨hc1, hc2, hc3⟩ := sGo_congr (w := fa 7) (kd := fa 8) (dn := fa 9) (kn := fa 10) (nd := nd) (np := np) (wh := (sWh (fa 4) (60 * kk + tn i))) (wt := (sWt (fa 4) (60 * kk + tn i))) pm 0 (fun j => if j < np then fa2 11 j else fa2 17 j) (fa 11) 0 (fun j _ hj => (row_w hrow (by omega) (by omega) j (by omega)).2.1) (fun j hj => by simp [hj, b11])
            rw [← b7, ← b8, ← b9, ← b10, ← hg, b7, b8, b9, b10] at hc1 hc2 hc3
            have hans : oDys nd np (fa 7) (fa 8) (fa 9) (fa 10) (fa 11) (fa 2) (fa 3) (fa 4) k sort i n a = (sGoA (sGo (fa 7) (fa 8) (fa 9) (fa 10) nd np (sWh (fa 4) (60 * kk + tn i)) (sWt (fa 4) (60 * kk + tn i)) pm 0 (fa 11) 0) (fa 7) (fa 8) nd np a, 0) := by rw [oDys, if_pos c9, if_pos ⟨c20.1, c20.2, hask⟩, tkk, tnn, if_pos c73]
            refine lv_istore (lv' := [(7, _), (6, _), (0, _), (1, _), (2, _), (3, _), (4, _), (5, _)]) hx hb dX1_days_83 hl (by decide) rfl (fun ls hl => ?_)
            refine lv_iload hx hb dX1_days_85 (lv_at hl 7 rfl) ?_
            refine lv_iconst (v := 1) hx hb dX1_days_87 (by decide) ?_
            refine lv_icmp_ne (tgt := 94) hx hb dX1_days_88 (by decide) (fun c88 => ?_) (fun c88 => ?_)
            · refine lv_iload hx hb dX1_days_94 (lv_at hl 0 rfl) ?_
              refine lv_bipush (v := (-9)) hx hb dX1_days_96 (by decide) ?_
              refine lv_icmp_ne (tgt := 110) hx hb dX1_days_98 (by decide) (fun c98 => ?_) (fun c98 => ?_)
              · refine lv_bipush (v := (-100)) hx hb dX1_days_110 (by decide) ?_
                refine lv_iload hx hb dX1_days_112 (lv_at hl 0 rfl) ?_
                refine lv_isub hx hb dX1_days_114 ?_
                exact W.iret hx hb hr (nEnd hN hS ⟨_, _, rfl, rfl, ⟨by rw [hans]; show _ = some (Value.int (sGoA _ _ _ _ _ _)); rw [sGoA, if_neg c88]; first | rw [if_pos (by rw [← hc1]; exact c98)] | rw [if_neg (by rw [← hc1]; exact c98), hc1], by rw [hans]; rw [hL2, upd_upd] at hE; exact (hE.ji 21 rfl _).ja 17 rfl _⟩⟩) hS.2 dX1_days_115
              · refine lv_aload_n hx hb dX1_days_101 rfl (lv_at hl 2 rfl) ?_
                refine lv_iload hx hb dX1_days_102 (lv_at hl 7 rfl) ?_
                refine n_callV (C := RX1) (As := [_]) (b := 50) SS (nK_o G) hK hK (mX1_tellDays l G ad x (upd fi2 21 g.2.2) (va_up fa2 17 g.2.1) a nd (a5.trans hnd) h6 np (a6.trans hnp) h4) (cwV 1 hts (lw_V q1311 q1313 qs50 q61 q1314) rfl rfl rfl (by decide +kernel) ⟨Nat.le_of_ble_eq_true rfl, Nat.le_of_ble_eq_true rfl⟩) hN hS mPic_o rfl rfl hl.1 rfl (Nat.le_of_ble_eq_true rfl) dX1_days_104 ⟨Nat.le_of_ble_eq_true rfl, Nat.le_of_ble_eq_true rfl⟩ (fun v ad' c' H locs hv hN hS => ?_)
                obtain ⟨_, _, rfl, rfl, rfl, rfl, rfl⟩ := hv
                refine W.eq (g2 := F0 m 107 ls (_ :: _)) rfl ?_
                refine n_top (y := sTd (fa 7) (fa 8) (sGo (fa 7) (fa 8) (fa 9) (fa 10) nd np (sWh (fa 4) (60 * kk + tn i)) (sWt (fa 4) (60 * kk + tn i)) pm 0 (fa 11) 0).2.1 nd np (sGo (fa 7) (fa 8) (fa 9) (fa 10) nd np (sWh (fa 4) (60 * kk + tn i)) (sWt (fa 4) (60 * kk + tn i)) pm 0 (fa 11) 0).2.2 a) (by show sTd (fa2 7) (fa2 8) g.2.1 nd np g.2.2 a = _; rw [b7, b8, hc2]; exact sTd_congr (by omega) hc3 _ _) ?_
                refine lv_goto (tgt := 115) hx hb dX1_days_107 (by decide) ?_
                exact W.iret hx hb hr (nEnd hN hS ⟨_, _, rfl, rfl, ⟨by rw [hans]; show _ = some (Value.int (sGoA _ _ _ _ _ _)); rw [sGoA, if_neg c88]; first | rw [if_pos (by rw [← hc1]; exact c98)] | rw [if_neg (by rw [← hc1]; exact c98), hc1], by rw [hans]; rw [hL2, upd_upd] at hE; exact (hE.ji 21 rfl _).ja 17 rfl _⟩⟩) hS.2 dX1_days_115
            · refine lv_iload hx hb dX1_days_91 (lv_at hl 0 rfl) ?_
              exact W.iret hx hb hr (nEnd hN hS ⟨_, _, rfl, rfl, ⟨by rw [hans]; show _ = some (Value.int (sGoA _ _ _ _ _ _)); rw [sGoA, if_pos c88, hc1], by rw [hans]; rw [hL2, upd_upd] at hE; exact (hE.ji 21 rfl _).ja 17 rfl _⟩⟩) hS.2 dX1_days_93
          · have hans : oDys nd np (fa 7) (fa 8) (fa 9) (fa 10) (fa 11) (fa 2) (fa 3) (fa 4) k sort i n a = sLay (fa 2) (fa 3) (fa 4) nd np kk sort i pm := by rw [oDys, if_pos c9, if_pos ⟨c20.1, c20.2, hask⟩, tkk, tnn, if_neg c73]
            refine lv_iload hx hb dX1_days_76 (lv_at hl 0 rfl) ?_
            exact W.iret hx hb hr (nEnd hN hS ⟨_, _, rfl, rfl, ⟨by rw [hans], by rw [hans]; rw [upd_upd] at hE; exact hE⟩⟩) hS.2 dX1_days_78
        · refine lv_iload hx hb dX1_days_45 (lv_at hl 5 rfl) ?_
          refine lv_bipush (v := 20) hx hb dX1_days_47 (by decide) ?_
          refine lv_bipush (v := 23) hx hb dX1_days_49 (by decide) ?_
          refine n_callS (As := [_, _, _]) SS (nK_o G) hK (mX1_within l G ad x (upd fi 0 0) fa a 20 23) (va_cwS 3 hts (lw_S q1202 q1203 q61 q1204) rfl rfl rfl (by decide +kernel) ⟨Nat.le_of_ble_eq_true rfl, Nat.le_of_ble_eq_true rfl⟩) hN hS rfl hl.1 rfl (Nat.le_of_ble_eq_true rfl) dX1_days_51 ⟨Nat.le_of_ble_eq_true rfl, Nat.le_of_ble_eq_true rfl⟩ (fun v ad' c' H locs hv hN hS => ?_)
          obtain ⟨_, _, rfl, rfl, rfl, rfl, rfl⟩ := hv
          refine W.eq (g2 := F0 m 54 ls (_ :: _)) rfl ?_
          refine lv_if_ne (tgt := 60) hx hb dX1_days_54 (by decide) (fun c54 => ?_) (fun c54 => ?_)
          · have hask : sAsk a = true := by simp_all [zI_0, sAsk]
            refine lv_aload_n hx hb dX1_days_60 rfl (lv_at hl 0 rfl) ?_
            refine lv_iload_n hx hb dX1_days_61 rfl (lv_at hl 1 rfl) ?_
            refine lv_iload_n hx hb dX1_days_62 rfl (lv_at hl 2 rfl) ?_
            refine lv_iload_n hx hb dX1_days_63 rfl (lv_at hl 3 rfl) ?_
            refine lv_iload hx hb dX1_days_64 (lv_at hl 4 rfl) ?_
            refine n_callV (C := RX1) (As := [_, _, _, _]) (b := 50) SS (nK_o G) hK hK (mX1_layDays l G ad x (upd fi 0 0) fa kk (by omega) sort i pm hpm rfl hSL nd hnd h6 np hnp h4) (cwV 4 hts (lw_V q1303 q1305 qs48 q61 q1306) rfl rfl rfl (by decide +kernel) ⟨Nat.le_of_ble_eq_true rfl, Nat.le_of_ble_eq_true rfl⟩) hN hS mPic_o rfl rfl hl.1 rfl (Nat.le_of_ble_eq_true rfl) dX1_days_66 ⟨Nat.le_of_ble_eq_true rfl, Nat.le_of_ble_eq_true rfl⟩ (fun v ad' c' H locs hv hN hS => ?_)
            obtain ⟨fi2, fa2, rfl, rfl, rfl, hE, hpr⟩ := hv
            refine W.eq (g2 := F0 m 69 ls (_ :: _)) rfl ?_
            refine lv_istore (lv' := [(6, _), (0, _), (1, _), (2, _), (3, _), (4, _), (5, _)]) hx hb dX1_days_69 hl (by decide) rfl (fun ls hl => ?_)
            refine lv_iload hx hb dX1_days_71 (lv_at hl 0 rfl) ?_
            refine lv_if_eq (tgt := 79) hx hb dX1_days_73 (by decide) (fun c73 => ?_) (fun c73 => ?_)
            · obtain ⟨hrow, hn0, hL2⟩ := sLay_0 c73
              obtain ⟨⟨a0, a1, a5, a6, a22⟩, b2, b3, b4, b7, b8, b9, b10, b11, b23, b24⟩ := id hE
              refine lv_aload_n hx hb dX1_days_79 rfl (lv_at hl 1 rfl) ?_
              refine n_callV (C := RX1) (As := []) (b := 50) SS (nK_o G) hK hK (mX1_goDays l G ad x fi2 fa2 nd (a5.trans hnd) h6 np (a6.trans hnp) h4 pm hpm (hpr c73).1 (sWh (fa 4) (60 * kk + tn i)) (sWt (fa 4) (60 * kk + tn i)) (fun j hj => by obtain ⟨q1, q2⟩ := (hpr c73).2 j hj; rw [q1, q2]; exact row_w hrow (by omega) (by omega) j hj)) (cwV 0 hts (lw_V q1307 q1309 qs49 q61 q1310) rfl rfl rfl (by decide +kernel) ⟨Nat.le_of_ble_eq_true rfl, Nat.le_of_ble_eq_true rfl⟩) hN hS mPic_o rfl rfl hl.1 rfl (Nat.le_of_ble_eq_true rfl) dX1_days_80 ⟨Nat.le_of_ble_eq_true rfl, Nat.le_of_ble_eq_true rfl⟩ (fun v ad' c' H locs hv hN hS => ?_)
              obtain ⟨_, _, rfl, rfl, rfl, rfl, rfl⟩ := hv
              refine W.eq (g2 := F0 m 83 ls (_ :: _)) rfl ?_
              obtain ⟨g, hg⟩ : ∃ g, g = sGo (fa2 7) (fa2 8) (fa2 9) (fa2 10) nd np (sWh (fa 4) (60 * kk + tn i)) (sWt (fa 4) (60 * kk + tn i)) pm 0 (fun j => if j < np then fa2 11 j else fa2 17 j) 0 := ⟨_, rfl⟩
              rw [← hg] at hN ⊢
              obtain ⟨hc1, hc2, hc3⟩ := sGo_congr (w := fa 7) (kd := fa 8) (dn := fa 9) (kn := fa 10) (nd := nd) (np := np) (wh := (sWh (fa 4) (60 * kk + tn i))) (wt := (sWt (fa 4) (60 * kk + tn i))) pm 0 (fun j => if j < np then fa2 11 j else fa2 17 j) (fa 11) 0 (fun j _ hj => (row_w hrow (by omega) (by omega) j (by omega)).2.1) (fun j hj => by simp [hj, b11])
              rw [← b7, ← b8, ← b9, ← b10, ← hg, b7, b8, b9, b10] at hc1 hc2 hc3
              have hans : oDys nd np (fa 7) (fa 8) (fa 9) (fa 10) (fa 11) (fa 2) (fa 3) (fa 4) k sort i n a = (sGoA (sGo (fa 7) (fa 8) (fa 9) (fa 10) nd np (sWh (fa 4) (60 * kk + tn i)) (sWt (fa 4) (60 * kk + tn i)) pm 0 (fa 11) 0) (fa 7) (fa 8) nd np a, 0) := by rw [oDys, if_pos c9, if_pos ⟨c20.1, c20.2, hask⟩, tkk, tnn, if_pos c73]
              refine lv_istore (lv' := [(7, _), (6, _), (0, _), (1, _), (2, _), (3, _), (4, _), (5, _)]) hx hb dX1_days_83 hl (by decide) rfl (fun ls hl => ?_)
              refine lv_iload hx hb dX1_days_85 (lv_at hl 7 rfl) ?_
              refine lv_iconst (v := 1) hx hb dX1_days_87 (by decide) ?_
              refine lv_icmp_ne (tgt := 94) hx hb dX1_days_88 (by decide) (fun c88 => ?_) (fun c88 => ?_)
              · refine lv_iload hx hb dX1_days_94 (lv_at hl 0 rfl) ?_
                refine lv_bipush (v := (-9)) hx hb dX1_days_96 (by decide) ?_
                refine lv_icmp_ne (tgt := 110) hx hb dX1_days_98 (by decide) (fun c98 => ?_) (fun c98 => ?_)
                · refine lv_bipush (v := (-100)) hx hb dX1_days_110 (by decide) ?_
                  refine lv_iload hx hb dX1_days_112 (lv_at hl 0 rfl) ?_
                  refine lv_isub hx hb dX1_days_114 ?_
                  exact W.iret hx hb hr (nEnd hN hS ⟨_, _, rfl, rfl, ⟨by rw [hans]; show _ = some (Value.int (sGoA _ _ _ _ _ _)); rw [sGoA, if_neg c88]; first | rw [if_pos (by rw [← hc1]; exact c98)] | rw [if_neg (by rw [← hc1]; exact c98), hc1], by rw [hans]; rw [hL2, upd_upd] at hE; exact (hE.ji 21 rfl _).ja 17 rfl _⟩⟩) hS.2 dX1_days_115
                · refine lv_aload_n hx hb dX1_days_101 rfl (lv_at hl 2 rfl) ?_
                  refine lv_iload hx hb dX1_days_102 (lv_at hl 7 rfl) ?_
                  refine n_callV (C := RX1) (As := [_]) (b := 50) SS (nK_o G) hK hK (mX1_tellDays l G ad x (upd fi2 21 g.2.2) (va_up fa2 17 g.2.1) a nd (a5.trans hnd) h6 np (a6.trans hnp) h4) (cwV 1 hts (lw_V q1311 q1313 qs50 q61 q1314) rfl rfl rfl (by decide +kernel) ⟨Nat.le_of_ble_eq_true rfl, Nat.le_of_ble_eq_true rfl⟩) hN hS mPic_o rfl rfl hl.1 rfl (Nat.le_of_ble_eq_true rfl) dX1_days_104 ⟨Nat.le_of_ble_eq_true rfl, Nat.le_of_ble_eq_true rfl⟩ (fun v ad' c' H locs hv hN hS => ?_)
                  obtain ⟨_, _, rfl, rfl, rfl, rfl, rfl⟩ := hv
                  refine W.eq (g2 := F0 m 107 ls (_ :: _)) rfl ?_
                  refine n_top (y := sTd (fa 7) (fa 8) (sGo (fa 7) (fa 8) (fa 9) (fa 10) nd np (sWh (fa 4) (60 * kk + tn i)) (sWt (fa 4) (60 * kk + tn i)) pm 0 (fa 11) 0).2.1 nd np (sGo (fa 7) (fa 8) (fa 9) (fa 10) nd np (sWh (fa 4) (60 * kk + tn i)) (sWt (fa 4) (60 * kk + tn i)) pm 0 (fa 11) 0).2.2 a) (by show sTd (fa2 7) (fa2 8) g.2.1 nd np g.2.2 a = _; rw [b7, b8, hc2]; exact sTd_congr (by omega) hc3 _ _) ?_
                  refine lv_goto (tgt := 115) hx hb dX1_days_107 (by decide) ?_
                  exact W.iret hx hb hr (nEnd hN hS ⟨_, _, rfl, rfl, ⟨by rw [hans]; show _ = some (Value.int (sGoA _ _ _ _ _ _)); rw [sGoA, if_neg c88]; first | rw [if_pos (by rw [← hc1]; exact c98)] | rw [if_neg (by rw [← hc1]; exact c98), hc1], by rw [hans]; rw [hL2, upd_upd] at hE; exact (hE.ji 21 rfl _).ja 17 rfl _⟩⟩) hS.2 dX1_days_115
              · refine lv_iload hx hb dX1_days_91 (lv_at hl 0 rfl) ?_
                exact W.iret hx hb hr (nEnd hN hS ⟨_, _, rfl, rfl, ⟨by rw [hans]; show _ = some (Value.int (sGoA _ _ _ _ _ _)); rw [sGoA, if_pos c88, hc1], by rw [hans]; rw [hL2, upd_upd] at hE; exact (hE.ji 21 rfl _).ja 17 rfl _⟩⟩) hS.2 dX1_days_93
            · have hans : oDys nd np (fa 7) (fa 8) (fa 9) (fa 10) (fa 11) (fa 2) (fa 3) (fa 4) k sort i n a = sLay (fa 2) (fa 3) (fa 4) nd np kk sort i pm := by rw [oDys, if_pos c9, if_pos ⟨c20.1, c20.2, hask⟩, tkk, tnn, if_neg c73]
              refine lv_iload hx hb dX1_days_76 (lv_at hl 0 rfl) ?_
              exact W.iret hx hb hr (nEnd hN hS ⟨_, _, rfl, rfl, ⟨by rw [hans], by rw [hans]; rw [upd_upd] at hE; exact hE⟩⟩) hS.2 dX1_days_78
          · have hno : ¬ (sBt sort 0 2 = true ∧ sBt n 0 20 = true ∧ sAsk a = true) := by intro z; simp_all [zI_0, sAsk]
            have hans : oDys nd np (fa 7) (fa 8) (fa 9) (fa 10) (fa 11) (fa 2) (fa 3) (fa 4) k sort i n a = (-2, 0) := by rw [oDys, if_pos c9, if_neg hno]
            refine lv_bipush (v := (-2)) hx hb dX1_days_57 (by decide) ?_
            exact W.iret hx hb hr (nEnd hN hS ⟨_, _, rfl, rfl, ⟨by rw [hans], by rw [hans]; exact mEq.rf⟩⟩) hS.2 dX1_days_59
  · have c9 : ¬ sBt k 0 3 = true := by simpa [zI_0] using c9
    have hans : oDys nd np (fa 7) (fa 8) (fa 9) (fa 10) (fa 11) (fa 2) (fa 3) (fa 4) k sort i n a = (-1, 0) := by rw [oDys, if_neg c9]
    refine lv_iconst (v := (-1)) hx hb dX1_days_12 (by decide) ?_
    exact W.iret hx hb hr (nEnd hN hS ⟨_, _, rfl, rfl, ⟨by rw [hans], by rw [hans]; exact mEq.rf⟩⟩) hS.2 dX1_days_13
set_option maxHeartbeats 4000000 in
set_option maxRecDepth 100000 in
theorem mX1_lay (l : Launch) (G : nG) (ad : Nat → Nat) (x : nPic) (fi : Nat → Int32) (fa : Nat → Nat → Int32) (b : Bool) (k sort i n : Int32) (hSL : ∀ k, k < 4 → ¬ fa 2 k = -9 → ∃ L, L ≤ 60 ∧ fa 3 k = nI L) (nd : Nat) (hnd : fi 5 = nI nd) (h6 : nd ≤ 6) (np : Nat) (hnp : fi 6 = nI np) (h4 : np ≤ 4) : Met l yX1_lay (ws_ yX1_lay cX1_lay 6 (some .int)) (mR 3) (nPc G nCl (nK G) ad (mPic G x ad fi fa) [.ref (ad 50), .int (zI b), .int k, .int sort, .int i, .int n]) (nQ G nCl (mP G ad x (fun rv fi' fa' => rv = some (.int (oLayB nd np (fa 2) (fa 3) (fa 4) b k sort i n).1) ∧ mEq (upd fi 0 (oLayB nd np (fa 2) (fa 3) (fa 4) b k sort i n).2) fa fi' fa' ∧ ((oLayB nd np (fa 2) (fa 3) (fa 4) b k sort i n).1 = 0 → b = true ∧ ∃ kk pm, kk < 4 ∧ k = nI kk ∧ tn k = kk ∧ pm ≤ 20 ∧ n = nI pm ∧ tn n = pm ∧ (sLay (fa 2) (fa 3) (fa 4) nd np kk sort i pm).1 = 0 ∧ fi' 18 = nI pm ∧ ∀ j, j < pm → fa' 19 j = fa 4 (60 * kk + tn i + 2 * j) ∧ fa' 20 j = fa 4 (60 * kk + tn i + 2 * j + 1))))) 0 0 (fun q => G.2 ≤ q) := by
  refine nMet RX1 (by decide) rfl (Nat.le_of_ble_eq_true rfl) ?_
  intro p e s m below meth c ls SS hR hK hN hS hl
  obtain ⟨hx, hb, hml, hown, hts⟩ := id SS
  obtain ⟨hr, hlk, hnm⟩ := hR
  generalize s.heap = H at hN hS ⊢
  generalize ([] : List Loc) = locs at hS ⊢
  have hl : lv_has ls 6 [(0, .ref (ad 50)), (1, .int (zI b)), (2, .int k), (3, .int sort), (4, .int i), (5, .int n)] := hl
  refine lv_aload_n hx hb dX1_lay_0 rfl (lv_at hl 0 rfl) ?_
  refine lv_iconst (v := 0) hx hb dX1_lay_1 (by decide) ?_
  refine m_put SS hK hN hS 0 (by decide) q1119 rfl rfl rfl rfl dX1_lay_2 (fun H locs hN hS => ?_)
  refine lv_iload_n hx hb dX1_lay_5 rfl (lv_at hl 1 rfl) ?_
  refine lv_if_eq (tgt := 16) hx hb dX1_lay_6 (by decide) (fun c6 => ?_) (fun c6 => ?_)
  · have hno : ¬ (b = true ∧ sBt k 0 3 = true) := by intro z; simp_all [zI_0]
    have hans : oLayB nd np (fa 2) (fa 3) (fa 4) b k sort i n = (-1, 0) := by rw [oLayB, if_neg hno]
    refine lv_iconst (v := (-1)) hx hb dX1_lay_16 (by decide) ?_
    exact W.iret hx hb hr (nEnd hN hS ⟨_, _, rfl, rfl, ⟨by rw [hans], by rw [hans]; exact mEq.rf, by rw [hans]; intro z; exact absurd z (by decide)⟩⟩) hS.2 dX1_lay_17
  · have c6 : b = true := by simpa [zI_0] using c6
    refine lv_iload_n hx hb dX1_lay_9 rfl (lv_at hl 2 rfl) ?_
    refine n_callS (As := [_]) SS (nK_o G) hK (mX1_isSheet l G ad x (upd fi 0 0) fa k) (va_cwS 1 hts (lw_S q1199 q1200 q61 q1201) rfl rfl rfl (by decide +kernel) ⟨Nat.le_of_ble_eq_true rfl, Nat.le_of_ble_eq_true rfl⟩) hN hS rfl hl.1 rfl (Nat.le_of_ble_eq_true rfl) dX1_lay_10 ⟨Nat.le_of_ble_eq_true rfl, Nat.le_of_ble_eq_true rfl⟩ (fun v ad' c' H locs hv hN hS => ?_)
    obtain ⟨_, _, rfl, rfl, rfl, rfl, rfl⟩ := hv
    refine W.eq (g2 := F0 m 13 ls (_ :: _)) rfl ?_
    refine lv_if_ne (tgt := 18) hx hb dX1_lay_13 (by decide) (fun c13 => ?_) (fun c13 => ?_)
    · have c13 : sBt k 0 3 = true := by simpa [zI_0] using c13
      obtain ⟨kk, hkk, ekk, tkk⟩ := sBt_t 3 (by decide) c13
      rw [ekk] at hl
      refine lv_iload_n hx hb dX1_lay_18 rfl (lv_at hl 3 rfl) ?_
      refine lv_iload hx hb dX1_lay_19 (lv_at hl 5 rfl) ?_
      refine n_callS (As := [_, _]) SS (nK_o G) hK (mX1_isRow l G ad x (upd fi 0 0) fa sort n) (va_cwS 2 hts (lw_S q1300 q1301 q61 q1302) rfl rfl rfl (by decide +kernel) ⟨Nat.le_of_ble_eq_true rfl, Nat.le_of_ble_eq_true rfl⟩) hN hS rfl hl.1 rfl (Nat.le_of_ble_eq_true rfl) dX1_lay_21 ⟨Nat.le_of_ble_eq_true rfl, Nat.le_of_ble_eq_true rfl⟩ (fun v ad' c' H locs hv hN hS => ?_)
      obtain ⟨_, _, rfl, rfl, rfl, rfl, rfl⟩ := hv
      refine W.eq (g2 := F0 m 24 ls (_ :: _)) rfl ?_
      refine lv_if_eq (tgt := 40) hx hb dX1_lay_24 (by decide) (fun c24 => ?_) (fun c24 => ?_)
      · have hno : ¬ (sBt sort 0 2 = true ∧ sBt n 0 20 = true) := by intro z; simp_all [zI_0]
        have hans : oLayB nd np (fa 2) (fa 3) (fa 4) b k sort i n = (-2, 0) := by rw [oLayB, if_pos ⟨c6, c13⟩, if_neg hno]
        refine lv_bipush (v := (-2)) hx hb dX1_lay_40 (by decide) ?_
        exact W.iret hx hb hr (nEnd hN hS ⟨_, _, rfl, rfl, ⟨by rw [hans], by rw [hans]; exact mEq.rf, by rw [hans]; intro z; exact absurd z (by decide)⟩⟩) hS.2 dX1_lay_42
      · have c24 : sBt sort 0 2 = true ∧ sBt n 0 20 = true := by simpa [zI_0] using c24
        obtain ⟨pm, hpm, en, tnn⟩ := sBt_t 20 (by decide) c24.2
        rw [en] at hl
        have hans : oLayB nd np (fa 2) (fa 3) (fa 4) b k sort i n = sLay (fa 2) (fa 3) (fa 4) nd np kk sort i pm := by rw [oLayB, if_pos ⟨c6, c13⟩, if_pos c24, tkk, tnn]
        refine lv_aload_n hx hb dX1_lay_27 rfl (lv_at hl 0 rfl) ?_
        refine lv_iload_n hx hb dX1_lay_28 rfl (lv_at hl 2 rfl) ?_
        refine lv_iload_n hx hb dX1_lay_29 rfl (lv_at hl 3 rfl) ?_
        refine lv_iload hx hb dX1_lay_30 (lv_at hl 4 rfl) ?_
        refine lv_iload hx hb dX1_lay_32 (lv_at hl 5 rfl) ?_
        refine n_callV (C := RX1) (As := [_, _, _, _]) (b := 50) SS (nK_o G) hK hK (mX1_layDays l G ad x (upd fi 0 0) fa kk (by omega) sort i pm hpm rfl hSL nd hnd h6 np hnp h4) (cwV 4 hts (lw_V q1303 q1305 qs48 q61 q1306) rfl rfl rfl (by decide +kernel) ⟨Nat.le_of_ble_eq_true rfl, Nat.le_of_ble_eq_true rfl⟩) hN hS mPic_o rfl rfl hl.1 rfl (Nat.le_of_ble_eq_true rfl) dX1_lay_34 ⟨Nat.le_of_ble_eq_true rfl, Nat.le_of_ble_eq_true rfl⟩ (fun v ad' c' H locs hv hN hS => ?_)
        obtain ⟨fi2, fa2, rfl, rfl, rfl, hE, hpr⟩ := hv
        refine W.eq (g2 := F0 m 37 ls (_ :: _)) rfl ?_
        refine lv_goto (tgt := 42) hx hb dX1_lay_37 (by decide) ?_
        exact W.iret hx hb hr (nEnd hN hS ⟨_, _, rfl, rfl, ⟨by rw [hans], by rw [hans]; rw [upd_upd] at hE; exact hE, by rw [hans]; intro z; exact ⟨c6, kk, pm, by omega, ekk, tkk, hpm, en, tnn, z, (hpr z).1, (hpr z).2⟩⟩⟩) hS.2 dX1_lay_42
    · have hno : ¬ (b = true ∧ sBt k 0 3 = true) := by intro z; simp_all [zI_0]
      have hans : oLayB nd np (fa 2) (fa 3) (fa 4) b k sort i n = (-1, 0) := by rw [oLayB, if_neg hno]
      refine lv_iconst (v := (-1)) hx hb dX1_lay_16 (by decide) ?_
      exact W.iret hx hb hr (nEnd hN hS ⟨_, _, rfl, rfl, ⟨by rw [hans], by rw [hans]; exact mEq.rf, by rw [hans]; intro z; exact absurd z (by decide)⟩⟩) hS.2 dX1_lay_17
set_option maxHeartbeats 4000000 in
set_option maxRecDepth 100000 in
theorem mX1_weights (l : Launch) (G : nG) (ad : Nat → Nat) (x : nPic) (fi : Nat → Int32) (fa : Nat → Nat → Int32) (a k sort i cn : Int32) (hSL : ∀ k, k < 4 → ¬ fa 2 k = -9 → ∃ L, L ≤ 60 ∧ fa 3 k = nI L) (nd : Nat) (hnd : fi 5 = nI nd) (h6 : nd ≤ 6) (np : Nat) (hnp : fi 6 = nI np) (h4 : np ≤ 4) (nr : Nat) (hnr : fi 22 = nI nr) (h8 : nr ≤ 8) (hRW : ∀ k, k < nr → sIn (fa 23 k) np = true) : Met l yX1_weights (ws_ yX1_weights cX1_weights 10 (some .int)) (mR 6) (nPc G nCl (nK G) ad (mPic G x ad fi fa) [.ref (ad 50), .int a, .int k, .int sort, .int i, .int cn]) (nQ G nCl (mP G ad x (fun rv fi' fa' => rv = some (.int (oWts nd np nr (fa 7) (fa 8) (fa 9) (fa 10) (fa 11) (fa 2) (fa 3) (fa 4) (fa 23) (fa 24) a k sort i cn).1) ∧ mEq (upd fi 0 (oWts nd np nr (fa 7) (fa 8) (fa 9) (fa 10) (fa 11) (fa 2) (fa 3) (fa 4) (fa 23) (fa 24) a k sort i cn).2) fa fi' fa'))) 0 0 (fun q => G.2 ≤ q) := by
  refine nMet RX1 (by decide) rfl (Nat.le_of_ble_eq_true rfl) ?_
  intro p e s m below meth c ls SS hR hK hN hS hl
  obtain ⟨hx, hb, hml, hown, hts⟩ := id SS
  obtain ⟨hr, hlk, hnm⟩ := hR
  generalize s.heap = H at hN hS ⊢
  generalize ([] : List Loc) = locs at hS ⊢
  have hl : lv_has ls 10 [(0, .ref (ad 50)), (1, .int a), (2, .int k), (3, .int sort), (4, .int i), (5, .int cn)] := hl
  refine lv_aload_n hx hb dX1_weights_0 rfl (lv_at hl 0 rfl) ?_
  refine lv_aload_n hx hb dX1_weights_1 rfl (lv_at hl 0 rfl) ?_
  refine lv_iload_n hx hb dX1_weights_2 rfl (lv_at hl 1 rfl) ?_
  refine n_callV (C := RX1) (As := [_]) (b := 50) SS (nK_o G) hK hK (mX1_isDeed l G ad x fi fa a nd hnd h6) (cwV 1 hts (lw_V q1260 q1262 qs44 q61 q1263) rfl rfl rfl (by decide +kernel) ⟨Nat.le_of_ble_eq_true rfl, Nat.le_of_ble_eq_true rfl⟩) hN hS mPic_o rfl rfl hl.1 rfl (Nat.le_of_ble_eq_true rfl) dX1_weights_3 ⟨Nat.le_of_ble_eq_true rfl, Nat.le_of_ble_eq_true rfl⟩ (fun v ad' c' H locs hv hN hS => ?_)
  obtain ⟨_, _, rfl, rfl, rfl, rfl, rfl⟩ := hv
  refine W.eq (g2 := F0 m 6 ls (_ :: _)) rfl ?_
  refine lv_iload_n hx hb dX1_weights_6 rfl (lv_at hl 2 rfl) ?_
  refine lv_iload_n hx hb dX1_weights_7 rfl (lv_at hl 3 rfl) ?_
  refine lv_iload hx hb dX1_weights_8 (lv_at hl 4 rfl) ?_
  refine lv_iload hx hb dX1_weights_10 (lv_at hl 5 rfl) ?_
  refine n_callV (C := RX1) (As := [_, _, _, _, _]) (b := 50) SS (nK_o G) hK hK (mX1_lay l G ad x fi fa (sIn a nd) k sort i cn hSL nd hnd h6 np hnp h4) (cwV 5 hts (lw_V q1350 q1352 qs52 q61 q1353) rfl rfl rfl (by decide +kernel) ⟨Nat.le_of_ble_eq_true rfl, Nat.le_of_ble_eq_true rfl⟩) hN hS mPic_o rfl rfl hl.1 rfl (Nat.le_of_ble_eq_true rfl) dX1_weights_12 ⟨Nat.le_of_ble_eq_true rfl, Nat.le_of_ble_eq_true rfl⟩ (fun v ad' c' H locs hv hN hS => ?_)
  obtain ⟨fi2, fa2, rfl, rfl, rfl, hE, hpr⟩ := hv
  refine W.eq (g2 := F0 m 15 ls (_ :: _)) rfl ?_
  refine lv_istore (lv' := [(6, _), (0, _), (1, _), (2, _), (3, _), (4, _), (5, _)]) hx hb dX1_weights_15 hl (by decide) rfl (fun ls hl => ?_)
  refine lv_iload hx hb dX1_weights_17 (lv_at hl 0 rfl) ?_
  refine lv_if_eq (tgt := 25) hx hb dX1_weights_19 (by decide) (fun c19 => ?_) (fun c19 => ?_)
  · obtain ⟨⟨a0, a1, a5, a6, a22⟩, b2, b3, b4, b7, b8, b9, b10, b11, b23, b24⟩ := id hE
    obtain ⟨hin, kk, pm, hkk, ekk, tkk, hpm, en, tnn, hlay, h18, hprs⟩ := hpr c19
    obtain ⟨hrow, hn0, hL2⟩ := sLay_0 hlay
    obtain ⟨d, hd, ed, td⟩ := sIn_t (by omega) hin
    have td : tn a = d := td
    rw [ed] at hl
    have hLB : oLayB nd np (fa 2) (fa 3) (fa 4) (sIn a nd) k sort i cn = (0, 0) := by rw [oLayB, if_pos ⟨hin, by rw [ekk]; exact sBt_lt (n := 3) (by omega)⟩, tkk, tnn] at c19 ⊢; split at c19; { rename_i hz; rw [if_pos hz]; exact Prod.ext hlay hL2 }; { exact absurd c19 (by decide) }
    have hans : oWts nd np nr (fa 7) (fa 8) (fa 9) (fa 10) (fa 11) (fa 2) (fa 3) (fa 4) (fa 23) (fa 24) a k sort i cn = (sSet (fun v => sSo (upd (fa 7) d v) (fa 8) (fa 9) (fa 10) (fa 11) nd np nr (sWh (fa 4) (60 * kk + tn i)) (sWt (fa 4) (60 * kk + tn i)) pm (fa 23) (fa 24)) 1 9, 0) := by rw [oWts, oWif, if_pos c19, tkk, tnn, td]
    refine lv_aload_n hx hb dX1_weights_25 rfl (lv_at hl 1 rfl) ?_
    refine m_get SS hK hN 7 (by decide) q1126 rfl rfl dX1_weights_26 ?_
    refine lv_iload_n hx hb dX1_weights_29 rfl (lv_at hl 2 rfl) ?_
    refine m_ald SS hK hN 7 rfl (d) (rfl) (by show _ < (6 : Nat); omega) dX1_weights_30 ?_
    refine lv_istore (lv' := [(7, _), (6, _), (0, _), (1, _), (2, _), (3, _), (4, _), (5, _)]) hx hb dX1_weights_31 hl (by decide) rfl (fun ls hl => ?_)
    refine lv_iconst (v := (sSet (fun v => sSo (upd (fa 7) d v) (fa 8) (fa 9) (fa 10) (fa 11) nd np nr (sWh (fa 4) (60 * kk + tn i)) (sWt (fa 4) (60 * kk + tn i)) pm (fa 23) (fa 24)) 1 0)) hx hb dX1_weights_33 (rfl) ?_
    refine lv_istore (lv' := [(8, _), (7, _), (6, _), (0, _), (1, _), (2, _), (3, _), (4, _), (5, _)]) hx hb dX1_weights_34 hl (by decide) rfl (fun ls hl => ?_)
    refine lv_iconst (v := (nI (1 + 0))) hx hb dX1_weights_36 (rfl) ?_
    refine lv_istore (lv' := [(9, _), (8, _), (7, _), (6, _), (0, _), (1, _), (2, _), (3, _), (4, _), (5, _)]) hx hb dX1_weights_37 hl (by decide) rfl (fun ls hl => ?_)
    have loop39 : ∀ (n : Nat) (u : Nat) (fj : AI) (fb : Nat → AI) (H : Heap) (locs : List Loc) (ls : Array Slot), u ≤ 9 → 10 ≤ u + n → mEq fi2 fa2 fj (va_up fb 7 (fa2 7)) → (∀ z, ¬ z = d → fb 7 z = fa2 7 z) → fj 18 = nI pm → fb 19 = fa2 19 → fb 20 = fa2 20 → nOk G nCl ad (mPic G x ad fj fb) H → nS G s H locs → lv_has ls 10 [(0, .ref (ad 50)), (1, .int (nI d)), (7, .int (fa2 7 d)), (8, .int (sSet (fun v => sSo (upd (fa 7) d v) (fa 8) (fa 9) (fa 10) (fa 11) nd np nr (sWh (fa 4) (60 * kk + tn i)) (sWt (fa 4) (60 * kk + tn i)) pm (fa 23) (fa 24)) 1 u)), (9, .int (nI (1 + u)))] → W p l e (mR 6) s m ([.ref (ad 50), .int a, .int k, .int sort, .int i, .int cn] : List Value).toArray below meth c H locs 0 0 (MQ below (nQ G nCl (mP G ad x (fun rv fi' fa' => rv = some (.int (oWts nd np nr (fa 7) (fa 8) (fa 9) (fa 10) (fa 11) (fa 2) (fa 3) (fa 4) (fa 23) (fa 24) a k sort i cn).1) ∧ mEq (upd fi 0 (oWts nd np nr (fa 7) (fa 8) (fa 9) (fa 10) (fa 11) (fa 2) (fa 3) (fa 4) (fa 23) (fa 24) a k sort i cn).2) fa fi' fa'))) ([.ref (ad 50), .int a, .int k, .int sort, .int i, .int cn] : List Value).toArray s 0 0 (fun q => G.2 ≤ q)) (F0 m 39 ls []) := by
      intro n
      induction n with
      | zero => intro u fj fb H locs ls hu hfuel hE2 hoth h18 hb19 hb20 hN hS hl; exact absurd hfuel (by omega)
      | succ n ih39 =>
        intro u fj fb H locs ls hu hfuel hE2 hoth h18 hb19 hb20 hN hS hl
        obtain ⟨⟨x0, x1, x5, x6, x22⟩, y2, y3, y4, y7, y8, y9, y10, y11, y23, y24⟩ := id hE2
        refine lv_iload hx hb dX1_weights_39 (lv_at hl 4 rfl) ?_
        refine lv_bipush (v := (nI 9)) hx hb dX1_weights_41 (rfl) ?_
        refine lv_icmp_gt (tgt := 80) hx hb dX1_weights_43 (by decide) (fun c43 => ?_) (fun c43 => ?_)
        · have c43 : u = 9 := by rcases Nat.lt_or_ge u 9 with q | q; { exact absurd c43 (nI_nlt (show 1 + u ≤ 9 by omega) (by omega)) }; { omega }
          subst c43
          refine lv_aload_n hx hb dX1_weights_80 rfl (lv_at hl 0 rfl) ?_
          refine m_get SS hK hN 7 (by decide) q1126 rfl rfl dX1_weights_81 ?_
          refine lv_iload_n hx hb dX1_weights_84 rfl (lv_at hl 1 rfl) ?_
          refine lv_iload hx hb dX1_weights_85 (lv_at hl 2 rfl) ?_
          refine m_ast SS hK hN hS 7 rfl (d) (rfl) (by show _ < (6 : Nat); omega) dX1_weights_87 (fun H locs hN hS => ?_)
          refine lv_iload hx hb dX1_weights_88 (lv_at hl 3 rfl) ?_
          exact W.iret hx hb hr (nEnd hN hS ⟨_, _, rfl, rfl, ⟨by rw [hans], by rw [hans]; rw [hLB] at hE; exact hE.tr (mEq_back 7 (by decide) hE2 hoth)⟩⟩) hS.2 dX1_weights_90
        · have c43 := id c43
          have c43 : u < 9 := by rcases Nat.lt_or_ge u 9 with q | q; { exact q }; { exact absurd (nI_lt (show 9 < 1 + u by omega) (by omega)) c43 }
          refine lv_aload_n hx hb dX1_weights_46 rfl (lv_at hl 0 rfl) ?_
          refine m_get SS hK hN 7 (by decide) q1126 rfl rfl dX1_weights_47 ?_
          refine lv_iload_n hx hb dX1_weights_50 rfl (lv_at hl 1 rfl) ?_
          refine lv_iload hx hb dX1_weights_51 (lv_at hl 4 rfl) ?_
          refine m_ast SS hK hN hS 7 rfl (d) (rfl) (by show _ < (6 : Nat); omega) dX1_weights_53 (fun H locs hN hS => ?_)
          refine lv_iload hx hb dX1_weights_54 (lv_at hl 3 rfl) ?_
          refine lv_aload_n hx hb dX1_weights_56 rfl (lv_at hl 0 rfl) ?_
          refine n_callV (C := RX1) (As := []) (b := 50) SS (nK_o G) hK hK (mX1_areSo l G ad x fj (va_up fb 7 (upd (fb 7) d (nI (1 + u)))) nd (by exact x5.trans (a5.trans hnd)) h6 np (by exact x6.trans (a6.trans hnp)) h4 nr (by exact x22.trans (a22.trans hnr)) h8 pm hpm h18 (sWh (fa 4) (60 * kk + tn i)) (sWt (fa 4) (60 * kk + tn i)) (fun j hj => by obtain ⟨q1, q2⟩ := hprs j hj; show fb 19 j = _ ∧ _ ∧ fb 20 j = _ ∧ _; rw [hb19, hb20, q1, q2]; exact row_w hrow (by omega) (by omega) j hj) (fun q hq => by have z := hRW q hq; rw [show (va_up fb 7 (upd (fb 7) d (nI (1 + u)))) 23 = fa 23 from (by exact y23.trans b23)]; exact z)) (cwV 0 hts (lw_V q1354 q1356 qs53 q61 q1357) rfl rfl rfl (by decide +kernel) ⟨Nat.le_of_ble_eq_true rfl, Nat.le_of_ble_eq_true rfl⟩) hN hS mPic_o rfl rfl hl.1 rfl (Nat.le_of_ble_eq_true rfl) dX1_weights_57 ⟨Nat.le_of_ble_eq_true rfl, Nat.le_of_ble_eq_true rfl⟩ (fun v ad' c' H locs hv hN hS => ?_)
          obtain ⟨fi3, fa3, rfl, rfl, rfl, hE3, h18e, e19, e20⟩ := hv
          refine W.eq (g2 := F0 m 60 ls (_ :: _)) rfl ?_
          rw [show (va_up fb 7 (upd (fb 7) d (nI (1 + u)))) 7 = upd (fa 7) d (nI (1 + u)) from (by show upd (fb 7) d _ = _; funext z; by_cases hz : z = d; { subst hz; rw [pk_us, pk_us] }; { rw [pk_un hz, pk_un hz, hoth z hz, b7] }), show (va_up fb 7 (upd (fb 7) d (nI (1 + u)))) 8 = fa 8 from (by exact (y8).trans b8), show (va_up fb 7 (upd (fb 7) d (nI (1 + u)))) 9 = fa 9 from (by exact (y9).trans b9), show (va_up fb 7 (upd (fb 7) d (nI (1 + u)))) 10 = fa 10 from (by exact (y10).trans b10), show (va_up fb 7 (upd (fb 7) d (nI (1 + u)))) 11 = fa 11 from (by exact (y11).trans b11), show (va_up fb 7 (upd (fb 7) d (nI (1 + u)))) 23 = fa 23 from (by exact (y23).trans b23), show (va_up fb 7 (upd (fb 7) d (nI (1 + u)))) 24 = fa 24 from (by exact (y24).trans b24)]
          have hk3 : fa3 7 = upd (fb 7) d (nI (1 + u)) := hE3.2.2.2.2.1
          have hE3 : mEq fj (va_up fb 7 (fa2 7)) fi3 (va_up fa3 7 (fa2 7)) := mEq_at 7 (by decide) hE3
          have hoth3 : ∀ z, ¬ z = d → fa3 7 z = fa2 7 z := fun z hz => by rw [hk3]; exact (pk_un hz).trans (hoth z hz)
          refine lv_if_eq (tgt := 70) hx hb dX1_weights_60 (by decide) (fun c60 => ?_) (fun c60 => ?_)
          · have c60 := zI_0.mp c60
            refine lv_iconst (v := 0) hx hb dX1_weights_70 (by decide) ?_
            refine lv_ior hx hb dX1_weights_71 ?_
            refine n_top (y := sSet (fun v => sSo (upd (fa 7) d v) (fa 8) (fa 9) (fa 10) (fa 11) nd np nr (sWh (fa 4) (60 * kk + tn i)) (sWt (fa 4) (60 * kk + tn i)) pm (fa 23) (fa 24)) 1 (u + 1)) (by rw [sSet]; simp only [c60]; rfl) ?_
            refine lv_istore (lv' := [(8, _), (0, _), (1, _), (7, _), (9, _)]) hx hb dX1_weights_72 hl (by decide) rfl (fun ls hl => ?_)
            refine lv_iinc (v := (nI (1 + (u + 1)))) (lv' := [(9, _), (8, _), (0, _), (1, _), (7, _)]) hx hb dX1_weights_74 hl (k := 4) rfl (nI_inc (1 + u)) (by decide) rfl (fun ls hl => ?_)
            refine lv_goto (tgt := 39) hx hb dX1_weights_77 (by decide) ?_
            exact ih39 (u + 1) _ _ _ _ _ (by omega) (by omega) (by have z := hE2.tr hE3; exact z) hoth3 (by rw [h18e]; exact h18) (by rw [e19]; exact hb19) (by rw [e20]; exact hb20) hN hS (lv_sub hl [2, 3, 4, 1, 0] (rfl))
          · have c60 := zI_n0 c60
            refine lv_iconst (v := 1) hx hb dX1_weights_63 (by decide) ?_
            refine lv_iload hx hb dX1_weights_64 (lv_at hl 4 rfl) ?_
            refine lv_ishl hx hb dX1_weights_66 ?_
            refine lv_goto (tgt := 71) hx hb dX1_weights_67 (by decide) ?_
            refine lv_ior hx hb dX1_weights_71 ?_
            refine n_top (y := sSet (fun v => sSo (upd (fa 7) d v) (fa 8) (fa 9) (fa 10) (fa 11) nd np nr (sWh (fa 4) (60 * kk + tn i)) (sWt (fa 4) (60 * kk + tn i)) pm (fa 23) (fa 24)) 1 (u + 1)) (by rw [sSet]; simp only [c60]; rfl) ?_
            refine lv_istore (lv' := [(8, _), (0, _), (1, _), (7, _), (9, _)]) hx hb dX1_weights_72 hl (by decide) rfl (fun ls hl => ?_)
            refine lv_iinc (v := (nI (1 + (u + 1)))) (lv' := [(9, _), (8, _), (0, _), (1, _), (7, _)]) hx hb dX1_weights_74 hl (k := 4) rfl (nI_inc (1 + u)) (by decide) rfl (fun ls hl => ?_)
            refine lv_goto (tgt := 39) hx hb dX1_weights_77 (by decide) ?_
            exact ih39 (u + 1) _ _ _ _ _ (by omega) (by omega) (by have z := hE2.tr hE3; exact z) hoth3 (by rw [h18e]; exact h18) (by rw [e19]; exact hb19) (by rw [e20]; exact hb20) hN hS (lv_sub hl [2, 3, 4, 1, 0] (rfl))
    exact loop39 10 0 fi2 fa2 _ _ _ (by omega) (by omega) (by rw [va_up_id _ _ _ rfl]; exact mEq.rf) (fun _ _ => rfl) h18 rfl rfl hN hS (lv_sub hl [4, 5, 2, 1, 0] rfl)
  · have hans : oWts nd np nr (fa 7) (fa 8) (fa 9) (fa 10) (fa 11) (fa 2) (fa 3) (fa 4) (fa 23) (fa 24) a k sort i cn = oLayB nd np (fa 2) (fa 3) (fa 4) (sIn a nd) k sort i cn := by rw [oWts, oWif, if_neg c19]
    refine lv_iload hx hb dX1_weights_22 (lv_at hl 0 rfl) ?_
    exact W.iret hx hb hr (nEnd hN hS ⟨_, _, rfl, rfl, ⟨by rw [hans], by rw [hans]; exact hE⟩⟩) hS.2 dX1_weights_24
set_option maxHeartbeats 4000000 in
set_option maxRecDepth 100000 in
theorem mX1_kinds (l : Launch) (G : nG) (ad : Nat → Nat) (x : nPic) (fi : Nat → Int32) (fa : Nat → Nat → Int32) (a k sort i cn : Int32) (hSL : ∀ k, k < 4 → ¬ fa 2 k = -9 → ∃ L, L ≤ 60 ∧ fa 3 k = nI L) (nd : Nat) (hnd : fi 5 = nI nd) (h6 : nd ≤ 6) (np : Nat) (hnp : fi 6 = nI np) (h4 : np ≤ 4) (nr : Nat) (hnr : fi 22 = nI nr) (h8 : nr ≤ 8) (hRW : ∀ k, k < nr → sIn (fa 23 k) np = true) : Met l yX1_kinds (ws_ yX1_kinds cX1_kinds 10 (some .int)) (mR 6) (nPc G nCl (nK G) ad (mPic G x ad fi fa) [.ref (ad 50), .int a, .int k, .int sort, .int i, .int cn]) (nQ G nCl (mP G ad x (fun rv fi' fa' => rv = some (.int (oKds nd np nr (fa 7) (fa 8) (fa 9) (fa 10) (fa 11) (fa 2) (fa 3) (fa 4) (fa 23) (fa 24) a k sort i cn).1) ∧ mEq (upd fi 0 (oKds nd np nr (fa 7) (fa 8) (fa 9) (fa 10) (fa 11) (fa 2) (fa 3) (fa 4) (fa 23) (fa 24) a k sort i cn).2) fa fi' fa'))) 0 0 (fun q => G.2 ≤ q) := by
  refine nMet RX1 (by decide) rfl (Nat.le_of_ble_eq_true rfl) ?_
  intro p e s m below meth c ls SS hR hK hN hS hl
  obtain ⟨hx, hb, hml, hown, hts⟩ := id SS
  obtain ⟨hr, hlk, hnm⟩ := hR
  generalize s.heap = H at hN hS ⊢
  generalize ([] : List Loc) = locs at hS ⊢
  have hl : lv_has ls 10 [(0, .ref (ad 50)), (1, .int a), (2, .int k), (3, .int sort), (4, .int i), (5, .int cn)] := hl
  refine lv_aload_n hx hb dX1_kinds_0 rfl (lv_at hl 0 rfl) ?_
  refine lv_aload_n hx hb dX1_kinds_1 rfl (lv_at hl 0 rfl) ?_
  refine lv_iload_n hx hb dX1_kinds_2 rfl (lv_at hl 1 rfl) ?_
  refine n_callV (C := RX1) (As := [_]) (b := 50) SS (nK_o G) hK hK (mX1_isPerson l G ad x fi fa a np hnp h4) (cwV 1 hts (lw_V q1244 q1246 qs41 q61 q1247) rfl rfl rfl (by decide +kernel) ⟨Nat.le_of_ble_eq_true rfl, Nat.le_of_ble_eq_true rfl⟩) hN hS mPic_o rfl rfl hl.1 rfl (Nat.le_of_ble_eq_true rfl) dX1_kinds_3 ⟨Nat.le_of_ble_eq_true rfl, Nat.le_of_ble_eq_true rfl⟩ (fun v ad' c' H locs hv hN hS => ?_)
  obtain ⟨_, _, rfl, rfl, rfl, rfl, rfl⟩ := hv
  refine W.eq (g2 := F0 m 6 ls (_ :: _)) rfl ?_
  refine lv_iload_n hx hb dX1_kinds_6 rfl (lv_at hl 2 rfl) ?_
  refine lv_iload_n hx hb dX1_kinds_7 rfl (lv_at hl 3 rfl) ?_
  refine lv_iload hx hb dX1_kinds_8 (lv_at hl 4 rfl) ?_
  refine lv_iload hx hb dX1_kinds_10 (lv_at hl 5 rfl) ?_
  refine n_callV (C := RX1) (As := [_, _, _, _, _]) (b := 50) SS (nK_o G) hK hK (mX1_lay l G ad x fi fa (sIn a np) k sort i cn hSL nd hnd h6 np hnp h4) (cwV 5 hts (lw_V q1350 q1352 qs52 q61 q1353) rfl rfl rfl (by decide +kernel) ⟨Nat.le_of_ble_eq_true rfl, Nat.le_of_ble_eq_true rfl⟩) hN hS mPic_o rfl rfl hl.1 rfl (Nat.le_of_ble_eq_true rfl) dX1_kinds_12 ⟨Nat.le_of_ble_eq_true rfl, Nat.le_of_ble_eq_true rfl⟩ (fun v ad' c' H locs hv hN hS => ?_)
  obtain ⟨fi2, fa2, rfl, rfl, rfl, hE, hpr⟩ := hv
  refine W.eq (g2 := F0 m 15 ls (_ :: _)) rfl ?_
  refine lv_istore (lv' := [(6, _), (0, _), (1, _), (2, _), (3, _), (4, _), (5, _)]) hx hb dX1_kinds_15 hl (by decide) rfl (fun ls hl => ?_)
  refine lv_iload hx hb dX1_kinds_17 (lv_at hl 0 rfl) ?_
  refine lv_if_eq (tgt := 25) hx hb dX1_kinds_19 (by decide) (fun c19 => ?_) (fun c19 => ?_)
  · obtain ⟨⟨a0, a1, a5, a6, a22⟩, b2, b3, b4, b7, b8, b9, b10, b11, b23, b24⟩ := id hE
    obtain ⟨hin, kk, pm, hkk, ekk, tkk, hpm, en, tnn, hlay, h18, hprs⟩ := hpr c19
    obtain ⟨hrow, hn0, hL2⟩ := sLay_0 hlay
    obtain ⟨d, hd, ed, td⟩ := sIn_t (by omega) hin
    have td : tn a = d := td
    rw [ed] at hl
    have hLB : oLayB nd np (fa 2) (fa 3) (fa 4) (sIn a np) k sort i cn = (0, 0) := by rw [oLayB, if_pos ⟨hin, by rw [ekk]; exact sBt_lt (n := 3) (by omega)⟩, tkk, tnn] at c19 ⊢; split at c19; { rename_i hz; rw [if_pos hz]; exact Prod.ext hlay hL2 }; { exact absurd c19 (by decide) }
    have hans : oKds nd np nr (fa 7) (fa 8) (fa 9) (fa 10) (fa 11) (fa 2) (fa 3) (fa 4) (fa 23) (fa 24) a k sort i cn = (sSet (fun v => sSo (fa 7) (upd (fa 8) d v) (fa 9) (fa 10) (fa 11) nd np nr (sWh (fa 4) (60 * kk + tn i)) (sWt (fa 4) (60 * kk + tn i)) pm (fa 23) (fa 24)) 0 3, 0) := by rw [oKds, oWif, if_pos c19, tkk, tnn, td]
    refine lv_aload_n hx hb dX1_kinds_25 rfl (lv_at hl 1 rfl) ?_
    refine m_get SS hK hN 8 (by decide) q1127 rfl rfl dX1_kinds_26 ?_
    refine lv_iload_n hx hb dX1_kinds_29 rfl (lv_at hl 2 rfl) ?_
    refine m_ald SS hK hN 8 rfl (d) (rfl) (by show _ < (4 : Nat); omega) dX1_kinds_30 ?_
    refine lv_istore (lv' := [(7, _), (6, _), (0, _), (1, _), (2, _), (3, _), (4, _), (5, _)]) hx hb dX1_kinds_31 hl (by decide) rfl (fun ls hl => ?_)
    refine lv_iconst (v := (sSet (fun v => sSo (fa 7) (upd (fa 8) d v) (fa 9) (fa 10) (fa 11) nd np nr (sWh (fa 4) (60 * kk + tn i)) (sWt (fa 4) (60 * kk + tn i)) pm (fa 23) (fa 24)) 0 0)) hx hb dX1_kinds_33 (rfl) ?_
    refine lv_istore (lv' := [(8, _), (7, _), (6, _), (0, _), (1, _), (2, _), (3, _), (4, _), (5, _)]) hx hb dX1_kinds_34 hl (by decide) rfl (fun ls hl => ?_)
    refine lv_iconst (v := (nI (0 + 0))) hx hb dX1_kinds_36 (rfl) ?_
    refine lv_istore (lv' := [(9, _), (8, _), (7, _), (6, _), (0, _), (1, _), (2, _), (3, _), (4, _), (5, _)]) hx hb dX1_kinds_37 hl (by decide) rfl (fun ls hl => ?_)
    have loop39 : ∀ (n : Nat) (u : Nat) (fj : AI) (fb : Nat → AI) (H : Heap) (locs : List Loc) (ls : Array Slot), u ≤ 3 → 4 ≤ u + n → mEq fi2 fa2 fj (va_up fb 8 (fa2 8)) → (∀ z, ¬ z = d → fb 8 z = fa2 8 z) → fj 18 = nI pm → fb 19 = fa2 19 → fb 20 = fa2 20 → nOk G nCl ad (mPic G x ad fj fb) H → nS G s H locs → lv_has ls 10 [(0, .ref (ad 50)), (1, .int (nI d)), (7, .int (fa2 8 d)), (8, .int (sSet (fun v => sSo (fa 7) (upd (fa 8) d v) (fa 9) (fa 10) (fa 11) nd np nr (sWh (fa 4) (60 * kk + tn i)) (sWt (fa 4) (60 * kk + tn i)) pm (fa 23) (fa 24)) 0 u)), (9, .int (nI (0 + u)))] → W p l e (mR 6) s m ([.ref (ad 50), .int a, .int k, .int sort, .int i, .int cn] : List Value).toArray below meth c H locs 0 0 (MQ below (nQ G nCl (mP G ad x (fun rv fi' fa' => rv = some (.int (oKds nd np nr (fa 7) (fa 8) (fa 9) (fa 10) (fa 11) (fa 2) (fa 3) (fa 4) (fa 23) (fa 24) a k sort i cn).1) ∧ mEq (upd fi 0 (oKds nd np nr (fa 7) (fa 8) (fa 9) (fa 10) (fa 11) (fa 2) (fa 3) (fa 4) (fa 23) (fa 24) a k sort i cn).2) fa fi' fa'))) ([.ref (ad 50), .int a, .int k, .int sort, .int i, .int cn] : List Value).toArray s 0 0 (fun q => G.2 ≤ q)) (F0 m 39 ls []) := by
      intro n
      induction n with
      | zero => intro u fj fb H locs ls hu hfuel hE2 hoth h18 hb19 hb20 hN hS hl; exact absurd hfuel (by omega)
      | succ n ih39 =>
        intro u fj fb H locs ls hu hfuel hE2 hoth h18 hb19 hb20 hN hS hl
        obtain ⟨⟨x0, x1, x5, x6, x22⟩, y2, y3, y4, y7, y8, y9, y10, y11, y23, y24⟩ := id hE2
        refine lv_iload hx hb dX1_kinds_39 (lv_at hl 4 rfl) ?_
        refine lv_iconst (v := (nI 3)) hx hb dX1_kinds_41 (rfl) ?_
        refine lv_icmp_ge (tgt := 79) hx hb dX1_kinds_42 (by decide) (fun c42 => ?_) (fun c42 => ?_)
        · have c42 : u = 3 := by rcases Nat.lt_or_ge u 3 with q | q; { exact absurd c42 (nI_ge (show 0 + u < 3 by omega) (by omega)) }; { omega }
          subst c42
          refine lv_aload_n hx hb dX1_kinds_79 rfl (lv_at hl 0 rfl) ?_
          refine m_get SS hK hN 8 (by decide) q1127 rfl rfl dX1_kinds_80 ?_
          refine lv_iload_n hx hb dX1_kinds_83 rfl (lv_at hl 1 rfl) ?_
          refine lv_iload hx hb dX1_kinds_84 (lv_at hl 2 rfl) ?_
          refine m_ast SS hK hN hS 8 rfl (d) (rfl) (by show _ < (4 : Nat); omega) dX1_kinds_86 (fun H locs hN hS => ?_)
          refine lv_iload hx hb dX1_kinds_87 (lv_at hl 3 rfl) ?_
          exact W.iret hx hb hr (nEnd hN hS ⟨_, _, rfl, rfl, ⟨by rw [hans], by rw [hans]; rw [hLB] at hE; exact hE.tr (mEq_back 8 (by decide) hE2 hoth)⟩⟩) hS.2 dX1_kinds_89
        · have c42 := id c42
          have c42 : u < 3 := by rcases Nat.lt_or_ge u 3 with q | q; { exact q }; { exact absurd (nI_le (show 3 ≤ 0 + u by omega) (by omega)) c42 }
          refine lv_aload_n hx hb dX1_kinds_45 rfl (lv_at hl 0 rfl) ?_
          refine m_get SS hK hN 8 (by decide) q1127 rfl rfl dX1_kinds_46 ?_
          refine lv_iload_n hx hb dX1_kinds_49 rfl (lv_at hl 1 rfl) ?_
          refine lv_iload hx hb dX1_kinds_50 (lv_at hl 4 rfl) ?_
          refine m_ast SS hK hN hS 8 rfl (d) (rfl) (by show _ < (4 : Nat); omega) dX1_kinds_52 (fun H locs hN hS => ?_)
          refine lv_iload hx hb dX1_kinds_53 (lv_at hl 3 rfl) ?_
          refine lv_aload_n hx hb dX1_kinds_55 rfl (lv_at hl 0 rfl) ?_
          refine n_callV (C := RX1) (As := []) (b := 50) SS (nK_o G) hK hK (mX1_areSo l G ad x fj (va_up fb 8 (upd (fb 8) d (nI (0 + u)))) nd (by exact x5.trans (a5.trans hnd)) h6 np (by exact x6.trans (a6.trans hnp)) h4 nr (by exact x22.trans (a22.trans hnr)) h8 pm hpm h18 (sWh (fa 4) (60 * kk + tn i)) (sWt (fa 4) (60 * kk + tn i)) (fun j hj => by obtain ⟨q1, q2⟩ := hprs j hj; show fb 19 j = _ ∧ _ ∧ fb 20 j = _ ∧ _; rw [hb19, hb20, q1, q2]; exact row_w hrow (by omega) (by omega) j hj) (fun q hq => by have z := hRW q hq; rw [show (va_up fb 8 (upd (fb 8) d (nI (0 + u)))) 23 = fa 23 from (by exact y23.trans b23)]; exact z)) (cwV 0 hts (lw_V q1354 q1356 qs53 q61 q1357) rfl rfl rfl (by decide +kernel) ⟨Nat.le_of_ble_eq_true rfl, Nat.le_of_ble_eq_true rfl⟩) hN hS mPic_o rfl rfl hl.1 rfl (Nat.le_of_ble_eq_true rfl) dX1_kinds_56 ⟨Nat.le_of_ble_eq_true rfl, Nat.le_of_ble_eq_true rfl⟩ (fun v ad' c' H locs hv hN hS => ?_)
          obtain ⟨fi3, fa3, rfl, rfl, rfl, hE3, h18e, e19, e20⟩ := hv
          refine W.eq (g2 := F0 m 59 ls (_ :: _)) rfl ?_
          rw [show (va_up fb 8 (upd (fb 8) d (nI (0 + u)))) 8 = upd (fa 8) d (nI (0 + u)) from (by show upd (fb 8) d _ = _; funext z; by_cases hz : z = d; { subst hz; rw [pk_us, pk_us] }; { rw [pk_un hz, pk_un hz, hoth z hz, b8] }), show (va_up fb 8 (upd (fb 8) d (nI (0 + u)))) 7 = fa 7 from (by exact (y7).trans b7), show (va_up fb 8 (upd (fb 8) d (nI (0 + u)))) 9 = fa 9 from (by exact (y9).trans b9), show (va_up fb 8 (upd (fb 8) d (nI (0 + u)))) 10 = fa 10 from (by exact (y10).trans b10), show (va_up fb 8 (upd (fb 8) d (nI (0 + u)))) 11 = fa 11 from (by exact (y11).trans b11), show (va_up fb 8 (upd (fb 8) d (nI (0 + u)))) 23 = fa 23 from (by exact (y23).trans b23), show (va_up fb 8 (upd (fb 8) d (nI (0 + u)))) 24 = fa 24 from (by exact (y24).trans b24)]
          have hk3 : fa3 8 = upd (fb 8) d (nI (0 + u)) := hE3.2.2.2.2.2.1
          have hE3 : mEq fj (va_up fb 8 (fa2 8)) fi3 (va_up fa3 8 (fa2 8)) := mEq_at 8 (by decide) hE3
          have hoth3 : ∀ z, ¬ z = d → fa3 8 z = fa2 8 z := fun z hz => by rw [hk3]; exact (pk_un hz).trans (hoth z hz)
          refine lv_if_eq (tgt := 69) hx hb dX1_kinds_59 (by decide) (fun c59 => ?_) (fun c59 => ?_)
          · have c59 := zI_0.mp c59
            refine lv_iconst (v := 0) hx hb dX1_kinds_69 (by decide) ?_
            refine lv_ior hx hb dX1_kinds_70 ?_
            refine n_top (y := sSet (fun v => sSo (fa 7) (upd (fa 8) d v) (fa 9) (fa 10) (fa 11) nd np nr (sWh (fa 4) (60 * kk + tn i)) (sWt (fa 4) (60 * kk + tn i)) pm (fa 23) (fa 24)) 0 (u + 1)) (by rw [sSet]; simp only [c59]; rfl) ?_
            refine lv_istore (lv' := [(8, _), (0, _), (1, _), (7, _), (9, _)]) hx hb dX1_kinds_71 hl (by decide) rfl (fun ls hl => ?_)
            refine lv_iinc (v := (nI (0 + (u + 1)))) (lv' := [(9, _), (8, _), (0, _), (1, _), (7, _)]) hx hb dX1_kinds_73 hl (k := 4) rfl (nI_inc (0 + u)) (by decide) rfl (fun ls hl => ?_)
            refine lv_goto (tgt := 39) hx hb dX1_kinds_76 (by decide) ?_
            exact ih39 (u + 1) _ _ _ _ _ (by omega) (by omega) (by have z := hE2.tr hE3; exact z) hoth3 (by rw [h18e]; exact h18) (by rw [e19]; exact hb19) (by rw [e20]; exact hb20) hN hS (lv_sub hl [2, 3, 4, 1, 0] (rfl))
          · have c59 := zI_n0 c59
            refine lv_iconst (v := 1) hx hb dX1_kinds_62 (by decide) ?_
            refine lv_iload hx hb dX1_kinds_63 (lv_at hl 4 rfl) ?_
            refine lv_ishl hx hb dX1_kinds_65 ?_
            refine lv_goto (tgt := 70) hx hb dX1_kinds_66 (by decide) ?_
            refine lv_ior hx hb dX1_kinds_70 ?_
            refine n_top (y := sSet (fun v => sSo (fa 7) (upd (fa 8) d v) (fa 9) (fa 10) (fa 11) nd np nr (sWh (fa 4) (60 * kk + tn i)) (sWt (fa 4) (60 * kk + tn i)) pm (fa 23) (fa 24)) 0 (u + 1)) (by rw [sSet]; simp only [c59]; rfl) ?_
            refine lv_istore (lv' := [(8, _), (0, _), (1, _), (7, _), (9, _)]) hx hb dX1_kinds_71 hl (by decide) rfl (fun ls hl => ?_)
            refine lv_iinc (v := (nI (0 + (u + 1)))) (lv' := [(9, _), (8, _), (0, _), (1, _), (7, _)]) hx hb dX1_kinds_73 hl (k := 4) rfl (nI_inc (0 + u)) (by decide) rfl (fun ls hl => ?_)
            refine lv_goto (tgt := 39) hx hb dX1_kinds_76 (by decide) ?_
            exact ih39 (u + 1) _ _ _ _ _ (by omega) (by omega) (by have z := hE2.tr hE3; exact z) hoth3 (by rw [h18e]; exact h18) (by rw [e19]; exact hb19) (by rw [e20]; exact hb20) hN hS (lv_sub hl [2, 3, 4, 1, 0] (rfl))
    exact loop39 4 0 fi2 fa2 _ _ _ (by omega) (by omega) (by rw [va_up_id _ _ _ rfl]; exact mEq.rf) (fun _ _ => rfl) h18 rfl rfl hN hS (lv_sub hl [4, 5, 2, 1, 0] rfl)
  · have hans : oKds nd np nr (fa 7) (fa 8) (fa 9) (fa 10) (fa 11) (fa 2) (fa 3) (fa 4) (fa 23) (fa 24) a k sort i cn = oLayB nd np (fa 2) (fa 3) (fa 4) (sIn a np) k sort i cn := by rw [oKds, oWif, if_neg c19]
    refine lv_iload hx hb dX1_kinds_22 (lv_at hl 0 rfl) ?_
    exact W.iret hx hb hr (nEnd hN hS ⟨_, _, rfl, rfl, ⟨by rw [hans], by rw [hans]; exact hE⟩⟩) hS.2 dX1_kinds_24
set_option maxHeartbeats 4000000 in
set_option maxRecDepth 100000 in
theorem mX1_knew (l : Launch) (G : nG) (ad : Nat → Nat) (x : nPic) (fi : Nat → Int32) (fa : Nat → Nat → Int32) (a k sort i cn : Int32) (hSL : ∀ k, k < 4 → ¬ fa 2 k = -9 → ∃ L, L ≤ 60 ∧ fa 3 k = nI L) (nd : Nat) (hnd : fi 5 = nI nd) (h6 : nd ≤ 6) (np : Nat) (hnp : fi 6 = nI np) (h4 : np ≤ 4) (nr : Nat) (hnr : fi 22 = nI nr) (h8 : nr ≤ 8) (hRW : ∀ k, k < nr → sIn (fa 23 k) np = true) : Met l yX1_knew (ws_ yX1_knew cX1_knew 10 (some .int)) (mR 6) (nPc G nCl (nK G) ad (mPic G x ad fi fa) [.ref (ad 50), .int a, .int k, .int sort, .int i, .int cn]) (nQ G nCl (mP G ad x (fun rv fi' fa' => rv = some (.int (oKnw nd np nr (fa 7) (fa 8) (fa 9) (fa 10) (fa 11) (fa 2) (fa 3) (fa 4) (fa 23) (fa 24) a k sort i cn).1) ∧ mEq (upd fi 0 (oKnw nd np nr (fa 7) (fa 8) (fa 9) (fa 10) (fa 11) (fa 2) (fa 3) (fa 4) (fa 23) (fa 24) a k sort i cn).2) fa fi' fa'))) 0 0 (fun q => G.2 ≤ q) := by
  refine nMet RX1 (by decide) rfl (Nat.le_of_ble_eq_true rfl) ?_
  intro p e s m below meth c ls SS hR hK hN hS hl
  obtain ⟨hx, hb, hml, hown, hts⟩ := id SS
  obtain ⟨hr, hlk, hnm⟩ := hR
  generalize s.heap = H at hN hS ⊢
  generalize ([] : List Loc) = locs at hS ⊢
  have hl : lv_has ls 10 [(0, .ref (ad 50)), (1, .int a), (2, .int k), (3, .int sort), (4, .int i), (5, .int cn)] := hl
  refine lv_aload_n hx hb dX1_knew_0 rfl (lv_at hl 0 rfl) ?_
  refine lv_aload_n hx hb dX1_knew_1 rfl (lv_at hl 0 rfl) ?_
  refine lv_iload_n hx hb dX1_knew_2 rfl (lv_at hl 1 rfl) ?_
  refine n_callV (C := RX1) (As := [_]) (b := 50) SS (nK_o G) hK hK (mX1_isPerson l G ad x fi fa a np hnp h4) (cwV 1 hts (lw_V q1244 q1246 qs41 q61 q1247) rfl rfl rfl (by decide +kernel) ⟨Nat.le_of_ble_eq_true rfl, Nat.le_of_ble_eq_true rfl⟩) hN hS mPic_o rfl rfl hl.1 rfl (Nat.le_of_ble_eq_true rfl) dX1_knew_3 ⟨Nat.le_of_ble_eq_true rfl, Nat.le_of_ble_eq_true rfl⟩ (fun v ad' c' H locs hv hN hS => ?_)
  obtain ⟨_, _, rfl, rfl, rfl, rfl, rfl⟩ := hv
  refine W.eq (g2 := F0 m 6 ls (_ :: _)) rfl ?_
  refine lv_iload_n hx hb dX1_knew_6 rfl (lv_at hl 2 rfl) ?_
  refine lv_iload_n hx hb dX1_knew_7 rfl (lv_at hl 3 rfl) ?_
  refine lv_iload hx hb dX1_knew_8 (lv_at hl 4 rfl) ?_
  refine lv_iload hx hb dX1_knew_10 (lv_at hl 5 rfl) ?_
  refine n_callV (C := RX1) (As := [_, _, _, _, _]) (b := 50) SS (nK_o G) hK hK (mX1_lay l G ad x fi fa (sIn a np) k sort i cn hSL nd hnd h6 np hnp h4) (cwV 5 hts (lw_V q1350 q1352 qs52 q61 q1353) rfl rfl rfl (by decide +kernel) ⟨Nat.le_of_ble_eq_true rfl, Nat.le_of_ble_eq_true rfl⟩) hN hS mPic_o rfl rfl hl.1 rfl (Nat.le_of_ble_eq_true rfl) dX1_knew_12 ⟨Nat.le_of_ble_eq_true rfl, Nat.le_of_ble_eq_true rfl⟩ (fun v ad' c' H locs hv hN hS => ?_)
  obtain ⟨fi2, fa2, rfl, rfl, rfl, hE, hpr⟩ := hv
  refine W.eq (g2 := F0 m 15 ls (_ :: _)) rfl ?_
  refine lv_istore (lv' := [(6, _), (0, _), (1, _), (2, _), (3, _), (4, _), (5, _)]) hx hb dX1_knew_15 hl (by decide) rfl (fun ls hl => ?_)
  refine lv_iload hx hb dX1_knew_17 (lv_at hl 0 rfl) ?_
  refine lv_if_eq (tgt := 25) hx hb dX1_knew_19 (by decide) (fun c19 => ?_) (fun c19 => ?_)
  · obtain ⟨⟨a0, a1, a5, a6, a22⟩, b2, b3, b4, b7, b8, b9, b10, b11, b23, b24⟩ := id hE
    obtain ⟨hin, kk, pm, hkk, ekk, tkk, hpm, en, tnn, hlay, h18, hprs⟩ := hpr c19
    obtain ⟨hrow, hn0, hL2⟩ := sLay_0 hlay
    obtain ⟨d, hd, ed, td⟩ := sIn_t (by omega) hin
    have td : tn a = d := td
    rw [ed] at hl
    have hLB : oLayB nd np (fa 2) (fa 3) (fa 4) (sIn a np) k sort i cn = (0, 0) := by rw [oLayB, if_pos ⟨hin, by rw [ekk]; exact sBt_lt (n := 3) (by omega)⟩, tkk, tnn] at c19 ⊢; split at c19; { rename_i hz; rw [if_pos hz]; exact Prod.ext hlay hL2 }; { exact absurd c19 (by decide) }
    have hans : oKnw nd np nr (fa 7) (fa 8) (fa 9) (fa 10) (fa 11) (fa 2) (fa 3) (fa 4) (fa 23) (fa 24) a k sort i cn = (sSet (fun v => sSo (fa 7) (fa 8) (fa 9) (upd (fa 10) d v) (fa 11) nd np nr (sWh (fa 4) (60 * kk + tn i)) (sWt (fa 4) (60 * kk + tn i)) pm (fa 23) (fa 24)) 0 5, 0) := by rw [oKnw, oWif, if_pos c19, tkk, tnn, td]
    refine lv_aload_n hx hb dX1_knew_25 rfl (lv_at hl 1 rfl) ?_
    refine m_get SS hK hN 10 (by decide) q1129 rfl rfl dX1_knew_26 ?_
    refine lv_iload_n hx hb dX1_knew_29 rfl (lv_at hl 2 rfl) ?_
    refine m_ald SS hK hN 10 rfl (d) (rfl) (by show _ < (4 : Nat); omega) dX1_knew_30 ?_
    refine lv_istore (lv' := [(7, _), (6, _), (0, _), (1, _), (2, _), (3, _), (4, _), (5, _)]) hx hb dX1_knew_31 hl (by decide) rfl (fun ls hl => ?_)
    refine lv_iconst (v := (sSet (fun v => sSo (fa 7) (fa 8) (fa 9) (upd (fa 10) d v) (fa 11) nd np nr (sWh (fa 4) (60 * kk + tn i)) (sWt (fa 4) (60 * kk + tn i)) pm (fa 23) (fa 24)) 0 0)) hx hb dX1_knew_33 (rfl) ?_
    refine lv_istore (lv' := [(8, _), (7, _), (6, _), (0, _), (1, _), (2, _), (3, _), (4, _), (5, _)]) hx hb dX1_knew_34 hl (by decide) rfl (fun ls hl => ?_)
    refine lv_iconst (v := (nI (0 + 0))) hx hb dX1_knew_36 (rfl) ?_
    refine lv_istore (lv' := [(9, _), (8, _), (7, _), (6, _), (0, _), (1, _), (2, _), (3, _), (4, _), (5, _)]) hx hb dX1_knew_37 hl (by decide) rfl (fun ls hl => ?_)
    have loop39 : ∀ (n : Nat) (u : Nat) (fj : AI) (fb : Nat → AI) (H : Heap) (locs : List Loc) (ls : Array Slot), u ≤ 5 → 6 ≤ u + n → mEq fi2 fa2 fj (va_up fb 10 (fa2 10)) → (∀ z, ¬ z = d → fb 10 z = fa2 10 z) → fj 18 = nI pm → fb 19 = fa2 19 → fb 20 = fa2 20 → nOk G nCl ad (mPic G x ad fj fb) H → nS G s H locs → lv_has ls 10 [(0, .ref (ad 50)), (1, .int (nI d)), (7, .int (fa2 10 d)), (8, .int (sSet (fun v => sSo (fa 7) (fa 8) (fa 9) (upd (fa 10) d v) (fa 11) nd np nr (sWh (fa 4) (60 * kk + tn i)) (sWt (fa 4) (60 * kk + tn i)) pm (fa 23) (fa 24)) 0 u)), (9, .int (nI (0 + u)))] → W p l e (mR 6) s m ([.ref (ad 50), .int a, .int k, .int sort, .int i, .int cn] : List Value).toArray below meth c H locs 0 0 (MQ below (nQ G nCl (mP G ad x (fun rv fi' fa' => rv = some (.int (oKnw nd np nr (fa 7) (fa 8) (fa 9) (fa 10) (fa 11) (fa 2) (fa 3) (fa 4) (fa 23) (fa 24) a k sort i cn).1) ∧ mEq (upd fi 0 (oKnw nd np nr (fa 7) (fa 8) (fa 9) (fa 10) (fa 11) (fa 2) (fa 3) (fa 4) (fa 23) (fa 24) a k sort i cn).2) fa fi' fa'))) ([.ref (ad 50), .int a, .int k, .int sort, .int i, .int cn] : List Value).toArray s 0 0 (fun q => G.2 ≤ q)) (F0 m 39 ls []) := by
      intro n
      induction n with
      | zero => intro u fj fb H locs ls hu hfuel hE2 hoth h18 hb19 hb20 hN hS hl; exact absurd hfuel (by omega)
      | succ n ih39 =>
        intro u fj fb H locs ls hu hfuel hE2 hoth h18 hb19 hb20 hN hS hl
        obtain ⟨⟨x0, x1, x5, x6, x22⟩, y2, y3, y4, y7, y8, y9, y10, y11, y23, y24⟩ := id hE2
        refine lv_iload hx hb dX1_knew_39 (lv_at hl 4 rfl) ?_
        refine lv_iconst (v := (nI 4)) hx hb dX1_knew_41 (rfl) ?_
        refine lv_icmp_gt (tgt := 79) hx hb dX1_knew_42 (by decide) (fun c42 => ?_) (fun c42 => ?_)
        · have c42 : u = 5 := by rcases Nat.lt_or_ge u 5 with q | q; { exact absurd c42 (nI_nlt (show 0 + u ≤ 4 by omega) (by omega)) }; { omega }
          subst c42
          refine lv_aload_n hx hb dX1_knew_79 rfl (lv_at hl 0 rfl) ?_
          refine m_get SS hK hN 10 (by decide) q1129 rfl rfl dX1_knew_80 ?_
          refine lv_iload_n hx hb dX1_knew_83 rfl (lv_at hl 1 rfl) ?_
          refine lv_iload hx hb dX1_knew_84 (lv_at hl 2 rfl) ?_
          refine m_ast SS hK hN hS 10 rfl (d) (rfl) (by show _ < (4 : Nat); omega) dX1_knew_86 (fun H locs hN hS => ?_)
          refine lv_iload hx hb dX1_knew_87 (lv_at hl 3 rfl) ?_
          exact W.iret hx hb hr (nEnd hN hS ⟨_, _, rfl, rfl, ⟨by rw [hans], by rw [hans]; rw [hLB] at hE; exact hE.tr (mEq_back 10 (by decide) hE2 hoth)⟩⟩) hS.2 dX1_knew_89
        · have c42 := id c42
          have c42 : u < 5 := by rcases Nat.lt_or_ge u 5 with q | q; { exact q }; { exact absurd (nI_lt (show 4 < 0 + u by omega) (by omega)) c42 }
          refine lv_aload_n hx hb dX1_knew_45 rfl (lv_at hl 0 rfl) ?_
          refine m_get SS hK hN 10 (by decide) q1129 rfl rfl dX1_knew_46 ?_
          refine lv_iload_n hx hb dX1_knew_49 rfl (lv_at hl 1 rfl) ?_
          refine lv_iload hx hb dX1_knew_50 (lv_at hl 4 rfl) ?_
          refine m_ast SS hK hN hS 10 rfl (d) (rfl) (by show _ < (4 : Nat); omega) dX1_knew_52 (fun H locs hN hS => ?_)
          refine lv_iload hx hb dX1_knew_53 (lv_at hl 3 rfl) ?_
          refine lv_aload_n hx hb dX1_knew_55 rfl (lv_at hl 0 rfl) ?_
          refine n_callV (C := RX1) (As := []) (b := 50) SS (nK_o G) hK hK (mX1_areSo l G ad x fj (va_up fb 10 (upd (fb 10) d (nI (0 + u)))) nd (by exact x5.trans (a5.trans hnd)) h6 np (by exact x6.trans (a6.trans hnp)) h4 nr (by exact x22.trans (a22.trans hnr)) h8 pm hpm h18 (sWh (fa 4) (60 * kk + tn i)) (sWt (fa 4) (60 * kk + tn i)) (fun j hj => by obtain ⟨q1, q2⟩ := hprs j hj; show fb 19 j = _ ∧ _ ∧ fb 20 j = _ ∧ _; rw [hb19, hb20, q1, q2]; exact row_w hrow (by omega) (by omega) j hj) (fun q hq => by have z := hRW q hq; rw [show (va_up fb 10 (upd (fb 10) d (nI (0 + u)))) 23 = fa 23 from (by exact y23.trans b23)]; exact z)) (cwV 0 hts (lw_V q1354 q1356 qs53 q61 q1357) rfl rfl rfl (by decide +kernel) ⟨Nat.le_of_ble_eq_true rfl, Nat.le_of_ble_eq_true rfl⟩) hN hS mPic_o rfl rfl hl.1 rfl (Nat.le_of_ble_eq_true rfl) dX1_knew_56 ⟨Nat.le_of_ble_eq_true rfl, Nat.le_of_ble_eq_true rfl⟩ (fun v ad' c' H locs hv hN hS => ?_)
          obtain ⟨fi3, fa3, rfl, rfl, rfl, hE3, h18e, e19, e20⟩ := hv
          refine W.eq (g2 := F0 m 59 ls (_ :: _)) rfl ?_
          rw [show (va_up fb 10 (upd (fb 10) d (nI (0 + u)))) 10 = upd (fa 10) d (nI (0 + u)) from (by show upd (fb 10) d _ = _; funext z; by_cases hz : z = d; { subst hz; rw [pk_us, pk_us] }; { rw [pk_un hz, pk_un hz, hoth z hz, b10] }), show (va_up fb 10 (upd (fb 10) d (nI (0 + u)))) 7 = fa 7 from (by exact (y7).trans b7), show (va_up fb 10 (upd (fb 10) d (nI (0 + u)))) 8 = fa 8 from (by exact (y8).trans b8), show (va_up fb 10 (upd (fb 10) d (nI (0 + u)))) 9 = fa 9 from (by exact (y9).trans b9), show (va_up fb 10 (upd (fb 10) d (nI (0 + u)))) 11 = fa 11 from (by exact (y11).trans b11), show (va_up fb 10 (upd (fb 10) d (nI (0 + u)))) 23 = fa 23 from (by exact (y23).trans b23), show (va_up fb 10 (upd (fb 10) d (nI (0 + u)))) 24 = fa 24 from (by exact (y24).trans b24)]
          have hk3 : fa3 10 = upd (fb 10) d (nI (0 + u)) := hE3.2.2.2.2.2.2.2.1
          have hE3 : mEq fj (va_up fb 10 (fa2 10)) fi3 (va_up fa3 10 (fa2 10)) := mEq_at 10 (by decide) hE3
          have hoth3 : ∀ z, ¬ z = d → fa3 10 z = fa2 10 z := fun z hz => by rw [hk3]; exact (pk_un hz).trans (hoth z hz)
          refine lv_if_eq (tgt := 69) hx hb dX1_knew_59 (by decide) (fun c59 => ?_) (fun c59 => ?_)
          · have c59 := zI_0.mp c59
            refine lv_iconst (v := 0) hx hb dX1_knew_69 (by decide) ?_
            refine lv_ior hx hb dX1_knew_70 ?_
            refine n_top (y := sSet (fun v => sSo (fa 7) (fa 8) (fa 9) (upd (fa 10) d v) (fa 11) nd np nr (sWh (fa 4) (60 * kk + tn i)) (sWt (fa 4) (60 * kk + tn i)) pm (fa 23) (fa 24)) 0 (u + 1)) (by rw [sSet]; simp only [c59]; rfl) ?_
            refine lv_istore (lv' := [(8, _), (0, _), (1, _), (7, _), (9, _)]) hx hb dX1_knew_71 hl (by decide) rfl (fun ls hl => ?_)
            refine lv_iinc (v := (nI (0 + (u + 1)))) (lv' := [(9, _), (8, _), (0, _), (1, _), (7, _)]) hx hb dX1_knew_73 hl (k := 4) rfl (nI_inc (0 + u)) (by decide) rfl (fun ls hl => ?_)
            refine lv_goto (tgt := 39) hx hb dX1_knew_76 (by decide) ?_
            exact ih39 (u + 1) _ _ _ _ _ (by omega) (by omega) (by have z := hE2.tr hE3; exact z) hoth3 (by rw [h18e]; exact h18) (by rw [e19]; exact hb19) (by rw [e20]; exact hb20) hN hS (lv_sub hl [2, 3, 4, 1, 0] (rfl))
          · have c59 := zI_n0 c59
            refine lv_iconst (v := 1) hx hb dX1_knew_62 (by decide) ?_
            refine lv_iload hx hb dX1_knew_63 (lv_at hl 4 rfl) ?_
            refine lv_ishl hx hb dX1_knew_65 ?_
            refine lv_goto (tgt := 70) hx hb dX1_knew_66 (by decide) ?_
            refine lv_ior hx hb dX1_knew_70 ?_
            refine n_top (y := sSet (fun v => sSo (fa 7) (fa 8) (fa 9) (upd (fa 10) d v) (fa 11) nd np nr (sWh (fa 4) (60 * kk + tn i)) (sWt (fa 4) (60 * kk + tn i)) pm (fa 23) (fa 24)) 0 (u + 1)) (by rw [sSet]; simp only [c59]; rfl) ?_
            refine lv_istore (lv' := [(8, _), (0, _), (1, _), (7, _), (9, _)]) hx hb dX1_knew_71 hl (by decide) rfl (fun ls hl => ?_)
            refine lv_iinc (v := (nI (0 + (u + 1)))) (lv' := [(9, _), (8, _), (0, _), (1, _), (7, _)]) hx hb dX1_knew_73 hl (k := 4) rfl (nI_inc (0 + u)) (by decide) rfl (fun ls hl => ?_)
            refine lv_goto (tgt := 39) hx hb dX1_knew_76 (by decide) ?_
            exact ih39 (u + 1) _ _ _ _ _ (by omega) (by omega) (by have z := hE2.tr hE3; exact z) hoth3 (by rw [h18e]; exact h18) (by rw [e19]; exact hb19) (by rw [e20]; exact hb20) hN hS (lv_sub hl [2, 3, 4, 1, 0] (rfl))
    exact loop39 6 0 fi2 fa2 _ _ _ (by omega) (by omega) (by rw [va_up_id _ _ _ rfl]; exact mEq.rf) (fun _ _ => rfl) h18 rfl rfl hN hS (lv_sub hl [4, 5, 2, 1, 0] rfl)
  · have hans : oKnw nd np nr (fa 7) (fa 8) (fa 9) (fa 10) (fa 11) (fa 2) (fa 3) (fa 4) (fa 23) (fa 24) a k sort i cn = oLayB nd np (fa 2) (fa 3) (fa 4) (sIn a np) k sort i cn := by rw [oKnw, oWif, if_neg c19]
    refine lv_iload hx hb dX1_knew_22 (lv_at hl 0 rfl) ?_
    exact W.iret hx hb hr (nEnd hN hS ⟨_, _, rfl, rfl, ⟨by rw [hans], by rw [hans]; exact hE⟩⟩) hS.2 dX1_knew_24
