/-! THE MODEL's days: printed by wip/gen/m3.py -/
set_option maxHeartbeats 4000000 in
set_option maxRecDepth 100000 in
theorem mX1_against (l : Launch) (G : nG) (ad : Nat → Nat) (x : nPic) (fi : Nat → Int32) (fa : Nat → Nat → Int32) (k : Nat) (hk : k < 4) (sort i n : Int32) : Met l yX1_against (ws_ yX1_against cX1_against 5 (some .int)) (mR 0) (nPc G nCl (nK G) ad (mPic G x ad fi fa) [.ref (ad 50), .int (nI k), .int sort, .int i, .int n]) (nQ G nCl (mP G ad x (fun rv fi' fa' => rv = some (.int (sAgn (fa 2) (fa 3) k sort i n)) ∧ fi = fi' ∧ fa = fa'))) 0 0 (fun q => G.2 ≤ q) := by
  refine nMet RX1 (by decide) rfl (Nat.le_of_ble_eq_true rfl) ?_
  intro p e s m below meth c ls SS hR hK hN hS hl
  obtain ⟨hx, hb, hml, hown, hts⟩ := id SS
  obtain ⟨hr, hlk, hnm⟩ := hR
  generalize s.heap = H at hN hS ⊢
  generalize ([] : List Loc) = locs at hS ⊢
  have hl : lv_has ls 5 [(0, .ref (ad 50)), (1, .int (nI k)), (2, .int sort), (3, .int i), (4, .int n)] := hl
  refine lv_aload_n hx hb dX1_against_0 rfl (lv_at hl 0 rfl) ?_
  refine m_get SS hK hN 2 (by decide) q1121 rfl rfl dX1_against_1 ?_
  refine lv_iload_n hx hb dX1_against_4 rfl (lv_at hl 1 rfl) ?_
  refine m_ald SS hK hN 2 rfl (k) (rfl) (by show _ < (4 : Nat); omega) dX1_against_5 ?_
  refine lv_bipush (v := (-9)) hx hb dX1_against_6 (by decide) ?_
  refine lv_icmp_eq (tgt := 23) hx hb dX1_against_8 (by decide) (fun c8 => ?_) (fun c8 => ?_)
  · refine lv_aload_n hx hb dX1_against_23 rfl (lv_at hl 0 rfl) ?_
    refine m_get SS hK hN 2 (by decide) q1121 rfl rfl dX1_against_24 ?_
    refine lv_iload_n hx hb dX1_against_27 rfl (lv_at hl 1 rfl) ?_
    refine m_ald SS hK hN 2 rfl (k) (rfl) (by show _ < (4 : Nat); omega) dX1_against_28 ?_
    refine lv_bipush (v := (-9)) hx hb dX1_against_29 (by decide) ?_
    refine lv_icmp_ne (tgt := 36) hx hb dX1_against_31 (by decide) (fun c31 => ?_) (fun c31 => ?_)
    · refine lv_iload hx hb dX1_against_36 (lv_at hl 4 rfl) ?_
      refine lv_if_ge (tgt := 43) hx hb dX1_against_38 (by decide) (fun c38 => ?_) (fun c38 => ?_)
      · refine lv_iload_n hx hb dX1_against_43 rfl (lv_at hl 3 rfl) ?_
        refine lv_if_lt (tgt := 70) hx hb dX1_against_44 (by decide) (fun c44 => ?_) (fun c44 => ?_)
        · refine lv_iconst (v := 3) hx hb dX1_against_70 (by decide) ?_
          refine lv_goto (tgt := 75) hx hb dX1_against_71 (by decide) ?_
          exact W.iret hx hb hr (nEnd hN hS ⟨_, _, rfl, rfl, ⟨by congr 2; first | (simp_all [sAgn]; done) | (rw [sAgn, if_neg (by simp_all), if_neg (by simp_all), if_neg (by simpa using c38), if_neg (by simp_all)]), rfl, rfl⟩⟩) hS.2 dX1_against_75
        · refine lv_iload_n hx hb dX1_against_47 rfl (lv_at hl 3 rfl) ?_
          refine lv_aload_n hx hb dX1_against_48 rfl (lv_at hl 0 rfl) ?_
          refine m_get SS hK hN 3 (by decide) q1122 rfl rfl dX1_against_49 ?_
          refine lv_iload_n hx hb dX1_against_52 rfl (lv_at hl 1 rfl) ?_
          refine m_ald SS hK hN 3 rfl (k) (rfl) (by show _ < (4 : Nat); omega) dX1_against_53 ?_
          refine lv_icmp_gt (tgt := 70) hx hb dX1_against_54 (by decide) (fun c54 => ?_) (fun c54 => ?_)
          · refine lv_iconst (v := 3) hx hb dX1_against_70 (by decide) ?_
            refine lv_goto (tgt := 75) hx hb dX1_against_71 (by decide) ?_
            exact W.iret hx hb hr (nEnd hN hS ⟨_, _, rfl, rfl, ⟨by congr 2; first | (simp_all [sAgn]; done) | (rw [sAgn, if_neg (by simp_all), if_neg (by simp_all), if_neg (by simpa using c38), if_neg (by simp_all)]), rfl, rfl⟩⟩) hS.2 dX1_against_75
          · refine lv_iload hx hb dX1_against_57 (lv_at hl 4 rfl) ?_
            refine lv_aload_n hx hb dX1_against_59 rfl (lv_at hl 0 rfl) ?_
            refine m_get SS hK hN 3 (by decide) q1122 rfl rfl dX1_against_60 ?_
            refine lv_iload_n hx hb dX1_against_63 rfl (lv_at hl 1 rfl) ?_
            refine m_ald SS hK hN 3 rfl (k) (rfl) (by show _ < (4 : Nat); omega) dX1_against_64 ?_
            refine lv_iload_n hx hb dX1_against_65 rfl (lv_at hl 3 rfl) ?_
            refine lv_isub hx hb dX1_against_66 ?_
            refine lv_icmp_le (tgt := 74) hx hb dX1_against_67 (by decide) (fun c67 => ?_) (fun c67 => ?_)
            · refine lv_iconst (v := 0) hx hb dX1_against_74 (by decide) ?_
              exact W.iret hx hb hr (nEnd hN hS ⟨_, _, rfl, rfl, ⟨by congr 2; first | (simp_all [sAgn]; done) | (rw [sAgn, if_neg (by simp_all), if_neg (by simp_all), if_neg (by simpa using c38), if_neg (by simp_all)]), rfl, rfl⟩⟩) hS.2 dX1_against_75
            · refine lv_iconst (v := 3) hx hb dX1_against_70 (by decide) ?_
              refine lv_goto (tgt := 75) hx hb dX1_against_71 (by decide) ?_
              exact W.iret hx hb hr (nEnd hN hS ⟨_, _, rfl, rfl, ⟨by congr 2; first | (simp_all [sAgn]; done) | (rw [sAgn, if_neg (by simp_all), if_neg (by simp_all), if_neg (by simpa using c38), if_neg (by simp_all)]), rfl, rfl⟩⟩) hS.2 dX1_against_75
      · refine lv_iconst (v := 4) hx hb dX1_against_41 (by decide) ?_
        exact W.iret hx hb hr (nEnd hN hS ⟨_, _, rfl, rfl, ⟨by congr 2; simp_all [sAgn], rfl, rfl⟩⟩) hS.2 dX1_against_42
    · refine lv_iconst (v := 1) hx hb dX1_against_34 (by decide) ?_
      exact W.iret hx hb hr (nEnd hN hS ⟨_, _, rfl, rfl, ⟨by congr 2; simp_all [sAgn], rfl, rfl⟩⟩) hS.2 dX1_against_35
  · refine lv_aload_n hx hb dX1_against_11 rfl (lv_at hl 0 rfl) ?_
    refine m_get SS hK hN 2 (by decide) q1121 rfl rfl dX1_against_12 ?_
    refine lv_iload_n hx hb dX1_against_15 rfl (lv_at hl 1 rfl) ?_
    refine m_ald SS hK hN 2 rfl (k) (rfl) (by show _ < (4 : Nat); omega) dX1_against_16 ?_
    refine lv_iload_n hx hb dX1_against_17 rfl (lv_at hl 2 rfl) ?_
    refine lv_icmp_eq (tgt := 23) hx hb dX1_against_18 (by decide) (fun c18 => ?_) (fun c18 => ?_)
    · refine lv_aload_n hx hb dX1_against_23 rfl (lv_at hl 0 rfl) ?_
      refine m_get SS hK hN 2 (by decide) q1121 rfl rfl dX1_against_24 ?_
      refine lv_iload_n hx hb dX1_against_27 rfl (lv_at hl 1 rfl) ?_
      refine m_ald SS hK hN 2 rfl (k) (rfl) (by show _ < (4 : Nat); omega) dX1_against_28 ?_
      refine lv_bipush (v := (-9)) hx hb dX1_against_29 (by decide) ?_
      refine lv_icmp_ne (tgt := 36) hx hb dX1_against_31 (by decide) (fun c31 => ?_) (fun c31 => ?_)
      · refine lv_iload hx hb dX1_against_36 (lv_at hl 4 rfl) ?_
        refine lv_if_ge (tgt := 43) hx hb dX1_against_38 (by decide) (fun c38 => ?_) (fun c38 => ?_)
        · refine lv_iload_n hx hb dX1_against_43 rfl (lv_at hl 3 rfl) ?_
          refine lv_if_lt (tgt := 70) hx hb dX1_against_44 (by decide) (fun c44 => ?_) (fun c44 => ?_)
          · refine lv_iconst (v := 3) hx hb dX1_against_70 (by decide) ?_
            refine lv_goto (tgt := 75) hx hb dX1_against_71 (by decide) ?_
            exact W.iret hx hb hr (nEnd hN hS ⟨_, _, rfl, rfl, ⟨by congr 2; first | (simp_all [sAgn]; done) | (rw [sAgn, if_neg (by simp_all), if_neg (by simp_all), if_neg (by simpa using c38), if_neg (by simp_all)]), rfl, rfl⟩⟩) hS.2 dX1_against_75
          · refine lv_iload_n hx hb dX1_against_47 rfl (lv_at hl 3 rfl) ?_
            refine lv_aload_n hx hb dX1_against_48 rfl (lv_at hl 0 rfl) ?_
            refine m_get SS hK hN 3 (by decide) q1122 rfl rfl dX1_against_49 ?_
            refine lv_iload_n hx hb dX1_against_52 rfl (lv_at hl 1 rfl) ?_
            refine m_ald SS hK hN 3 rfl (k) (rfl) (by show _ < (4 : Nat); omega) dX1_against_53 ?_
            refine lv_icmp_gt (tgt := 70) hx hb dX1_against_54 (by decide) (fun c54 => ?_) (fun c54 => ?_)
            · refine lv_iconst (v := 3) hx hb dX1_against_70 (by decide) ?_
              refine lv_goto (tgt := 75) hx hb dX1_against_71 (by decide) ?_
              exact W.iret hx hb hr (nEnd hN hS ⟨_, _, rfl, rfl, ⟨by congr 2; first | (simp_all [sAgn]; done) | (rw [sAgn, if_neg (by simp_all), if_neg (by simp_all), if_neg (by simpa using c38), if_neg (by simp_all)]), rfl, rfl⟩⟩) hS.2 dX1_against_75
            · refine lv_iload hx hb dX1_against_57 (lv_at hl 4 rfl) ?_
              refine lv_aload_n hx hb dX1_against_59 rfl (lv_at hl 0 rfl) ?_
              refine m_get SS hK hN 3 (by decide) q1122 rfl rfl dX1_against_60 ?_
              refine lv_iload_n hx hb dX1_against_63 rfl (lv_at hl 1 rfl) ?_
              refine m_ald SS hK hN 3 rfl (k) (rfl) (by show _ < (4 : Nat); omega) dX1_against_64 ?_
              refine lv_iload_n hx hb dX1_against_65 rfl (lv_at hl 3 rfl) ?_
              refine lv_isub hx hb dX1_against_66 ?_
              refine lv_icmp_le (tgt := 74) hx hb dX1_against_67 (by decide) (fun c67 => ?_) (fun c67 => ?_)
              · refine lv_iconst (v := 0) hx hb dX1_against_74 (by decide) ?_
                exact W.iret hx hb hr (nEnd hN hS ⟨_, _, rfl, rfl, ⟨by congr 2; first | (simp_all [sAgn]; done) | (rw [sAgn, if_neg (by simp_all), if_neg (by simp_all), if_neg (by simpa using c38), if_neg (by simp_all)]), rfl, rfl⟩⟩) hS.2 dX1_against_75
              · refine lv_iconst (v := 3) hx hb dX1_against_70 (by decide) ?_
                refine lv_goto (tgt := 75) hx hb dX1_against_71 (by decide) ?_
                exact W.iret hx hb hr (nEnd hN hS ⟨_, _, rfl, rfl, ⟨by congr 2; first | (simp_all [sAgn]; done) | (rw [sAgn, if_neg (by simp_all), if_neg (by simp_all), if_neg (by simpa using c38), if_neg (by simp_all)]), rfl, rfl⟩⟩) hS.2 dX1_against_75
        · refine lv_iconst (v := 4) hx hb dX1_against_41 (by decide) ?_
          exact W.iret hx hb hr (nEnd hN hS ⟨_, _, rfl, rfl, ⟨by congr 2; simp_all [sAgn], rfl, rfl⟩⟩) hS.2 dX1_against_42
      · refine lv_iconst (v := 1) hx hb dX1_against_34 (by decide) ?_
        exact W.iret hx hb hr (nEnd hN hS ⟨_, _, rfl, rfl, ⟨by congr 2; simp_all [sAgn], rfl, rfl⟩⟩) hS.2 dX1_against_35
    · refine lv_iconst (v := 2) hx hb dX1_against_21 (by decide) ?_
      exact W.iret hx hb hr (nEnd hN hS ⟨_, _, rfl, rfl, ⟨by congr 2; simp_all [sAgn], rfl, rfl⟩⟩) hS.2 dX1_against_22
set_option maxHeartbeats 4000000 in
set_option maxRecDepth 100000 in
theorem mX1_layDays (l : Launch) (G : nG) (ad : Nat → Nat) (x : nPic) (fi : Nat → Int32) (fa : Nat → Nat → Int32) (k : Nat) (hk : k < 4) (sort i : Int32) (pm : Nat) (hm : pm ≤ 20) (hf0 : fi 0 = 0) (hSL : ∀ k, k < 4 → ¬ fa 2 k = -9 → ∃ L, L ≤ 60 ∧ fa 3 k = nI L) (nd : Nat) (hnd : fi 5 = nI nd) (h6 : nd ≤ 6) (np : Nat) (hnp : fi 6 = nI np) (h4 : np ≤ 4) : Met l yX1_layDays (ws_ yX1_layDays cX1_layDays 7 (some .int)) (mR 1) (nPc G nCl (nK G) ad (mPic G x ad fi fa) [.ref (ad 50), .int (nI k), .int sort, .int i, .int (nI pm)]) (nQ G nCl (mP G ad x (fun rv fi' fa' => rv = some (.int (sLay (fa 2) (fa 3) (fa 4) nd np k sort i pm).1) ∧ mEq (upd fi 0 (sLay (fa 2) (fa 3) (fa 4) nd np k sort i pm).2) fa fi' fa' ∧ ((sLay (fa 2) (fa 3) (fa 4) nd np k sort i pm).1 = 0 → fi' 18 = nI pm ∧ ∀ j, j < pm → fa' 19 j = fa 4 (60 * k + tn i + 2 * j) ∧ fa' 20 j = fa 4 (60 * k + tn i + 2 * j + 1))))) 0 0 (fun q => G.2 ≤ q) := by
  refine nMet RX1 (by decide) rfl (Nat.le_of_ble_eq_true rfl) ?_
  intro p e s m below meth c ls SS hR hK hN hS hl
  obtain ⟨hx, hb, hml, hown, hts⟩ := id SS
  obtain ⟨hr, hlk, hnm⟩ := hR
  generalize s.heap = H at hN hS ⊢
  generalize ([] : List Loc) = locs at hS ⊢
  have hl : lv_has ls 7 [(0, .ref (ad 50)), (1, .int (nI k)), (2, .int sort), (3, .int i), (4, .int (nI pm))] := hl
  refine lv_aload_n hx hb dX1_layDays_0 rfl (lv_at hl 0 rfl) ?_
  refine lv_iload_n hx hb dX1_layDays_1 rfl (lv_at hl 1 rfl) ?_
  refine lv_iload_n hx hb dX1_layDays_2 rfl (lv_at hl 2 rfl) ?_
  refine lv_iload_n hx hb dX1_layDays_3 rfl (lv_at hl 3 rfl) ?_
  refine lv_iconst (v := (nI 2)) hx hb dX1_layDays_4 (rfl) ?_
  refine lv_iload hx hb dX1_layDays_5 (lv_at hl 4 rfl) ?_
  refine lv_imul hx hb dX1_layDays_7 ?_
  refine n_top (y := nI (2 * pm)) (pk_mul _ _) ?_
  refine n_callV (C := RX1) (As := [_, _, _, _]) (b := 50) SS (nK_o G) hK hK (mX1_against l G ad x fi fa k hk sort i (nI (2 * pm))) (cwV 4 hts (lw_V q1208 q1210 qs33 q61 q1211) rfl rfl rfl (by decide +kernel) ⟨Nat.le_of_ble_eq_true rfl, Nat.le_of_ble_eq_true rfl⟩) hN hS mPic_o rfl rfl hl.1 rfl (Nat.le_of_ble_eq_true rfl) dX1_layDays_8 ⟨Nat.le_of_ble_eq_true rfl, Nat.le_of_ble_eq_true rfl⟩ (fun v ad' c' H locs hv hN hS => ?_)
  obtain ⟨_, _, rfl, rfl, rfl, rfl, rfl⟩ := hv
  refine W.eq (g2 := F0 m 11 ls (_ :: _)) rfl ?_
  refine lv_istore (lv' := [(5, _), (0, _), (1, _), (2, _), (3, _), (4, _)]) hx hb dX1_layDays_11 hl (by decide) rfl (fun ls hl => ?_)
  refine lv_iload hx hb dX1_layDays_13 (lv_at hl 0 rfl) ?_
  refine lv_if_eq (tgt := 25) hx hb dX1_layDays_15 (by decide) (fun c15 => ?_) (fun c15 => ?_)
  · have hso : ¬ fa 2 k = -9 := by intro z; rw [sAgn] at c15; rw [if_neg (fun q => q.1 z), if_pos z] at c15; exact absurd c15 (by decide)
    obtain ⟨L, hL6, hL⟩ := hSL k hk hso
    obtain ⟨-, -, ii, ei, ti, hii⟩ := sAgn_0 hL hL6 (by omega) c15
    rw [ei] at hl
    refine lv_aload_n hx hb dX1_layDays_25 rfl (lv_at hl 1 rfl) ?_
    refine m_get (v := .int (nI np)) SS hK hN 6 (by decide) q1125 rfl (by rw [← hnp]; rfl) dX1_layDays_26 ?_
    refine lv_if_ne (tgt := 35) hx hb dX1_layDays_29 (by decide) (fun c29 => ?_) (fun c29 => ?_)
    · have c29 : ¬ np = 0 := fun z => c29 (by rw [z]; rfl)
      refine lv_iconst (v := (nI 0)) hx hb dX1_layDays_35 (rfl) ?_
      refine lv_istore (lv' := [(6, _), (5, _), (0, _), (1, _), (2, _), (3, _), (4, _)]) hx hb dX1_layDays_36 hl (by decide) rfl (fun ls hl => ?_)
      have loop38 : ∀ (n : Nat) (j : Nat) (fb : Nat → AI) (H : Heap) (locs : List Loc) (ls : Array Slot), j ≤ pm → pm + 1 ≤ j + n → mEq fi fa fi fb → (∀ q, q < j → fb 19 q = fa 4 (60 * k + ii + 2 * q) ∧ fb 20 q = fa 4 (60 * k + ii + 2 * q + 1)) → sRow (fa 4) nd np (60 * k + ii) j = true → nOk G nCl ad (mPic G x ad fi fb) H → nS G s H locs → lv_has ls 7 [(0, .ref (ad 50)), (1, .int (nI k)), (3, .int (nI ii)), (4, .int (nI pm)), (6, .int (nI j))] → W p l e (mR 1) s m ([.ref (ad 50), .int (nI k), .int sort, .int i, .int (nI pm)] : List Value).toArray below meth c H locs 0 0 (MQ below (nQ G nCl (mP G ad x (fun rv fi' fa' => rv = some (.int (sLay (fa 2) (fa 3) (fa 4) nd np k sort i pm).1) ∧ mEq (upd fi 0 (sLay (fa 2) (fa 3) (fa 4) nd np k sort i pm).2) fa fi' fa' ∧ ((sLay (fa 2) (fa 3) (fa 4) nd np k sort i pm).1 = 0 → fi' 18 = nI pm ∧ ∀ j, j < pm → fa' 19 j = fa 4 (60 * k + tn i + 2 * j) ∧ fa' 20 j = fa 4 (60 * k + tn i + 2 * j + 1))))) ([.ref (ad 50), .int (nI k), .int sort, .int i, .int (nI pm)] : List Value).toArray s 0 0 (fun q => G.2 ≤ q)) (F0 m 38 ls []) := by
        intro n
        induction n with
        | zero => intro j fb H locs ls hj hfuel hE hpr hrow hN hS hl; exact absurd hfuel (by omega)
        | succ n ih38 =>
          intro j fb H locs ls hj hfuel hE hpr hrow hN hS hl
          refine lv_iload hx hb dX1_layDays_38 (lv_at hl 4 rfl) ?_
          refine lv_iload hx hb dX1_layDays_40 (lv_at hl 3 rfl) ?_
          refine lv_icmp_ge (tgt := 129) hx hb dX1_layDays_42 (by decide) (fun c42 => ?_) (fun c42 => ?_)
          · have c42 := (nI_leI (by omega) (by omega)).mp c42
            have c42 : pm = j := by omega
            subst c42
            have hans : sLay (fa 2) (fa 3) (fa 4) nd np k sort i pm = (0, 0) := by rw [sLay, if_neg (by simpa using c15), if_neg c29, ti, hrow]; rfl
            refine lv_aload_n hx hb dX1_layDays_129 rfl (lv_at hl 0 rfl) ?_
            refine lv_iload hx hb dX1_layDays_130 (lv_at hl 3 rfl) ?_
            refine m_put SS hK hN hS 18 (by decide) q1137 rfl rfl rfl rfl dX1_layDays_132 (fun H locs hN hS => ?_)
            refine lv_iconst (v := 0) hx hb dX1_layDays_135 (by decide) ?_
            exact W.iret hx hb hr (nEnd hN hS ⟨_, _, rfl, rfl, ⟨by rw [hans], by rw [hans, upd_self _ _ _ hf0]; exact hE.ji 18 rfl _, fun _ => ⟨rfl, fun q hq => by rw [ti]; exact hpr q hq⟩⟩⟩) hS.2 dX1_layDays_136
          · have c42 : ¬ pm ≤ j := fun z => c42 (nI_le z (by omega))
            refine lv_aload_n hx hb dX1_layDays_45 rfl (lv_at hl 0 rfl) ?_
            refine m_get SS hK hN 19 (by decide) q1138 rfl rfl dX1_layDays_46 ?_
            refine lv_iload hx hb dX1_layDays_49 (lv_at hl 4 rfl) ?_
            refine lv_aload_n hx hb dX1_layDays_51 rfl (lv_at hl 0 rfl) ?_
            refine m_get SS hK hN 4 (by decide) q1123 rfl rfl dX1_layDays_52 ?_
            refine lv_bipush (v := (nI 60)) hx hb dX1_layDays_55 (rfl) ?_
            refine lv_iload_n hx hb dX1_layDays_57 rfl (lv_at hl 1 rfl) ?_
            refine lv_imul hx hb dX1_layDays_58 ?_
            refine n_top (y := nI (60 * k)) (pk_mul _ _) ?_
            refine lv_iload_n hx hb dX1_layDays_59 rfl (lv_at hl 2 rfl) ?_
            refine lv_iadd hx hb dX1_layDays_60 ?_
            refine n_top (y := nI (60 * k + ii)) (nI_add _ _) ?_
            refine lv_iconst (v := (nI 2)) hx hb dX1_layDays_61 (rfl) ?_
            refine lv_iload hx hb dX1_layDays_62 (lv_at hl 4 rfl) ?_
            refine lv_imul hx hb dX1_layDays_64 ?_
            refine n_top (y := nI (2 * j)) (pk_mul _ _) ?_
            refine lv_iadd hx hb dX1_layDays_65 ?_
            refine n_top (y := nI (60 * k + ii + 2 * j)) (nI_add _ _) ?_
            refine m_ald SS hK hN 4 rfl (60 * k + ii + 2 * j) (rfl) (by show _ < (240 : Nat); omega) dX1_layDays_66 ?_
            refine n_top (y := fa 4 (60 * k + ii + 2 * j)) (by rw [hE.2.2.2.1]) ?_
            refine m_ast SS hK hN hS 19 rfl (j) (rfl) (by show _ < (20 : Nat); omega) dX1_layDays_67 (fun H locs hN hS => ?_)
            refine lv_aload_n hx hb dX1_layDays_68 rfl (lv_at hl 0 rfl) ?_
            refine m_get SS hK hN 20 (by decide) q1139 rfl rfl dX1_layDays_69 ?_
            refine lv_iload hx hb dX1_layDays_72 (lv_at hl 4 rfl) ?_
            refine lv_aload_n hx hb dX1_layDays_74 rfl (lv_at hl 0 rfl) ?_
            refine m_get SS hK hN 4 (by decide) q1123 rfl rfl dX1_layDays_75 ?_
            refine lv_bipush (v := (nI 60)) hx hb dX1_layDays_78 (rfl) ?_
            refine lv_iload_n hx hb dX1_layDays_80 rfl (lv_at hl 1 rfl) ?_
            refine lv_imul hx hb dX1_layDays_81 ?_
            refine n_top (y := nI (60 * k)) (pk_mul _ _) ?_
            refine lv_iload_n hx hb dX1_layDays_82 rfl (lv_at hl 2 rfl) ?_
            refine lv_iadd hx hb dX1_layDays_83 ?_
            refine n_top (y := nI (60 * k + ii)) (nI_add _ _) ?_
            refine lv_iconst (v := (nI 2)) hx hb dX1_layDays_84 (rfl) ?_
            refine lv_iload hx hb dX1_layDays_85 (lv_at hl 4 rfl) ?_
            refine lv_imul hx hb dX1_layDays_87 ?_
            refine n_top (y := nI (2 * j)) (pk_mul _ _) ?_
            refine lv_iadd hx hb dX1_layDays_88 ?_
            refine n_top (y := nI (60 * k + ii + 2 * j)) (nI_add _ _) ?_
            refine lv_iconst (v := 1) hx hb dX1_layDays_89 (by decide) ?_
            refine lv_iadd hx hb dX1_layDays_90 ?_
            refine n_top (y := nI (60 * k + ii + 2 * j + 1)) (nI_1 _) ?_
            refine m_ald SS hK hN 4 rfl (60 * k + ii + 2 * j + 1) (rfl) (by show _ < (240 : Nat); omega) dX1_layDays_91 ?_
            refine n_top (y := fa 4 (60 * k + ii + 2 * j + 1)) (by show fb 4 _ = _; rw [hE.2.2.2.1]) ?_
            refine m_ast SS hK hN hS 20 rfl (j) (rfl) (by show _ < (20 : Nat); omega) dX1_layDays_92 (fun H locs hN hS => ?_)
            refine lv_aload_n hx hb dX1_layDays_93 rfl (lv_at hl 0 rfl) ?_
            refine lv_aload_n hx hb dX1_layDays_94 rfl (lv_at hl 0 rfl) ?_
            refine m_get SS hK hN 19 (by decide) q1138 rfl rfl dX1_layDays_95 ?_
            refine lv_iload hx hb dX1_layDays_98 (lv_at hl 4 rfl) ?_
            refine m_ald SS hK hN 19 rfl (j) (rfl) (by show _ < (20 : Nat); omega) dX1_layDays_100 ?_
            refine n_top (y := fa 4 (60 * k + ii + 2 * j)) (pk_us) ?_
            refine n_callV (C := RX1) (As := [_]) (b := 50) SS (nK_o G) hK hK (mX1_isPerson l G ad x fi _ (fa 4 (60 * k + ii + 2 * j)) np hnp h4) (cwV 1 hts (lw_V q1244 q1246 qs41 q61 q1247) rfl rfl rfl (by decide +kernel) ⟨Nat.le_of_ble_eq_true rfl, Nat.le_of_ble_eq_true rfl⟩) hN hS mPic_o rfl rfl hl.1 rfl (Nat.le_of_ble_eq_true rfl) dX1_layDays_101 ⟨Nat.le_of_ble_eq_true rfl, Nat.le_of_ble_eq_true rfl⟩ (fun v ad' c' H locs hv hN hS => ?_)
            obtain ⟨_, _, rfl, rfl, rfl, rfl, rfl⟩ := hv
            refine W.eq (g2 := F0 m 104 ls (_ :: _)) rfl ?_
            refine lv_if_eq (tgt := 121) hx hb dX1_layDays_104 (by decide) (fun c104 => ?_) (fun c104 => ?_)
            · have c104 : sIn (fa 4 (60 * k + ii + 2 * j)) np = false := zI_0.mp c104
              have hno : (sIn (fa 4 (60 * k + ii + 2 * j)) np && sIn (fa 4 (60 * k + ii + 2 * j + 1)) nd) = false := by rw [c104, Bool.false_and]
              have hans : sLay (fa 2) (fa 3) (fa 4) nd np k sort i pm = (-1, 0) := by rw [sLay, if_neg (by simpa using c15), if_neg c29, ti, sRow_no hno pm (by omega)]; rfl
              refine lv_iconst (v := (-1)) hx hb dX1_layDays_121 (by decide) ?_
              exact W.iret hx hb hr (nEnd hN hS ⟨_, _, rfl, rfl, ⟨by rw [hans], by rw [hans, upd_self _ _ _ hf0]; exact (hE.ja 19 rfl _).ja 20 rfl _, by rw [hans]; intro z; exact absurd z (by decide)⟩⟩) hS.2 dX1_layDays_122
            · have c104 : sIn (fa 4 (60 * k + ii + 2 * j)) np = true := by simpa [zI_0] using c104
              refine lv_aload_n hx hb dX1_layDays_107 rfl (lv_at hl 0 rfl) ?_
              refine lv_aload_n hx hb dX1_layDays_108 rfl (lv_at hl 0 rfl) ?_
              refine m_get SS hK hN 20 (by decide) q1139 rfl rfl dX1_layDays_109 ?_
              refine lv_iload hx hb dX1_layDays_112 (lv_at hl 4 rfl) ?_
              refine m_ald SS hK hN 20 rfl (j) (rfl) (by show _ < (20 : Nat); omega) dX1_layDays_114 ?_
              refine n_top (y := fa 4 (60 * k + ii + 2 * j + 1)) (pk_us) ?_
              refine n_callV (C := RX1) (As := [_]) (b := 50) SS (nK_o G) hK hK (mX1_isDeed l G ad x fi _ (fa 4 (60 * k + ii + 2 * j + 1)) nd hnd h6) (cwV 1 hts (lw_V q1260 q1262 qs44 q61 q1263) rfl rfl rfl (by decide +kernel) ⟨Nat.le_of_ble_eq_true rfl, Nat.le_of_ble_eq_true rfl⟩) hN hS mPic_o rfl rfl hl.1 rfl (Nat.le_of_ble_eq_true rfl) dX1_layDays_115 ⟨Nat.le_of_ble_eq_true rfl, Nat.le_of_ble_eq_true rfl⟩ (fun v ad' c' H locs hv hN hS => ?_)
              obtain ⟨_, _, rfl, rfl, rfl, rfl, rfl⟩ := hv
              refine W.eq (g2 := F0 m 118 ls (_ :: _)) rfl ?_
              refine lv_if_ne (tgt := 123) hx hb dX1_layDays_118 (by decide) (fun c118 => ?_) (fun c118 => ?_)
              · have c118 : sIn (fa 4 (60 * k + ii + 2 * j + 1)) nd = true := by simpa [zI_0] using c118
                refine lv_iinc (v := (nI (j + 1))) (lv' := [(6, _), (0, _), (1, _), (3, _), (4, _)]) hx hb dX1_layDays_123 hl (k := 4) rfl (nI_inc j) (by decide) rfl (fun ls hl => ?_)
                refine lv_goto (tgt := 38) hx hb dX1_layDays_126 (by decide) ?_
                exact ih38 (j + 1) _ _ _ _ (by omega) (by omega) ((hE.ja 19 rfl _).ja 20 rfl _) (by intro q hq; by_cases e : q = j; { subst e; exact ⟨pk_us, pk_us⟩ }; { exact ⟨(pk_un e).trans (hpr q (by omega)).1, (pk_un e).trans (hpr q (by omega)).2⟩ }) (by rw [sRow, hrow, c104, c118]; rfl) hN hS (lv_sub hl [1, 2, 3, 4, 0] (rfl))
              · have c118 : sIn (fa 4 (60 * k + ii + 2 * j + 1)) nd = false := zI_0.mp c118
                have hno : (sIn (fa 4 (60 * k + ii + 2 * j)) np && sIn (fa 4 (60 * k + ii + 2 * j + 1)) nd) = false := by rw [c118, Bool.and_false]
                have hans : sLay (fa 2) (fa 3) (fa 4) nd np k sort i pm = (-1, 0) := by rw [sLay, if_neg (by simpa using c15), if_neg c29, ti, sRow_no hno pm (by omega)]; rfl
                refine lv_iconst (v := (-1)) hx hb dX1_layDays_121 (by decide) ?_
                exact W.iret hx hb hr (nEnd hN hS ⟨_, _, rfl, rfl, ⟨by rw [hans], by rw [hans, upd_self _ _ _ hf0]; exact (hE.ja 19 rfl _).ja 20 rfl _, by rw [hans]; intro z; exact absurd z (by decide)⟩⟩) hS.2 dX1_layDays_122
      exact loop38 (pm + 1) 0 fa _ _ _ (by omega) (by omega) mEq.rf (fun q hq => by omega) rfl hN hS (lv_sub hl [2, 3, 5, 6, 0] rfl)
    · have c29 : np = 0 := (nI_eq (by omega) (by omega)).mp c29
      have hans : sLay (fa 2) (fa 3) (fa 4) nd np k sort i pm = (-3, 0) := by rw [sLay, if_neg (by simpa using c15), if_pos c29]
      refine lv_bipush (v := (-3)) hx hb dX1_layDays_32 (by decide) ?_
      exact W.iret hx hb hr (nEnd hN hS ⟨_, _, rfl, rfl, ⟨by rw [hans], by rw [hans, upd_self _ _ _ hf0]; exact mEq.rf, by rw [hans]; intro z; exact absurd z (by decide)⟩⟩) hS.2 dX1_layDays_34
  · have hans : sLay (fa 2) (fa 3) (fa 4) nd np k sort i pm = (-10 - sAgn (fa 2) (fa 3) k sort i (nI (2 * pm)), sAgn (fa 2) (fa 3) k sort i (nI (2 * pm))) := by rw [sLay, if_pos c15]
    refine lv_aload_n hx hb dX1_layDays_18 rfl (lv_at hl 1 rfl) ?_
    refine lv_iload hx hb dX1_layDays_19 (lv_at hl 0 rfl) ?_
    refine n_callV (C := RX1) (As := [_]) (b := 50) SS (nK_o G) hK hK (mX1_fails l G ad x fi fa (sAgn (fa 2) (fa 3) k sort i (nI (2 * pm)))) (cwV 1 hts (lw_V q1212 q1214 qs34 q61 q1215) rfl rfl rfl (by decide +kernel) ⟨Nat.le_of_ble_eq_true rfl, Nat.le_of_ble_eq_true rfl⟩) hN hS mPic_o rfl rfl hl.1 rfl (Nat.le_of_ble_eq_true rfl) dX1_layDays_21 ⟨Nat.le_of_ble_eq_true rfl, Nat.le_of_ble_eq_true rfl⟩ (fun v ad' c' H locs hv hN hS => ?_)
    obtain ⟨_, _, rfl, rfl, rfl, rfl, rfl⟩ := hv
    refine W.eq (g2 := F0 m 24 ls (_ :: _)) rfl ?_
    exact W.iret hx hb hr (nEnd hN hS ⟨_, _, rfl, rfl, ⟨by rw [hans], by rw [hans]; exact mEq.rf, by rw [hans]; intro z; exact absurd z (by have := sAgn_ge (fa 2) (fa 3) k sort i (nI (2 * pm)); simp_all)⟩⟩) hS.2 dX1_layDays_24
set_option maxHeartbeats 4000000 in
set_option maxRecDepth 100000 in
theorem mX1_goDays (l : Launch) (G : nG) (ad : Nat → Nat) (x : nPic) (fi : Nat → Int32) (fa : Nat → Nat → Int32) (nd : Nat) (hnd : fi 5 = nI nd) (h6 : nd ≤ 6) (np : Nat) (hnp : fi 6 = nI np) (h4 : np ≤ 4) (pm : Nat) (hm : pm ≤ 20) (h18 : fi 18 = nI pm) (wh wt : Nat → Nat) (hw : ∀ j, j < pm → fa 19 j = nI (wh j) ∧ wh j < np ∧ fa 20 j = nI (wt j) ∧ wt j < nd) : Met l yX1_goDays (ws_ yX1_goDays cX1_goDays 2 (some .int)) (mR 4) (nPc G nCl (nK G) ad (mPic G x ad fi fa) [.ref (ad 50)]) (nQ G nCl (mP G ad x (fun rv fi' fa' => rv = some (.int (sGo (fa 7) (fa 8) (fa 9) (fa 10) nd np wh wt pm 0 (fun j => if j < np then fa 11 j else fa 17 j) 0).1) ∧ upd fi 21 (sGo (fa 7) (fa 8) (fa 9) (fa 10) nd np wh wt pm 0 (fun j => if j < np then fa 11 j else fa 17 j) 0).2.2 = fi' ∧ va_up fa 17 (sGo (fa 7) (fa 8) (fa 9) (fa 10) nd np wh wt pm 0 (fun j => if j < np then fa 11 j else fa 17 j) 0).2.1 = fa'))) 0 0 (fun q => G.2 ≤ q) := by
  refine nMet RX1 (by decide) rfl (Nat.le_of_ble_eq_true rfl) ?_
  intro p e s m below meth c ls SS hR hK hN hS hl
  obtain ⟨hx, hb, hml, hown, hts⟩ := id SS
  obtain ⟨hr, hlk, hnm⟩ := hR
  generalize s.heap = H at hN hS ⊢
  generalize ([] : List Loc) = locs at hS ⊢
  have hl : lv_has ls 2 [(0, .ref (ad 50))] := hl
  refine lv_aload_n hx hb dX1_goDays_0 rfl (lv_at hl 0 rfl) ?_
  refine n_callV (C := RX1) (As := []) (b := 50) SS (nK_o G) hK hK (mX1_asNow l G ad x fi fa np hnp h4) (cwV 0 hts (lw_V q1276 q1278 qs45 q61 q1279) rfl rfl rfl (by decide +kernel) ⟨Nat.le_of_ble_eq_true rfl, Nat.le_of_ble_eq_true rfl⟩) hN hS mPic_o rfl rfl hl.1 rfl (Nat.le_of_ble_eq_true rfl) dX1_goDays_1 ⟨Nat.le_of_ble_eq_true rfl, Nat.le_of_ble_eq_true rfl⟩ (fun v ad' c' H locs hv hN hS => ?_)
  obtain ⟨_, _, rfl, rfl, rfl, rfl, rfl⟩ := hv
  refine W.eq (g2 := F0 m 4 ls _) rfl ?_
  refine lv_aload_n hx hb dX1_goDays_4 rfl (lv_at hl 0 rfl) ?_
  refine lv_iconst (v := 0) hx hb dX1_goDays_5 (by decide) ?_
  refine m_put SS hK hN hS 21 (by decide) q1140 rfl rfl rfl rfl dX1_goDays_6 (fun H locs hN hS => ?_)
  obtain ⟨g, hg0⟩ : ∃ g, g = sGo (fa 7) (fa 8) (fa 9) (fa 10) nd np wh wt pm 0 (fun j => if j < np then fa 11 j else fa 17 j) 0 := ⟨_, rfl⟩
  refine lv_iconst (v := (nI 0)) hx hb dX1_goDays_9 (rfl) ?_
  refine lv_istore_n (lv' := [(1, _), (0, _)]) hx hb dX1_goDays_10 rfl hl (by decide) rfl (fun ls hl => ?_)
  have loop11 : ∀ (n : Nat) (k : Nat) (t : AI) (cg : Int32) (H : Heap) (locs : List Loc) (ls : Array Slot), k ≤ pm → pm + 1 ≤ k + n → sGo (fa 7) (fa 8) (fa 9) (fa 10) nd np wh wt (pm - k) k t cg = g → nOk G nCl ad (mPic G x ad (upd fi 21 cg) (va_up fa 17 t)) H → nS G s H locs → lv_has ls 2 [(0, .ref (ad 50)), (1, .int (nI k))] → W p l e (mR 4) s m ([.ref (ad 50)] : List Value).toArray below meth c H locs 0 0 (MQ below (nQ G nCl (mP G ad x (fun rv fi' fa' => rv = some (.int (sGo (fa 7) (fa 8) (fa 9) (fa 10) nd np wh wt pm 0 (fun j => if j < np then fa 11 j else fa 17 j) 0).1) ∧ upd fi 21 (sGo (fa 7) (fa 8) (fa 9) (fa 10) nd np wh wt pm 0 (fun j => if j < np then fa 11 j else fa 17 j) 0).2.2 = fi' ∧ va_up fa 17 (sGo (fa 7) (fa 8) (fa 9) (fa 10) nd np wh wt pm 0 (fun j => if j < np then fa 11 j else fa 17 j) 0).2.1 = fa'))) ([.ref (ad 50)] : List Value).toArray s 0 0 (fun q => G.2 ≤ q)) (F0 m 11 ls []) := by
    intro n
    induction n with
    | zero => intro k t cg H locs ls hk hfuel hg hN hS hl; exact absurd hfuel (by omega)
    | succ n ih11 =>
      intro k t cg H locs ls hk hfuel hg hN hS hl
      refine lv_iload_n hx hb dX1_goDays_11 rfl (lv_at hl 1 rfl) ?_
      refine lv_aload_n hx hb dX1_goDays_12 rfl (lv_at hl 0 rfl) ?_
      refine m_get (v := .int (nI pm)) SS hK hN 18 (by decide) q1137 rfl (by rw [← h18]; rfl) dX1_goDays_13 ?_
      refine lv_icmp_ge (tgt := 84) hx hb dX1_goDays_16 (by decide) (fun c16 => ?_) (fun c16 => ?_)
      · have c16 := (nI_leI (by omega) (by omega)).mp c16
        have c16 : pm = k := by omega
        subst c16
        rw [Nat.sub_self, sGo] at hg
        refine lv_bipush (v := (-9)) hx hb dX1_goDays_84 (by decide) ?_
        exact W.iret hx hb hr (nEnd hN hS ⟨_, _, rfl, rfl, ⟨by rw [← hg0, ← hg], by rw [← hg0, ← hg], by rw [← hg0, ← hg]⟩⟩) hS.2 dX1_goDays_86
      · have c16 : ¬ pm ≤ k := fun z => c16 (nI_le z (by omega))
        obtain ⟨hw1, hw2, hw3, hw4⟩ := hw k (by omega)
        rw [show pm - k = (pm - k - 1) + 1 by omega, sGo] at hg
        refine lv_aload_n hx hb dX1_goDays_19 rfl (lv_at hl 0 rfl) ?_
        refine m_get SS hK hN 17 (by decide) q1136 rfl rfl dX1_goDays_20 ?_
        refine lv_aload_n hx hb dX1_goDays_23 rfl (lv_at hl 0 rfl) ?_
        refine m_get SS hK hN 19 (by decide) q1138 rfl rfl dX1_goDays_24 ?_
        refine lv_iload_n hx hb dX1_goDays_27 rfl (lv_at hl 1 rfl) ?_
        refine m_ald SS hK hN 19 rfl (k) (rfl) (by show _ < (20 : Nat); omega) dX1_goDays_28 ?_
        refine n_top (y := nI (wh k)) (hw1) ?_
        refine m_ald SS hK hN 17 rfl (wh k) (rfl) (by show _ < (4 : Nat); omega) dX1_goDays_29 ?_
        refine n_top (y := t (wh k)) (rfl) ?_
        refine lv_aload_n hx hb dX1_goDays_30 rfl (lv_at hl 0 rfl) ?_
        refine m_get SS hK hN 20 (by decide) q1139 rfl rfl dX1_goDays_31 ?_
        refine lv_iload_n hx hb dX1_goDays_34 rfl (lv_at hl 1 rfl) ?_
        refine m_ald SS hK hN 20 rfl (k) (rfl) (by show _ < (20 : Nat); omega) dX1_goDays_35 ?_
        refine n_top (y := nI (wt k)) (hw3) ?_
        refine lv_ishr hx hb dX1_goDays_36 ?_
        refine lv_iconst (v := 1) hx hb dX1_goDays_37 (by decide) ?_
        refine lv_iand hx hb dX1_goDays_38 ?_
        refine n_top (y := sBit (t (wh k)) (wt k)) (rfl) ?_
        refine lv_iconst (v := 1) hx hb dX1_goDays_39 (by decide) ?_
        refine lv_icmp_ne (tgt := 45) hx hb dX1_goDays_40 (by decide) (fun c40 => ?_) (fun c40 => ?_)
        · rw [if_neg c40, show pm - k - 1 = pm - (k + 1) by omega] at hg
          refine lv_aload_n hx hb dX1_goDays_45 rfl (lv_at hl 0 rfl) ?_
          refine lv_dup hx hb dX1_goDays_46 rfl ?_
          refine m_get (v := .int cg) SS hK hN 21 (by decide) q1140 rfl (rfl) dX1_goDays_47 ?_
          refine lv_aload_n hx hb dX1_goDays_50 rfl (lv_at hl 0 rfl) ?_
          refine lv_aload_n hx hb dX1_goDays_51 rfl (lv_at hl 0 rfl) ?_
          refine m_get SS hK hN 19 (by decide) q1138 rfl rfl dX1_goDays_52 ?_
          refine lv_iload_n hx hb dX1_goDays_55 rfl (lv_at hl 1 rfl) ?_
          refine m_ald SS hK hN 19 rfl (k) (rfl) (by show _ < (20 : Nat); omega) dX1_goDays_56 ?_
          refine n_top (y := nI (wh k)) (hw1) ?_
          refine lv_aload_n hx hb dX1_goDays_57 rfl (lv_at hl 0 rfl) ?_
          refine m_get SS hK hN 20 (by decide) q1139 rfl rfl dX1_goDays_58 ?_
          refine lv_iload_n hx hb dX1_goDays_61 rfl (lv_at hl 1 rfl) ?_
          refine m_ald SS hK hN 20 rfl (k) (rfl) (by show _ < (20 : Nat); omega) dX1_goDays_62 ?_
          refine n_top (y := nI (wt k)) (hw3) ?_
          refine n_callV (C := RX1) (As := [_, _]) (b := 50) SS (nK_o G) hK hK (mX1_tells l G ad x (upd fi 21 cg) (va_up fa 17 t) (wh k) (wt k) nd hnd h6 np hnp h4 hw2 hw4) (cwV 2 hts (lw_V q1280 q1282 qs46 q61 q1283) rfl rfl rfl (by decide +kernel) ⟨Nat.le_of_ble_eq_true rfl, Nat.le_of_ble_eq_true rfl⟩) hN hS mPic_o rfl rfl hl.1 rfl (Nat.le_of_ble_eq_true rfl) dX1_goDays_63 ⟨Nat.le_of_ble_eq_true rfl, Nat.le_of_ble_eq_true rfl⟩ (fun v ad' c' H locs hv hN hS => ?_)
          obtain ⟨_, _, rfl, rfl, rfl, rfl, rfl⟩ := hv
          refine W.eq (g2 := F0 m 66 ls (_ :: _)) rfl ?_
          have hN := hN.congr (c' := mPic G x ad (upd fi 21 cg) (va_up fa 17 (sTel (fa 7) (fa 8) (fa 9) (fa 10) nd np t (wh k) (wt k)))) (by rw [bx_uu]; rfl)
          refine n_top (y := zI (sCgt (fa 7) (fa 8) (fa 9) (fa 10) nd np t (wh k) (wt k))) rfl ?_
          refine lv_if_eq (tgt := 73) hx hb dX1_goDays_66 (by decide) (fun c66 => ?_) (fun c66 => ?_)
          · have c66 : sCgt (fa 7) (fa 8) (fa 9) (fa 10) nd np t (wh k) (wt k) = false := zI_0.mp c66
            refine lv_iconst (v := 0) hx hb dX1_goDays_73 (by decide) ?_
            refine lv_iadd hx hb dX1_goDays_74 ?_
            refine n_top (y := cg + zI (sCgt (fa 7) (fa 8) (fa 9) (fa 10) nd np t (wh k) (wt k))) (by rw [c66]; rfl) ?_
            refine m_put SS hK hN hS 21 (by decide) q1140 rfl rfl rfl rfl dX1_goDays_75 (fun H locs hN hS => ?_)
            rw [upd_upd] at hN
            refine lv_iinc (v := (nI (k + 1))) (lv' := [(1, _), (0, _)]) hx hb dX1_goDays_78 hl (k := 1) rfl (nI_inc k) (by decide) rfl (fun ls hl => ?_)
            refine lv_goto (tgt := 11) hx hb dX1_goDays_81 (by decide) ?_
            exact ih11 (k + 1) _ _ _ _ _ (by omega) (by omega) hg hN hS (lv_sub hl [1, 0] (rfl))
          · have c66 : sCgt (fa 7) (fa 8) (fa 9) (fa 10) nd np t (wh k) (wt k) = true := by simpa [zI_0] using c66
            refine lv_iconst (v := 1) hx hb dX1_goDays_69 (by decide) ?_
            refine lv_goto (tgt := 74) hx hb dX1_goDays_70 (by decide) ?_
            refine lv_iadd hx hb dX1_goDays_74 ?_
            refine n_top (y := cg + zI (sCgt (fa 7) (fa 8) (fa 9) (fa 10) nd np t (wh k) (wt k))) (by rw [c66]; rfl) ?_
            refine m_put SS hK hN hS 21 (by decide) q1140 rfl rfl rfl rfl dX1_goDays_75 (fun H locs hN hS => ?_)
            rw [upd_upd] at hN
            refine lv_iinc (v := (nI (k + 1))) (lv' := [(1, _), (0, _)]) hx hb dX1_goDays_78 hl (k := 1) rfl (nI_inc k) (by decide) rfl (fun ls hl => ?_)
            refine lv_goto (tgt := 11) hx hb dX1_goDays_81 (by decide) ?_
            exact ih11 (k + 1) _ _ _ _ _ (by omega) (by omega) hg hN hS (lv_sub hl [1, 0] (rfl))
        · rw [if_pos c40] at hg
          refine lv_iload_n hx hb dX1_goDays_43 rfl (lv_at hl 1 rfl) ?_
          exact W.iret hx hb hr (nEnd hN hS ⟨_, _, rfl, rfl, ⟨by rw [← hg0, ← hg], by rw [← hg0, ← hg], by rw [← hg0, ← hg]⟩⟩) hS.2 dX1_goDays_44
  exact loop11 (pm + 1) 0 _ 0 _ _ _ (by omega) (by omega) hg0.symm hN hS (lv_sub hl [1, 0] rfl)
set_option maxHeartbeats 4000000 in
set_option maxRecDepth 100000 in
theorem mX1_tellDays (l : Launch) (G : nG) (ad : Nat → Nat) (x : nPic) (fi : Nat → Int32) (fa : Nat → Nat → Int32) (a : Int32) (nd : Nat) (hnd : fi 5 = nI nd) (h6 : nd ≤ 6) (np : Nat) (hnp : fi 6 = nI np) (h4 : np ≤ 4) : Met l yX1_tellDays (ws_ yX1_tellDays cX1_tellDays 5 (some .int)) (mR 2) (nPc G nCl (nK G) ad (mPic G x ad fi fa) [.ref (ad 50), .int a]) (nQ G nCl (mP G ad x (fun rv fi' fa' => rv = some (.int (sTd (fa 7) (fa 8) (fa 17) nd np (fi 21) a)) ∧ fi = fi' ∧ fa = fa'))) 0 0 (fun q => G.2 ≤ q) := by
  refine nMet RX1 (by decide) rfl (Nat.le_of_ble_eq_true rfl) ?_
  intro p e s m below meth c ls SS hR hK hN hS hl
  obtain ⟨hx, hb, hml, hown, hts⟩ := id SS
  obtain ⟨hr, hlk, hnm⟩ := hR
  generalize s.heap = H at hN hS ⊢
  generalize ([] : List Loc) = locs at hS ⊢
  have hl : lv_has ls 5 [(0, .ref (ad 50)), (1, .int a)] := hl
  refine lv_iload_n hx hb dX1_tellDays_0 rfl (lv_at hl 1 rfl) ?_
  refine lv_if_ne (tgt := 9) hx hb dX1_tellDays_1 (by decide) (fun c1 => ?_) (fun c1 => ?_)
  · refine lv_iload_n hx hb dX1_tellDays_9 rfl (lv_at hl 1 rfl) ?_
    refine lv_iconst (v := 2) hx hb dX1_tellDays_10 (by decide) ?_
    refine lv_icmp_ne (tgt := 60) hx hb dX1_tellDays_11 (by decide) (fun c11 => ?_) (fun c11 => ?_)
    · refine lv_iload_n hx hb dX1_tellDays_60 rfl (lv_at hl 1 rfl) ?_
      refine lv_bipush (v := 10) hx hb dX1_tellDays_61 (by decide) ?_
      refine lv_irem hx hb dX1_tellDays_63 (by decide) ?_
      refine lv_istore_n (lv' := [(2, _), (0, _), (1, _)]) hx hb dX1_tellDays_64 rfl hl (by decide) rfl (fun ls hl => ?_)
      refine lv_aload_n hx hb dX1_tellDays_65 rfl (lv_at hl 1 rfl) ?_
      refine lv_iload_n hx hb dX1_tellDays_66 rfl (lv_at hl 0 rfl) ?_
      refine n_callV (C := RX1) (As := [_]) (b := 50) SS (nK_o G) hK hK (mX1_isPerson l G ad x fi fa (a - a / 10 * 10) np hnp h4) (cwV 1 hts (lw_V q1244 q1246 qs41 q61 q1247) rfl rfl rfl (by decide +kernel) ⟨Nat.le_of_ble_eq_true rfl, Nat.le_of_ble_eq_true rfl⟩) hN hS mPic_o rfl rfl hl.1 rfl (Nat.le_of_ble_eq_true rfl) dX1_tellDays_67 ⟨Nat.le_of_ble_eq_true rfl, Nat.le_of_ble_eq_true rfl⟩ (fun v ad' c' H locs hv hN hS => ?_)
      obtain ⟨_, _, rfl, rfl, rfl, rfl, rfl⟩ := hv
      refine W.eq (g2 := F0 m 70 ls (_ :: _)) rfl ?_
      refine lv_if_ne (tgt := 76) hx hb dX1_tellDays_70 (by decide) (fun c70 => ?_) (fun c70 => ?_)
      · have c70 : sIn (a - a / 10 * 10) np = true := by simpa [zI_0] using c70
        obtain ⟨pp, hpp, epp, tpp⟩ := sIn_t (by omega) c70
        have tpp : tn (a - a / 10 * 10) = pp := tpp
        rw [epp] at hl
        refine lv_iload_n hx hb dX1_tellDays_76 rfl (lv_at hl 2 rfl) ?_
        refine lv_bipush (v := 20) hx hb dX1_tellDays_77 (by decide) ?_
        refine lv_icmp_ge (tgt := 96) hx hb dX1_tellDays_79 (by decide) (fun c79 => ?_) (fun c79 => ?_)
        · refine lv_aload_n hx hb dX1_tellDays_96 rfl (lv_at hl 1 rfl) ?_
          refine m_get SS hK hN 17 (by decide) q1136 rfl rfl dX1_tellDays_97 ?_
          refine lv_iload_n hx hb dX1_tellDays_100 rfl (lv_at hl 0 rfl) ?_
          refine m_ald SS hK hN 17 rfl (pp) (rfl) (by show _ < (4 : Nat); omega) dX1_tellDays_101 ?_
          exact W.iret hx hb hr (nEnd hN hS ⟨_, _, rfl, rfl, ⟨by congr 2; rw [sTd, if_neg c1, if_neg c11, if_pos c70, tpp]; first | rw [if_pos (by simpa using c79)] | rw [if_neg (by simpa using c79)], rfl, rfl⟩⟩) hS.2 dX1_tellDays_102
        · refine lv_aload_n hx hb dX1_tellDays_82 rfl (lv_at hl 1 rfl) ?_
          refine lv_iload_n hx hb dX1_tellDays_83 rfl (lv_at hl 0 rfl) ?_
          refine lv_aload_n hx hb dX1_tellDays_84 rfl (lv_at hl 1 rfl) ?_
          refine m_get SS hK hN 17 (by decide) q1136 rfl rfl dX1_tellDays_85 ?_
          refine lv_iload_n hx hb dX1_tellDays_88 rfl (lv_at hl 0 rfl) ?_
          refine m_ald SS hK hN 17 rfl (pp) (rfl) (by show _ < (4 : Nat); omega) dX1_tellDays_89 ?_
          refine n_callV (C := RX1) (As := [_, _]) (b := 50) SS (nK_o G) hK hK (mX1_floorBy l G ad x fi fa pp _ (by omega) nd hnd h6) (cwV 2 hts (lw_V q1248 q1250 qs42 q61 q1251) rfl rfl rfl (by decide +kernel) ⟨Nat.le_of_ble_eq_true rfl, Nat.le_of_ble_eq_true rfl⟩) hN hS mPic_o rfl rfl hl.1 rfl (Nat.le_of_ble_eq_true rfl) dX1_tellDays_90 ⟨Nat.le_of_ble_eq_true rfl, Nat.le_of_ble_eq_true rfl⟩ (fun v ad' c' H locs hv hN hS => ?_)
          obtain ⟨_, _, rfl, rfl, rfl, rfl, rfl⟩ := hv
          refine W.eq (g2 := F0 m 93 ls (_ :: _)) rfl ?_
          refine lv_goto (tgt := 102) hx hb dX1_tellDays_93 (by decide) ?_
          exact W.iret hx hb hr (nEnd hN hS ⟨_, _, rfl, rfl, ⟨by congr 2; rw [sTd, if_neg c1, if_neg c11, if_pos c70, tpp]; first | rw [if_pos (by simpa using c79)] | rw [if_neg (by simpa using c79)], rfl, rfl⟩⟩) hS.2 dX1_tellDays_102
      · have c70 : ¬ sIn (a - a / 10 * 10) np = true := by simpa [zI_0] using c70
        refine lv_bipush (v := (-9)) hx hb dX1_tellDays_73 (by decide) ?_
        exact W.iret hx hb hr (nEnd hN hS ⟨_, _, rfl, rfl, ⟨by congr 2; rw [sTd, if_neg c1, if_neg c11, if_neg c70], rfl, rfl⟩⟩) hS.2 dX1_tellDays_75
    · refine lv_iconst (v := (sTop (fa 7) (fa 8) (fa 17) nd 0)) hx hb dX1_tellDays_14 (rfl) ?_
      refine lv_istore_n (lv' := [(2, _), (0, _), (1, _)]) hx hb dX1_tellDays_15 rfl hl (by decide) rfl (fun ls hl => ?_)
      refine lv_iconst (v := (nI 0)) hx hb dX1_tellDays_16 (rfl) ?_
      refine lv_istore_n (lv' := [(3, _), (2, _), (0, _), (1, _)]) hx hb dX1_tellDays_17 rfl hl (by decide) rfl (fun ls hl => ?_)
      have loop18 : ∀ (n : Nat) (q : Nat) (H : Heap) (locs : List Loc) (ls : Array Slot), q ≤ np → np + 1 ≤ q + n → nOk G nCl ad (mPic G x ad fi fa) H → nS G s H locs → lv_has ls 5 [(0, .ref (ad 50)), (1, .int a), (2, .int (sTop (fa 7) (fa 8) (fa 17) nd q)), (3, .int (nI q))] → W p l e (mR 2) s m ([.ref (ad 50), .int a] : List Value).toArray below meth c H locs 0 0 (MQ below (nQ G nCl (mP G ad x (fun rv fi' fa' => rv = some (.int (sTd (fa 7) (fa 8) (fa 17) nd np (fi 21) a)) ∧ fi = fi' ∧ fa = fa'))) ([.ref (ad 50), .int a] : List Value).toArray s 0 0 (fun q => G.2 ≤ q)) (F0 m 18 ls []) := by
        intro n
        induction n with
        | zero => intro q H locs ls hq hfuel hN hS hl; exact absurd hfuel (by omega)
        | succ n ih18 =>
          intro q H locs ls hq hfuel hN hS hl
          refine lv_iload_n hx hb dX1_tellDays_18 rfl (lv_at hl 3 rfl) ?_
          refine lv_aload_n hx hb dX1_tellDays_19 rfl (lv_at hl 0 rfl) ?_
          refine m_get (v := .int (nI np)) SS hK hN 6 (by decide) q1125 rfl (by rw [← hnp]; rfl) dX1_tellDays_20 ?_
          refine lv_icmp_ge (tgt := 58) hx hb dX1_tellDays_23 (by decide) (fun c23 => ?_) (fun c23 => ?_)
          · have c23 := (nI_leI (by omega) (by omega)).mp c23
            have c23 : np = q := by omega
            subst c23
            refine lv_iload_n hx hb dX1_tellDays_58 rfl (lv_at hl 2 rfl) ?_
            exact W.iret hx hb hr (nEnd hN hS ⟨_, _, rfl, rfl, ⟨by congr 2; rw [sTd, if_neg c1, if_pos c11], rfl, rfl⟩⟩) hS.2 dX1_tellDays_59
          · have c23 : ¬ np ≤ q := fun z => c23 (nI_le z (by omega))
            refine lv_aload_n hx hb dX1_tellDays_26 rfl (lv_at hl 0 rfl) ?_
            refine lv_iload_n hx hb dX1_tellDays_27 rfl (lv_at hl 3 rfl) ?_
            refine lv_aload_n hx hb dX1_tellDays_28 rfl (lv_at hl 0 rfl) ?_
            refine m_get SS hK hN 17 (by decide) q1136 rfl rfl dX1_tellDays_29 ?_
            refine lv_iload_n hx hb dX1_tellDays_32 rfl (lv_at hl 3 rfl) ?_
            refine m_ald SS hK hN 17 rfl (q) (rfl) (by show _ < (4 : Nat); omega) dX1_tellDays_33 ?_
            refine n_callV (C := RX1) (As := [_, _]) (b := 50) SS (nK_o G) hK hK (mX1_floorBy l G ad x fi fa q _ (by omega) nd hnd h6) (cwV 2 hts (lw_V q1248 q1250 qs42 q61 q1251) rfl rfl rfl (by decide +kernel) ⟨Nat.le_of_ble_eq_true rfl, Nat.le_of_ble_eq_true rfl⟩) hN hS mPic_o rfl rfl hl.1 rfl (Nat.le_of_ble_eq_true rfl) dX1_tellDays_34 ⟨Nat.le_of_ble_eq_true rfl, Nat.le_of_ble_eq_true rfl⟩ (fun v ad' c' H locs hv hN hS => ?_)
            obtain ⟨_, _, rfl, rfl, rfl, rfl, rfl⟩ := hv
            refine W.eq (g2 := F0 m 37 ls (_ :: _)) rfl ?_
            refine lv_istore (lv' := [(4, _), (0, _), (1, _), (2, _), (3, _)]) hx hb dX1_tellDays_37 hl (by decide) rfl (fun ls hl => ?_)
            refine lv_iload hx hb dX1_tellDays_39 (lv_at hl 0 rfl) ?_
            refine lv_iload_n hx hb dX1_tellDays_41 rfl (lv_at hl 3 rfl) ?_
            refine lv_icmp_le (tgt := 50) hx hb dX1_tellDays_42 (by decide) (fun c42 => ?_) (fun c42 => ?_)
            · have htop : sTop (fa 7) (fa 8) (fa 17) nd (q + 1) = sTop (fa 7) (fa 8) (fa 17) nd q := by rw [sTop, if_neg (by simpa using c42)]
              refine lv_iload_n hx hb dX1_tellDays_50 rfl (lv_at hl 3 rfl) ?_
              refine n_top (y := sTop (fa 7) (fa 8) (fa 17) nd (q + 1)) (by rw [htop]) ?_
              refine lv_istore_n (lv' := [(2, _), (4, _), (0, _), (1, _), (3, _)]) hx hb dX1_tellDays_51 rfl hl (by decide) rfl (fun ls hl => ?_)
              refine lv_iinc (v := (nI (q + 1))) (lv' := [(3, _), (2, _), (4, _), (0, _), (1, _)]) hx hb dX1_tellDays_52 hl (k := 4) rfl (nI_inc q) (by decide) rfl (fun ls hl => ?_)
              refine lv_goto (tgt := 18) hx hb dX1_tellDays_55 (by decide) ?_
              exact ih18 (q + 1) _ _ _ (by omega) (by omega) hN hS (lv_sub hl [3, 4, 1, 0] (rfl))
            · have htop : sTop (fa 7) (fa 8) (fa 17) nd (q + 1) = sFl (fa 7) (fa 8) q (fa 17 q) nd := by rw [sTop, if_pos (by simpa using c42)]
              refine lv_iload hx hb dX1_tellDays_45 (lv_at hl 0 rfl) ?_
              refine lv_goto (tgt := 51) hx hb dX1_tellDays_47 (by decide) ?_
              refine n_top (y := sTop (fa 7) (fa 8) (fa 17) nd (q + 1)) (by rw [htop]) ?_
              refine lv_istore_n (lv' := [(2, _), (4, _), (0, _), (1, _), (3, _)]) hx hb dX1_tellDays_51 rfl hl (by decide) rfl (fun ls hl => ?_)
              refine lv_iinc (v := (nI (q + 1))) (lv' := [(3, _), (2, _), (4, _), (0, _), (1, _)]) hx hb dX1_tellDays_52 hl (k := 4) rfl (nI_inc q) (by decide) rfl (fun ls hl => ?_)
              refine lv_goto (tgt := 18) hx hb dX1_tellDays_55 (by decide) ?_
              exact ih18 (q + 1) _ _ _ (by omega) (by omega) hN hS (lv_sub hl [3, 4, 1, 0] (rfl))
      exact loop18 (np + 1) 0 _ _ _ (by omega) (by omega) hN hS (lv_sub hl [2, 3, 1, 0] rfl)
  · refine lv_aload_n hx hb dX1_tellDays_4 rfl (lv_at hl 0 rfl) ?_
    refine m_get SS hK hN 21 (by decide) q1140 rfl rfl dX1_tellDays_5 ?_
    exact W.iret hx hb hr (nEnd hN hS ⟨_, _, rfl, rfl, ⟨by congr 2; simp_all [sTd], rfl, rfl⟩⟩) hS.2 dX1_tellDays_8
set_option maxHeartbeats 4000000 in
set_option maxRecDepth 100000 in
theorem mX1_areSo (l : Launch) (G : nG) (ad : Nat → Nat) (x : nPic) (fi : Nat → Int32) (fa : Nat → Nat → Int32) (nd : Nat) (hnd : fi 5 = nI nd) (h6 : nd ≤ 6) (np : Nat) (hnp : fi 6 = nI np) (h4 : np ≤ 4) (nr : Nat) (hnr : fi 22 = nI nr) (h8 : nr ≤ 8) (pm : Nat) (hm : pm ≤ 20) (h18 : fi 18 = nI pm) (wh wt : Nat → Nat) (hw : ∀ j, j < pm → fa 19 j = nI (wh j) ∧ wh j < np ∧ fa 20 j = nI (wt j) ∧ wt j < nd) (hRW : ∀ k, k < nr → sIn (fa 23 k) np = true) : Met l yX1_areSo (ws_ yX1_areSo cX1_areSo 2 (some .boolean)) (mR 5) (nPc G nCl (nK G) ad (mPic G x ad fi fa) [.ref (ad 50)]) (nQ G nCl (mP G ad x (fun rv fi' fa' => rv = some (.int (zI (sSo (fa 7) (fa 8) (fa 9) (fa 10) (fa 11) nd np nr wh wt pm (fa 23) (fa 24)))) ∧ mEq fi fa fi' fa' ∧ fi' 18 = fi 18 ∧ fa' 19 = fa 19 ∧ fa' 20 = fa 20))) 0 0 (fun q => G.2 ≤ q) := by
  refine nMet RX1 (by decide) rfl (Nat.le_of_ble_eq_true rfl) ?_
  intro p e s m below meth c ls SS hR hK hN hS hl
  obtain ⟨hx, hb, hml, hown, hts⟩ := id SS
  obtain ⟨hr, hlk, hnm⟩ := hR
  generalize s.heap = H at hN hS ⊢
  generalize ([] : List Loc) = locs at hS ⊢
  have hl : lv_has ls 2 [(0, .ref (ad 50))] := hl
  obtain ⟨hc1, -, hc3⟩ := sGo_congr (w := fa 7) (kd := fa 8) (dn := fa 9) (kn := fa 10) (nd := nd) (np := np) (wh := wh) (wt := wt) pm 0 (fun j => if j < np then fa 11 j else fa 17 j) (fa 11) 0 (fun j _ hj => (hw j (by omega)).2.1) (fun j hj => by simp [hj])
  refine lv_aload_n hx hb dX1_areSo_0 rfl (lv_at hl 0 rfl) ?_
  refine n_callV (C := RX1) (As := []) (b := 50) SS (nK_o G) hK hK (mX1_goDays l G ad x fi fa nd hnd h6 np hnp h4 pm hm h18 wh wt hw) (cwV 0 hts (lw_V q1307 q1309 qs49 q61 q1310) rfl rfl rfl (by decide +kernel) ⟨Nat.le_of_ble_eq_true rfl, Nat.le_of_ble_eq_true rfl⟩) hN hS mPic_o rfl rfl hl.1 rfl (Nat.le_of_ble_eq_true rfl) dX1_areSo_1 ⟨Nat.le_of_ble_eq_true rfl, Nat.le_of_ble_eq_true rfl⟩ (fun v ad' c' H locs hv hN hS => ?_)
  obtain ⟨_, _, rfl, rfl, rfl, rfl, rfl⟩ := hv
  refine W.eq (g2 := F0 m 4 ls (_ :: _)) rfl ?_
  generalize sGo (fa 7) (fa 8) (fa 9) (fa 10) nd np wh wt pm 0 (fun j => if j < np then fa 11 j else fa 17 j) 0 = g at hc1 hc3 hN ⊢
  obtain ⟨g1, t, cg⟩ := g
  have hc1 : g1 = _ := hc1
  have hc3 : ∀ j, j < np → t j = (sGo (fa 7) (fa 8) (fa 9) (fa 10) nd np wh wt pm 0 (fa 11) 0).2.1 j := hc3
  refine n_top (y := g1) rfl ?_
  refine lv_bipush (v := (-9)) hx hb dX1_areSo_4 (by decide) ?_
  refine lv_icmp_eq (tgt := 11) hx hb dX1_areSo_6 (by decide) (fun c6 => ?_) (fun c6 => ?_)
  · have hrl : ∀ k, k < nr → tn (fa 23 k) < np := fun k hk => by obtain ⟨j, hj, -, e⟩ := sIn_t (by omega) (hRW k hk); exact (show tn (fa 23 k) < np by rw [show tn (fa 23 k) = j from e]; exact hj)
    refine lv_iconst (v := (nI 0)) hx hb dX1_areSo_11 (rfl) ?_
    refine lv_istore_n (lv' := [(1, _), (0, _)]) hx hb dX1_areSo_12 rfl hl (by decide) rfl (fun ls hl => ?_)
    have loop13 : ∀ (n : Nat) (k : Nat) (H : Heap) (locs : List Loc) (ls : Array Slot), k ≤ nr → nr + 1 ≤ k + n → sRds (fa 7) (fa 8) t nd (fa 23) (fa 24) k = true → nOk G nCl ad (mPic G x ad (upd fi 21 cg) (va_up fa 17 t)) H → nS G s H locs → lv_has ls 2 [(0, .ref (ad 50)), (1, .int (nI k))] → W p l e (mR 5) s m ([.ref (ad 50)] : List Value).toArray below meth c H locs 0 0 (MQ below (nQ G nCl (mP G ad x (fun rv fi' fa' => rv = some (.int (zI (sSo (fa 7) (fa 8) (fa 9) (fa 10) (fa 11) nd np nr wh wt pm (fa 23) (fa 24)))) ∧ mEq fi fa fi' fa' ∧ fi' 18 = fi 18 ∧ fa' 19 = fa 19 ∧ fa' 20 = fa 20))) ([.ref (ad 50)] : List Value).toArray s 0 0 (fun q => G.2 ≤ q)) (F0 m 13 ls []) := by
      intro n
      induction n with
      | zero => intro k H locs ls hk hfuel hrd hN hS hl; exact absurd hfuel (by omega)
      | succ n ih13 =>
        intro k H locs ls hk hfuel hrd hN hS hl
        refine lv_iload_n hx hb dX1_areSo_13 rfl (lv_at hl 1 rfl) ?_
        refine lv_aload_n hx hb dX1_areSo_14 rfl (lv_at hl 0 rfl) ?_
        refine m_get (v := .int (nI nr)) SS hK hN 22 (by decide) q1141 rfl (by rw [← hnr]; rfl) dX1_areSo_15 ?_
        refine lv_icmp_ge (tgt := 59) hx hb dX1_areSo_18 (by decide) (fun c18 => ?_) (fun c18 => ?_)
        · have c18 := (nI_leI (by omega) (by omega)).mp c18
          have c18 : nr = k := by omega
          subst c18
          have hans : sSo (fa 7) (fa 8) (fa 9) (fa 10) (fa 11) nd np nr wh wt pm (fa 23) (fa 24) = true := by rw [sSo, ← hc1, decide_eq_true c6, sRds_congr (fun j hj => (hc3 j hj).symm) nr hrl, hrd]; rfl
          refine lv_iconst (v := 1) hx hb dX1_areSo_59 (by decide) ?_
          exact W.zret hx hb hr (rfl) (nEnd hN hS ⟨_, _, rfl, rfl, ⟨by congr 2; exact zI_t hans, (mEq.rf.ji 21 rfl _).ja 17 rfl _, rfl, rfl, rfl⟩⟩) hS.2 dX1_areSo_60
        · have c18 : ¬ nr ≤ k := fun z => c18 (nI_le z (by omega))
          obtain ⟨jj, hjj, ejj, tjj⟩ := sIn_t (by omega) (hRW k (by omega))
          have tjj : tn (fa 23 k) = jj := tjj
          refine lv_aload_n hx hb dX1_areSo_21 rfl (lv_at hl 0 rfl) ?_
          refine lv_aload_n hx hb dX1_areSo_22 rfl (lv_at hl 0 rfl) ?_
          refine m_get SS hK hN 23 (by decide) q1142 rfl rfl dX1_areSo_23 ?_
          refine lv_iload_n hx hb dX1_areSo_26 rfl (lv_at hl 1 rfl) ?_
          refine m_ald SS hK hN 23 rfl (k) (rfl) (by show _ < (8 : Nat); omega) dX1_areSo_27 ?_
          refine n_top (y := nI jj) (ejj) ?_
          refine lv_aload_n hx hb dX1_areSo_28 rfl (lv_at hl 0 rfl) ?_
          refine m_get SS hK hN 17 (by decide) q1136 rfl rfl dX1_areSo_29 ?_
          refine lv_aload_n hx hb dX1_areSo_32 rfl (lv_at hl 0 rfl) ?_
          refine m_get SS hK hN 23 (by decide) q1142 rfl rfl dX1_areSo_33 ?_
          refine lv_iload_n hx hb dX1_areSo_36 rfl (lv_at hl 1 rfl) ?_
          refine m_ald SS hK hN 23 rfl (k) (rfl) (by show _ < (8 : Nat); omega) dX1_areSo_37 ?_
          refine n_top (y := nI jj) (ejj) ?_
          refine m_ald SS hK hN 17 rfl (jj) (rfl) (by show _ < (4 : Nat); omega) dX1_areSo_38 ?_
          refine n_top (y := t jj) (rfl) ?_
          refine n_callV (C := RX1) (As := [_, _]) (b := 50) SS (nK_o G) hK hK (mX1_floorBy l G ad x (upd fi 21 cg) (va_up fa 17 t) jj _ (by omega) nd hnd h6) (cwV 2 hts (lw_V q1248 q1250 qs42 q61 q1251) rfl rfl rfl (by decide +kernel) ⟨Nat.le_of_ble_eq_true rfl, Nat.le_of_ble_eq_true rfl⟩) hN hS mPic_o rfl rfl hl.1 rfl (Nat.le_of_ble_eq_true rfl) dX1_areSo_39 ⟨Nat.le_of_ble_eq_true rfl, Nat.le_of_ble_eq_true rfl⟩ (fun v ad' c' H locs hv hN hS => ?_)
          obtain ⟨_, _, rfl, rfl, rfl, rfl, rfl⟩ := hv
          refine W.eq (g2 := F0 m 42 ls (_ :: _)) rfl ?_
          refine n_top (y := sFl (fa 7) (fa 8) jj (t jj) nd) (rfl) ?_
          refine lv_aload_n hx hb dX1_areSo_42 rfl (lv_at hl 0 rfl) ?_
          refine m_get SS hK hN 24 (by decide) q1143 rfl rfl dX1_areSo_43 ?_
          refine lv_iload_n hx hb dX1_areSo_46 rfl (lv_at hl 1 rfl) ?_
          refine m_ald SS hK hN 24 rfl (k) (rfl) (by show _ < (8 : Nat); omega) dX1_areSo_47 ?_
          refine n_top (y := fa 24 k) (rfl) ?_
          refine lv_icmp_eq (tgt := 53) hx hb dX1_areSo_48 (by decide) (fun c48 => ?_) (fun c48 => ?_)
          · refine lv_iinc (v := (nI (k + 1))) (lv' := [(1, _), (0, _)]) hx hb dX1_areSo_53 hl (k := 1) rfl (nI_inc k) (by decide) rfl (fun ls hl => ?_)
            refine lv_goto (tgt := 13) hx hb dX1_areSo_56 (by decide) ?_
            exact ih13 (k + 1) _ _ _ (by omega) (by omega) (by rw [sRds, hrd, tjj, decide_eq_true c48]; rfl) hN hS (lv_sub hl [1, 0] (rfl))
          · have hans : sSo (fa 7) (fa 8) (fa 9) (fa 10) (fa 11) nd np nr wh wt pm (fa 23) (fa 24) = false := by rw [sSo, sRds_congr (fun j hj => (hc3 j hj).symm) nr hrl, sRds_no (k := k) (by rw [tjj]; exact c48) nr (by omega), Bool.and_false]
            refine lv_iconst (v := 0) hx hb dX1_areSo_51 (by decide) ?_
            exact W.zret hx hb hr (rfl) (nEnd hN hS ⟨_, _, rfl, rfl, ⟨by congr 2; exact zI_f hans, (mEq.rf.ji 21 rfl _).ja 17 rfl _, rfl, rfl, rfl⟩⟩) hS.2 dX1_areSo_52
    exact loop13 (nr + 1) 0 _ _ _ (by omega) (by omega) rfl hN hS (lv_sub hl [1, 0] rfl)
  · have hans : sSo (fa 7) (fa 8) (fa 9) (fa 10) (fa 11) nd np nr wh wt pm (fa 23) (fa 24) = false := by rw [sSo, ← hc1, decide_eq_false c6, Bool.false_and]
    refine lv_iconst (v := 0) hx hb dX1_areSo_9 (by decide) ?_
    exact W.zret hx hb hr (rfl) (nEnd hN hS ⟨_, _, rfl, rfl, ⟨by congr 2; exact zI_f hans, (mEq.rf.ji 21 rfl _).ja 17 rfl _, rfl, rfl, rfl⟩⟩) hS.2 dX1_areSo_10
