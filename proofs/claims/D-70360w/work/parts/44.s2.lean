/-! SYSTEM: small methods: printed by wip/gen/s2.py -/
set_option maxHeartbeats 1000000 in
set_option maxRecDepth 100000 in
theorem sX0_weight (l : Launch) (G : nG) (K : State → Prop) (hKo : nKo G K) (hK0 : ∀ U, K U → sK0 G U) (ad : Nat → Nat) (x : nPic) (si : AI) (sa : Nat → AI) (rn : Value) (d : Int32) (nd : Nat) (hnd : si 1 = nI nd) (hnd6 : nd ≤ 6) : Met l yX0_weight (ws_ yX0_weight cX0_weight 2 (some .int)) (sR 2 0 0) (nPc G nCl K ad (sPic G x ad si sa rn) [.ref (ad 0), .int d]) (nQ G nCl (fun rv ad' c' => rv = some (.int (oWgt nd (sa 1) d)) ∧ ad = ad' ∧ sPic G x ad si sa rn = c')) 0 0 (fun q => G.2 ≤ q) := by
  refine nMet RX0 (by decide) rfl (Nat.le_of_ble_eq_true rfl) ?_
  intro p e s m below meth c ls SS hR hK hN hS hl
  obtain ⟨hx, hb, hml, hown, hts⟩ := id SS
  obtain ⟨hr, hlk, hnm⟩ := hR
  obtain ⟨hKv, hKw, hKf, hKz, hKm⟩ := hK0 s hK
  generalize s.heap = H at hN hS ⊢
  generalize ([] : List Loc) = locs at hS ⊢
  have hl : lv_has ls 2 [(0, .ref (ad 0)), (1, .int d)] := hl
  by_cases h1 : sIn d nd = true
  · obtain ⟨j, hj, rfl, tj⟩ := sIn_t (by omega) h1
    refine lv_aload_n hx hb dX0_weight_0 rfl (lv_at hl 0 rfl) ?_
    refine lv_iload_n hx hb dX0_weight_1 rfl (lv_at hl 1 rfl) ?_
    refine n_callV (C := RX0) (As := [_]) (b := 0) SS hKo hK hKv (sX0_noDeed l G K hKo hK0 ad x si sa rn _ nd hnd hnd6) (cwV 1 hts (lw_V q258 q260 qs4 q57 q261) rfl rfl rfl (by decide +kernel) ⟨Nat.le_of_ble_eq_true rfl, Nat.le_of_ble_eq_true rfl⟩) hN hS sPic_0 rfl rfl hl.1 rfl (Nat.le_of_ble_eq_true rfl) dX0_weight_2 ⟨Nat.le_of_ble_eq_true rfl, Nat.le_of_ble_eq_true rfl⟩ (fun v ad' c' H locs hv hN hS => ?_)
    obtain ⟨rfl, rfl, rfl⟩ := hv
    refine W.eq (g2 := F0 m 5 ls (_ :: _)) rfl ?_
    refine n_top (y := 0) (by rw [h1]; rfl) ?_
    refine lv_if_eq (tgt := 12) hx hb dX0_weight_5 (by decide) (fun c5 => ?_) (fun c5 => absurd c5 (fun z => z rfl))
    refine lv_aload_n hx hb dX0_weight_12 rfl (lv_at hl 0 rfl) ?_
    refine n_get (ci := 0) (C := RX0) (T := TX0) (N := 12) hx hb hts in_X0 hown hKv hN (0) sPic_0 rfl 2 (by decide) q130 (fun z h => h) (rfl) dX0_weight_13 ?_
    refine lv_iload_n hx hb dX0_weight_16 rfl (lv_at hl 1 rfl) ?_
    refine n_iald hx hb hKv hN (1) 0 sPic_1 rfl (j) (rfl) (by omega) (by decide) dX0_weight_17 ?_
    exact W.iret hx hb hr (nEnd hN hS ⟨by unfold oWgt; rw [if_pos h1, tn, tj], rfl, rfl⟩) hS.2 dX0_weight_18
  · have h1 : sIn d nd = false := by simpa using h1
    refine lv_aload_n hx hb dX0_weight_0 rfl (lv_at hl 0 rfl) ?_
    refine lv_iload_n hx hb dX0_weight_1 rfl (lv_at hl 1 rfl) ?_
    refine n_callV (C := RX0) (As := [_]) (b := 0) SS hKo hK hKv (sX0_noDeed l G K hKo hK0 ad x si sa rn _ nd hnd hnd6) (cwV 1 hts (lw_V q258 q260 qs4 q57 q261) rfl rfl rfl (by decide +kernel) ⟨Nat.le_of_ble_eq_true rfl, Nat.le_of_ble_eq_true rfl⟩) hN hS sPic_0 rfl rfl hl.1 rfl (Nat.le_of_ble_eq_true rfl) dX0_weight_2 ⟨Nat.le_of_ble_eq_true rfl, Nat.le_of_ble_eq_true rfl⟩ (fun v ad' c' H locs hv hN hS => ?_)
    obtain ⟨rfl, rfl, rfl⟩ := hv
    refine W.eq (g2 := F0 m 5 ls (_ :: _)) rfl ?_
    refine n_top (y := 1) (by rw [h1]; rfl) ?_
    refine lv_if_eq (tgt := 12) hx hb dX0_weight_5 (by decide) (fun c5 => absurd c5 (by decide)) (fun c5 => ?_)
    refine lv_iconst (v := (-1)) hx hb dX0_weight_8 (by decide) ?_
    refine lv_goto (tgt := 18) hx hb dX0_weight_9 (by decide) ?_
    exact W.iret hx hb hr (nEnd hN hS ⟨by unfold oWgt; rw [h1]; rfl, rfl, rfl⟩) hS.2 dX0_weight_18
set_option maxHeartbeats 1000000 in
set_option maxRecDepth 100000 in
theorem sX0_weigh (l : Launch) (G : nG) (K : State → Prop) (hKo : nKo G K) (hK0 : ∀ U, K U → sK0 G U) (ad : Nat → Nat) (x : nPic) (si : AI) (sa : Nat → AI) (rn : Value) (d : Int32) (nd : Nat) (hnd : si 1 = nI nd) (hnd6 : nd ≤ 6) (w_ : Int32) : Met l yX0_weigh (ws_ yX0_weigh cX0_weigh 4 (some .int)) (sR 2 0 0) (nPc G nCl K ad (sPic G x ad si sa rn) [.ref (ad 0), .int d, .int w_]) (nQ G nCl (fun rv ad' c' => rv = some (.int (oWgh nd (sa 1) d w_).1) ∧ ad = ad' ∧ sPic G x ad si (va_up sa 1 (oWgh nd (sa 1) d w_).2) rn = c')) 0 0 (fun q => G.2 ≤ q) := by
  refine nMet RX0 (by decide) rfl (Nat.le_of_ble_eq_true rfl) ?_
  intro p e s m below meth c ls SS hR hK hN hS hl
  obtain ⟨hx, hb, hml, hown, hts⟩ := id SS
  obtain ⟨hr, hlk, hnm⟩ := hR
  obtain ⟨hKv, hKw, hKf, hKz, hKm⟩ := hK0 s hK
  generalize s.heap = H at hN hS ⊢
  generalize ([] : List Loc) = locs at hS ⊢
  have hl : lv_has ls 4 [(0, .ref (ad 0)), (1, .int d), (2, .int w_)] := hl
  by_cases h1 : sIn d nd = true
  · obtain ⟨j, hj, rfl, tj⟩ := sIn_t (by omega) h1
    refine lv_aload_n hx hb dX0_weigh_0 rfl (lv_at hl 0 rfl) ?_
    refine lv_iload_n hx hb dX0_weigh_1 rfl (lv_at hl 1 rfl) ?_
    refine n_callV (C := RX0) (As := [_]) (b := 0) SS hKo hK hKv (sX0_noDeed l G K hKo hK0 ad x si sa rn _ nd hnd hnd6) (cwV 1 hts (lw_V q258 q260 qs4 q57 q261) rfl rfl rfl (by decide +kernel) ⟨Nat.le_of_ble_eq_true rfl, Nat.le_of_ble_eq_true rfl⟩) hN hS sPic_0 rfl rfl hl.1 rfl (Nat.le_of_ble_eq_true rfl) dX0_weigh_2 ⟨Nat.le_of_ble_eq_true rfl, Nat.le_of_ble_eq_true rfl⟩ (fun v ad' c' H locs hv hN hS => ?_)
    obtain ⟨rfl, rfl, rfl⟩ := hv
    refine W.eq (g2 := F0 m 5 ls (_ :: _)) rfl ?_
    refine n_top (y := 0) (by rw [h1]; rfl) ?_
    refine lv_if_eq (tgt := 10) hx hb dX0_weigh_5 (by decide) (fun c5 => ?_) (fun c5 => absurd c5 (fun z => z rfl))
    refine lv_iload_n hx hb dX0_weigh_10 rfl (lv_at hl 2 rfl) ?_
    refine lv_i2l hx hb dX0_weigh_11 rfl ?_
    refine lv_lconst (v := 1) hx hb dX0_weigh_12 (by decide) ?_
    refine lv_ldc2 hx hb hown (hts _ q266) dX0_weigh_13 ?_
    refine n_callS (As := [_, _, _]) SS hKo hK (sX0_in l G K hKo hK0 ad _ w_ 1 9) (va_cwS 3 hts (lw_S q185 q186 q57 q187) rfl rfl rfl (by decide +kernel) ⟨Nat.le_of_ble_eq_true rfl, Nat.le_of_ble_eq_true rfl⟩) hN hS rfl hl.1 rfl (Nat.le_of_ble_eq_true rfl) dX0_weigh_16 ⟨Nat.le_of_ble_eq_true rfl, Nat.le_of_ble_eq_true rfl⟩ (fun v ad' c' H locs hv hN hS => ?_)
    obtain ⟨rfl, rfl, rfl⟩ := hv
    refine W.eq (g2 := F0 m 19 ls (_ :: _)) rfl ?_
    refine lv_if_ne (tgt := 25) hx hb dX0_weigh_19 (by decide) (fun c19 => ?_) (fun c19 => ?_)
    · have c19 := zI_n0 c19
      refine lv_aload_n hx hb dX0_weigh_25 rfl (lv_at hl 0 rfl) ?_
      refine n_get (ci := 0) (C := RX0) (T := TX0) (N := 12) hx hb hts in_X0 hown hKv hN (0) sPic_0 rfl 2 (by decide) q130 (fun z h => h) (rfl) dX0_weigh_26 ?_
      refine lv_iload_n hx hb dX0_weigh_29 rfl (lv_at hl 1 rfl) ?_
      refine n_iald hx hb hKv hN (1) 0 sPic_1 rfl (j) (rfl) (by omega) (by decide) dX0_weigh_30 ?_
      refine lv_istore_n (lv' := [(3, _), (0, _), (1, _), (2, _)]) hx hb dX0_weigh_31 rfl hl (by decide) rfl (fun ls hl => ?_)
      refine lv_aload_n hx hb dX0_weigh_32 rfl (lv_at hl 1 rfl) ?_
      refine n_get (ci := 0) (C := RX0) (T := TX0) (N := 12) hx hb hts in_X0 hown hKv hN (0) sPic_0 rfl 2 (by decide) q130 (fun z h => h) (rfl) dX0_weigh_33 ?_
      refine lv_iload_n hx hb dX0_weigh_36 rfl (lv_at hl 2 rfl) ?_
      refine lv_iload_n hx hb dX0_weigh_37 rfl (lv_at hl 3 rfl) ?_
      refine n_iast hx hb hKv hN hS (1) 0 sPic_1 rfl (j) (rfl) (by omega) (by decide) dX0_weigh_38 (fun H locs hN hS => ?_)
      have hN := hN.congr sPic_s1
      refine lv_iload_n hx hb dX0_weigh_39 rfl (lv_at hl 0 rfl) ?_
      exact W.iret hx hb hr (nEnd hN hS ⟨by unfold oWgh; rw [if_pos h1, c19, if_pos rfl, tn, tj], rfl, by unfold oWgh; rw [if_pos h1, c19, if_pos rfl, tn, tj]⟩) hS.2 dX0_weigh_40
    · have c19 := zI_0.mp c19
      refine lv_bipush (v := (-2)) hx hb dX0_weigh_22 (by decide) ?_
      exact W.iret hx hb hr (nEnd hN hS ⟨by unfold oWgh; rw [if_pos h1, c19]; rfl, rfl, by unfold oWgh; rw [if_pos h1, c19]; exact congrArg (fun z => sPic G x ad si z rn) (va_up_id sa 1 _ rfl)⟩) hS.2 dX0_weigh_24
  · have h1 : sIn d nd = false := by simpa using h1
    refine lv_aload_n hx hb dX0_weigh_0 rfl (lv_at hl 0 rfl) ?_
    refine lv_iload_n hx hb dX0_weigh_1 rfl (lv_at hl 1 rfl) ?_
    refine n_callV (C := RX0) (As := [_]) (b := 0) SS hKo hK hKv (sX0_noDeed l G K hKo hK0 ad x si sa rn _ nd hnd hnd6) (cwV 1 hts (lw_V q258 q260 qs4 q57 q261) rfl rfl rfl (by decide +kernel) ⟨Nat.le_of_ble_eq_true rfl, Nat.le_of_ble_eq_true rfl⟩) hN hS sPic_0 rfl rfl hl.1 rfl (Nat.le_of_ble_eq_true rfl) dX0_weigh_2 ⟨Nat.le_of_ble_eq_true rfl, Nat.le_of_ble_eq_true rfl⟩ (fun v ad' c' H locs hv hN hS => ?_)
    obtain ⟨rfl, rfl, rfl⟩ := hv
    refine W.eq (g2 := F0 m 5 ls (_ :: _)) rfl ?_
    refine n_top (y := 1) (by rw [h1]; rfl) ?_
    refine lv_if_eq (tgt := 10) hx hb dX0_weigh_5 (by decide) (fun c5 => absurd c5 (by decide)) (fun c5 => ?_)
    refine lv_iconst (v := (-1)) hx hb dX0_weigh_8 (by decide) ?_
    exact W.iret hx hb hr (nEnd hN hS ⟨by unfold oWgh; rw [h1]; rfl, rfl, by unfold oWgh; rw [h1]; exact congrArg (fun z => sPic G x ad si z rn) (va_up_id sa 1 _ rfl)⟩) hS.2 dX0_weigh_9
set_option maxHeartbeats 1000000 in
set_option maxRecDepth 100000 in
theorem sX0_hush (l : Launch) (G : nG) (K : State → Prop) (hKo : nKo G K) (hK0 : ∀ U, K U → sK0 G U) (ad : Nat → Nat) (x : nPic) (si : AI) (sa : Nat → AI) (rn : Value) (p_ : Int32) (np : Nat) (kd dr kn : AI) (hP : sPeo G ad x np kd dr kn) (nd : Nat) (hnd : si 1 = nI nd) (hnd6 : nd ≤ 6) : Met l yX0_hush (ws_ yX0_hush cX0_hush 3 (some .int)) (sR 6 0 0) (nPc G nCl K ad (sPic G x ad si sa rn) [.ref (ad 0), .int p_]) (nQ G nCl (fun rv ad' c' => rv = some (.int (oHsh nd np (sa 1) kd (sa 4) p_).1) ∧ ad = ad' ∧ sPic G x ad si (va_up sa 4 (oHsh nd np (sa 1) kd (sa 4) p_).2) rn = c')) 0 0 (fun q => G.2 ≤ q) := by
  refine nMet RX0 (by decide) rfl (Nat.le_of_ble_eq_true rfl) ?_
  intro p e s m below meth c ls SS hR hK hN hS hl
  obtain ⟨hx, hb, hml, hown, hts⟩ := id SS
  obtain ⟨hr, hlk, hnm⟩ := hR
  obtain ⟨hKv, hKw, hKf, hKz, hKm⟩ := hK0 s hK
  generalize s.heap = H at hN hS ⊢
  generalize ([] : List Loc) = locs at hS ⊢
  have hl : lv_has ls 3 [(0, .ref (ad 0)), (1, .int p_)] := hl
  have hnp4 := hP.1
  by_cases h1 : sIn p_ np = true
  · obtain ⟨j, hj, rfl, tj⟩ := sIn_t (by omega) h1
    refine lv_aload_n hx hb dX0_hush_0 rfl (lv_at hl 0 rfl) ?_
    refine lv_iload_n hx hb dX0_hush_1 rfl (lv_at hl 1 rfl) ?_
    refine n_callV (C := RX0) (As := [_]) (b := 0) SS hKo hK hKv (sX0_noPerson l G K hKo hK0 ad x si sa rn _ np kd dr kn hP) (cwV 1 hts (lw_V q171 q173 qs0 q57 q174) rfl rfl rfl (by decide +kernel) ⟨Nat.le_of_ble_eq_true rfl, Nat.le_of_ble_eq_true rfl⟩) hN hS sPic_0 rfl rfl hl.1 rfl (Nat.le_of_ble_eq_true rfl) dX0_hush_2 ⟨Nat.le_of_ble_eq_true rfl, Nat.le_of_ble_eq_true rfl⟩ (fun v ad' c' H locs hv hN hS => ?_)
    obtain ⟨rfl, rfl, rfl⟩ := hv
    refine W.eq (g2 := F0 m 5 ls (_ :: _)) rfl ?_
    refine n_top (y := 0) (by rw [h1]; rfl) ?_
    refine lv_if_eq (tgt := 10) hx hb dX0_hush_5 (by decide) (fun c5 => ?_) (fun c5 => absurd c5 (fun z => z rfl))
    refine lv_aload_n hx hb dX0_hush_10 rfl (lv_at hl 0 rfl) ?_
    refine lv_iload_n hx hb dX0_hush_11 rfl (lv_at hl 1 rfl) ?_
    refine n_callV (C := RX0) (As := [_]) (b := 0) SS hKo hK hKv (sX0_floorOf l G K hKo hK0 ad x si sa rn np kd dr kn hP j hj nd hnd hnd6) (cwV 1 hts (lw_V q223 q225 qs2 q57 q226) rfl rfl rfl (by decide +kernel) ⟨Nat.le_of_ble_eq_true rfl, Nat.le_of_ble_eq_true rfl⟩) hN hS sPic_0 rfl rfl hl.1 rfl (Nat.le_of_ble_eq_true rfl) dX0_hush_12 ⟨Nat.le_of_ble_eq_true rfl, Nat.le_of_ble_eq_true rfl⟩ (fun v ad' c' H locs hv hN hS => ?_)
    obtain ⟨rfl, rfl, rfl⟩ := hv
    refine W.eq (g2 := F0 m 15 ls (_ :: _)) rfl ?_
    refine lv_istore_n (lv' := [(2, _), (0, _), (1, _)]) hx hb dX0_hush_15 rfl hl (by decide) rfl (fun ls hl => ?_)
    refine lv_aload_n hx hb dX0_hush_16 rfl (lv_at hl 1 rfl) ?_
    refine n_get (ci := 0) (C := RX0) (T := TX0) (N := 12) hx hb hts in_X0 hown hKv hN (0) sPic_0 rfl 4 (by decide) q132 (fun z h => h) (rfl) dX0_hush_17 ?_
    refine lv_iload_n hx hb dX0_hush_20 rfl (lv_at hl 2 rfl) ?_
    refine lv_iconst (v := 0) hx hb dX0_hush_21 (by decide) ?_
    refine n_iast hx hb hKv hN hS (4) 0 sPic_4 rfl (j) (rfl) (by omega) (by decide) dX0_hush_22 (fun H locs hN hS => ?_)
    have hN := hN.congr sPic_s4
    refine lv_iload_n hx hb dX0_hush_23 rfl (lv_at hl 0 rfl) ?_
    exact W.iret hx hb hr (nEnd hN hS ⟨by unfold oHsh; rw [if_pos h1, tn, tj], rfl, by unfold oHsh; rw [if_pos h1, tn, tj]⟩) hS.2 dX0_hush_24
  · have h1 : sIn p_ np = false := by simpa using h1
    refine lv_aload_n hx hb dX0_hush_0 rfl (lv_at hl 0 rfl) ?_
    refine lv_iload_n hx hb dX0_hush_1 rfl (lv_at hl 1 rfl) ?_
    refine n_callV (C := RX0) (As := [_]) (b := 0) SS hKo hK hKv (sX0_noPerson l G K hKo hK0 ad x si sa rn _ np kd dr kn hP) (cwV 1 hts (lw_V q171 q173 qs0 q57 q174) rfl rfl rfl (by decide +kernel) ⟨Nat.le_of_ble_eq_true rfl, Nat.le_of_ble_eq_true rfl⟩) hN hS sPic_0 rfl rfl hl.1 rfl (Nat.le_of_ble_eq_true rfl) dX0_hush_2 ⟨Nat.le_of_ble_eq_true rfl, Nat.le_of_ble_eq_true rfl⟩ (fun v ad' c' H locs hv hN hS => ?_)
    obtain ⟨rfl, rfl, rfl⟩ := hv
    refine W.eq (g2 := F0 m 5 ls (_ :: _)) rfl ?_
    refine n_top (y := 1) (by rw [h1]; rfl) ?_
    refine lv_if_eq (tgt := 10) hx hb dX0_hush_5 (by decide) (fun c5 => absurd c5 (by decide)) (fun c5 => ?_)
    refine lv_iconst (v := (-1)) hx hb dX0_hush_8 (by decide) ?_
    exact W.iret hx hb hr (nEnd hN hS ⟨by unfold oHsh; rw [h1]; rfl, rfl, by unfold oHsh; rw [h1]; exact congrArg (fun z => sPic G x ad si z rn) (va_up_id sa 4 _ rfl)⟩) hS.2 dX0_hush_9
set_option maxHeartbeats 1000000 in
set_option maxRecDepth 100000 in
theorem sX0_roof (l : Launch) (G : nG) (K : State → Prop) (hKo : nKo G K) (hK0 : ∀ U, K U → sK0 G U) (ad : Nat → Nat) (x : nPic) (si : AI) (sa : Nat → AI) (rn : Value) (p_ : Int32) (np : Nat) (kd dr kn : AI) (hP : sPeo G ad x np kd dr kn) (nd : Nat) (hnd : si 1 = nI nd) (hnd6 : nd ≤ 6) : Met l yX0_roof (ws_ yX0_roof cX0_roof 2 (some .int)) (sR 5 0 0) (nPc G nCl K ad (sPic G x ad si sa rn) [.ref (ad 0), .int p_]) (nQ G nCl (fun rv ad' c' => rv = some (.int (oRof nd np (sa 1) kd (fun q => dr q &&& sMsk nd) p_)) ∧ ad = ad' ∧ sPic G x ad si sa rn = c')) 0 0 (fun q => G.2 ≤ q) := by
  refine nMet RX0 (by decide) rfl (Nat.le_of_ble_eq_true rfl) ?_
  intro p e s m below meth c ls SS hR hK hN hS hl
  obtain ⟨hx, hb, hml, hown, hts⟩ := id SS
  obtain ⟨hr, hlk, hnm⟩ := hR
  obtain ⟨hKv, hKw, hKf, hKz, hKm⟩ := hK0 s hK
  generalize s.heap = H at hN hS ⊢
  generalize ([] : List Loc) = locs at hS ⊢
  have hl : lv_has ls 2 [(0, .ref (ad 0)), (1, .int p_)] := hl
  have hnp4 := hP.1
  by_cases h1 : sIn p_ np = true
  · obtain ⟨j, hj, rfl, tj⟩ := sIn_t (by omega) h1
    refine lv_aload_n hx hb dX0_roof_0 rfl (lv_at hl 0 rfl) ?_
    refine lv_iload_n hx hb dX0_roof_1 rfl (lv_at hl 1 rfl) ?_
    refine n_callV (C := RX0) (As := [_]) (b := 0) SS hKo hK hKv (sX0_noPerson l G K hKo hK0 ad x si sa rn _ np kd dr kn hP) (cwV 1 hts (lw_V q171 q173 qs0 q57 q174) rfl rfl rfl (by decide +kernel) ⟨Nat.le_of_ble_eq_true rfl, Nat.le_of_ble_eq_true rfl⟩) hN hS sPic_0 rfl rfl hl.1 rfl (Nat.le_of_ble_eq_true rfl) dX0_roof_2 ⟨Nat.le_of_ble_eq_true rfl, Nat.le_of_ble_eq_true rfl⟩ (fun v ad' c' H locs hv hN hS => ?_)
    obtain ⟨rfl, rfl, rfl⟩ := hv
    refine W.eq (g2 := F0 m 5 ls (_ :: _)) rfl ?_
    refine n_top (y := 0) (by rw [h1]; rfl) ?_
    refine lv_if_eq (tgt := 12) hx hb dX0_roof_5 (by decide) (fun c5 => ?_) (fun c5 => absurd c5 (fun z => z rfl))
    refine lv_aload_n hx hb dX0_roof_12 rfl (lv_at hl 0 rfl) ?_
    refine lv_iload_n hx hb dX0_roof_13 rfl (lv_at hl 1 rfl) ?_
    refine lv_aload_n hx hb dX0_roof_14 rfl (lv_at hl 0 rfl) ?_
    refine lv_iload_n hx hb dX0_roof_15 rfl (lv_at hl 1 rfl) ?_
    refine n_callV (C := RX0) (As := [_]) (b := 0) SS hKo hK hKv (sX0_truthsOf l G K hKo hK0 ad x si sa rn np kd dr kn hP j hj nd hnd hnd6) (cwV 1 hts (lw_V q219 q221 qs1 q57 q222) rfl rfl rfl (by decide +kernel) ⟨Nat.le_of_ble_eq_true rfl, Nat.le_of_ble_eq_true rfl⟩) hN hS sPic_0 rfl rfl hl.1 rfl (Nat.le_of_ble_eq_true rfl) dX0_roof_16 ⟨Nat.le_of_ble_eq_true rfl, Nat.le_of_ble_eq_true rfl⟩ (fun v ad' c' H locs hv hN hS => ?_)
    obtain ⟨rfl, rfl, rfl⟩ := hv
    refine W.eq (g2 := F0 m 19 ls (_ :: _)) rfl ?_
    refine n_callV (C := RX0) (As := [_, _]) (b := 0) SS hKo hK hKv (sX0_risesBy l G K hKo hK0 ad x si sa rn np kd dr kn hP j hj nd hnd hnd6 _) (cwV 2 hts (lw_V q227 q229 qs3 q57 q230) rfl rfl rfl (by decide +kernel) ⟨Nat.le_of_ble_eq_true rfl, Nat.le_of_ble_eq_true rfl⟩) hN hS sPic_0 rfl rfl hl.1 rfl (Nat.le_of_ble_eq_true rfl) dX0_roof_19 ⟨Nat.le_of_ble_eq_true rfl, Nat.le_of_ble_eq_true rfl⟩ (fun v ad' c' H locs hv hN hS => ?_)
    obtain ⟨rfl, rfl, rfl⟩ := hv
    refine W.eq (g2 := F0 m 22 ls (_ :: _)) rfl ?_
    exact W.iret hx hb hr (nEnd hN hS ⟨by unfold oRof; rw [if_pos h1, tn, tj], rfl, rfl⟩) hS.2 dX0_roof_22
  · have h1 : sIn p_ np = false := by simpa using h1
    refine lv_aload_n hx hb dX0_roof_0 rfl (lv_at hl 0 rfl) ?_
    refine lv_iload_n hx hb dX0_roof_1 rfl (lv_at hl 1 rfl) ?_
    refine n_callV (C := RX0) (As := [_]) (b := 0) SS hKo hK hKv (sX0_noPerson l G K hKo hK0 ad x si sa rn _ np kd dr kn hP) (cwV 1 hts (lw_V q171 q173 qs0 q57 q174) rfl rfl rfl (by decide +kernel) ⟨Nat.le_of_ble_eq_true rfl, Nat.le_of_ble_eq_true rfl⟩) hN hS sPic_0 rfl rfl hl.1 rfl (Nat.le_of_ble_eq_true rfl) dX0_roof_2 ⟨Nat.le_of_ble_eq_true rfl, Nat.le_of_ble_eq_true rfl⟩ (fun v ad' c' H locs hv hN hS => ?_)
    obtain ⟨rfl, rfl, rfl⟩ := hv
    refine W.eq (g2 := F0 m 5 ls (_ :: _)) rfl ?_
    refine n_top (y := 1) (by rw [h1]; rfl) ?_
    refine lv_if_eq (tgt := 12) hx hb dX0_roof_5 (by decide) (fun c5 => absurd c5 (by decide)) (fun c5 => ?_)
    refine lv_iconst (v := (-1)) hx hb dX0_roof_8 (by decide) ?_
    refine lv_goto (tgt := 22) hx hb dX0_roof_9 (by decide) ?_
    exact W.iret hx hb hr (nEnd hN hS ⟨by unfold oRof; rw [h1]; rfl, rfl, rfl⟩) hS.2 dX0_roof_22
set_option maxHeartbeats 1000000 in
set_option maxRecDepth 100000 in
theorem sX0_safe (l : Launch) (G : nG) (K : State → Prop) (hKo : nKo G K) (hK0 : ∀ U, K U → sK0 G U) (ad : Nat → Nat) (x : nPic) (si : AI) (sa : Nat → AI) (rn : Value) (p_ : Int32) (np : Nat) (kd dr kn : AI) (hP : sPeo G ad x np kd dr kn) (nd : Nat) (hnd : si 1 = nI nd) (hnd6 : nd ≤ 6) : Met l yX0_safe (ws_ yX0_safe cX0_safe 3 (some .int)) (sR 7 0 0) (nPc G nCl K ad (sPic G x ad si sa rn) [.ref (ad 0), .int p_]) (nQ G nCl (fun rv ad' c' => rv = some (.int (oSfe nd np (sa 1) kd (fun q => dr q &&& sMsk nd) kn (sa 4) p_)) ∧ ad = ad' ∧ sPic G x ad si sa rn = c')) 0 0 (fun q => G.2 ≤ q) := by
  refine nMet RX0 (by decide) rfl (Nat.le_of_ble_eq_true rfl) ?_
  intro p e s m below meth c ls SS hR hK hN hS hl
  obtain ⟨hx, hb, hml, hown, hts⟩ := id SS
  obtain ⟨hr, hlk, hnm⟩ := hR
  obtain ⟨hKv, hKw, hKf, hKz, hKm⟩ := hK0 s hK
  generalize s.heap = H at hN hS ⊢
  generalize ([] : List Loc) = locs at hS ⊢
  have hl : lv_has ls 3 [(0, .ref (ad 0)), (1, .int p_)] := hl
  have hnp4 := hP.1
  by_cases h1 : sIn p_ np = true
  · obtain ⟨j, hj, rfl, tj⟩ := sIn_t (by omega) h1
    refine lv_aload_n hx hb dX0_safe_0 rfl (lv_at hl 0 rfl) ?_
    refine lv_iload_n hx hb dX0_safe_1 rfl (lv_at hl 1 rfl) ?_
    refine n_callV (C := RX0) (As := [_]) (b := 0) SS hKo hK hKv (sX0_noPerson l G K hKo hK0 ad x si sa rn _ np kd dr kn hP) (cwV 1 hts (lw_V q171 q173 qs0 q57 q174) rfl rfl rfl (by decide +kernel) ⟨Nat.le_of_ble_eq_true rfl, Nat.le_of_ble_eq_true rfl⟩) hN hS sPic_0 rfl rfl hl.1 rfl (Nat.le_of_ble_eq_true rfl) dX0_safe_2 ⟨Nat.le_of_ble_eq_true rfl, Nat.le_of_ble_eq_true rfl⟩ (fun v ad' c' H locs hv hN hS => ?_)
    obtain ⟨rfl, rfl, rfl⟩ := hv
    refine W.eq (g2 := F0 m 5 ls (_ :: _)) rfl ?_
    refine n_top (y := 0) (by rw [h1]; rfl) ?_
    refine lv_if_eq (tgt := 10) hx hb dX0_safe_5 (by decide) (fun c5 => ?_) (fun c5 => absurd c5 (fun z => z rfl))
    refine lv_iconst (v := 1) hx hb dX0_safe_10 (by decide) ?_
    refine lv_aload_n hx hb dX0_safe_11 rfl (lv_at hl 0 rfl) ?_
    refine n_get (v := .int (nI nd)) (ci := 0) (C := RX0) (T := TX0) (N := 12) hx hb hts in_X0 hown hKv hN (0) sPic_0 rfl 1 (by decide) q129 (fun z h => h) (by rw [← hnd]; rfl) dX0_safe_12 ?_
    refine lv_ishl hx hb dX0_safe_15 ?_
    refine lv_iconst (v := 1) hx hb dX0_safe_16 (by decide) ?_
    refine lv_isub hx hb dX0_safe_17 ?_
    refine n_top (y := sMsk nd) (rfl) ?_
    refine lv_aload_n hx hb dX0_safe_18 rfl (lv_at hl 0 rfl) ?_
    refine n_get (ci := 0) (C := RX0) (T := TX0) (N := 12) hx hb hts in_X0 hown hKv hN (0) sPic_0 rfl 4 (by decide) q132 (fun z h => h) (rfl) dX0_safe_19 ?_
    refine lv_iload_n hx hb dX0_safe_22 rfl (lv_at hl 1 rfl) ?_
    refine n_iald hx hb hKv hN (4) 0 sPic_4 rfl (j) (rfl) (by omega) (by decide) dX0_safe_23 ?_
    refine lv_iconst (v := (-1)) hx hb dX0_safe_24 (by decide) ?_
    refine lv_ixor hx hb dX0_safe_25 ?_
    refine lv_iand hx hb dX0_safe_26 ?_
    refine lv_istore_n (lv' := [(2, _), (0, _), (1, _)]) hx hb dX0_safe_27 rfl hl (by decide) rfl (fun ls hl => ?_)
    refine lv_aload_n hx hb dX0_safe_28 rfl (lv_at hl 1 rfl) ?_
    refine lv_iload_n hx hb dX0_safe_29 rfl (lv_at hl 2 rfl) ?_
    refine n_callV (C := RX0) (As := [_]) (b := 0) SS hKo hK hKv (sX0_isSeen l G K hKo hK0 ad x si sa rn np kd dr kn hP j hj nd hnd hnd6) (cwV 1 hts (lw_V q279 q281 qs6 q57 q282) rfl rfl rfl (by decide +kernel) ⟨Nat.le_of_ble_eq_true rfl, Nat.le_of_ble_eq_true rfl⟩) hN hS sPic_0 rfl rfl hl.1 rfl (Nat.le_of_ble_eq_true rfl) dX0_safe_30 ⟨Nat.le_of_ble_eq_true rfl, Nat.le_of_ble_eq_true rfl⟩ (fun v ad' c' H locs hv hN hS => ?_)
    obtain ⟨rfl, rfl, rfl⟩ := hv
    refine W.eq (g2 := F0 m 33 ls (_ :: _)) rfl ?_
    refine lv_if_eq (tgt := 46) hx hb dX0_safe_33 (by decide) (fun c33 => ?_) (fun c33 => ?_)
    · have hz := zI_0.mp c33
      refine lv_iload_n hx hb dX0_safe_46 rfl (lv_at hl 0 rfl) ?_
      exact W.iret hx hb hr (nEnd hN hS ⟨by unfold oSfe; rw [if_pos h1, tn, tj, hz]; rfl, rfl, rfl⟩) hS.2 dX0_safe_47
    · have hz := zI_n0 c33
      refine lv_iload_n hx hb dX0_safe_36 rfl (lv_at hl 0 rfl) ?_
      refine lv_aload_n hx hb dX0_safe_37 rfl (lv_at hl 1 rfl) ?_
      refine lv_iload_n hx hb dX0_safe_38 rfl (lv_at hl 2 rfl) ?_
      refine n_callV (C := RX0) (As := [_]) (b := 0) SS hKo hK hKv (sX0_truthsOf l G K hKo hK0 ad x si sa rn np kd dr kn hP j hj nd hnd hnd6) (cwV 1 hts (lw_V q219 q221 qs1 q57 q222) rfl rfl rfl (by decide +kernel) ⟨Nat.le_of_ble_eq_true rfl, Nat.le_of_ble_eq_true rfl⟩) hN hS sPic_0 rfl rfl hl.1 rfl (Nat.le_of_ble_eq_true rfl) dX0_safe_39 ⟨Nat.le_of_ble_eq_true rfl, Nat.le_of_ble_eq_true rfl⟩ (fun v ad' c' H locs hv hN hS => ?_)
      obtain ⟨rfl, rfl, rfl⟩ := hv
      refine W.eq (g2 := F0 m 42 ls (_ :: _)) rfl ?_
      refine lv_iand hx hb dX0_safe_42 ?_
      refine lv_goto (tgt := 47) hx hb dX0_safe_43 (by decide) ?_
      exact W.iret hx hb hr (nEnd hN hS ⟨by unfold oSfe; rw [if_pos h1, tn, tj, hz]; rfl, rfl, rfl⟩) hS.2 dX0_safe_47
  · have h1 : sIn p_ np = false := by simpa using h1
    refine lv_aload_n hx hb dX0_safe_0 rfl (lv_at hl 0 rfl) ?_
    refine lv_iload_n hx hb dX0_safe_1 rfl (lv_at hl 1 rfl) ?_
    refine n_callV (C := RX0) (As := [_]) (b := 0) SS hKo hK hKv (sX0_noPerson l G K hKo hK0 ad x si sa rn _ np kd dr kn hP) (cwV 1 hts (lw_V q171 q173 qs0 q57 q174) rfl rfl rfl (by decide +kernel) ⟨Nat.le_of_ble_eq_true rfl, Nat.le_of_ble_eq_true rfl⟩) hN hS sPic_0 rfl rfl hl.1 rfl (Nat.le_of_ble_eq_true rfl) dX0_safe_2 ⟨Nat.le_of_ble_eq_true rfl, Nat.le_of_ble_eq_true rfl⟩ (fun v ad' c' H locs hv hN hS => ?_)
    obtain ⟨rfl, rfl, rfl⟩ := hv
    refine W.eq (g2 := F0 m 5 ls (_ :: _)) rfl ?_
    refine n_top (y := 1) (by rw [h1]; rfl) ?_
    refine lv_if_eq (tgt := 10) hx hb dX0_safe_5 (by decide) (fun c5 => absurd c5 (by decide)) (fun c5 => ?_)
    refine lv_iconst (v := (-1)) hx hb dX0_safe_8 (by decide) ?_
    exact W.iret hx hb hr (nEnd hN hS ⟨by unfold oSfe; rw [h1]; rfl, rfl, rfl⟩) hS.2 dX0_safe_9
set_option maxHeartbeats 1000000 in
set_option maxRecDepth 100000 in
theorem sX0_trace (l : Launch) (G : nG) (K : State → Prop) (hKo : nKo G K) (hK0 : ∀ U, K U → sK0 G U) (ad : Nat → Nat) (x : nPic) (si : AI) (sa : Nat → AI) (rn : Value)  : Met l yX0_trace (ws_ yX0_trace cX0_trace 1 (some .int)) (sR 0 0 0) (nPc G nCl K ad (sPic G x ad si sa rn) [.ref (ad 0)]) (nQ G nCl (fun rv ad' c' => rv = some (.int (si 0)) ∧ ad = ad' ∧ sPic G x ad si sa rn = c')) 0 0 (fun q => G.2 ≤ q) := by
  refine nMet RX0 (by decide) rfl (Nat.le_of_ble_eq_true rfl) ?_
  intro p e s m below meth c ls SS hR hK hN hS hl
  obtain ⟨hx, hb, hml, hown, hts⟩ := id SS
  obtain ⟨hr, hlk, hnm⟩ := hR
  obtain ⟨hKv, hKw, hKf, hKz, hKm⟩ := hK0 s hK
  generalize s.heap = H at hN hS ⊢
  generalize ([] : List Loc) = locs at hS ⊢
  have hl : lv_has ls 1 [(0, .ref (ad 0))] := hl
  refine lv_aload_n hx hb dX0_trace_0 rfl (lv_at hl 0 rfl) ?_
  refine n_get (ci := 0) (C := RX0) (T := TX0) (N := 12) hx hb hts in_X0 hown hKv hN (0) sPic_0 rfl 0 (by decide) q128 (fun z h => h) (rfl) dX0_trace_1 ?_
  exact W.iret hx hb hr (nEnd hN hS ⟨rfl, rfl, rfl⟩) hS.2 dX0_trace_4
set_option maxHeartbeats 1000000 in
set_option maxRecDepth 100000 in
theorem sX0_fault (l : Launch) (G : nG) (K : State → Prop) (hKo : nKo G K) (hK0 : ∀ U, K U → sK0 G U) (ad : Nat → Nat) (x : nPic) (si : AI) (sa : Nat → AI) (rn : Value)  : Met l yX0_fault (ws_ yX0_fault cX0_fault 1 (some .int)) (sR 0 0 0) (nPc G nCl K ad (sPic G x ad si sa rn) [.ref (ad 0)]) (nQ G nCl (fun rv ad' c' => rv = some (.int (si 9)) ∧ ad = ad' ∧ sPic G x ad si sa rn = c')) 0 0 (fun q => G.2 ≤ q) := by
  refine nMet RX0 (by decide) rfl (Nat.le_of_ble_eq_true rfl) ?_
  intro p e s m below meth c ls SS hR hK hN hS hl
  obtain ⟨hx, hb, hml, hown, hts⟩ := id SS
  obtain ⟨hr, hlk, hnm⟩ := hR
  obtain ⟨hKv, hKw, hKf, hKz, hKm⟩ := hK0 s hK
  generalize s.heap = H at hN hS ⊢
  generalize ([] : List Loc) = locs at hS ⊢
  have hl : lv_has ls 1 [(0, .ref (ad 0))] := hl
  refine lv_aload_n hx hb dX0_fault_0 rfl (lv_at hl 0 rfl) ?_
  refine n_get (ci := 0) (C := RX0) (T := TX0) (N := 12) hx hb hts in_X0 hown hKv hN (0) sPic_0 rfl 9 (by decide) q138 (fun z h => h) (rfl) dX0_fault_1 ?_
  exact W.iret hx hb hr (nEnd hN hS ⟨rfl, rfl, rfl⟩) hS.2 dX0_fault_4
set_option maxHeartbeats 1000000 in
set_option maxRecDepth 100000 in
theorem sX0_keep (l : Launch) (G : nG) (K : State → Prop) (hKo : nKo G K) (hK0 : ∀ U, K U → sK0 G U) (ad : Nat → Nat) (x : nPic) (si : AI) (sa : Nat → AI) (rn : Value)  : Met l yX0_keep (ws_ yX0_keep cX0_keep 1 none) (sR 0 0 0) (nPc G nCl K ad (sPic G x ad si sa rn) [.ref (ad 0)]) (nQ G nCl (fun rv ad' c' => rv = none ∧ ad = ad' ∧ sPic G x ad si (va_up sa 5 (va_cpy (sa 4) (sa 5) 0 0 4)) rn = c')) 0 0 (fun q => G.2 ≤ q) := by
  refine nMet RX0 (by decide) rfl (Nat.le_of_ble_eq_true rfl) ?_
  intro p e s m below meth c ls SS hR hK hN hS hl
  obtain ⟨hx, hb, hml, hown, hts⟩ := id SS
  obtain ⟨hr, hlk, hnm⟩ := hR
  obtain ⟨hKv, hKw, hKf, hKz, hKm⟩ := hK0 s hK
  generalize s.heap = H at hN hS ⊢
  generalize ([] : List Loc) = locs at hS ⊢
  have hl : lv_has ls 1 [(0, .ref (ad 0))] := hl
  refine lv_aload_n hx hb dX0_keep_0 rfl (lv_at hl 0 rfl) ?_
  refine n_get (ci := 0) (C := RX0) (T := TX0) (N := 12) hx hb hts in_X0 hown hKv hN (0) sPic_0 rfl 4 (by decide) q132 (fun z h => h) (rfl) dX0_keep_1 ?_
  refine lv_iconst (v := 0) hx hb dX0_keep_4 (by decide) ?_
  refine lv_aload_n hx hb dX0_keep_5 rfl (lv_at hl 0 rfl) ?_
  refine n_get (ci := 0) (C := RX0) (T := TX0) (N := 12) hx hb hts in_X0 hown hKv hN (0) sPic_0 rfl 5 (by decide) q133 (fun z h => h) (rfl) dX0_keep_6 ?_
  refine lv_iconst (v := 0) hx hb dX0_keep_9 (by decide) ?_
  refine lv_iconst (v := 4) hx hb dX0_keep_10 (by decide) ?_
  refine n_copyi hx hb (hml.trans hl.1.symm) hts hown q909 q413 q412 q75 hKv hN hS 4 5 0 0 sPic_4 sPic_5 rfl rfl rfl 0 0 4 rfl rfl rfl (by decide) (by decide) (by decide) (by decide) (fun _ _ => rfl) (Nat.le_of_ble_eq_true rfl) (Nat.le_of_ble_eq_true rfl) dX0_keep_11 (fun H locs hN hS => ?_)
  have hN := hN.congr sPic_s5
  exact W.vret hx hb hr (nEnd hN hS ⟨rfl, rfl, rfl⟩) hS.2 dX0_keep_14
set_option maxHeartbeats 1000000 in
set_option maxRecDepth 100000 in
theorem sX0_putBack (l : Launch) (G : nG) (K : State → Prop) (hKo : nKo G K) (hK0 : ∀ U, K U → sK0 G U) (ad : Nat → Nat) (x : nPic) (si : AI) (sa : Nat → AI) (rn : Value)  : Met l yX0_putBack (ws_ yX0_putBack cX0_putBack 1 none) (sR 0 0 0) (nPc G nCl K ad (sPic G x ad si sa rn) [.ref (ad 0)]) (nQ G nCl (fun rv ad' c' => rv = none ∧ ad = ad' ∧ sPic G x ad si (va_up sa 4 (va_cpy (sa 5) (sa 4) 0 0 4)) rn = c')) 0 0 (fun q => G.2 ≤ q) := by
  refine nMet RX0 (by decide) rfl (Nat.le_of_ble_eq_true rfl) ?_
  intro p e s m below meth c ls SS hR hK hN hS hl
  obtain ⟨hx, hb, hml, hown, hts⟩ := id SS
  obtain ⟨hr, hlk, hnm⟩ := hR
  obtain ⟨hKv, hKw, hKf, hKz, hKm⟩ := hK0 s hK
  generalize s.heap = H at hN hS ⊢
  generalize ([] : List Loc) = locs at hS ⊢
  have hl : lv_has ls 1 [(0, .ref (ad 0))] := hl
  refine lv_aload_n hx hb dX0_putBack_0 rfl (lv_at hl 0 rfl) ?_
  refine n_get (ci := 0) (C := RX0) (T := TX0) (N := 12) hx hb hts in_X0 hown hKv hN (0) sPic_0 rfl 5 (by decide) q133 (fun z h => h) (rfl) dX0_putBack_1 ?_
  refine lv_iconst (v := 0) hx hb dX0_putBack_4 (by decide) ?_
  refine lv_aload_n hx hb dX0_putBack_5 rfl (lv_at hl 0 rfl) ?_
  refine n_get (ci := 0) (C := RX0) (T := TX0) (N := 12) hx hb hts in_X0 hown hKv hN (0) sPic_0 rfl 4 (by decide) q132 (fun z h => h) (rfl) dX0_putBack_6 ?_
  refine lv_iconst (v := 0) hx hb dX0_putBack_9 (by decide) ?_
  refine lv_iconst (v := 4) hx hb dX0_putBack_10 (by decide) ?_
  refine n_copyi hx hb (hml.trans hl.1.symm) hts hown q909 q413 q412 q75 hKv hN hS 5 4 0 0 sPic_5 sPic_4 rfl rfl rfl 0 0 4 rfl rfl rfl (by decide) (by decide) (by decide) (by decide) (fun _ _ => rfl) (Nat.le_of_ble_eq_true rfl) (Nat.le_of_ble_eq_true rfl) dX0_putBack_11 (fun H locs hN hS => ?_)
  have hN := hN.congr sPic_s4
  exact W.vret hx hb hr (nEnd hN hS ⟨rfl, rfl, rfl⟩) hS.2 dX0_putBack_14
set_option maxHeartbeats 1000000 in
set_option maxRecDepth 100000 in
theorem sX0_isCaught (l : Launch) (G : nG) (K : State → Prop) (hKo : nKo G K) (hK0 : ∀ U, K U → sK0 G U) (ad : Nat → Nat) (x : nPic) (si : AI) (sa : Nat → AI) (rn : Value) (np : Nat) (kd dr kn : AI) (hP : sPeo G ad x np kd dr kn) (j : Nat) (hj : j < np) (nd : Nat) (hnd : si 1 = nI nd) (hnd6 : nd ≤ 6) (d : Nat) : Met l yX0_isCaught (ws_ yX0_isCaught cX0_isCaught 4 (some .boolean)) (sR 7 0 0) (nPc G nCl K ad (sPic G x ad si sa rn) [.ref (ad 0), .int (nI j), .int (nI d)]) (nQ G nCl (fun rv ad' c' => rv = some (.int (zI (sCgt (sa 1) kd (fun q => dr q &&& sMsk nd) kn nd np (sa 4) j d))) ∧ ad = ad' ∧ sPic G x ad si (va_up sa 4 (sTel (sa 1) kd (fun q => dr q &&& sMsk nd) kn nd np (sa 4) j d)) rn = c')) 0 0 (fun q => G.2 ≤ q) := by
  refine nMet RX0 (by decide) rfl (Nat.le_of_ble_eq_true rfl) ?_
  intro p e s m below meth c ls SS hR hK hN hS hl
  obtain ⟨hx, hb, hml, hown, hts⟩ := id SS
  obtain ⟨hr, hlk, hnm⟩ := hR
  obtain ⟨hKv, hKw, hKf, hKz, hKm⟩ := hK0 s hK
  generalize s.heap = H at hN hS ⊢
  generalize ([] : List Loc) = locs at hS ⊢
  have hl : lv_has ls 4 [(0, .ref (ad 0)), (1, .int (nI j)), (2, .int (nI d))] := hl
  have hnp4 := hP.1
  refine lv_aload_n hx hb dX0_isCaught_0 rfl (lv_at hl 0 rfl) ?_
  refine lv_iload_n hx hb dX0_isCaught_1 rfl (lv_at hl 1 rfl) ?_
  refine n_callV (C := RX0) (As := [_]) (b := 0) SS hKo hK hKv (sX0_truthsOf l G K hKo hK0 ad x si sa rn np kd dr kn hP j hj nd hnd hnd6) (cwV 1 hts (lw_V q219 q221 qs1 q57 q222) rfl rfl rfl (by decide +kernel) ⟨Nat.le_of_ble_eq_true rfl, Nat.le_of_ble_eq_true rfl⟩) hN hS sPic_0 rfl rfl hl.1 rfl (Nat.le_of_ble_eq_true rfl) dX0_isCaught_2 ⟨Nat.le_of_ble_eq_true rfl, Nat.le_of_ble_eq_true rfl⟩ (fun v ad' c' H locs hv hN hS => ?_)
  obtain ⟨rfl, rfl, rfl⟩ := hv
  refine W.eq (g2 := F0 m 5 ls (_ :: _)) rfl ?_
  refine lv_iload_n hx hb dX0_isCaught_5 rfl (lv_at hl 2 rfl) ?_
  refine n_callS (As := [_, _]) SS hKo hK (sX0_isIn l G K hKo hK0 ad _ _ d) (va_cwS 2 hts (lw_S q231 q232 q57 q233) rfl rfl rfl (by decide +kernel) ⟨Nat.le_of_ble_eq_true rfl, Nat.le_of_ble_eq_true rfl⟩) hN hS rfl hl.1 rfl (Nat.le_of_ble_eq_true rfl) dX0_isCaught_6 ⟨Nat.le_of_ble_eq_true rfl, Nat.le_of_ble_eq_true rfl⟩ (fun v ad' c' H locs hv hN hS => ?_)
  obtain ⟨rfl, rfl, rfl⟩ := hv
  refine W.eq (g2 := F0 m 9 ls (_ :: _)) rfl ?_
  refine lv_if_ne (tgt := 24) hx hb dX0_isCaught_9 (by decide) (fun c9 => ?_) (fun c9 => ?_)
  · have hb1 : sBit (dr j &&& sMsk nd) d = 1 := by have := zI_n0 c9; simpa using this
    have hcg : sCgt (sa 1) kd (fun q => dr q &&& sMsk nd) kn nd np (sa 4) j d = false := by unfold sCgt; simp only [hb1]; rfl
    refine lv_iconst (v := 0) hx hb dX0_isCaught_24 (by decide) ?_
    refine lv_istore_n (lv' := [(3, _), (0, _), (1, _), (2, _)]) hx hb dX0_isCaught_25 rfl hl (by decide) rfl (fun ls hl => ?_)
    refine lv_aload_n hx hb dX0_isCaught_26 rfl (lv_at hl 1 rfl) ?_
    refine n_get (ci := 0) (C := RX0) (T := TX0) (N := 12) hx hb hts in_X0 hown hKv hN (0) sPic_0 rfl 4 (by decide) q132 (fun z h => h) (rfl) dX0_isCaught_27 ?_
    refine lv_iload_n hx hb dX0_isCaught_30 rfl (lv_at hl 2 rfl) ?_
    refine lv_iload_n hx hb dX0_isCaught_31 rfl (lv_at hl 0 rfl) ?_
    refine lv_if_eq (tgt := 39) hx hb dX0_isCaught_32 (by decide) (fun c32 => ?_) (fun c32 => absurd c32 (fun z => z rfl))
    refine lv_aload_n hx hb dX0_isCaught_39 rfl (lv_at hl 1 rfl) ?_
    refine n_get (ci := 0) (C := RX0) (T := TX0) (N := 12) hx hb hts in_X0 hown hKv hN (0) sPic_0 rfl 4 (by decide) q132 (fun z h => h) (rfl) dX0_isCaught_40 ?_
    refine lv_iload_n hx hb dX0_isCaught_43 rfl (lv_at hl 2 rfl) ?_
    refine n_iald hx hb hKv hN (4) 0 sPic_4 rfl (j) (rfl) (by omega) (by decide) dX0_isCaught_44 ?_
    refine lv_iconst (v := 1) hx hb dX0_isCaught_45 (by decide) ?_
    refine lv_iload_n hx hb dX0_isCaught_46 rfl (lv_at hl 3 rfl) ?_
    refine lv_ishl hx hb dX0_isCaught_47 ?_
    refine lv_ior hx hb dX0_isCaught_48 ?_
    refine n_iast hx hb hKv hN hS (4) 0 sPic_4 rfl (j) (rfl) (by omega) (by decide) dX0_isCaught_49 (fun H locs hN hS => ?_)
    have hN := hN.congr sPic_s4
    first | rw [show upd (sa 4) j 0 = sTel (sa 1) kd (fun q => dr q &&& sMsk nd) kn nd np (sa 4) j d from by unfold sTel; rw [hcg]; rfl] at hN | rw [show upd (sa 4) j (sa 4 j ||| 1 <<< (nI d &&& 31)) = sTel (sa 1) kd (fun q => dr q &&& sMsk nd) kn nd np (sa 4) j d from by unfold sTel; rw [hcg]; rfl] at hN
    refine lv_iload_n hx hb dX0_isCaught_50 rfl (lv_at hl 0 rfl) ?_
    exact W.zret hx hb hr (rfl) (nEnd hN hS ⟨by rw [hcg]; rfl, rfl, rfl⟩) hS.2 dX0_isCaught_51
  · have hb0 : ¬ sBit (dr j &&& sMsk nd) d = 1 := by have := zI_0.mp c9; simpa using this
    have hb0 : sBit (dr j &&& sMsk nd) d = 0 := (sBit_01 _ _).resolve_right hb0
    refine lv_aload_n hx hb dX0_isCaught_12 rfl (lv_at hl 0 rfl) ?_
    refine lv_iload_n hx hb dX0_isCaught_13 rfl (lv_at hl 1 rfl) ?_
    refine n_callV (C := RX0) (As := [_]) (b := 0) SS hKo hK hKv (sX0_isSeen l G K hKo hK0 ad x si sa rn np kd dr kn hP j hj nd hnd hnd6) (cwV 1 hts (lw_V q279 q281 qs6 q57 q282) rfl rfl rfl (by decide +kernel) ⟨Nat.le_of_ble_eq_true rfl, Nat.le_of_ble_eq_true rfl⟩) hN hS sPic_0 rfl rfl hl.1 rfl (Nat.le_of_ble_eq_true rfl) dX0_isCaught_14 ⟨Nat.le_of_ble_eq_true rfl, Nat.le_of_ble_eq_true rfl⟩ (fun v ad' c' H locs hv hN hS => ?_)
    obtain ⟨rfl, rfl, rfl⟩ := hv
    refine W.eq (g2 := F0 m 17 ls (_ :: _)) rfl ?_
    refine lv_if_eq (tgt := 24) hx hb dX0_isCaught_17 (by decide) (fun c17 => ?_) (fun c17 => ?_)
    · have hs1 := zI_0.mp c17
      have hcg : sCgt (sa 1) kd (fun q => dr q &&& sMsk nd) kn nd np (sa 4) j d = false := by unfold sCgt; rw [hs1, Bool.and_false]
      refine lv_iconst (v := 0) hx hb dX0_isCaught_24 (by decide) ?_
      refine lv_istore_n (lv' := [(3, _), (0, _), (1, _), (2, _)]) hx hb dX0_isCaught_25 rfl hl (by decide) rfl (fun ls hl => ?_)
      refine lv_aload_n hx hb dX0_isCaught_26 rfl (lv_at hl 1 rfl) ?_
      refine n_get (ci := 0) (C := RX0) (T := TX0) (N := 12) hx hb hts in_X0 hown hKv hN (0) sPic_0 rfl 4 (by decide) q132 (fun z h => h) (rfl) dX0_isCaught_27 ?_
      refine lv_iload_n hx hb dX0_isCaught_30 rfl (lv_at hl 2 rfl) ?_
      refine lv_iload_n hx hb dX0_isCaught_31 rfl (lv_at hl 0 rfl) ?_
      refine lv_if_eq (tgt := 39) hx hb dX0_isCaught_32 (by decide) (fun c32 => ?_) (fun c32 => absurd c32 (fun z => z rfl))
      refine lv_aload_n hx hb dX0_isCaught_39 rfl (lv_at hl 1 rfl) ?_
      refine n_get (ci := 0) (C := RX0) (T := TX0) (N := 12) hx hb hts in_X0 hown hKv hN (0) sPic_0 rfl 4 (by decide) q132 (fun z h => h) (rfl) dX0_isCaught_40 ?_
      refine lv_iload_n hx hb dX0_isCaught_43 rfl (lv_at hl 2 rfl) ?_
      refine n_iald hx hb hKv hN (4) 0 sPic_4 rfl (j) (rfl) (by omega) (by decide) dX0_isCaught_44 ?_
      refine lv_iconst (v := 1) hx hb dX0_isCaught_45 (by decide) ?_
      refine lv_iload_n hx hb dX0_isCaught_46 rfl (lv_at hl 3 rfl) ?_
      refine lv_ishl hx hb dX0_isCaught_47 ?_
      refine lv_ior hx hb dX0_isCaught_48 ?_
      refine n_iast hx hb hKv hN hS (4) 0 sPic_4 rfl (j) (rfl) (by omega) (by decide) dX0_isCaught_49 (fun H locs hN hS => ?_)
      have hN := hN.congr sPic_s4
      first | rw [show upd (sa 4) j 0 = sTel (sa 1) kd (fun q => dr q &&& sMsk nd) kn nd np (sa 4) j d from by unfold sTel; rw [hcg]; rfl] at hN | rw [show upd (sa 4) j (sa 4 j ||| 1 <<< (nI d &&& 31)) = sTel (sa 1) kd (fun q => dr q &&& sMsk nd) kn nd np (sa 4) j d from by unfold sTel; rw [hcg]; rfl] at hN
      refine lv_iload_n hx hb dX0_isCaught_50 rfl (lv_at hl 0 rfl) ?_
      exact W.zret hx hb hr (rfl) (nEnd hN hS ⟨by rw [hcg]; rfl, rfl, rfl⟩) hS.2 dX0_isCaught_51
    · have hs1 := zI_n0 c17
      have hcg : sCgt (sa 1) kd (fun q => dr q &&& sMsk nd) kn nd np (sa 4) j d = true := by unfold sCgt; simp only [hb0]; rw [hs1]; rfl
      refine lv_iconst (v := 1) hx hb dX0_isCaught_20 (by decide) ?_
      refine lv_goto (tgt := 25) hx hb dX0_isCaught_21 (by decide) ?_
      refine lv_istore_n (lv' := [(3, _), (0, _), (1, _), (2, _)]) hx hb dX0_isCaught_25 rfl hl (by decide) rfl (fun ls hl => ?_)
      refine lv_aload_n hx hb dX0_isCaught_26 rfl (lv_at hl 1 rfl) ?_
      refine n_get (ci := 0) (C := RX0) (T := TX0) (N := 12) hx hb hts in_X0 hown hKv hN (0) sPic_0 rfl 4 (by decide) q132 (fun z h => h) (rfl) dX0_isCaught_27 ?_
      refine lv_iload_n hx hb dX0_isCaught_30 rfl (lv_at hl 2 rfl) ?_
      refine lv_iload_n hx hb dX0_isCaught_31 rfl (lv_at hl 0 rfl) ?_
      refine lv_if_eq (tgt := 39) hx hb dX0_isCaught_32 (by decide) (fun c32 => absurd c32 (by decide)) (fun c32 => ?_)
      refine lv_iconst (v := 0) hx hb dX0_isCaught_35 (by decide) ?_
      refine lv_goto (tgt := 49) hx hb dX0_isCaught_36 (by decide) ?_
      refine n_iast hx hb hKv hN hS (4) 0 sPic_4 rfl (j) (rfl) (by omega) (by decide) dX0_isCaught_49 (fun H locs hN hS => ?_)
      have hN := hN.congr sPic_s4
      first | rw [show upd (sa 4) j 0 = sTel (sa 1) kd (fun q => dr q &&& sMsk nd) kn nd np (sa 4) j d from by unfold sTel; rw [hcg]; rfl] at hN | rw [show upd (sa 4) j (sa 4 j ||| 1 <<< (nI d &&& 31)) = sTel (sa 1) kd (fun q => dr q &&& sMsk nd) kn nd np (sa 4) j d from by unfold sTel; rw [hcg]; rfl] at hN
      refine lv_iload_n hx hb dX0_isCaught_50 rfl (lv_at hl 0 rfl) ?_
      exact W.zret hx hb hr (rfl) (nEnd hN hS ⟨by rw [hcg]; rfl, rfl, rfl⟩) hS.2 dX0_isCaught_51
