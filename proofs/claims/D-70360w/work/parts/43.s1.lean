/-! SYSTEM: reads: printed by wip/gen/s1.py -/
set_option maxHeartbeats 1000000 in
set_option maxRecDepth 100000 in
theorem sX0_in (l : Launch) (G : nG) (K : State → Prop) (hKo : nKo G K) (hK0 : ∀ U, K U → sK0 G U) (ad : Nat → Nat) (c0 : nPic) (v lo hi : Int32) : Met l yX0_in (ws_ yX0_in cX0_in 6 (some .boolean)) (sR 0 0 0) (nPc G nCl K ad c0 [.long v.toInt64, .long lo.toInt64, .long hi.toInt64]) (nQ G nCl (fun rv ad' c' => rv = some (.int (zI (sBt v lo hi))) ∧ ad = ad' ∧ c0 = c')) 0 0 (fun q => G.2 ≤ q) := by
  refine nMet RX0 (by decide) rfl (Nat.le_of_ble_eq_true rfl) ?_
  intro p e s m below meth c ls SS hR hK hN hS hl
  obtain ⟨hx, hb, hml, hown, hts⟩ := id SS
  obtain ⟨hr, hlk, hnm⟩ := hR
  obtain ⟨hKv, hKw, hKf, hKz, hKm⟩ := hK0 s hK
  generalize s.heap = H at hN hS ⊢
  generalize ([] : List Loc) = locs at hS ⊢
  have hl : lv_has ls 6 [(0, .long v.toInt64), (2, .long lo.toInt64), (4, .long hi.toInt64)] := hl
  refine lv_lload_n hx hb dX0_in_0 rfl (lv_at hl 0 rfl) ?_
  refine lv_lload_n hx hb dX0_in_1 rfl (lv_at hl 1 rfl) ?_
  refine W.lcmp hx hb dX0_in_2 ?_
  refine lv_if_lt (tgt := 17) hx hb dX0_in_3 (by decide) (fun c3 => ?_) (fun c3 => ?_)
  · have c3 := (l_lt _ _).mp c3
    have hz : sBt v lo hi = false := by unfold sBt; simp [c3]
    refine lv_iconst (v := 0) hx hb dX0_in_17 (by decide) ?_
    exact W.zret hx hb hr (rfl) (nEnd hN hS ⟨by rw [hz]; rfl, rfl, rfl⟩) hS.2 dX0_in_18
  · have c3 := mt (l_lt _ _).mpr c3
    refine lv_lload_n hx hb dX0_in_6 rfl (lv_at hl 0 rfl) ?_
    refine lv_lload hx hb dX0_in_7 (lv_at hl 2 rfl) ?_
    refine W.lcmp hx hb dX0_in_9 ?_
    refine lv_if_gt (tgt := 17) hx hb dX0_in_10 (by decide) (fun c10 => ?_) (fun c10 => ?_)
    · have c10 := (l_gt _ _).mp c10
      have hz : sBt v lo hi = false := by unfold sBt; simp [c10]
      refine lv_iconst (v := 0) hx hb dX0_in_17 (by decide) ?_
      exact W.zret hx hb hr (rfl) (nEnd hN hS ⟨by rw [hz]; rfl, rfl, rfl⟩) hS.2 dX0_in_18
    · have c10 := mt (l_gt _ _).mpr c10
      have hz : sBt v lo hi = true := by unfold sBt; rw [decide_eq_false c3, decide_eq_false c10]; rfl
      refine lv_iconst (v := 1) hx hb dX0_in_13 (by decide) ?_
      refine lv_goto (tgt := 18) hx hb dX0_in_14 (by decide) ?_
      exact W.zret hx hb hr (rfl) (nEnd hN hS ⟨by rw [hz]; rfl, rfl, rfl⟩) hS.2 dX0_in_18
set_option maxHeartbeats 1000000 in
set_option maxRecDepth 100000 in
theorem sX0_isIn (l : Launch) (G : nG) (K : State → Prop) (hKo : nKo G K) (hK0 : ∀ U, K U → sK0 G U) (ad : Nat → Nat) (c0 : nPic) (v : Int32) (k : Nat) : Met l yX0_isIn (ws_ yX0_isIn cX0_isIn 2 (some .boolean)) (sR 0 0 0) (nPc G nCl K ad c0 [.int v, .int (nI k)]) (nQ G nCl (fun rv ad' c' => rv = some (.int (zI (decide (sBit v k = 1)))) ∧ ad = ad' ∧ c0 = c')) 0 0 (fun q => G.2 ≤ q) := by
  refine nMet RX0 (by decide) rfl (Nat.le_of_ble_eq_true rfl) ?_
  intro p e s m below meth c ls SS hR hK hN hS hl
  obtain ⟨hx, hb, hml, hown, hts⟩ := id SS
  obtain ⟨hr, hlk, hnm⟩ := hR
  obtain ⟨hKv, hKw, hKf, hKz, hKm⟩ := hK0 s hK
  generalize s.heap = H at hN hS ⊢
  generalize ([] : List Loc) = locs at hS ⊢
  have hl : lv_has ls 2 [(0, .int v), (1, .int (nI k))] := hl
  refine lv_iload_n hx hb dX0_isIn_0 rfl (lv_at hl 0 rfl) ?_
  refine lv_iload_n hx hb dX0_isIn_1 rfl (lv_at hl 1 rfl) ?_
  refine lv_ishr hx hb dX0_isIn_2 ?_
  refine lv_iconst (v := 1) hx hb dX0_isIn_3 (by decide) ?_
  refine lv_iand hx hb dX0_isIn_4 ?_
  refine n_top (y := sBit v k) (rfl) ?_
  refine lv_iconst (v := 1) hx hb dX0_isIn_5 (by decide) ?_
  refine lv_icmp_ne (tgt := 13) hx hb dX0_isIn_6 (by decide) (fun c6 => ?_) (fun c6 => ?_)
  · refine lv_iconst (v := 0) hx hb dX0_isIn_13 (by decide) ?_
    exact W.zret hx hb hr (rfl) (nEnd hN hS ⟨by simp [c6, zI], rfl, rfl⟩) hS.2 dX0_isIn_14
  · refine lv_iconst (v := 1) hx hb dX0_isIn_9 (by decide) ?_
    refine lv_goto (tgt := 14) hx hb dX0_isIn_10 (by decide) ?_
    exact W.zret hx hb hr (rfl) (nEnd hN hS ⟨by simp [c6, zI], rfl, rfl⟩) hS.2 dX0_isIn_14
set_option maxHeartbeats 1000000 in
set_option maxRecDepth 100000 in
theorem sX0_noTower (l : Launch) (G : nG) (K : State → Prop) (hKo : nKo G K) (hK0 : ∀ U, K U → sK0 G U) (ad : Nat → Nat) (x : nPic) (si : AI) (sa : Nat → AI) (rn : Value) (np : Nat) (kd dr kn : AI) (hP : sPeo G ad x np kd dr kn) : Met l yX0_noTower (ws_ yX0_noTower cX0_noTower 1 (some .boolean)) (sR 1 0 0) (nPc G nCl K ad (sPic G x ad si sa rn) [.ref (ad 0)]) (nQ G nCl (fun rv ad' c' => rv = some (.int (zI (decide (np = 0)))) ∧ ad = ad' ∧ sPic G x ad si sa rn = c')) 0 0 (fun q => G.2 ≤ q) := by
  refine nMet RX0 (by decide) rfl (Nat.le_of_ble_eq_true rfl) ?_
  intro p e s m below meth c ls SS hR hK hN hS hl
  obtain ⟨hx, hb, hml, hown, hts⟩ := id SS
  obtain ⟨hr, hlk, hnm⟩ := hR
  obtain ⟨hKv, hKw, hKf, hKz, hKm⟩ := hK0 s hK
  generalize s.heap = H at hN hS ⊢
  generalize ([] : List Loc) = locs at hS ⊢
  have hl : lv_has ls 1 [(0, .ref (ad 0))] := hl
  obtain ⟨mc_, ea, hL⟩ := hP.list
  have hL : (sPic G x ad si sa rn) 2 = _ := hL
  have hnp4 := hP.1
  refine lv_aload_n hx hb dX0_noTower_0 rfl (lv_at hl 0 rfl) ?_
  refine n_get (ci := 0) (C := RX0) (T := TX0) (N := 12) hx hb hts in_X0 hown hKv hN (0) sPic_0 rfl 3 (by decide) q131 (fun z h => h) (rfl) dX0_noTower_1 ?_
  refine n_callF (As := []) (C := RJ2) (b := 2) SS hKo hK hKv (tJ2_isEmpty l G K hKo hK0 ad _ 2 mc_ ea np hL (by omega)) (va_cwF 0 hts (lw_F q296 q299 q301 q60 q303) rfl rfl rfl (hKf (RJ2, ⟨"java/util/List", "isEmpty", "()Z"⟩, ⟨"java/util/ArrayList", "isEmpty", "()Z"⟩) (List.mem_of_getElem? (i := 2) rfl)) (by decide +kernel) ⟨Nat.le_of_ble_eq_true rfl, Nat.le_of_ble_eq_true rfl⟩) hN hS hL rfl rfl hl.1 rfl (Nat.le_of_ble_eq_true rfl) dX0_noTower_4 ⟨Nat.le_of_ble_eq_true rfl, Nat.le_of_ble_eq_true rfl⟩ (fun v ad' c' H locs hv hN hS => ?_)
  obtain ⟨rfl, rfl, rfl⟩ := hv
  refine W.eq (g2 := F0 m 9 ls (_ :: _)) rfl ?_
  exact W.zret hx hb hr (zI_nar _) (nEnd hN hS ⟨rfl, rfl, rfl⟩) hS.2 dX0_noTower_9
set_option maxHeartbeats 1000000 in
set_option maxRecDepth 100000 in
theorem sX0_noDeed (l : Launch) (G : nG) (K : State → Prop) (hKo : nKo G K) (hK0 : ∀ U, K U → sK0 G U) (ad : Nat → Nat) (x : nPic) (si : AI) (sa : Nat → AI) (rn : Value) (d : Int32) (nd : Nat) (hnd : si 1 = nI nd) (hnd6 : nd ≤ 6) : Met l yX0_noDeed (ws_ yX0_noDeed cX0_noDeed 2 (some .boolean)) (sR 1 0 0) (nPc G nCl K ad (sPic G x ad si sa rn) [.ref (ad 0), .int d]) (nQ G nCl (fun rv ad' c' => rv = some (.int (zI (!sIn d nd))) ∧ ad = ad' ∧ sPic G x ad si sa rn = c')) 0 0 (fun q => G.2 ≤ q) := by
  refine nMet RX0 (by decide) rfl (Nat.le_of_ble_eq_true rfl) ?_
  intro p e s m below meth c ls SS hR hK hN hS hl
  obtain ⟨hx, hb, hml, hown, hts⟩ := id SS
  obtain ⟨hr, hlk, hnm⟩ := hR
  obtain ⟨hKv, hKw, hKf, hKz, hKm⟩ := hK0 s hK
  generalize s.heap = H at hN hS ⊢
  generalize ([] : List Loc) = locs at hS ⊢
  have hl : lv_has ls 2 [(0, .ref (ad 0)), (1, .int d)] := hl
  refine lv_iload_n hx hb dX0_noDeed_0 rfl (lv_at hl 1 rfl) ?_
  refine lv_i2l hx hb dX0_noDeed_1 rfl ?_
  refine lv_lconst (v := 0) hx hb dX0_noDeed_2 (by decide) ?_
  refine lv_aload_n hx hb dX0_noDeed_3 rfl (lv_at hl 0 rfl) ?_
  refine n_get (v := .int (nI nd)) (ci := 0) (C := RX0) (T := TX0) (N := 12) hx hb hts in_X0 hown hKv hN (0) sPic_0 rfl 1 (by decide) q129 (fun z h => h) (by rw [← hnd]; rfl) dX0_noDeed_4 ?_
  refine lv_iconst (v := 1) hx hb dX0_noDeed_7 (by decide) ?_
  refine lv_isub hx hb dX0_noDeed_8 ?_
  refine lv_i2l hx hb dX0_noDeed_9 rfl ?_
  refine n_callS (As := [_, _, _]) SS hKo hK (sX0_in l G K hKo hK0 ad _ d 0 (nI nd - 1)) (va_cwS 3 hts (lw_S q185 q186 q57 q187) rfl rfl rfl (by decide +kernel) ⟨Nat.le_of_ble_eq_true rfl, Nat.le_of_ble_eq_true rfl⟩) hN hS rfl hl.1 rfl (Nat.le_of_ble_eq_true rfl) dX0_noDeed_10 ⟨Nat.le_of_ble_eq_true rfl, Nat.le_of_ble_eq_true rfl⟩ (fun v ad' c' H locs hv hN hS => ?_)
  obtain ⟨rfl, rfl, rfl⟩ := hv
  refine W.eq (g2 := F0 m 13 ls (_ :: _)) rfl ?_
  refine n_top (y := zI (sIn d nd)) (by rw [sBt_in (by omega)]) ?_
  refine lv_if_ne (tgt := 20) hx hb dX0_noDeed_13 (by decide) (fun c13 => ?_) (fun c13 => ?_)
  · have c13 := zI_n0 c13
    refine lv_iconst (v := 0) hx hb dX0_noDeed_20 (by decide) ?_
    exact W.zret hx hb hr (rfl) (nEnd hN hS ⟨by rw [c13]; rfl, rfl, rfl⟩) hS.2 dX0_noDeed_21
  · have c13 := zI_0.mp c13
    refine lv_iconst (v := 1) hx hb dX0_noDeed_16 (by decide) ?_
    refine lv_goto (tgt := 21) hx hb dX0_noDeed_17 (by decide) ?_
    exact W.zret hx hb hr (rfl) (nEnd hN hS ⟨by rw [c13]; rfl, rfl, rfl⟩) hS.2 dX0_noDeed_21
set_option maxHeartbeats 1000000 in
set_option maxRecDepth 100000 in
theorem sX0_noPerson (l : Launch) (G : nG) (K : State → Prop) (hKo : nKo G K) (hK0 : ∀ U, K U → sK0 G U) (ad : Nat → Nat) (x : nPic) (si : AI) (sa : Nat → AI) (rn : Value) (d : Int32) (np : Nat) (kd dr kn : AI) (hP : sPeo G ad x np kd dr kn) : Met l yX0_noPerson (ws_ yX0_noPerson cX0_noPerson 2 (some .boolean)) (sR 1 0 0) (nPc G nCl K ad (sPic G x ad si sa rn) [.ref (ad 0), .int d]) (nQ G nCl (fun rv ad' c' => rv = some (.int (zI (!sIn d np))) ∧ ad = ad' ∧ sPic G x ad si sa rn = c')) 0 0 (fun q => G.2 ≤ q) := by
  refine nMet RX0 (by decide) rfl (Nat.le_of_ble_eq_true rfl) ?_
  intro p e s m below meth c ls SS hR hK hN hS hl
  obtain ⟨hx, hb, hml, hown, hts⟩ := id SS
  obtain ⟨hr, hlk, hnm⟩ := hR
  obtain ⟨hKv, hKw, hKf, hKz, hKm⟩ := hK0 s hK
  generalize s.heap = H at hN hS ⊢
  generalize ([] : List Loc) = locs at hS ⊢
  have hl : lv_has ls 2 [(0, .ref (ad 0)), (1, .int d)] := hl
  obtain ⟨mc_, ea, hL⟩ := hP.list
  have hL : (sPic G x ad si sa rn) 2 = _ := hL
  have hnp4 := hP.1
  refine lv_iload_n hx hb dX0_noPerson_0 rfl (lv_at hl 1 rfl) ?_
  refine lv_i2l hx hb dX0_noPerson_1 rfl ?_
  refine lv_lconst (v := 0) hx hb dX0_noPerson_2 (by decide) ?_
  refine lv_aload_n hx hb dX0_noPerson_3 rfl (lv_at hl 0 rfl) ?_
  refine n_get (ci := 0) (C := RX0) (T := TX0) (N := 12) hx hb hts in_X0 hown hKv hN (0) sPic_0 rfl 3 (by decide) q131 (fun z h => h) (rfl) dX0_noPerson_4 ?_
  refine n_callF (As := []) (C := RJ2) (b := 2) SS hKo hK hKv (tJ2_size l G K hKo hK0 ad _ 2 mc_ ea np hL) (va_cwF 0 hts (lw_F q176 q180 q182 q60 q184) rfl rfl rfl (hKf (RJ2, ⟨"java/util/List", "size", "()I"⟩, ⟨"java/util/ArrayList", "size", "()I"⟩) (List.mem_of_getElem? (i := 0) rfl)) (by decide +kernel) ⟨Nat.le_of_ble_eq_true rfl, Nat.le_of_ble_eq_true rfl⟩) hN hS hL rfl rfl hl.1 rfl (Nat.le_of_ble_eq_true rfl) dX0_noPerson_7 ⟨Nat.le_of_ble_eq_true rfl, Nat.le_of_ble_eq_true rfl⟩ (fun v ad' c' H locs hv hN hS => ?_)
  obtain ⟨rfl, rfl, rfl⟩ := hv
  refine W.eq (g2 := F0 m 12 ls (_ :: _)) rfl ?_
  refine lv_iconst (v := 1) hx hb dX0_noPerson_12 (by decide) ?_
  refine lv_isub hx hb dX0_noPerson_13 ?_
  refine lv_i2l hx hb dX0_noPerson_14 rfl ?_
  refine n_callS (As := [_, _, _]) SS hKo hK (sX0_in l G K hKo hK0 ad _ d 0 (nI np - 1)) (va_cwS 3 hts (lw_S q185 q186 q57 q187) rfl rfl rfl (by decide +kernel) ⟨Nat.le_of_ble_eq_true rfl, Nat.le_of_ble_eq_true rfl⟩) hN hS rfl hl.1 rfl (Nat.le_of_ble_eq_true rfl) dX0_noPerson_15 ⟨Nat.le_of_ble_eq_true rfl, Nat.le_of_ble_eq_true rfl⟩ (fun v ad' c' H locs hv hN hS => ?_)
  obtain ⟨rfl, rfl, rfl⟩ := hv
  refine W.eq (g2 := F0 m 18 ls (_ :: _)) rfl ?_
  refine n_top (y := zI (sIn d np)) (by rw [sBt_in (by omega)]) ?_
  refine lv_if_ne (tgt := 25) hx hb dX0_noPerson_18 (by decide) (fun c18 => ?_) (fun c18 => ?_)
  · have c18 := zI_n0 c18
    refine lv_iconst (v := 0) hx hb dX0_noPerson_25 (by decide) ?_
    exact W.zret hx hb hr (rfl) (nEnd hN hS ⟨by rw [c18]; rfl, rfl, rfl⟩) hS.2 dX0_noPerson_26
  · have c18 := zI_0.mp c18
    refine lv_iconst (v := 1) hx hb dX0_noPerson_21 (by decide) ?_
    refine lv_goto (tgt := 26) hx hb dX0_noPerson_22 (by decide) ?_
    exact W.zret hx hb hr (rfl) (nEnd hN hS ⟨by rw [c18]; rfl, rfl, rfl⟩) hS.2 dX0_noPerson_26
set_option maxHeartbeats 1000000 in
set_option maxRecDepth 100000 in
theorem sX0_truthsOf (l : Launch) (G : nG) (K : State → Prop) (hKo : nKo G K) (hK0 : ∀ U, K U → sK0 G U) (ad : Nat → Nat) (x : nPic) (si : AI) (sa : Nat → AI) (rn : Value) (np : Nat) (kd dr kn : AI) (hP : sPeo G ad x np kd dr kn) (j : Nat) (hj : j < np) (nd : Nat) (hnd : si 1 = nI nd) (hnd6 : nd ≤ 6) : Met l yX0_truthsOf (ws_ yX0_truthsOf cX0_truthsOf 2 (some .int)) (sR 3 0 0) (nPc G nCl K ad (sPic G x ad si sa rn) [.ref (ad 0), .int (nI j)]) (nQ G nCl (fun rv ad' c' => rv = some (.int (dr j &&& sMsk nd)) ∧ ad = ad' ∧ sPic G x ad si sa rn = c')) 0 0 (fun q => G.2 ≤ q) := by
  refine nMet RX0 (by decide) rfl (Nat.le_of_ble_eq_true rfl) ?_
  intro p e s m below meth c ls SS hR hK hN hS hl
  obtain ⟨hx, hb, hml, hown, hts⟩ := id SS
  obtain ⟨hr, hlk, hnm⟩ := hR
  obtain ⟨hKv, hKw, hKf, hKz, hKm⟩ := hK0 s hK
  generalize s.heap = H at hN hS ⊢
  generalize ([] : List Loc) = locs at hS ⊢
  have hl : lv_has ls 2 [(0, .ref (ad 0)), (1, .int (nI j))] := hl
  obtain ⟨mc_, hL, hA⟩ := hP.own hj
  have hL : (sPic G x ad si sa rn) 2 = _ := hL
  have hA : (sPic G x ad si sa rn) 3 = _ := hA
  have hnp4 := hP.1
  refine lv_aload_n hx hb dX0_truthsOf_0 rfl (lv_at hl 0 rfl) ?_
  refine n_get (ci := 0) (C := RX0) (T := TX0) (N := 12) hx hb hts in_X0 hown hKv hN (0) sPic_0 rfl 3 (by decide) q131 (fun z h => h) (rfl) dX0_truthsOf_1 ?_
  refine lv_iload_n hx hb dX0_truthsOf_4 rfl (lv_at hl 1 rfl) ?_
  refine n_callF (As := [_]) (C := RJ2) (b := 2) SS hKo hK hKv (tJ2_get l G K hKo hK0 ad _ 2 3 mc_ np 10 (sPl ad np) hL hA (by decide) j hj (by omega)) (va_cwF 1 hts (lw_F q189 q192 q194 q60 q196) rfl rfl rfl (hKf (RJ2, ⟨"java/util/List", "get", "(I)Ljava/lang/Object;"⟩, ⟨"java/util/ArrayList", "get", "(I)Ljava/lang/Object;"⟩) (List.mem_of_getElem? (i := 1) rfl)) (by decide +kernel) ⟨Nat.le_of_ble_eq_true rfl, Nat.le_of_ble_eq_true rfl⟩) hN hS hL rfl rfl hl.1 rfl (Nat.le_of_ble_eq_true rfl) dX0_truthsOf_5 ⟨Nat.le_of_ble_eq_true rfl, Nat.le_of_ble_eq_true rfl⟩ (fun v ad' c' H locs hv hN hS => ?_)
  obtain ⟨rfl, rfl, rfl⟩ := hv
  refine W.eq (g2 := F0 m 10 ls (_ :: _)) rfl ?_
  refine n_topv (y := .ref (ad (20 + j))) (sPl_at hj) ?_
  refine n_castP hx hb hts hown q207 (hK0 s hK) hN (hP.per hj) dX0_truthsOf_10 ?_
  refine n_getP hx hb hts hown (hK0 s hK) hN 1 (by decide) q790 (hP.per hj) rfl dX0_truthsOf_13 ?_
  refine lv_iconst (v := 1) hx hb dX0_truthsOf_16 (by decide) ?_
  refine lv_aload_n hx hb dX0_truthsOf_17 rfl (lv_at hl 0 rfl) ?_
  refine n_get (v := .int (nI nd)) (ci := 0) (C := RX0) (T := TX0) (N := 12) hx hb hts in_X0 hown hKv hN (0) sPic_0 rfl 1 (by decide) q129 (fun z h => h) (by rw [← hnd]; rfl) dX0_truthsOf_18 ?_
  refine lv_ishl hx hb dX0_truthsOf_21 ?_
  refine lv_iconst (v := 1) hx hb dX0_truthsOf_22 (by decide) ?_
  refine lv_isub hx hb dX0_truthsOf_23 ?_
  refine n_top (y := sMsk nd) (rfl) ?_
  refine lv_iand hx hb dX0_truthsOf_24 ?_
  exact W.iret hx hb hr (nEnd hN hS ⟨rfl, rfl, rfl⟩) hS.2 dX0_truthsOf_25
set_option maxHeartbeats 1000000 in
set_option maxRecDepth 100000 in
theorem sX0_risesBy (l : Launch) (G : nG) (K : State → Prop) (hKo : nKo G K) (hK0 : ∀ U, K U → sK0 G U) (ad : Nat → Nat) (x : nPic) (si : AI) (sa : Nat → AI) (rn : Value) (np : Nat) (kd dr kn : AI) (hP : sPeo G ad x np kd dr kn) (j : Nat) (hj : j < np) (nd : Nat) (hnd : si 1 = nI nd) (hnd6 : nd ≤ 6) (set : Int32) : Met l yX0_risesBy (ws_ yX0_risesBy cX0_risesBy 5 (some .int)) (sR 4 0 0) (nPc G nCl K ad (sPic G x ad si sa rn) [.ref (ad 0), .int (nI j), .int set]) (nQ G nCl (fun rv ad' c' => rv = some (.int (sFl (sa 1) kd j set nd)) ∧ ad = ad' ∧ sPic G x ad si sa rn = c')) 0 0 (fun q => G.2 ≤ q) := by
  refine nMet RX0 (by decide) rfl (Nat.le_of_ble_eq_true rfl) ?_
  intro p e s m below meth c ls SS hR hK hN hS hl
  obtain ⟨hx, hb, hml, hown, hts⟩ := id SS
  obtain ⟨hr, hlk, hnm⟩ := hR
  obtain ⟨hKv, hKw, hKf, hKz, hKm⟩ := hK0 s hK
  generalize s.heap = H at hN hS ⊢
  generalize ([] : List Loc) = locs at hS ⊢
  have hl : lv_has ls 5 [(0, .ref (ad 0)), (1, .int (nI j)), (2, .int set)] := hl
  obtain ⟨mc_, hL, hA⟩ := hP.own hj
  have hL : (sPic G x ad si sa rn) 2 = _ := hL
  have hA : (sPic G x ad si sa rn) 3 = _ := hA
  have hnp4 := hP.1
  refine lv_iconst (v := 0) hx hb dX0_risesBy_0 (by decide) ?_
  refine lv_istore_n (lv' := [(3, _), (0, _), (1, _), (2, _)]) hx hb dX0_risesBy_1 rfl hl (by decide) rfl (fun ls hl => ?_)
  refine lv_iconst (v := nI 0) hx hb dX0_risesBy_2 (rfl) ?_
  refine lv_istore (lv' := [(4, _), (3, _), (0, _), (1, _), (2, _)]) hx hb dX0_risesBy_3 hl (by decide) rfl (fun ls hl => ?_)
  have loop5 : ∀ (n : Nat) (d : Nat) (H : Heap) (locs : List Loc) (ls : Array Slot), nd + 1 ≤ n + d → d ≤ nd → nOk G nCl ad (sPic G x ad si sa rn) H → nS G s H locs → lv_has ls 5 [(0, .ref (ad 0)), (1, .int (nI j)), (2, .int set), (3, .int (sFl (sa 1) kd j set d)), (4, .int (nI d))] → W p l e (sR 4 0 0) s m ([.ref (ad 0), .int (nI j), .int set] : List Value).toArray below meth c H locs 0 0 (MQ below (nQ G nCl (fun rv ad' c' => rv = some (.int (sFl (sa 1) kd j set nd)) ∧ ad = ad' ∧ sPic G x ad si sa rn = c')) ([.ref (ad 0), .int (nI j), .int set] : List Value).toArray s 0 0 (fun q => G.2 ≤ q)) (F0 m 5 ls []) := by
    intro n
    induction n with
    | zero => intro d H locs ls hfuel hd hN hS hl; exact absurd hfuel (by omega)
    | succ n ih5 =>
      intro d H locs ls hfuel hd hN hS hl
      refine lv_iload hx hb dX0_risesBy_5 (lv_at hl 4 rfl) ?_
      refine lv_aload_n hx hb dX0_risesBy_7 rfl (lv_at hl 0 rfl) ?_
      refine n_get (v := .int (nI nd)) (ci := 0) (C := RX0) (T := TX0) (N := 12) hx hb hts in_X0 hown hKv hN (0) sPic_0 rfl 1 (by decide) q129 (fun z h => h) (by rw [← hnd]; rfl) dX0_risesBy_8 ?_
      refine lv_icmp_ge (tgt := 59) hx hb dX0_risesBy_11 (by decide) (fun c11 => ?_) (fun c11 => ?_)
      · have c11 : nd ≤ d := (nI_leI (by omega) (by omega)).mp c11
        have ed : d = nd := by omega
        refine lv_iload_n hx hb dX0_risesBy_59 rfl (lv_at hl 3 rfl) ?_
        exact W.iret hx hb hr (nEnd hN hS ⟨by rw [ed], rfl, rfl⟩) hS.2 dX0_risesBy_60
      · have c11 : d < nd := by have := mt (nI_leI (a := nd) (b := d) (by omega) (by omega)).mpr c11; omega
        refine lv_iload_n hx hb dX0_risesBy_14 rfl (lv_at hl 3 rfl) ?_
        refine lv_iload_n hx hb dX0_risesBy_15 rfl (lv_at hl 2 rfl) ?_
        refine lv_iload hx hb dX0_risesBy_16 (lv_at hl 4 rfl) ?_
        refine n_callS (As := [_, _]) SS hKo hK (sX0_isIn l G K hKo hK0 ad _ set d) (va_cwS 2 hts (lw_S q231 q232 q57 q233) rfl rfl rfl (by decide +kernel) ⟨Nat.le_of_ble_eq_true rfl, Nat.le_of_ble_eq_true rfl⟩) hN hS rfl hl.1 rfl (Nat.le_of_ble_eq_true rfl) dX0_risesBy_18 ⟨Nat.le_of_ble_eq_true rfl, Nat.le_of_ble_eq_true rfl⟩ (fun v ad' c' H locs hv hN hS => ?_)
        obtain ⟨rfl, rfl, rfl⟩ := hv
        refine W.eq (g2 := F0 m 21 ls (_ :: _)) rfl ?_
        refine lv_if_eq (tgt := 50) hx hb dX0_risesBy_21 (by decide) (fun c21 => ?_) (fun c21 => ?_)
        · have hB : ¬ sBit set d = 1 := by have := zI_0.mp c21; simpa using this
          refine lv_iconst (v := 0) hx hb dX0_risesBy_50 (by decide) ?_
          refine lv_iadd hx hb dX0_risesBy_51 ?_
          refine n_top (y := sFl (sa 1) kd j set (d + 1)) (by rw [sFl, if_neg hB]) ?_
          refine lv_istore_n (lv' := [(3, _), (0, _), (1, _), (2, _), (4, _)]) hx hb dX0_risesBy_52 rfl hl (by decide) rfl (fun ls hl => ?_)
          refine lv_iinc (v := nI (d + 1)) (lv' := [(4, _), (3, _), (0, _), (1, _), (2, _)]) hx hb dX0_risesBy_53 hl (k := 4) rfl (nI_inc d) (by decide) rfl (fun ls hl => ?_)
          refine lv_goto (tgt := 5) hx hb dX0_risesBy_56 (by decide) ?_
          exact ih5 (d + 1) _ _ _ (by omega) (by omega) hN hS (lv_sub hl [2, 3, 4, 1, 0] (rfl))
        · have hB : sBit set d = 1 := by have := zI_n0 c21; simpa using this
          refine lv_aload_n hx hb dX0_risesBy_24 rfl (lv_at hl 0 rfl) ?_
          refine n_get (ci := 0) (C := RX0) (T := TX0) (N := 12) hx hb hts in_X0 hown hKv hN (0) sPic_0 rfl 3 (by decide) q131 (fun z h => h) (rfl) dX0_risesBy_25 ?_
          refine lv_iload_n hx hb dX0_risesBy_28 rfl (lv_at hl 1 rfl) ?_
          refine n_callF (As := [_]) (C := RJ2) (b := 2) SS hKo hK hKv (tJ2_get l G K hKo hK0 ad _ 2 3 mc_ np 10 (sPl ad np) hL hA (by decide) j hj (by omega)) (va_cwF 1 hts (lw_F q189 q192 q194 q60 q196) rfl rfl rfl (hKf (RJ2, ⟨"java/util/List", "get", "(I)Ljava/lang/Object;"⟩, ⟨"java/util/ArrayList", "get", "(I)Ljava/lang/Object;"⟩) (List.mem_of_getElem? (i := 1) rfl)) (by decide +kernel) ⟨Nat.le_of_ble_eq_true rfl, Nat.le_of_ble_eq_true rfl⟩) hN hS hL rfl rfl hl.1 rfl (Nat.le_of_ble_eq_true rfl) dX0_risesBy_29 ⟨Nat.le_of_ble_eq_true rfl, Nat.le_of_ble_eq_true rfl⟩ (fun v ad' c' H locs hv hN hS => ?_)
          obtain ⟨rfl, rfl, rfl⟩ := hv
          refine W.eq (g2 := F0 m 34 ls (_ :: _)) rfl ?_
          refine n_topv (y := .ref (ad (20 + j))) (sPl_at hj) ?_
          refine n_castP hx hb hts hown q207 (hK0 s hK) hN (hP.per hj) dX0_risesBy_34 ?_
          refine lv_aload_n hx hb dX0_risesBy_37 rfl (lv_at hl 0 rfl) ?_
          refine n_get (ci := 0) (C := RX0) (T := TX0) (N := 12) hx hb hts in_X0 hown hKv hN (0) sPic_0 rfl 2 (by decide) q130 (fun z h => h) (rfl) dX0_risesBy_38 ?_
          refine lv_iload hx hb dX0_risesBy_41 (lv_at hl 4 rfl) ?_
          refine n_iald hx hb hKv hN (1) 0 sPic_1 rfl (d) (rfl) (by omega) (by decide) dX0_risesBy_43 ?_
          obtain ⟨k, hk3, hkd, hX⟩ := hP.2.2 j hj
          rcases (show k = 0 ∨ k = 1 ∨ k = 2 by omega) with z | z | z
          · subst z
            have hE : (sPic G x ad si sa rn) (20 + j) = some (.inr (2, [.int (nI j), .int (dr j), .int (kn j), .ref (ad 0)])) := (sPic_x ⟨by omega, by omega, by omega, by omega⟩).trans hX
            refine n_callV (C := RX5) (As := [_]) (b := 20 + j) SS hKo hK hKv (tX5_rises l G K hKo hK0 ad _ (ad (20 + j)) _) (cwV 1 hts (lw_V q234 q235 q236 q77 q253) rfl rfl rfl (by decide +kernel) ⟨Nat.le_of_ble_eq_true rfl, Nat.le_of_ble_eq_true rfl⟩) hN hS hE rfl rfl hl.1 rfl (Nat.le_of_ble_eq_true rfl) dX0_risesBy_44 ⟨Nat.le_of_ble_eq_true rfl, Nat.le_of_ble_eq_true rfl⟩ (fun v ad' c' H locs hv hN hS => ?_)
            obtain ⟨rfl, rfl, rfl⟩ := hv
            refine W.eq (g2 := F0 m 47 ls (_ :: _)) rfl ?_
            refine lv_goto (tgt := 51) hx hb dX0_risesBy_47 (by decide) ?_
            refine lv_iadd hx hb dX0_risesBy_51 ?_
            refine n_top (y := sFl (sa 1) kd j set (d + 1)) (by rw [sFl, if_pos hB]; unfold sStor; rw [hkd]; rfl) ?_
            refine lv_istore_n (lv' := [(3, _), (0, _), (1, _), (2, _), (4, _)]) hx hb dX0_risesBy_52 rfl hl (by decide) rfl (fun ls hl => ?_)
            refine lv_iinc (v := nI (d + 1)) (lv' := [(4, _), (3, _), (0, _), (1, _), (2, _)]) hx hb dX0_risesBy_53 hl (k := 4) rfl (nI_inc d) (by decide) rfl (fun ls hl => ?_)
            refine lv_goto (tgt := 5) hx hb dX0_risesBy_56 (by decide) ?_
            exact ih5 (d + 1) _ _ _ (by omega) (by omega) hN hS (lv_sub hl [2, 3, 4, 1, 0] (rfl))
          · subst z
            have hE : (sPic G x ad si sa rn) (20 + j) = some (.inr (3, [.int (nI j), .int (dr j), .int (kn j), .ref (ad 0), .ref (ad 0)])) := (sPic_x ⟨by omega, by omega, by omega, by omega⟩).trans hX
            refine n_callU (C := RX6) (As := [_]) (b := 20 + j) SS hKo hK hKv (tX6_rises l G K hKo hK0 ad _ (20 + j) _ _ _ hE _) (va_cwO 1 hts (lw_O q234 q237 q235 q249 q250 q78 q251) rfl rfl rfl q253 (by decide +kernel) ⟨Nat.le_of_ble_eq_true rfl, Nat.le_of_ble_eq_true rfl⟩) hN hS hE rfl rfl hl.1 rfl (Nat.le_of_ble_eq_true rfl) dX0_risesBy_44 ⟨Nat.le_of_ble_eq_true rfl, Nat.le_of_ble_eq_true rfl⟩ (fun v ad' c' H locs hv hN hS => ?_)
            obtain ⟨rfl, rfl, rfl⟩ := hv
            refine W.eq (g2 := F0 m 47 ls (_ :: _)) rfl ?_
            refine lv_goto (tgt := 51) hx hb dX0_risesBy_47 (by decide) ?_
            refine lv_iadd hx hb dX0_risesBy_51 ?_
            refine n_top (y := sFl (sa 1) kd j set (d + 1)) (by rw [sFl, if_pos hB]; unfold sStor; rw [hkd]; rfl) ?_
            refine lv_istore_n (lv' := [(3, _), (0, _), (1, _), (2, _), (4, _)]) hx hb dX0_risesBy_52 rfl hl (by decide) rfl (fun ls hl => ?_)
            refine lv_iinc (v := nI (d + 1)) (lv' := [(4, _), (3, _), (0, _), (1, _), (2, _)]) hx hb dX0_risesBy_53 hl (k := 4) rfl (nI_inc d) (by decide) rfl (fun ls hl => ?_)
            refine lv_goto (tgt := 5) hx hb dX0_risesBy_56 (by decide) ?_
            exact ih5 (d + 1) _ _ _ (by omega) (by omega) hN hS (lv_sub hl [2, 3, 4, 1, 0] (rfl))
          · subst z
            have hE : (sPic G x ad si sa rn) (20 + j) = some (.inr (4, [.int (nI j), .int (dr j), .int (kn j), .ref (ad 0), .ref (ad 0), .ref (ad 0)])) := (sPic_x ⟨by omega, by omega, by omega, by omega⟩).trans hX
            refine n_callU (C := RX7) (As := [_]) (b := 20 + j) SS hKo hK hKv (tX7_rises l G K hKo hK0 ad _ (20 + j) _ _ _ hE _) (va_cwO 1 hts (lw_O q234 q237 q235 q238 q239 q79 q240) rfl rfl rfl q253 (by decide +kernel) ⟨Nat.le_of_ble_eq_true rfl, Nat.le_of_ble_eq_true rfl⟩) hN hS hE rfl rfl hl.1 rfl (Nat.le_of_ble_eq_true rfl) dX0_risesBy_44 ⟨Nat.le_of_ble_eq_true rfl, Nat.le_of_ble_eq_true rfl⟩ (fun v ad' c' H locs hv hN hS => ?_)
            obtain ⟨rfl, rfl, rfl⟩ := hv
            refine W.eq (g2 := F0 m 47 ls (_ :: _)) rfl ?_
            refine lv_goto (tgt := 51) hx hb dX0_risesBy_47 (by decide) ?_
            refine lv_iadd hx hb dX0_risesBy_51 ?_
            refine n_top (y := sFl (sa 1) kd j set (d + 1)) (by rw [sFl, if_pos hB]; unfold sStor; rw [hkd]; rfl) ?_
            refine lv_istore_n (lv' := [(3, _), (0, _), (1, _), (2, _), (4, _)]) hx hb dX0_risesBy_52 rfl hl (by decide) rfl (fun ls hl => ?_)
            refine lv_iinc (v := nI (d + 1)) (lv' := [(4, _), (3, _), (0, _), (1, _), (2, _)]) hx hb dX0_risesBy_53 hl (k := 4) rfl (nI_inc d) (by decide) rfl (fun ls hl => ?_)
            refine lv_goto (tgt := 5) hx hb dX0_risesBy_56 (by decide) ?_
            exact ih5 (d + 1) _ _ _ (by omega) (by omega) hN hS (lv_sub hl [2, 3, 4, 1, 0] (rfl))
  exact loop5 (nd + 1) 0 _ _ _ (by omega) (by omega) hN hS (lv_sub hl [2, 3, 4, 1, 0] rfl)
set_option maxHeartbeats 1000000 in
set_option maxRecDepth 100000 in
theorem sX0_floorOf (l : Launch) (G : nG) (K : State → Prop) (hKo : nKo G K) (hK0 : ∀ U, K U → sK0 G U) (ad : Nat → Nat) (x : nPic) (si : AI) (sa : Nat → AI) (rn : Value) (np : Nat) (kd dr kn : AI) (hP : sPeo G ad x np kd dr kn) (j : Nat) (hj : j < np) (nd : Nat) (hnd : si 1 = nI nd) (hnd6 : nd ≤ 6) : Met l yX0_floorOf (ws_ yX0_floorOf cX0_floorOf 2 (some .int)) (sR 5 0 0) (nPc G nCl K ad (sPic G x ad si sa rn) [.ref (ad 0), .int (nI j)]) (nQ G nCl (fun rv ad' c' => rv = some (.int (sFl (sa 1) kd j (sa 4 j) nd)) ∧ ad = ad' ∧ sPic G x ad si sa rn = c')) 0 0 (fun q => G.2 ≤ q) := by
  refine nMet RX0 (by decide) rfl (Nat.le_of_ble_eq_true rfl) ?_
  intro p e s m below meth c ls SS hR hK hN hS hl
  obtain ⟨hx, hb, hml, hown, hts⟩ := id SS
  obtain ⟨hr, hlk, hnm⟩ := hR
  obtain ⟨hKv, hKw, hKf, hKz, hKm⟩ := hK0 s hK
  generalize s.heap = H at hN hS ⊢
  generalize ([] : List Loc) = locs at hS ⊢
  have hl : lv_has ls 2 [(0, .ref (ad 0)), (1, .int (nI j))] := hl
  have hnp4 := hP.1
  refine lv_aload_n hx hb dX0_floorOf_0 rfl (lv_at hl 0 rfl) ?_
  refine lv_iload_n hx hb dX0_floorOf_1 rfl (lv_at hl 1 rfl) ?_
  refine lv_aload_n hx hb dX0_floorOf_2 rfl (lv_at hl 0 rfl) ?_
  refine n_get (ci := 0) (C := RX0) (T := TX0) (N := 12) hx hb hts in_X0 hown hKv hN (0) sPic_0 rfl 4 (by decide) q132 (fun z h => h) (rfl) dX0_floorOf_3 ?_
  refine lv_iload_n hx hb dX0_floorOf_6 rfl (lv_at hl 1 rfl) ?_
  refine n_iald hx hb hKv hN (4) 0 sPic_4 rfl (j) (rfl) (by omega) (by decide) dX0_floorOf_7 ?_
  refine n_callV (C := RX0) (As := [_, _]) (b := 0) SS hKo hK hKv (sX0_risesBy l G K hKo hK0 ad x si sa rn np kd dr kn hP j hj nd hnd hnd6 (sa 4 j)) (cwV 2 hts (lw_V q227 q229 qs3 q57 q230) rfl rfl rfl (by decide +kernel) ⟨Nat.le_of_ble_eq_true rfl, Nat.le_of_ble_eq_true rfl⟩) hN hS sPic_0 rfl rfl hl.1 rfl (Nat.le_of_ble_eq_true rfl) dX0_floorOf_8 ⟨Nat.le_of_ble_eq_true rfl, Nat.le_of_ble_eq_true rfl⟩ (fun v ad' c' H locs hv hN hS => ?_)
  obtain ⟨rfl, rfl, rfl⟩ := hv
  refine W.eq (g2 := F0 m 11 ls (_ :: _)) rfl ?_
  exact W.iret hx hb hr (nEnd hN hS ⟨rfl, rfl, rfl⟩) hS.2 dX0_floorOf_11
set_option maxHeartbeats 1000000 in
set_option maxRecDepth 100000 in
theorem sX0_isSeen (l : Launch) (G : nG) (K : State → Prop) (hKo : nKo G K) (hK0 : ∀ U, K U → sK0 G U) (ad : Nat → Nat) (x : nPic) (si : AI) (sa : Nat → AI) (rn : Value) (np : Nat) (kd dr kn : AI) (hP : sPeo G ad x np kd dr kn) (j : Nat) (hj : j < np) (nd : Nat) (hnd : si 1 = nI nd) (hnd6 : nd ≤ 6) : Met l yX0_isSeen (ws_ yX0_isSeen cX0_isSeen 3 (some .boolean)) (sR 6 0 0) (nPc G nCl K ad (sPic G x ad si sa rn) [.ref (ad 0), .int (nI j)]) (nQ G nCl (fun rv ad' c' => rv = some (.int (zI (sSeen (sa 1) kd kn (sa 4) nd j np))) ∧ ad = ad' ∧ sPic G x ad si sa rn = c')) 0 0 (fun q => G.2 ≤ q) := by
  refine nMet RX0 (by decide) rfl (Nat.le_of_ble_eq_true rfl) ?_
  intro p e s m below meth c ls SS hR hK hN hS hl
  obtain ⟨hx, hb, hml, hown, hts⟩ := id SS
  obtain ⟨hr, hlk, hnm⟩ := hR
  obtain ⟨hKv, hKw, hKf, hKz, hKm⟩ := hK0 s hK
  generalize s.heap = H at hN hS ⊢
  generalize ([] : List Loc) = locs at hS ⊢
  have hl : lv_has ls 3 [(0, .ref (ad 0)), (1, .int (nI j))] := hl
  obtain ⟨mc_, hL, hA⟩ := hP.own hj
  have hL : (sPic G x ad si sa rn) 2 = _ := hL
  have hA : (sPic G x ad si sa rn) 3 = _ := hA
  have hnp4 := hP.1
  refine lv_iconst (v := nI 0) hx hb dX0_isSeen_0 (rfl) ?_
  refine lv_istore_n (lv' := [(2, _), (0, _), (1, _)]) hx hb dX0_isSeen_1 rfl hl (by decide) rfl (fun ls hl => ?_)
  have loop2 : ∀ (n : Nat) (i : Nat) (H : Heap) (locs : List Loc) (ls : Array Slot), np + 1 ≤ n + i → i ≤ np → sSeen (sa 1) kd kn (sa 4) nd j i = false → nOk G nCl ad (sPic G x ad si sa rn) H → nS G s H locs → lv_has ls 3 [(0, .ref (ad 0)), (1, .int (nI j)), (2, .int (nI i))] → W p l e (sR 6 0 0) s m ([.ref (ad 0), .int (nI j)] : List Value).toArray below meth c H locs 0 0 (MQ below (nQ G nCl (fun rv ad' c' => rv = some (.int (zI (sSeen (sa 1) kd kn (sa 4) nd j np))) ∧ ad = ad' ∧ sPic G x ad si sa rn = c')) ([.ref (ad 0), .int (nI j)] : List Value).toArray s 0 0 (fun q => G.2 ≤ q)) (F0 m 2 ls []) := by
    intro n
    induction n with
    | zero => intro i H locs ls hfuel hi_ hs hN hS hl; exact absurd hfuel (by omega)
    | succ n ih2 =>
      intro i H locs ls hfuel hi_ hs hN hS hl
      refine lv_iload_n hx hb dX0_isSeen_2 rfl (lv_at hl 2 rfl) ?_
      refine lv_aload_n hx hb dX0_isSeen_3 rfl (lv_at hl 0 rfl) ?_
      refine n_get (ci := 0) (C := RX0) (T := TX0) (N := 12) hx hb hts in_X0 hown hKv hN (0) sPic_0 rfl 3 (by decide) q131 (fun z h => h) (rfl) dX0_isSeen_4 ?_
      refine n_callF (As := []) (C := RJ2) (b := 2) SS hKo hK hKv (tJ2_size l G K hKo hK0 ad _ 2 mc_ _ np hL) (va_cwF 0 hts (lw_F q176 q180 q182 q60 q184) rfl rfl rfl (hKf (RJ2, ⟨"java/util/List", "size", "()I"⟩, ⟨"java/util/ArrayList", "size", "()I"⟩) (List.mem_of_getElem? (i := 0) rfl)) (by decide +kernel) ⟨Nat.le_of_ble_eq_true rfl, Nat.le_of_ble_eq_true rfl⟩) hN hS hL rfl rfl hl.1 rfl (Nat.le_of_ble_eq_true rfl) dX0_isSeen_7 ⟨Nat.le_of_ble_eq_true rfl, Nat.le_of_ble_eq_true rfl⟩ (fun v ad' c' H locs hv hN hS => ?_)
      obtain ⟨rfl, rfl, rfl⟩ := hv
      refine W.eq (g2 := F0 m 12 ls (_ :: _)) rfl ?_
      refine lv_icmp_ge (tgt := 61) hx hb dX0_isSeen_12 (by decide) (fun c12 => ?_) (fun c12 => ?_)
      · have c12 : np ≤ i := (nI_leI (by omega) (by omega)).mp c12
        have ei : i = np := by omega
        refine lv_iconst (v := 0) hx hb dX0_isSeen_61 (by decide) ?_
        exact W.zret hx hb hr (rfl) (nEnd hN hS ⟨by rw [← ei, hs]; rfl, rfl, rfl⟩) hS.2 dX0_isSeen_62
      · have hi : i < np := by have := mt (nI_leI (a := np) (b := i) (by omega) (by omega)).mpr c12; omega
        refine lv_iload_n hx hb dX0_isSeen_15 rfl (lv_at hl 2 rfl) ?_
        refine lv_iload_n hx hb dX0_isSeen_16 rfl (lv_at hl 1 rfl) ?_
        refine lv_icmp_eq (tgt := 55) hx hb dX0_isSeen_17 (by decide) (fun c17 => ?_) (fun c17 => ?_)
        · have c17 : i = j := (nI_eq (by omega) (by omega)).mp c17
          have hS1 : sSeen (sa 1) kd kn (sa 4) nd j (i + 1) = false := by rw [sSeen, hs, c17]; simp
          refine lv_iinc (v := nI (i + 1)) (lv' := [(2, _), (0, _), (1, _)]) hx hb dX0_isSeen_55 hl (k := 2) rfl (nI_inc i) (by decide) rfl (fun ls hl => ?_)
          refine lv_goto (tgt := 2) hx hb dX0_isSeen_58 (by decide) ?_
          exact ih2 (i + 1) _ _ _ (by omega) (by omega) hS1 hN hS (lv_sub hl [1, 2, 0] (rfl))
        · have c17 : ¬ i = j := mt (nI_eq (by omega) (by omega)).mpr c17
          refine lv_aload_n hx hb dX0_isSeen_20 rfl (lv_at hl 0 rfl) ?_
          refine n_get (ci := 0) (C := RX0) (T := TX0) (N := 12) hx hb hts in_X0 hown hKv hN (0) sPic_0 rfl 3 (by decide) q131 (fun z h => h) (rfl) dX0_isSeen_21 ?_
          refine lv_iload_n hx hb dX0_isSeen_24 rfl (lv_at hl 2 rfl) ?_
          refine n_callF (As := [_]) (C := RJ2) (b := 2) SS hKo hK hKv (tJ2_get l G K hKo hK0 ad _ 2 3 mc_ np 10 (sPl ad np) hL hA (by decide) i hi (by omega)) (va_cwF 1 hts (lw_F q189 q192 q194 q60 q196) rfl rfl rfl (hKf (RJ2, ⟨"java/util/List", "get", "(I)Ljava/lang/Object;"⟩, ⟨"java/util/ArrayList", "get", "(I)Ljava/lang/Object;"⟩) (List.mem_of_getElem? (i := 1) rfl)) (by decide +kernel) ⟨Nat.le_of_ble_eq_true rfl, Nat.le_of_ble_eq_true rfl⟩) hN hS hL rfl rfl hl.1 rfl (Nat.le_of_ble_eq_true rfl) dX0_isSeen_25 ⟨Nat.le_of_ble_eq_true rfl, Nat.le_of_ble_eq_true rfl⟩ (fun v ad' c' H locs hv hN hS => ?_)
          obtain ⟨rfl, rfl, rfl⟩ := hv
          refine W.eq (g2 := F0 m 30 ls (_ :: _)) rfl ?_
          refine n_topv (y := .ref (ad (20 + i))) (sPl_at hi) ?_
          refine n_castP hx hb hts hown q207 (hK0 s hK) hN (hP.per hi) dX0_isSeen_30 ?_
          refine n_getP hx hb hts hown (hK0 s hK) hN 2 (by decide) q792 (hP.per hi) rfl dX0_isSeen_33 ?_
          refine lv_iload_n hx hb dX0_isSeen_36 rfl (lv_at hl 1 rfl) ?_
          refine lv_icmp_ne (tgt := 55) hx hb dX0_isSeen_37 (by decide) (fun c37 => ?_) (fun c37 => ?_)
          · have hS1 : sSeen (sa 1) kd kn (sa 4) nd j (i + 1) = false := by rw [sSeen, hs]; simp [c37]
            refine lv_iinc (v := nI (i + 1)) (lv' := [(2, _), (0, _), (1, _)]) hx hb dX0_isSeen_55 hl (k := 2) rfl (nI_inc i) (by decide) rfl (fun ls hl => ?_)
            refine lv_goto (tgt := 2) hx hb dX0_isSeen_58 (by decide) ?_
            exact ih2 (i + 1) _ _ _ (by omega) (by omega) hS1 hN hS (lv_sub hl [1, 2, 0] (rfl))
          · refine lv_aload_n hx hb dX0_isSeen_40 rfl (lv_at hl 0 rfl) ?_
            refine lv_iload_n hx hb dX0_isSeen_41 rfl (lv_at hl 2 rfl) ?_
            refine n_callV (C := RX0) (As := [_]) (b := 0) SS hKo hK hKv (sX0_floorOf l G K hKo hK0 ad x si sa rn np kd dr kn hP i hi nd hnd hnd6) (cwV 1 hts (lw_V q223 q225 qs2 q57 q226) rfl rfl rfl (by decide +kernel) ⟨Nat.le_of_ble_eq_true rfl, Nat.le_of_ble_eq_true rfl⟩) hN hS sPic_0 rfl rfl hl.1 rfl (Nat.le_of_ble_eq_true rfl) dX0_isSeen_42 ⟨Nat.le_of_ble_eq_true rfl, Nat.le_of_ble_eq_true rfl⟩ (fun v ad' c' H locs hv hN hS => ?_)
            obtain ⟨rfl, rfl, rfl⟩ := hv
            refine W.eq (g2 := F0 m 45 ls (_ :: _)) rfl ?_
            refine lv_aload_n hx hb dX0_isSeen_45 rfl (lv_at hl 0 rfl) ?_
            refine lv_iload_n hx hb dX0_isSeen_46 rfl (lv_at hl 1 rfl) ?_
            refine n_callV (C := RX0) (As := [_]) (b := 0) SS hKo hK hKv (sX0_floorOf l G K hKo hK0 ad x si sa rn np kd dr kn hP j hj nd hnd hnd6) (cwV 1 hts (lw_V q223 q225 qs2 q57 q226) rfl rfl rfl (by decide +kernel) ⟨Nat.le_of_ble_eq_true rfl, Nat.le_of_ble_eq_true rfl⟩) hN hS sPic_0 rfl rfl hl.1 rfl (Nat.le_of_ble_eq_true rfl) dX0_isSeen_47 ⟨Nat.le_of_ble_eq_true rfl, Nat.le_of_ble_eq_true rfl⟩ (fun v ad' c' H locs hv hN hS => ?_)
            obtain ⟨rfl, rfl, rfl⟩ := hv
            refine W.eq (g2 := F0 m 50 ls (_ :: _)) rfl ?_
            refine lv_icmp_ne (tgt := 55) hx hb dX0_isSeen_50 (by decide) (fun c50 => ?_) (fun c50 => ?_)
            · have hS1 : sSeen (sa 1) kd kn (sa 4) nd j (i + 1) = false := by rw [sSeen, hs]; simp [c50]
              refine lv_iinc (v := nI (i + 1)) (lv' := [(2, _), (0, _), (1, _)]) hx hb dX0_isSeen_55 hl (k := 2) rfl (nI_inc i) (by decide) rfl (fun ls hl => ?_)
              refine lv_goto (tgt := 2) hx hb dX0_isSeen_58 (by decide) ?_
              exact ih2 (i + 1) _ _ _ (by omega) (by omega) hS1 hN hS (lv_sub hl [1, 2, 0] (rfl))
            · have ht : sSeen (sa 1) kd kn (sa 4) nd j np = true := sSeen_mono (a := i + 1) (by rw [sSeen]; simp [c17, c37, c50]) np (by omega)
              refine lv_iconst (v := 1) hx hb dX0_isSeen_53 (by decide) ?_
              exact W.zret hx hb hr (rfl) (nEnd hN hS ⟨by rw [ht]; rfl, rfl, rfl⟩) hS.2 dX0_isSeen_54
  exact loop2 (np + 1) 0 _ _ _ (by omega) (by omega) rfl hN hS (lv_sub hl [1, 2, 0] rfl)
