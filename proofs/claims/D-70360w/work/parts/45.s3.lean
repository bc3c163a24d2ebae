/-! SYSTEM: printed by wip/gen/s3.py -/
theorem n_two (a b : Bool) : a = false ∨ (a = true ∧ b = false) ∨ (a = true ∧ b = true) := by cases a <;> cases b <;> simp
set_option maxHeartbeats 1000000 in
set_option maxRecDepth 100000 in
theorem sX0_storeys (l : Launch) (G : nG) (K : State → Prop) (hKo : nKo G K) (hK0 : ∀ U, K U → sK0 G U) (ad : Nat → Nat) (x : nPic) (si : AI) (sa : Nat → AI) (rn : Value) (p_ d_ : Int32) (np : Nat) (kd dr kn : AI) (hP : sPeo G ad x np kd dr kn) (nd : Nat) (hnd : si 1 = nI nd) (hnd6 : nd ≤ 6) : Met l yX0_storeys (ws_ yX0_storeys cX0_storeys 3 (some .int)) (sR 4 0 0) (nPc G nCl K ad (sPic G x ad si sa rn) [.ref (ad 0), .int p_, .int d_]) (nQ G nCl (fun rv ad' c' => rv = some (.int (oSto nd np (sa 1) kd p_ d_)) ∧ ad = ad' ∧ sPic G x ad si sa rn = c')) 0 0 (fun q => G.2 ≤ q) := by
  refine nMet RX0 (by decide) rfl (Nat.le_of_ble_eq_true rfl) ?_
  intro p e s m below meth c ls SS hR hK hN hS hl
  obtain ⟨hx, hb, hml, hown, hts⟩ := id SS
  obtain ⟨hr, hlk, hnm⟩ := hR
  obtain ⟨hKv, hKw, hKf, hKz, hKm⟩ := hK0 s hK
  generalize s.heap = H at hN hS ⊢
  generalize ([] : List Loc) = locs at hS ⊢
  have hl : lv_has ls 3 [(0, .ref (ad 0)), (1, .int p_), (2, .int d_)] := hl
  have hnp4 := hP.1
  rcases n_two (sIn p_ np) (sIn d_ nd) with h1 | ⟨h1, h2⟩ | ⟨h1, h2⟩
  · have _u := h1
    refine lv_aload_n hx hb dX0_storeys_0 rfl (lv_at hl 0 rfl) ?_
    refine lv_iload_n hx hb dX0_storeys_1 rfl (lv_at hl 1 rfl) ?_
    refine n_callV (C := RX0) (As := [_]) (b := 0) SS hKo hK hKv (sX0_noPerson l G K hKo hK0 ad x si sa rn _ np kd dr kn hP) (cwV 1 hts (lw_V q171 q173 qs0 q57 q174) rfl rfl rfl (by decide +kernel) ⟨Nat.le_of_ble_eq_true rfl, Nat.le_of_ble_eq_true rfl⟩) hN hS sPic_0 rfl rfl hl.1 rfl (Nat.le_of_ble_eq_true rfl) dX0_storeys_2 ⟨Nat.le_of_ble_eq_true rfl, Nat.le_of_ble_eq_true rfl⟩ (fun v ad' c' H locs hv hN hS => ?_)
    obtain ⟨rfl, rfl, rfl⟩ := hv
    refine W.eq (g2 := F0 m 5 ls (_ :: _)) rfl ?_
    refine n_top (y := 1) (by rw [h1]; rfl) ?_
    refine lv_if_ne (tgt := 16) hx hb dX0_storeys_5 (by decide) (fun c5 => ?_) (fun c5 => absurd c5 (by decide))
    refine lv_iconst (v := (-1)) hx hb dX0_storeys_16 (by decide) ?_
    refine lv_goto (tgt := 42) hx hb dX0_storeys_17 (by decide) ?_
    exact W.iret hx hb hr (nEnd hN hS ⟨by unfold oSto; rw [if_neg (by rw [h1]; simp)], rfl, rfl⟩) hS.2 dX0_storeys_42
  · obtain ⟨j, hj, rfl, tj⟩ := sIn_t (by omega) h1
    refine lv_aload_n hx hb dX0_storeys_0 rfl (lv_at hl 0 rfl) ?_
    refine lv_iload_n hx hb dX0_storeys_1 rfl (lv_at hl 1 rfl) ?_
    refine n_callV (C := RX0) (As := [_]) (b := 0) SS hKo hK hKv (sX0_noPerson l G K hKo hK0 ad x si sa rn _ np kd dr kn hP) (cwV 1 hts (lw_V q171 q173 qs0 q57 q174) rfl rfl rfl (by decide +kernel) ⟨Nat.le_of_ble_eq_true rfl, Nat.le_of_ble_eq_true rfl⟩) hN hS sPic_0 rfl rfl hl.1 rfl (Nat.le_of_ble_eq_true rfl) dX0_storeys_2 ⟨Nat.le_of_ble_eq_true rfl, Nat.le_of_ble_eq_true rfl⟩ (fun v ad' c' H locs hv hN hS => ?_)
    obtain ⟨rfl, rfl, rfl⟩ := hv
    refine W.eq (g2 := F0 m 5 ls (_ :: _)) rfl ?_
    refine n_top (y := 0) (by rw [h1]; rfl) ?_
    refine lv_if_ne (tgt := 16) hx hb dX0_storeys_5 (by decide) (fun c5 => absurd c5 (fun z => z rfl)) (fun c5 => ?_)
    refine lv_aload_n hx hb dX0_storeys_8 rfl (lv_at hl 0 rfl) ?_
    refine lv_iload_n hx hb dX0_storeys_9 rfl (lv_at hl 2 rfl) ?_
    refine n_callV (C := RX0) (As := [_]) (b := 0) SS hKo hK hKv (sX0_noDeed l G K hKo hK0 ad x si sa rn _ nd hnd hnd6) (cwV 1 hts (lw_V q258 q260 qs4 q57 q261) rfl rfl rfl (by decide +kernel) ⟨Nat.le_of_ble_eq_true rfl, Nat.le_of_ble_eq_true rfl⟩) hN hS sPic_0 rfl rfl hl.1 rfl (Nat.le_of_ble_eq_true rfl) dX0_storeys_10 ⟨Nat.le_of_ble_eq_true rfl, Nat.le_of_ble_eq_true rfl⟩ (fun v ad' c' H locs hv hN hS => ?_)
    obtain ⟨rfl, rfl, rfl⟩ := hv
    refine W.eq (g2 := F0 m 13 ls (_ :: _)) rfl ?_
    refine n_top (y := 1) (by rw [h2]; rfl) ?_
    refine lv_if_eq (tgt := 20) hx hb dX0_storeys_13 (by decide) (fun c13 => absurd c13 (by decide)) (fun c13 => ?_)
    refine lv_iconst (v := (-1)) hx hb dX0_storeys_16 (by decide) ?_
    refine lv_goto (tgt := 42) hx hb dX0_storeys_17 (by decide) ?_
    exact W.iret hx hb hr (nEnd hN hS ⟨by unfold oSto; rw [if_neg (by rw [h2]; simp)], rfl, rfl⟩) hS.2 dX0_storeys_42
  · obtain ⟨j, hj, rfl, tj⟩ := sIn_t (by omega) h1
    obtain ⟨i, hi, rfl, ti⟩ := sIn_t (by omega) h2
    refine lv_aload_n hx hb dX0_storeys_0 rfl (lv_at hl 0 rfl) ?_
    refine lv_iload_n hx hb dX0_storeys_1 rfl (lv_at hl 1 rfl) ?_
    refine n_callV (C := RX0) (As := [_]) (b := 0) SS hKo hK hKv (sX0_noPerson l G K hKo hK0 ad x si sa rn _ np kd dr kn hP) (cwV 1 hts (lw_V q171 q173 qs0 q57 q174) rfl rfl rfl (by decide +kernel) ⟨Nat.le_of_ble_eq_true rfl, Nat.le_of_ble_eq_true rfl⟩) hN hS sPic_0 rfl rfl hl.1 rfl (Nat.le_of_ble_eq_true rfl) dX0_storeys_2 ⟨Nat.le_of_ble_eq_true rfl, Nat.le_of_ble_eq_true rfl⟩ (fun v ad' c' H locs hv hN hS => ?_)
    obtain ⟨rfl, rfl, rfl⟩ := hv
    refine W.eq (g2 := F0 m 5 ls (_ :: _)) rfl ?_
    refine n_top (y := 0) (by rw [h1]; rfl) ?_
    refine lv_if_ne (tgt := 16) hx hb dX0_storeys_5 (by decide) (fun c5 => absurd c5 (fun z => z rfl)) (fun c5 => ?_)
    refine lv_aload_n hx hb dX0_storeys_8 rfl (lv_at hl 0 rfl) ?_
    refine lv_iload_n hx hb dX0_storeys_9 rfl (lv_at hl 2 rfl) ?_
    refine n_callV (C := RX0) (As := [_]) (b := 0) SS hKo hK hKv (sX0_noDeed l G K hKo hK0 ad x si sa rn _ nd hnd hnd6) (cwV 1 hts (lw_V q258 q260 qs4 q57 q261) rfl rfl rfl (by decide +kernel) ⟨Nat.le_of_ble_eq_true rfl, Nat.le_of_ble_eq_true rfl⟩) hN hS sPic_0 rfl rfl hl.1 rfl (Nat.le_of_ble_eq_true rfl) dX0_storeys_10 ⟨Nat.le_of_ble_eq_true rfl, Nat.le_of_ble_eq_true rfl⟩ (fun v ad' c' H locs hv hN hS => ?_)
    obtain ⟨rfl, rfl, rfl⟩ := hv
    refine W.eq (g2 := F0 m 13 ls (_ :: _)) rfl ?_
    refine n_top (y := 0) (by rw [h2]; rfl) ?_
    refine lv_if_eq (tgt := 20) hx hb dX0_storeys_13 (by decide) (fun c13 => ?_) (fun c13 => absurd c13 (fun z => z rfl))
    obtain ⟨mc_, hL, hA⟩ := hP.own hj
    have hL : (sPic G x ad si sa rn) 2 = _ := hL
    have hA : (sPic G x ad si sa rn) 3 = _ := hA
    refine lv_aload_n hx hb dX0_storeys_20 rfl (lv_at hl 0 rfl) ?_
    refine n_get (ci := 0) (C := RX0) (T := TX0) (N := 12) hx hb hts in_X0 hown hKv hN (0) sPic_0 rfl 3 (by decide) q131 (fun z h => h) (rfl) dX0_storeys_21 ?_
    refine lv_iload_n hx hb dX0_storeys_24 rfl (lv_at hl 1 rfl) ?_
    refine n_callF (As := [_]) (C := RJ2) (b := 2) SS hKo hK hKv (tJ2_get l G K hKo hK0 ad _ 2 3 mc_ np 10 (sPl ad np) hL hA (by decide) j hj (by omega)) (va_cwF 1 hts (lw_F q189 q192 q194 q60 q196) rfl rfl rfl (hKf (RJ2, ⟨"java/util/List", "get", "(I)Ljava/lang/Object;"⟩, ⟨"java/util/ArrayList", "get", "(I)Ljava/lang/Object;"⟩) (List.mem_of_getElem? (i := 1) rfl)) (by decide +kernel) ⟨Nat.le_of_ble_eq_true rfl, Nat.le_of_ble_eq_true rfl⟩) hN hS hL rfl rfl hl.1 rfl (Nat.le_of_ble_eq_true rfl) dX0_storeys_25 ⟨Nat.le_of_ble_eq_true rfl, Nat.le_of_ble_eq_true rfl⟩ (fun v ad' c' H locs hv hN hS => ?_)
    obtain ⟨rfl, rfl, rfl⟩ := hv
    refine W.eq (g2 := F0 m 30 ls (_ :: _)) rfl ?_
    refine n_topv (y := .ref (ad (20 + j))) (sPl_at hj) ?_
    refine n_castP hx hb hts hown q207 (hK0 s hK) hN (hP.per hj) dX0_storeys_30 ?_
    refine lv_aload_n hx hb dX0_storeys_33 rfl (lv_at hl 0 rfl) ?_
    refine n_get (ci := 0) (C := RX0) (T := TX0) (N := 12) hx hb hts in_X0 hown hKv hN (0) sPic_0 rfl 2 (by decide) q130 (fun z h => h) (rfl) dX0_storeys_34 ?_
    refine lv_iload_n hx hb dX0_storeys_37 rfl (lv_at hl 2 rfl) ?_
    refine n_iald hx hb hKv hN (1) 0 sPic_1 rfl (i) (rfl) (by omega) (by decide) dX0_storeys_38 ?_
    obtain ⟨k, hk3, hkd, hX⟩ := hP.2.2 j hj
    rcases (show k = 0 ∨ k = 1 ∨ k = 2 by omega) with z | z | z
    · subst z
      have hE : (sPic G x ad si sa rn) (20 + j) = some (.inr (2, [.int (nI j), .int (dr j), .int (kn j), .ref (ad 0)])) := (sPic_x ⟨by omega, by omega, by omega, by omega⟩).trans hX
      refine n_callV (C := RX5) (As := [_]) (b := 20 + j) SS hKo hK hKv (tX5_rises l G K hKo hK0 ad _ (ad (20 + j)) _) (cwV 1 hts (lw_V q234 q235 q236 q77 q253) rfl rfl rfl (by decide +kernel) ⟨Nat.le_of_ble_eq_true rfl, Nat.le_of_ble_eq_true rfl⟩) hN hS hE rfl rfl hl.1 rfl (Nat.le_of_ble_eq_true rfl) dX0_storeys_39 ⟨Nat.le_of_ble_eq_true rfl, Nat.le_of_ble_eq_true rfl⟩ (fun v ad' c' H locs hv hN hS => ?_)
      obtain ⟨rfl, rfl, rfl⟩ := hv
      refine W.eq (g2 := F0 m 42 ls (_ :: _)) rfl ?_
      exact W.iret hx hb hr (nEnd hN hS ⟨by unfold oSto; rw [if_pos ⟨h1, h2⟩, tn, tn, tj, ti]; unfold sStor; rw [hkd]; rfl, rfl, rfl⟩) hS.2 dX0_storeys_42
    · subst z
      have hE : (sPic G x ad si sa rn) (20 + j) = some (.inr (3, [.int (nI j), .int (dr j), .int (kn j), .ref (ad 0), .ref (ad 0)])) := (sPic_x ⟨by omega, by omega, by omega, by omega⟩).trans hX
      refine n_callU (C := RX6) (As := [_]) (b := 20 + j) SS hKo hK hKv (tX6_rises l G K hKo hK0 ad _ (20 + j) _ _ _ hE _) (va_cwO 1 hts (lw_O q234 q237 q235 q249 q250 q78 q251) rfl rfl rfl q253 (by decide +kernel) ⟨Nat.le_of_ble_eq_true rfl, Nat.le_of_ble_eq_true rfl⟩) hN hS hE rfl rfl hl.1 rfl (Nat.le_of_ble_eq_true rfl) dX0_storeys_39 ⟨Nat.le_of_ble_eq_true rfl, Nat.le_of_ble_eq_true rfl⟩ (fun v ad' c' H locs hv hN hS => ?_)
      obtain ⟨rfl, rfl, rfl⟩ := hv
      refine W.eq (g2 := F0 m 42 ls (_ :: _)) rfl ?_
      exact W.iret hx hb hr (nEnd hN hS ⟨by unfold oSto; rw [if_pos ⟨h1, h2⟩, tn, tn, tj, ti]; unfold sStor; rw [hkd]; rfl, rfl, rfl⟩) hS.2 dX0_storeys_42
    · subst z
      have hE : (sPic G x ad si sa rn) (20 + j) = some (.inr (4, [.int (nI j), .int (dr j), .int (kn j), .ref (ad 0), .ref (ad 0), .ref (ad 0)])) := (sPic_x ⟨by omega, by omega, by omega, by omega⟩).trans hX
      refine n_callU (C := RX7) (As := [_]) (b := 20 + j) SS hKo hK hKv (tX7_rises l G K hKo hK0 ad _ (20 + j) _ _ _ hE _) (va_cwO 1 hts (lw_O q234 q237 q235 q238 q239 q79 q240) rfl rfl rfl q253 (by decide +kernel) ⟨Nat.le_of_ble_eq_true rfl, Nat.le_of_ble_eq_true rfl⟩) hN hS hE rfl rfl hl.1 rfl (Nat.le_of_ble_eq_true rfl) dX0_storeys_39 ⟨Nat.le_of_ble_eq_true rfl, Nat.le_of_ble_eq_true rfl⟩ (fun v ad' c' H locs hv hN hS => ?_)
      obtain ⟨rfl, rfl, rfl⟩ := hv
      refine W.eq (g2 := F0 m 42 ls (_ :: _)) rfl ?_
      exact W.iret hx hb hr (nEnd hN hS ⟨by unfold oSto; rw [if_pos ⟨h1, h2⟩, tn, tn, tj, ti]; unfold sStor; rw [hkd]; rfl, rfl, rfl⟩) hS.2 dX0_storeys_42
set_option maxHeartbeats 1000000 in
set_option maxRecDepth 100000 in
theorem sX0_ofPerson (l : Launch) (G : nG) (K : State → Prop) (hKo : nKo G K) (hK0 : ∀ U, K U → sK0 G U) (ad : Nat → Nat) (x : nPic) (si : AI) (sa : Nat → AI) (rn : Value) (p_ a_ : Int32) (np : Nat) (kd dr kn : AI) (hP : sPeo G ad x np kd dr kn) (nd : Nat) (hnd : si 1 = nI nd) (hnd6 : nd ≤ 6) : Met l yX0_ofPerson (ws_ yX0_ofPerson cX0_ofPerson 3 (some .int)) (sR 6 0 0) (nPc G nCl K ad (sPic G x ad si sa rn) [.ref (ad 0), .int p_, .int a_]) (nQ G nCl (fun rv ad' c' => rv = some (.int (oOfP nd np (sa 1) kd (fun q => dr q &&& sMsk nd) kn (sa 4) p_ a_)) ∧ ad = ad' ∧ sPic G x ad si sa rn = c')) 0 0 (fun q => G.2 ≤ q) := by
  refine nMet RX0 (by decide) rfl (Nat.le_of_ble_eq_true rfl) ?_
  intro p e s m below meth c ls SS hR hK hN hS hl
  obtain ⟨hx, hb, hml, hown, hts⟩ := id SS
  obtain ⟨hr, hlk, hnm⟩ := hR
  obtain ⟨hKv, hKw, hKf, hKz, hKm⟩ := hK0 s hK
  generalize s.heap = H at hN hS ⊢
  generalize ([] : List Loc) = locs at hS ⊢
  have hl : lv_has ls 3 [(0, .ref (ad 0)), (1, .int p_), (2, .int a_)] := hl
  have hnp4 := hP.1
  by_cases h1 : sIn p_ np = true
  · obtain ⟨j, hj, rfl, tj⟩ := sIn_t (by omega) h1
    refine lv_aload_n hx hb dX0_ofPerson_0 rfl (lv_at hl 0 rfl) ?_
    refine lv_iload_n hx hb dX0_ofPerson_1 rfl (lv_at hl 1 rfl) ?_
    refine n_callV (C := RX0) (As := [_]) (b := 0) SS hKo hK hKv (sX0_noPerson l G K hKo hK0 ad x si sa rn _ np kd dr kn hP) (cwV 1 hts (lw_V q171 q173 qs0 q57 q174) rfl rfl rfl (by decide +kernel) ⟨Nat.le_of_ble_eq_true rfl, Nat.le_of_ble_eq_true rfl⟩) hN hS sPic_0 rfl rfl hl.1 rfl (Nat.le_of_ble_eq_true rfl) dX0_ofPerson_2 ⟨Nat.le_of_ble_eq_true rfl, Nat.le_of_ble_eq_true rfl⟩ (fun v ad' c' H locs hv hN hS => ?_)
    obtain ⟨rfl, rfl, rfl⟩ := hv
    refine W.eq (g2 := F0 m 5 ls (_ :: _)) rfl ?_
    refine n_top (y := 0) (by rw [h1]; rfl) ?_
    refine lv_if_eq (tgt := 10) hx hb dX0_ofPerson_5 (by decide) (fun c5 => ?_) (fun c5 => absurd c5 (fun z => z rfl))
    refine lv_iload_n hx hb dX0_ofPerson_10 rfl (lv_at hl 2 rfl) ?_
    by_cases w0 : a_ = 0
    · refine lv_tableIn (tgt := 44) (off := 33) hx hb dX0_ofPerson_11 (by rw [w0]; decide) (by rw [w0]; decide) (by rw [w0]; rfl) (by decide) ?_
      obtain ⟨mc_, hL, hA⟩ := hP.own hj
      have hL : (sPic G x ad si sa rn) 2 = _ := hL
      have hA : (sPic G x ad si sa rn) 3 = _ := hA
      refine lv_aload_n hx hb dX0_ofPerson_44 rfl (lv_at hl 0 rfl) ?_
      refine n_get (ci := 0) (C := RX0) (T := TX0) (N := 12) hx hb hts in_X0 hown hKv hN (0) sPic_0 rfl 3 (by decide) q131 (fun z h => h) (rfl) dX0_ofPerson_45 ?_
      refine lv_iload_n hx hb dX0_ofPerson_48 rfl (lv_at hl 1 rfl) ?_
      refine n_callF (As := [_]) (C := RJ2) (b := 2) SS hKo hK hKv (tJ2_get l G K hKo hK0 ad _ 2 3 mc_ np 10 (sPl ad np) hL hA (by decide) j hj (by omega)) (va_cwF 1 hts (lw_F q189 q192 q194 q60 q196) rfl rfl rfl (hKf (RJ2, ⟨"java/util/List", "get", "(I)Ljava/lang/Object;"⟩, ⟨"java/util/ArrayList", "get", "(I)Ljava/lang/Object;"⟩) (List.mem_of_getElem? (i := 1) rfl)) (by decide +kernel) ⟨Nat.le_of_ble_eq_true rfl, Nat.le_of_ble_eq_true rfl⟩) hN hS hL rfl rfl hl.1 rfl (Nat.le_of_ble_eq_true rfl) dX0_ofPerson_49 ⟨Nat.le_of_ble_eq_true rfl, Nat.le_of_ble_eq_true rfl⟩ (fun v ad' c' H locs hv hN hS => ?_)
      obtain ⟨rfl, rfl, rfl⟩ := hv
      refine W.eq (g2 := F0 m 54 ls (_ :: _)) rfl ?_
      refine n_topv (y := .ref (ad (20 + j))) (sPl_at hj) ?_
      refine n_castP hx hb hts hown q207 (hK0 s hK) hN (hP.per hj) dX0_ofPerson_54 ?_
      obtain ⟨k, hk3, hkd, hX⟩ := hP.2.2 j hj
      rcases (show k = 0 ∨ k = 1 ∨ k = 2 by omega) with z | z | z
      · subst z
        have hE : (sPic G x ad si sa rn) (20 + j) = some (.inr (2, [.int (nI j), .int (dr j), .int (kn j), .ref (ad 0)])) := (sPic_x ⟨by omega, by omega, by omega, by omega⟩).trans hX
        refine n_callV (C := RX5) (As := []) (b := 20 + j) SS hKo hK hKv (tX5_kind l G K hKo hK0 ad _ _) (cwV 0 hts (lw_V q208 q209 q210 q77 q218) rfl rfl rfl (by decide +kernel) ⟨Nat.le_of_ble_eq_true rfl, Nat.le_of_ble_eq_true rfl⟩) hN hS hE rfl rfl hl.1 rfl (Nat.le_of_ble_eq_true rfl) dX0_ofPerson_57 ⟨Nat.le_of_ble_eq_true rfl, Nat.le_of_ble_eq_true rfl⟩ (fun v ad' c' H locs hv hN hS => ?_)
        obtain ⟨rfl, rfl, rfl⟩ := hv
        refine W.eq (g2 := F0 m 60 ls (_ :: _)) rfl ?_
        exact W.iret hx hb hr (nEnd hN hS ⟨by unfold oOfP; rw [if_pos h1, if_pos w0, tn, tj, hkd]; rfl, rfl, rfl⟩) hS.2 dX0_ofPerson_60
      · subst z
        have hE : (sPic G x ad si sa rn) (20 + j) = some (.inr (3, [.int (nI j), .int (dr j), .int (kn j), .ref (ad 0), .ref (ad 0)])) := (sPic_x ⟨by omega, by omega, by omega, by omega⟩).trans hX
        refine n_callU (C := RX6) (As := []) (b := 20 + j) SS hKo hK hKv (tX6_kind l G K hKo hK0 ad _ _) (va_cwO 0 hts (lw_O q208 q211 q209 q215 q216 q78 q217) rfl rfl rfl q218 (by decide +kernel) ⟨Nat.le_of_ble_eq_true rfl, Nat.le_of_ble_eq_true rfl⟩) hN hS hE rfl rfl hl.1 rfl (Nat.le_of_ble_eq_true rfl) dX0_ofPerson_57 ⟨Nat.le_of_ble_eq_true rfl, Nat.le_of_ble_eq_true rfl⟩ (fun v ad' c' H locs hv hN hS => ?_)
        obtain ⟨rfl, rfl, rfl⟩ := hv
        refine W.eq (g2 := F0 m 60 ls (_ :: _)) rfl ?_
        exact W.iret hx hb hr (nEnd hN hS ⟨by unfold oOfP; rw [if_pos h1, if_pos w0, tn, tj, hkd]; rfl, rfl, rfl⟩) hS.2 dX0_ofPerson_60
      · subst z
        have hE : (sPic G x ad si sa rn) (20 + j) = some (.inr (4, [.int (nI j), .int (dr j), .int (kn j), .ref (ad 0), .ref (ad 0), .ref (ad 0)])) := (sPic_x ⟨by omega, by omega, by omega, by omega⟩).trans hX
        refine n_callU (C := RX7) (As := []) (b := 20 + j) SS hKo hK hKv (tX7_kind l G K hKo hK0 ad _ _) (va_cwO 0 hts (lw_O q208 q211 q209 q212 q213 q79 q214) rfl rfl rfl q218 (by decide +kernel) ⟨Nat.le_of_ble_eq_true rfl, Nat.le_of_ble_eq_true rfl⟩) hN hS hE rfl rfl hl.1 rfl (Nat.le_of_ble_eq_true rfl) dX0_ofPerson_57 ⟨Nat.le_of_ble_eq_true rfl, Nat.le_of_ble_eq_true rfl⟩ (fun v ad' c' H locs hv hN hS => ?_)
        obtain ⟨rfl, rfl, rfl⟩ := hv
        refine W.eq (g2 := F0 m 60 ls (_ :: _)) rfl ?_
        exact W.iret hx hb hr (nEnd hN hS ⟨by unfold oOfP; rw [if_pos h1, if_pos w0, tn, tj, hkd]; rfl, rfl, rfl⟩) hS.2 dX0_ofPerson_60
    by_cases w1 : a_ = 1
    · refine lv_tableIn (tgt := 61) (off := 50) hx hb dX0_ofPerson_11 (by rw [w1]; decide) (by rw [w1]; decide) (by rw [w1]; rfl) (by decide) ?_
      refine lv_aload_n hx hb dX0_ofPerson_61 rfl (lv_at hl 0 rfl) ?_
      refine lv_iload_n hx hb dX0_ofPerson_62 rfl (lv_at hl 1 rfl) ?_
      refine n_callV (C := RX0) (As := [_]) (b := 0) SS hKo hK hKv (sX0_truthsOf l G K hKo hK0 ad x si sa rn np kd dr kn hP j hj nd hnd hnd6) (cwV 1 hts (lw_V q219 q221 qs1 q57 q222) rfl rfl rfl (by decide +kernel) ⟨Nat.le_of_ble_eq_true rfl, Nat.le_of_ble_eq_true rfl⟩) hN hS sPic_0 rfl rfl hl.1 rfl (Nat.le_of_ble_eq_true rfl) dX0_ofPerson_63 ⟨Nat.le_of_ble_eq_true rfl, Nat.le_of_ble_eq_true rfl⟩ (fun v ad' c' H locs hv hN hS => ?_)
      obtain ⟨rfl, rfl, rfl⟩ := hv
      refine W.eq (g2 := F0 m 66 ls (_ :: _)) rfl ?_
      exact W.iret hx hb hr (nEnd hN hS ⟨by unfold oOfP; rw [if_pos h1, if_neg w0, if_pos w1, tn, tj], rfl, rfl⟩) hS.2 dX0_ofPerson_66
    by_cases w2 : a_ = 2
    · refine lv_tableIn (tgt := 67) (off := 56) hx hb dX0_ofPerson_11 (by rw [w2]; decide) (by rw [w2]; decide) (by rw [w2]; rfl) (by decide) ?_
      obtain ⟨mc_, hL, hA⟩ := hP.own hj
      have hL : (sPic G x ad si sa rn) 2 = _ := hL
      have hA : (sPic G x ad si sa rn) 3 = _ := hA
      refine lv_aload_n hx hb dX0_ofPerson_67 rfl (lv_at hl 0 rfl) ?_
      refine n_get (ci := 0) (C := RX0) (T := TX0) (N := 12) hx hb hts in_X0 hown hKv hN (0) sPic_0 rfl 3 (by decide) q131 (fun z h => h) (rfl) dX0_ofPerson_68 ?_
      refine lv_iload_n hx hb dX0_ofPerson_71 rfl (lv_at hl 1 rfl) ?_
      refine n_callF (As := [_]) (C := RJ2) (b := 2) SS hKo hK hKv (tJ2_get l G K hKo hK0 ad _ 2 3 mc_ np 10 (sPl ad np) hL hA (by decide) j hj (by omega)) (va_cwF 1 hts (lw_F q189 q192 q194 q60 q196) rfl rfl rfl (hKf (RJ2, ⟨"java/util/List", "get", "(I)Ljava/lang/Object;"⟩, ⟨"java/util/ArrayList", "get", "(I)Ljava/lang/Object;"⟩) (List.mem_of_getElem? (i := 1) rfl)) (by decide +kernel) ⟨Nat.le_of_ble_eq_true rfl, Nat.le_of_ble_eq_true rfl⟩) hN hS hL rfl rfl hl.1 rfl (Nat.le_of_ble_eq_true rfl) dX0_ofPerson_72 ⟨Nat.le_of_ble_eq_true rfl, Nat.le_of_ble_eq_true rfl⟩ (fun v ad' c' H locs hv hN hS => ?_)
      obtain ⟨rfl, rfl, rfl⟩ := hv
      refine W.eq (g2 := F0 m 77 ls (_ :: _)) rfl ?_
      refine n_topv (y := .ref (ad (20 + j))) (sPl_at hj) ?_
      refine n_castP hx hb hts hown q207 (hK0 s hK) hN (hP.per hj) dX0_ofPerson_77 ?_
      refine n_getP hx hb hts hown (hK0 s hK) hN 2 (by decide) q792 (hP.per hj) rfl dX0_ofPerson_80 ?_
      exact W.iret hx hb hr (nEnd hN hS ⟨by unfold oOfP; rw [if_pos h1, if_neg w0, if_neg w1, if_pos w2, tn, tj], rfl, rfl⟩) hS.2 dX0_ofPerson_83
    by_cases w3 : a_ = 3
    · refine lv_tableIn (tgt := 84) (off := 73) hx hb dX0_ofPerson_11 (by rw [w3]; decide) (by rw [w3]; decide) (by rw [w3]; rfl) (by decide) ?_
      refine lv_aload_n hx hb dX0_ofPerson_84 rfl (lv_at hl 0 rfl) ?_
      refine n_get (ci := 0) (C := RX0) (T := TX0) (N := 12) hx hb hts in_X0 hown hKv hN (0) sPic_0 rfl 4 (by decide) q132 (fun z h => h) (rfl) dX0_ofPerson_85 ?_
      refine lv_iload_n hx hb dX0_ofPerson_88 rfl (lv_at hl 1 rfl) ?_
      refine n_iald hx hb hKv hN (4) 0 sPic_4 rfl (j) (rfl) (by omega) (by decide) dX0_ofPerson_89 ?_
      exact W.iret hx hb hr (nEnd hN hS ⟨by unfold oOfP; rw [if_pos h1, if_neg w0, if_neg w1, if_neg w2, if_pos w3, tn, tj], rfl, rfl⟩) hS.2 dX0_ofPerson_90
    by_cases w4 : a_ = 4
    · refine lv_tableIn (tgt := 91) (off := 80) hx hb dX0_ofPerson_11 (by rw [w4]; decide) (by rw [w4]; decide) (by rw [w4]; rfl) (by decide) ?_
      refine lv_aload_n hx hb dX0_ofPerson_91 rfl (lv_at hl 0 rfl) ?_
      refine lv_iload_n hx hb dX0_ofPerson_92 rfl (lv_at hl 1 rfl) ?_
      refine n_callV (C := RX0) (As := [_]) (b := 0) SS hKo hK hKv (sX0_floorOf l G K hKo hK0 ad x si sa rn np kd dr kn hP j hj nd hnd hnd6) (cwV 1 hts (lw_V q223 q225 qs2 q57 q226) rfl rfl rfl (by decide +kernel) ⟨Nat.le_of_ble_eq_true rfl, Nat.le_of_ble_eq_true rfl⟩) hN hS sPic_0 rfl rfl hl.1 rfl (Nat.le_of_ble_eq_true rfl) dX0_ofPerson_93 ⟨Nat.le_of_ble_eq_true rfl, Nat.le_of_ble_eq_true rfl⟩ (fun v ad' c' H locs hv hN hS => ?_)
      obtain ⟨rfl, rfl, rfl⟩ := hv
      refine W.eq (g2 := F0 m 96 ls (_ :: _)) rfl ?_
      exact W.iret hx hb hr (nEnd hN hS ⟨by unfold oOfP; rw [if_pos h1, if_neg w0, if_neg w1, if_neg w2, if_neg w3, if_pos w4, tn, tj], rfl, rfl⟩) hS.2 dX0_ofPerson_96
    refine lv_tableOut (tgt := 97) hx hb dX0_ofPerson_11 (n_swOut 4 (by decide) (by intro k hk; rcases (show k = 0 ∨ k = 1 ∨ k = 2 ∨ k = 3 ∨ k = 4 by omega) with rfl | rfl | rfl | rfl | rfl <;> assumption)) (by decide) ?_
    refine lv_bipush (v := (-2)) hx hb dX0_ofPerson_97 (by decide) ?_
    exact W.iret hx hb hr (nEnd hN hS ⟨by unfold oOfP; rw [if_pos h1, if_neg w0, if_neg w1, if_neg w2, if_neg w3, if_neg w4], rfl, rfl⟩) hS.2 dX0_ofPerson_99
  · have h1 : sIn p_ np = false := by simpa using h1
    refine lv_aload_n hx hb dX0_ofPerson_0 rfl (lv_at hl 0 rfl) ?_
    refine lv_iload_n hx hb dX0_ofPerson_1 rfl (lv_at hl 1 rfl) ?_
    refine n_callV (C := RX0) (As := [_]) (b := 0) SS hKo hK hKv (sX0_noPerson l G K hKo hK0 ad x si sa rn _ np kd dr kn hP) (cwV 1 hts (lw_V q171 q173 qs0 q57 q174) rfl rfl rfl (by decide +kernel) ⟨Nat.le_of_ble_eq_true rfl, Nat.le_of_ble_eq_true rfl⟩) hN hS sPic_0 rfl rfl hl.1 rfl (Nat.le_of_ble_eq_true rfl) dX0_ofPerson_2 ⟨Nat.le_of_ble_eq_true rfl, Nat.le_of_ble_eq_true rfl⟩ (fun v ad' c' H locs hv hN hS => ?_)
    obtain ⟨rfl, rfl, rfl⟩ := hv
    refine W.eq (g2 := F0 m 5 ls (_ :: _)) rfl ?_
    refine n_top (y := 1) (by rw [h1]; rfl) ?_
    refine lv_if_eq (tgt := 10) hx hb dX0_ofPerson_5 (by decide) (fun c5 => absurd c5 (by decide)) (fun c5 => ?_)
    refine lv_iconst (v := (-1)) hx hb dX0_ofPerson_8 (by decide) ?_
    exact W.iret hx hb hr (nEnd hN hS ⟨by unfold oOfP; rw [h1]; rfl, rfl, rfl⟩) hS.2 dX0_ofPerson_9
set_option maxHeartbeats 1000000 in
set_option maxRecDepth 100000 in
theorem sX0_say (l : Launch) (G : nG) (K : State → Prop) (hKo : nKo G K) (hK0 : ∀ U, K U → sK0 G U) (ad : Nat → Nat) (x : nPic) (si : AI) (sa : Nat → AI) (rn : Value) (p_ d_ : Int32) (np : Nat) (kd dr kn : AI) (hP : sPeo G ad x np kd dr kn) (nd : Nat) (hnd : si 1 = nI nd) (hnd6 : nd ≤ 6) : Met l yX0_say (ws_ yX0_say cX0_say 3 (some .int)) (sR 8 0 0) (nPc G nCl K ad (sPic G x ad si sa rn) [.ref (ad 0), .int p_, .int d_]) (nQ G nCl (fun rv ad' c' => rv = some (.int (oSay nd np (sa 1) kd (fun q => dr q &&& sMsk nd) kn (sa 4) p_ d_).1) ∧ ad = ad' ∧ sPic G x ad si (va_up sa 4 (oSay nd np (sa 1) kd (fun q => dr q &&& sMsk nd) kn (sa 4) p_ d_).2) rn = c')) 0 0 (fun q => G.2 ≤ q) := by
  refine nMet RX0 (by decide) rfl (Nat.le_of_ble_eq_true rfl) ?_
  intro p e s m below meth c ls SS hR hK hN hS hl
  obtain ⟨hx, hb, hml, hown, hts⟩ := id SS
  obtain ⟨hr, hlk, hnm⟩ := hR
  obtain ⟨hKv, hKw, hKf, hKz, hKm⟩ := hK0 s hK
  generalize s.heap = H at hN hS ⊢
  generalize ([] : List Loc) = locs at hS ⊢
  have hl : lv_has ls 3 [(0, .ref (ad 0)), (1, .int p_), (2, .int d_)] := hl
  have hnp4 := hP.1
  rcases n_two (sIn p_ np) (sIn d_ nd) with h1 | ⟨h1, h2⟩ | ⟨h1, h2⟩
  · have _u := h1
    refine lv_aload_n hx hb dX0_say_0 rfl (lv_at hl 0 rfl) ?_
    refine lv_iload_n hx hb dX0_say_1 rfl (lv_at hl 1 rfl) ?_
    refine n_callV (C := RX0) (As := [_]) (b := 0) SS hKo hK hKv (sX0_noPerson l G K hKo hK0 ad x si sa rn _ np kd dr kn hP) (cwV 1 hts (lw_V q171 q173 qs0 q57 q174) rfl rfl rfl (by decide +kernel) ⟨Nat.le_of_ble_eq_true rfl, Nat.le_of_ble_eq_true rfl⟩) hN hS sPic_0 rfl rfl hl.1 rfl (Nat.le_of_ble_eq_true rfl) dX0_say_2 ⟨Nat.le_of_ble_eq_true rfl, Nat.le_of_ble_eq_true rfl⟩ (fun v ad' c' H locs hv hN hS => ?_)
    obtain ⟨rfl, rfl, rfl⟩ := hv
    refine W.eq (g2 := F0 m 5 ls (_ :: _)) rfl ?_
    refine n_top (y := 1) (by rw [h1]; rfl) ?_
    refine lv_if_ne (tgt := 16) hx hb dX0_say_5 (by decide) (fun c5 => ?_) (fun c5 => absurd c5 (by decide))
    refine lv_iconst (v := (-1)) hx hb dX0_say_16 (by decide) ?_
    exact W.iret hx hb hr (nEnd hN hS ⟨by unfold oSay; rw [if_neg (by rw [h1]; simp)], rfl, by unfold oSay; rw [if_neg (by rw [h1]; simp)]; exact congrArg (fun z => sPic G x ad si z rn) (va_up_id sa 4 _ rfl)⟩) hS.2 dX0_say_17
  · obtain ⟨j, hj, rfl, tj⟩ := sIn_t (by omega) h1
    refine lv_aload_n hx hb dX0_say_0 rfl (lv_at hl 0 rfl) ?_
    refine lv_iload_n hx hb dX0_say_1 rfl (lv_at hl 1 rfl) ?_
    refine n_callV (C := RX0) (As := [_]) (b := 0) SS hKo hK hKv (sX0_noPerson l G K hKo hK0 ad x si sa rn _ np kd dr kn hP) (cwV 1 hts (lw_V q171 q173 qs0 q57 q174) rfl rfl rfl (by decide +kernel) ⟨Nat.le_of_ble_eq_true rfl, Nat.le_of_ble_eq_true rfl⟩) hN hS sPic_0 rfl rfl hl.1 rfl (Nat.le_of_ble_eq_true rfl) dX0_say_2 ⟨Nat.le_of_ble_eq_true rfl, Nat.le_of_ble_eq_true rfl⟩ (fun v ad' c' H locs hv hN hS => ?_)
    obtain ⟨rfl, rfl, rfl⟩ := hv
    refine W.eq (g2 := F0 m 5 ls (_ :: _)) rfl ?_
    refine n_top (y := 0) (by rw [h1]; rfl) ?_
    refine lv_if_ne (tgt := 16) hx hb dX0_say_5 (by decide) (fun c5 => absurd c5 (fun z => z rfl)) (fun c5 => ?_)
    refine lv_aload_n hx hb dX0_say_8 rfl (lv_at hl 0 rfl) ?_
    refine lv_iload_n hx hb dX0_say_9 rfl (lv_at hl 2 rfl) ?_
    refine n_callV (C := RX0) (As := [_]) (b := 0) SS hKo hK hKv (sX0_noDeed l G K hKo hK0 ad x si sa rn _ nd hnd hnd6) (cwV 1 hts (lw_V q258 q260 qs4 q57 q261) rfl rfl rfl (by decide +kernel) ⟨Nat.le_of_ble_eq_true rfl, Nat.le_of_ble_eq_true rfl⟩) hN hS sPic_0 rfl rfl hl.1 rfl (Nat.le_of_ble_eq_true rfl) dX0_say_10 ⟨Nat.le_of_ble_eq_true rfl, Nat.le_of_ble_eq_true rfl⟩ (fun v ad' c' H locs hv hN hS => ?_)
    obtain ⟨rfl, rfl, rfl⟩ := hv
    refine W.eq (g2 := F0 m 13 ls (_ :: _)) rfl ?_
    refine n_top (y := 1) (by rw [h2]; rfl) ?_
    refine lv_if_eq (tgt := 18) hx hb dX0_say_13 (by decide) (fun c13 => absurd c13 (by decide)) (fun c13 => ?_)
    refine lv_iconst (v := (-1)) hx hb dX0_say_16 (by decide) ?_
    exact W.iret hx hb hr (nEnd hN hS ⟨by unfold oSay; rw [if_neg (by rw [h2]; simp)], rfl, by unfold oSay; rw [if_neg (by rw [h2]; simp)]; exact congrArg (fun z => sPic G x ad si z rn) (va_up_id sa 4 _ rfl)⟩) hS.2 dX0_say_17
  · obtain ⟨j, hj, rfl, tj⟩ := sIn_t (by omega) h1
    obtain ⟨i, hi, rfl, ti⟩ := sIn_t (by omega) h2
    refine lv_aload_n hx hb dX0_say_0 rfl (lv_at hl 0 rfl) ?_
    refine lv_iload_n hx hb dX0_say_1 rfl (lv_at hl 1 rfl) ?_
    refine n_callV (C := RX0) (As := [_]) (b := 0) SS hKo hK hKv (sX0_noPerson l G K hKo hK0 ad x si sa rn _ np kd dr kn hP) (cwV 1 hts (lw_V q171 q173 qs0 q57 q174) rfl rfl rfl (by decide +kernel) ⟨Nat.le_of_ble_eq_true rfl, Nat.le_of_ble_eq_true rfl⟩) hN hS sPic_0 rfl rfl hl.1 rfl (Nat.le_of_ble_eq_true rfl) dX0_say_2 ⟨Nat.le_of_ble_eq_true rfl, Nat.le_of_ble_eq_true rfl⟩ (fun v ad' c' H locs hv hN hS => ?_)
    obtain ⟨rfl, rfl, rfl⟩ := hv
    refine W.eq (g2 := F0 m 5 ls (_ :: _)) rfl ?_
    refine n_top (y := 0) (by rw [h1]; rfl) ?_
    refine lv_if_ne (tgt := 16) hx hb dX0_say_5 (by decide) (fun c5 => absurd c5 (fun z => z rfl)) (fun c5 => ?_)
    refine lv_aload_n hx hb dX0_say_8 rfl (lv_at hl 0 rfl) ?_
    refine lv_iload_n hx hb dX0_say_9 rfl (lv_at hl 2 rfl) ?_
    refine n_callV (C := RX0) (As := [_]) (b := 0) SS hKo hK hKv (sX0_noDeed l G K hKo hK0 ad x si sa rn _ nd hnd hnd6) (cwV 1 hts (lw_V q258 q260 qs4 q57 q261) rfl rfl rfl (by decide +kernel) ⟨Nat.le_of_ble_eq_true rfl, Nat.le_of_ble_eq_true rfl⟩) hN hS sPic_0 rfl rfl hl.1 rfl (Nat.le_of_ble_eq_true rfl) dX0_say_10 ⟨Nat.le_of_ble_eq_true rfl, Nat.le_of_ble_eq_true rfl⟩ (fun v ad' c' H locs hv hN hS => ?_)
    obtain ⟨rfl, rfl, rfl⟩ := hv
    refine W.eq (g2 := F0 m 13 ls (_ :: _)) rfl ?_
    refine n_top (y := 0) (by rw [h2]; rfl) ?_
    refine lv_if_eq (tgt := 18) hx hb dX0_say_13 (by decide) (fun c13 => ?_) (fun c13 => absurd c13 (fun z => z rfl))
    refine lv_aload_n hx hb dX0_say_18 rfl (lv_at hl 0 rfl) ?_
    refine n_get (ci := 0) (C := RX0) (T := TX0) (N := 12) hx hb hts in_X0 hown hKv hN (0) sPic_0 rfl 4 (by decide) q132 (fun z h => h) (rfl) dX0_say_19 ?_
    refine lv_iload_n hx hb dX0_say_22 rfl (lv_at hl 1 rfl) ?_
    refine n_iald hx hb hKv hN (4) 0 sPic_4 rfl (j) (rfl) (by omega) (by decide) dX0_say_23 ?_
    refine lv_iload_n hx hb dX0_say_24 rfl (lv_at hl 2 rfl) ?_
    refine n_callS (As := [_, _]) SS hKo hK (sX0_isIn l G K hKo hK0 ad _ _ i) (va_cwS 2 hts (lw_S q231 q232 q57 q233) rfl rfl rfl (by decide +kernel) ⟨Nat.le_of_ble_eq_true rfl, Nat.le_of_ble_eq_true rfl⟩) hN hS rfl hl.1 rfl (Nat.le_of_ble_eq_true rfl) dX0_say_25 ⟨Nat.le_of_ble_eq_true rfl, Nat.le_of_ble_eq_true rfl⟩ (fun v ad' c' H locs hv hN hS => ?_)
    obtain ⟨rfl, rfl, rfl⟩ := hv
    refine W.eq (g2 := F0 m 28 ls (_ :: _)) rfl ?_
    refine lv_if_eq (tgt := 34) hx hb dX0_say_28 (by decide) (fun c28 => ?_) (fun c28 => ?_)
    · have hb0 : ¬ sBit (sa 4 j) i = 1 := by have := zI_0.mp c28; simpa using this
      have eo : oSay nd np (sa 1) kd (fun q => dr q &&& sMsk nd) kn (sa 4) (nI j) (nI i) = (sFl (sa 1) kd j (sTel (sa 1) kd (fun q => dr q &&& sMsk nd) kn nd np (sa 4) j i j) nd, sTel (sa 1) kd (fun q => dr q &&& sMsk nd) kn nd np (sa 4) j i) := by unfold oSay; rw [if_pos ⟨h1, h2⟩, tn, tn, tj, ti, if_neg hb0]
      refine lv_aload_n hx hb dX0_say_34 rfl (lv_at hl 0 rfl) ?_
      refine lv_iload_n hx hb dX0_say_35 rfl (lv_at hl 1 rfl) ?_
      refine lv_iload_n hx hb dX0_say_36 rfl (lv_at hl 2 rfl) ?_
      refine n_callV (C := RX0) (As := [_, _]) (b := 0) SS hKo hK hKv (sX0_isCaught l G K hKo hK0 ad x si sa rn np kd dr kn hP j hj nd hnd hnd6 i) (cwV 2 hts (lw_V q275 q277 qs5 q57 q278) rfl rfl rfl (by decide +kernel) ⟨Nat.le_of_ble_eq_true rfl, Nat.le_of_ble_eq_true rfl⟩) hN hS sPic_0 rfl rfl hl.1 rfl (Nat.le_of_ble_eq_true rfl) dX0_say_37 ⟨Nat.le_of_ble_eq_true rfl, Nat.le_of_ble_eq_true rfl⟩ (fun v ad' c' H locs hv hN hS => ?_)
      obtain ⟨rfl, rfl, rfl⟩ := hv
      refine W.eq (g2 := F0 m 40 ls (_ :: _)) rfl ?_
      refine lv_if_eq (tgt := 47) hx hb dX0_say_40 (by decide) (fun c40 => ?_) (fun c40 => ?_)
      · have hz := zI_0.mp c40
        refine lv_aload_n hx hb dX0_say_47 rfl (lv_at hl 0 rfl) ?_
        refine lv_iload_n hx hb dX0_say_48 rfl (lv_at hl 1 rfl) ?_
        refine n_callV (C := RX0) (As := [_]) (b := 0) SS hKo hK hKv (sX0_floorOf l G K hKo hK0 ad x si (va_up sa 4 (sTel (sa 1) kd (fun q => dr q &&& sMsk nd) kn nd np (sa 4) j i)) rn np kd dr kn hP j hj nd hnd hnd6) (cwV 1 hts (lw_V q223 q225 qs2 q57 q226) rfl rfl rfl (by decide +kernel) ⟨Nat.le_of_ble_eq_true rfl, Nat.le_of_ble_eq_true rfl⟩) hN hS sPic_0 rfl rfl hl.1 rfl (Nat.le_of_ble_eq_true rfl) dX0_say_49 ⟨Nat.le_of_ble_eq_true rfl, Nat.le_of_ble_eq_true rfl⟩ (fun v ad' c' H locs hv hN hS => ?_)
        obtain ⟨rfl, rfl, rfl⟩ := hv
        refine W.eq (g2 := F0 m 52 ls (_ :: _)) rfl ?_
        exact W.iret hx hb hr (nEnd hN hS ⟨by rw [eo]; rfl, rfl, by rw [eo]⟩) hS.2 dX0_say_52
      · have hz := zI_n0 c40
        have et : sTel (sa 1) kd (fun q => dr q &&& sMsk nd) kn nd np (sa 4) j i j = 0 := by unfold sTel; rw [hz, if_pos rfl, pk_us]
        refine lv_iconst (v := 0) hx hb dX0_say_43 (by decide) ?_
        refine lv_goto (tgt := 52) hx hb dX0_say_44 (by decide) ?_
        exact W.iret hx hb hr (nEnd hN hS ⟨by rw [eo, et, sFl_0], rfl, by rw [eo]⟩) hS.2 dX0_say_52
    · have hb0 : sBit (sa 4 j) i = 1 := by have := zI_n0 c28; simpa using this
      have eo : oSay nd np (sa 1) kd (fun q => dr q &&& sMsk nd) kn (sa 4) (nI j) (nI i) = (-3, sa 4) := by unfold oSay; rw [if_pos ⟨h1, h2⟩, tn, tn, tj, ti, if_pos hb0]
      refine lv_bipush (v := (-3)) hx hb dX0_say_31 (by decide) ?_
      exact W.iret hx hb hr (nEnd hN hS ⟨by rw [eo], rfl, by rw [eo]; exact congrArg (fun z => sPic G x ad si z rn) (va_up_id sa 4 _ rfl)⟩) hS.2 dX0_say_33
set_option maxHeartbeats 1000000 in
set_option maxRecDepth 100000 in
theorem sX0_tell (l : Launch) (G : nG) (K : State → Prop) (hKo : nKo G K) (hK0 : ∀ U, K U → sK0 G U) (ad : Nat → Nat) (x : nPic) (si : AI) (sa : Nat → AI) (rn : Value) (p_ : Int32) (np : Nat) (kd dr kn : AI) (hP : sPeo G ad x np kd dr kn) : Met l yX0_tell (ws_ yX0_tell cX0_tell 2 (some .int)) (sR 4 0 0) (nPc G nCl K ad (sPic G x ad si sa rn) [.ref (ad 0), .int p_]) (nQ G nCl (fun rv ad' c' => rv = some (.int (oTel np kd kn (si 0) p_).1) ∧ ad = ad' ∧ sPic G x ad (upd si 0 (oTel np kd kn (si 0) p_).2) sa rn = c')) 0 0 (fun q => G.2 ≤ q) := by
  refine nMet RX0 (by decide) rfl (Nat.le_of_ble_eq_true rfl) ?_
  intro p e s m below meth c ls SS hR hK hN hS hl
  obtain ⟨hx, hb, hml, hown, hts⟩ := id SS
  obtain ⟨hr, hlk, hnm⟩ := hR
  obtain ⟨hKv, hKw, hKf, hKz, hKm⟩ := hK0 s hK
  generalize s.heap = H at hN hS ⊢
  generalize ([] : List Loc) = locs at hS ⊢
  have hl : lv_has ls 2 [(0, .ref (ad 0)), (1, .int p_)] := hl
  have hnp4 := hP.1
  by_cases h1 : sIn p_ np = true
  · obtain ⟨j, hj, rfl, tj⟩ := sIn_t (by omega) h1
    refine lv_aload_n hx hb dX0_tell_0 rfl (lv_at hl 0 rfl) ?_
    refine lv_iload_n hx hb dX0_tell_1 rfl (lv_at hl 1 rfl) ?_
    refine n_callV (C := RX0) (As := [_]) (b := 0) SS hKo hK hKv (sX0_noPerson l G K hKo hK0 ad x si sa rn _ np kd dr kn hP) (cwV 1 hts (lw_V q171 q173 qs0 q57 q174) rfl rfl rfl (by decide +kernel) ⟨Nat.le_of_ble_eq_true rfl, Nat.le_of_ble_eq_true rfl⟩) hN hS sPic_0 rfl rfl hl.1 rfl (Nat.le_of_ble_eq_true rfl) dX0_tell_2 ⟨Nat.le_of_ble_eq_true rfl, Nat.le_of_ble_eq_true rfl⟩ (fun v ad' c' H locs hv hN hS => ?_)
    obtain ⟨rfl, rfl, rfl⟩ := hv
    refine W.eq (g2 := F0 m 5 ls (_ :: _)) rfl ?_
    refine n_top (y := 0) (by rw [h1]; rfl) ?_
    refine lv_if_eq (tgt := 12) hx hb dX0_tell_5 (by decide) (fun c5 => ?_) (fun c5 => absurd c5 (fun z => z rfl))
    obtain ⟨mc_, hL, hA⟩ := hP.own hj
    have hL : (sPic G x ad si sa rn) 2 = _ := hL
    have hA : (sPic G x ad si sa rn) 3 = _ := hA
    refine lv_aload_n hx hb dX0_tell_12 rfl (lv_at hl 0 rfl) ?_
    refine n_get (ci := 0) (C := RX0) (T := TX0) (N := 12) hx hb hts in_X0 hown hKv hN (0) sPic_0 rfl 3 (by decide) q131 (fun z h => h) (rfl) dX0_tell_13 ?_
    refine lv_iload_n hx hb dX0_tell_16 rfl (lv_at hl 1 rfl) ?_
    refine n_callF (As := [_]) (C := RJ2) (b := 2) SS hKo hK hKv (tJ2_get l G K hKo hK0 ad _ 2 3 mc_ np 10 (sPl ad np) hL hA (by decide) j hj (by omega)) (va_cwF 1 hts (lw_F q189 q192 q194 q60 q196) rfl rfl rfl (hKf (RJ2, ⟨"java/util/List", "get", "(I)Ljava/lang/Object;"⟩, ⟨"java/util/ArrayList", "get", "(I)Ljava/lang/Object;"⟩) (List.mem_of_getElem? (i := 1) rfl)) (by decide +kernel) ⟨Nat.le_of_ble_eq_true rfl, Nat.le_of_ble_eq_true rfl⟩) hN hS hL rfl rfl hl.1 rfl (Nat.le_of_ble_eq_true rfl) dX0_tell_17 ⟨Nat.le_of_ble_eq_true rfl, Nat.le_of_ble_eq_true rfl⟩ (fun v ad' c' H locs hv hN hS => ?_)
    obtain ⟨rfl, rfl, rfl⟩ := hv
    refine W.eq (g2 := F0 m 22 ls (_ :: _)) rfl ?_
    refine n_topv (y := .ref (ad (20 + j))) (sPl_at hj) ?_
    refine n_castP hx hb hts hown q207 (hK0 s hK) hN (hP.per hj) dX0_tell_22 ?_
    obtain ⟨k, hk3, hkd, hX⟩ := hP.2.2 j hj
    rcases (show k = 0 ∨ k = 1 ∨ k = 2 by omega) with z | z | z
    · subst z
      have hE : (sPic G x ad si sa rn) (20 + j) = some (.inr (2, [.int (nI j), .int (dr j), .int (kn j), .ref (ad 0)])) := (sPic_x ⟨by omega, by omega, by omega, by omega⟩).trans hX
      refine n_callV (C := RX5) (As := []) (b := 20 + j) SS hKo hK hKv (sX5_said_0 l G K hKo hK0 ad x si sa rn (20 + j) _ _ _ ⟨by omega, by omega, by omega, by omega⟩ hX) (cwV 0 hts (lw_V q1001 q1002 q1003 q77 q1029) rfl rfl rfl (by decide +kernel) ⟨Nat.le_of_ble_eq_true rfl, Nat.le_of_ble_eq_true rfl⟩) hN hS hE rfl rfl hl.1 rfl (Nat.le_of_ble_eq_true rfl) dX0_tell_25 ⟨Nat.le_of_ble_eq_true rfl, Nat.le_of_ble_eq_true rfl⟩ (fun v ad' c' H locs hv hN hS => ?_)
      obtain ⟨rfl, rfl, rfl⟩ := hv
      refine W.eq (g2 := F0 m 28 ls (_ :: _)) rfl ?_
      exact W.iret hx hb hr (nEnd hN hS ⟨by unfold oTel; rw [if_pos h1, tn, tj, hkd]; rfl, rfl, by unfold oTel; rw [if_pos h1, tn, tj, hkd]; rfl⟩) hS.2 dX0_tell_28
    · subst z
      have hE : (sPic G x ad si sa rn) (20 + j) = some (.inr (3, [.int (nI j), .int (dr j), .int (kn j), .ref (ad 0), .ref (ad 0)])) := (sPic_x ⟨by omega, by omega, by omega, by omega⟩).trans hX
      refine n_callU (C := RX6) (As := []) (b := 20 + j) SS hKo hK hKv (sX6_said_1 l G K hKo hK0 ad x si sa rn (20 + j) _ _ _ ⟨by omega, by omega, by omega, by omega⟩ hX) (va_cwO 0 hts (lw_O q1001 q1004 q1002 q1028 q1015 q78 q1016) rfl rfl rfl q1029 (by decide +kernel) ⟨Nat.le_of_ble_eq_true rfl, Nat.le_of_ble_eq_true rfl⟩) hN hS hE rfl rfl hl.1 rfl (Nat.le_of_ble_eq_true rfl) dX0_tell_25 ⟨Nat.le_of_ble_eq_true rfl, Nat.le_of_ble_eq_true rfl⟩ (fun v ad' c' H locs hv hN hS => ?_)
      obtain ⟨rfl, rfl, rfl⟩ := hv
      refine W.eq (g2 := F0 m 28 ls (_ :: _)) rfl ?_
      exact W.iret hx hb hr (nEnd hN hS ⟨by unfold oTel; rw [if_pos h1, tn, tj, hkd]; rfl, rfl, by unfold oTel; rw [if_pos h1, tn, tj, hkd]; rfl⟩) hS.2 dX0_tell_28
    · subst z
      have hE : (sPic G x ad si sa rn) (20 + j) = some (.inr (4, [.int (nI j), .int (dr j), .int (kn j), .ref (ad 0), .ref (ad 0), .ref (ad 0)])) := (sPic_x ⟨by omega, by omega, by omega, by omega⟩).trans hX
      refine n_callU (C := RX7) (As := []) (b := 20 + j) SS hKo hK hKv (sX7_said l G K hKo hK0 ad x si sa rn (20 + j) _ _ _ ⟨by omega, by omega, by omega, by omega⟩ hX) (va_cwO 0 hts (lw_O q1001 q1004 q1002 q1005 q1006 q79 q1007) rfl rfl rfl q1029 (by decide +kernel) ⟨Nat.le_of_ble_eq_true rfl, Nat.le_of_ble_eq_true rfl⟩) hN hS hE rfl rfl hl.1 rfl (Nat.le_of_ble_eq_true rfl) dX0_tell_25 ⟨Nat.le_of_ble_eq_true rfl, Nat.le_of_ble_eq_true rfl⟩ (fun v ad' c' H locs hv hN hS => ?_)
      obtain ⟨rfl, rfl, rfl⟩ := hv
      refine W.eq (g2 := F0 m 28 ls (_ :: _)) rfl ?_
      exact W.iret hx hb hr (nEnd hN hS ⟨by unfold oTel; rw [if_pos h1, tn, tj, hkd]; rfl, rfl, by unfold oTel; rw [if_pos h1, tn, tj, hkd]; rfl⟩) hS.2 dX0_tell_28
  · have h1 : sIn p_ np = false := by simpa using h1
    refine lv_aload_n hx hb dX0_tell_0 rfl (lv_at hl 0 rfl) ?_
    refine lv_iload_n hx hb dX0_tell_1 rfl (lv_at hl 1 rfl) ?_
    refine n_callV (C := RX0) (As := [_]) (b := 0) SS hKo hK hKv (sX0_noPerson l G K hKo hK0 ad x si sa rn _ np kd dr kn hP) (cwV 1 hts (lw_V q171 q173 qs0 q57 q174) rfl rfl rfl (by decide +kernel) ⟨Nat.le_of_ble_eq_true rfl, Nat.le_of_ble_eq_true rfl⟩) hN hS sPic_0 rfl rfl hl.1 rfl (Nat.le_of_ble_eq_true rfl) dX0_tell_2 ⟨Nat.le_of_ble_eq_true rfl, Nat.le_of_ble_eq_true rfl⟩ (fun v ad' c' H locs hv hN hS => ?_)
    obtain ⟨rfl, rfl, rfl⟩ := hv
    refine W.eq (g2 := F0 m 5 ls (_ :: _)) rfl ?_
    refine n_top (y := 1) (by rw [h1]; rfl) ?_
    refine lv_if_eq (tgt := 12) hx hb dX0_tell_5 (by decide) (fun c5 => absurd c5 (by decide)) (fun c5 => ?_)
    refine lv_iconst (v := (-1)) hx hb dX0_tell_8 (by decide) ?_
    refine lv_goto (tgt := 28) hx hb dX0_tell_9 (by decide) ?_
    exact W.iret hx hb hr (nEnd hN hS ⟨by unfold oTel; rw [h1]; rfl, rfl, by unfold oTel; rw [h1]; exact congrArg (fun z => sPic G x ad z sa rn) (upd_self si 0 _ rfl)⟩) hS.2 dX0_tell_28
