/-! SYSTEM: acts tried: printed by wip/gen/e6.py -/
set_option maxHeartbeats 1000000 in
set_option maxRecDepth 100000 in
theorem sX2_tried_X4 (l : Launch) (G : nG) (K : State → Prop) (hKo : nKo G K) (hK0 : ∀ U, K U → sK0 G U) (hKx : ∀ U, K U → xK G U) (hfl : l.stackTraces = false) (ad : Nat → Nat) (x : nPic) (si : AI) (sa : Nat → AI) (rn : Value) (k q i n_ : Int32) (hAc : x 40 = actE 8 ad k q i n_) (mc_ ms_ : Nat) (P : Option Value → (Nat → Nat) → nPic → Prop) (hPi : ∀ v a c, P v a c → ∃ z : Int32, v = some (.int z)) (hM : Met l yX3_done (ws_ yX3_done cX3_done 1 (some .int)) (sR 9 mc_ ms_) (nPc G nCl K ad (sPic G x ad (upd si 9 0) sa rn) [.ref (ad 40)]) (nQ G nCl P) mc_ ms_ (fun q => G.2 ≤ q)) : Met l yX2_tried (wsW_ yX2_tried cX2_tried 2 (some .int) [(8, 12, 13, 23), (8, 12, 23, 29), (8, 12, 23, 31), (8, 12, 33, 33), (8, 12, 43, 35)]) (sR 10 mc_ ms_) (nPc G nCl K ad (sPic G x ad si sa rn) [.ref (ad 40)]) (nQ G nCl (P)) mc_ ms_ (fun q => G.2 ≤ q) := by
  refine nMetW RX2 (by decide) rfl (Nat.le_of_ble_eq_true rfl) ?_
  intro p e s m below meth c ls SS hR hxh hadm hK hN hS hl
  obtain ⟨hx, hb, hml, hown, hts⟩ := id SS
  obtain ⟨hr, hlk, hnm⟩ := hR
  have hX := hKx s hK
  obtain ⟨hKv, hKw, hKf, hKz, hKm⟩ := hK0 s hK
  generalize s.heap = H at hN hS ⊢
  generalize ([] : List Loc) = locs at hS ⊢
  have hl : lv_has ls 2 [(0, .ref (ad 40))] := hl
  refine lv_aload_n hx hb dX2_tried_0 rfl (lv_at hl 0 rfl) ?_
  refine n_get (ci := 8) (C := RX4) (T := TX4) (N := 7) hx hb hts in_X4 hown hKv hN (40) ((sPic_x (by decide)).trans hAc) rfl 5 (by decide) q671 (fun z h => h) (rfl) dX2_tried_1 ?_
  refine lv_iconst (v := 0) hx hb dX2_tried_4 (by decide) ?_
  refine n_putN (ci := 0) (C := RX0) (T := TX0) (N := 12) hx hb hts in_X0 tyX0 tyX0_ok (va_apart (own := RX0) hts in_X0 tyX0 tyX0_ok nmX0 hKv rfl) hown hKv hN hS (0) sPic_0 rfl 9 (by decide) (hKw _ q137 rfl) (fun z h => h) rfl rfl rfl (Nat.le_of_ble_eq_true rfl) dX2_tried_5 (fun H locs hN hS => ?_)
  have hN := hN.congr (sPic_put rfl)
  refine lv_aload_n hx hb dX2_tried_8 rfl (lv_at hl 0 rfl) ?_
  refine n_callU (C := RX4) (As := []) (b := 40) SS hKo hK hKv (hM) (va_cwA 0 hts (lw_U q716 q718 q724 q725 q63 q726) rfl rfl rfl (hKw _ q717 rfl) (by decide +kernel) ⟨Nat.le_of_ble_eq_true rfl, Nat.le_of_ble_eq_true rfl⟩) hN hS ((sPic_x (by decide)).trans hAc) rfl rfl hl.1 rfl (Nat.le_of_ble_eq_true rfl) dX2_tried_9 ⟨by show 0 + mc_ ≤ mc_; omega, by show 0 + ms_ ≤ ms_; omega⟩ (fun v ad' c' H locs hv hN hS => ?_)
  obtain ⟨z_, rfl⟩ := hPi _ _ _ hv
  refine W.eq (g2 := F0 m 12 ls (_ :: _)) rfl ?_
  refine W.widen (k := mc_) (n := ms_) (by first | (show 0 + mc_ ≤ mc_; omega) | (show 0 + ms_ ≤ ms_; omega) | (show 0 + mc_ + 0 ≤ mc_; omega) | (show 0 + ms_ + 0 ≤ ms_; omega)) (by first | (show 0 + mc_ ≤ mc_; omega) | (show 0 + ms_ ≤ ms_; omega) | (show 0 + mc_ + 0 ≤ mc_; omega) | (show 0 + ms_ + 0 ≤ ms_; omega)) ?_
  exact W.iret hx hb hr (nEnd hN hS hv) hS.2 dX2_tried_12
set_option maxHeartbeats 1000000 in
set_option maxRecDepth 100000 in
theorem sX2_tried_X4N (l : Launch) (G : nG) (K : State → Prop) (hKo : nKo G K) (hK0 : ∀ U, K U → sK0 G U) (hKx : ∀ U, K U → xK G U) (hfl : l.stackTraces = false) (ad : Nat → Nat) (x : nPic) (si : AI) (sa : Nat → AI) (rn : Value) (k q i n_ : Int32) (hAc : x 40 = actE 8 ad k q i n_) (mc_ ms_ : Nat) (hM : MetT l yX3_done (ws_ yX3_done cX3_done 1 (some .int)) (sR 9 mc_ ms_) (nPc G nCl K ad (sPic G x ad (upd si 9 0) sa rn) [.ref (ad 40)]) (xQ "java/lang/NullPointerException" G nCl ad (sPic G x ad (upd si 9 0) sa rn)) mc_ ms_ (fun q => G.2 ≤ q)) : Met l yX2_tried (wsW_ yX2_tried cX2_tried 2 (some .int) [(8, 12, 13, 23), (8, 12, 23, 29), (8, 12, 23, 31), (8, 12, 33, 33), (8, 12, 43, 35)]) (sR 10 mc_ ms_) (nPc G nCl K ad (sPic G x ad si sa rn) [.ref (ad 40)]) (nQ G nCl (fun rv ad' c' => rv = some (.int (-10 - 1)) ∧ ad = ad' ∧ sPic G x ad (upd si 9 1) sa rn = c')) mc_ ms_ (fun q => G.2 ≤ q) := by
  refine nMetW RX2 (by decide) rfl (Nat.le_of_ble_eq_true rfl) ?_
  intro p e s m below meth c ls SS hR hxh hadm hK hN hS hl
  obtain ⟨hx, hb, hml, hown, hts⟩ := id SS
  obtain ⟨hr, hlk, hnm⟩ := hR
  have hX := hKx s hK
  obtain ⟨hKv, hKw, hKf, hKz, hKm⟩ := hK0 s hK
  generalize s.heap = H at hN hS ⊢
  generalize ([] : List Loc) = locs at hS ⊢
  have hl : lv_has ls 2 [(0, .ref (ad 40))] := hl
  refine lv_aload_n hx hb dX2_tried_0 rfl (lv_at hl 0 rfl) ?_
  refine n_get (ci := 8) (C := RX4) (T := TX4) (N := 7) hx hb hts in_X4 hown hKv hN (40) ((sPic_x (by decide)).trans hAc) rfl 5 (by decide) q671 (fun z h => h) (rfl) dX2_tried_1 ?_
  refine lv_iconst (v := 0) hx hb dX2_tried_4 (by decide) ?_
  refine n_putN (ci := 0) (C := RX0) (T := TX0) (N := 12) hx hb hts in_X0 tyX0 tyX0_ok (va_apart (own := RX0) hts in_X0 tyX0 tyX0_ok nmX0 hKv rfl) hown hKv hN hS (0) sPic_0 rfl 9 (by decide) (hKw _ q137 rfl) (fun z h => h) rfl rfl rfl (Nat.le_of_ble_eq_true rfl) dX2_tried_5 (fun H locs hN hS => ?_)
  have hN := hN.congr (sPic_put rfl)
  refine lv_aload_n hx hb dX2_tried_8 rfl (lv_at hl 0 rfl) ?_
  refine n_callUT (C := RX4) (As := []) (b := 40) SS hKo hK hKv (hM) (va_cwA 0 hts (lw_U q716 q718 q724 q725 q63 q726) rfl rfl rfl (hKw _ q717 rfl) (by decide +kernel) ⟨Nat.le_of_ble_eq_true rfl, Nat.le_of_ble_eq_true rfl⟩) hN hS ((sPic_x (by decide)).trans hAc) rfl rfl hl.1 rfl (Nat.le_of_ble_eq_true rfl) dX2_tried_9 ⟨by show 0 + mc_ ≤ mc_; omega, by show 0 + ms_ ≤ ms_; omega⟩ (fun a_ cell_ H locs hA1 hA2 hA3 hN hS => ?_)
  refine WT.catch (own := "TowerTell$Act") (pre := []) (post := [(8, 12, 23, 29), (8, 12, 23, 31), (8, 12, 33, 33), (8, 12, 43, 35)]) (s0 := 8) (e0 := 12) (h0 := 13) (t0 := 23) (nmT := "java/lang/NullPointerException") hown hxh (List.forall_mem_nil _) ⟨by decide, by decide⟩ (by decide) (hts _ q698) (hKw _ q590 rfl) hA1 hA2 hA3 ?_
  refine lv_astore_n (lv' := [(1, _), (0, _)]) hx hb dX2_tried_13 rfl hl (by decide) rfl (fun ls hl => ?_)
  refine lv_aload_n hx hb dX2_tried_14 rfl (lv_at hl 1 rfl) ?_
  refine n_get (ci := 8) (C := RX4) (T := TX4) (N := 7) hx hb hts in_X4 hown hKv hN (40) ((sPic_x (by decide)).trans hAc) rfl 5 (by decide) q671 (fun z h => h) (rfl) dX2_tried_15 ?_
  refine lv_iconst (v := 1) hx hb dX2_tried_18 (by decide) ?_
  refine n_callVN (As := [_]) (C := RX0) (b := 0) SS hKo hK hKv (sX0_fails l G K hKo hK0 ad x (upd si 9 0) sa rn 1) (⟨va_cnB 1 hts (lw_meth q559) rfl rfl rfl (hKw _ q872 rfl) (hts _ q57) (by decide +kernel) ⟨Nat.le_of_ble_eq_true rfl, Nat.le_of_ble_eq_true rfl⟩, hts _ q558, hts _ qs15⟩) hN hS sPic_0 rfl rfl hl.1 rfl (Nat.le_of_ble_eq_true rfl) dX2_tried_19 ⟨by show 0 + mc_ + 0 ≤ mc_; omega, by show 0 + ms_ + 0 ≤ ms_; omega⟩ (fun v ad' c' H locs hv hN hS => ?_)
  obtain ⟨rfl, rfl, rfl⟩ := hv
  refine W.eq (g2 := F0 m 22 ls (_ :: _)) rfl ?_
  refine W.widen (k := mc_) (n := ms_) (by first | (show 0 + mc_ ≤ mc_; omega) | (show 0 + ms_ ≤ ms_; omega) | (show 0 + mc_ + 0 ≤ mc_; omega) | (show 0 + ms_ + 0 ≤ ms_; omega)) (by first | (show 0 + mc_ ≤ mc_; omega) | (show 0 + ms_ ≤ ms_; omega) | (show 0 + mc_ + 0 ≤ mc_; omega) | (show 0 + ms_ + 0 ≤ ms_; omega)) ?_
  exact W.iret hx hb hr (nEnd hN hS ⟨rfl, rfl, by rw [upd_upd]⟩) hS.2 dX2_tried_22
set_option maxHeartbeats 1000000 in
set_option maxRecDepth 100000 in
theorem sX2_tried_X4C (l : Launch) (G : nG) (K : State → Prop) (hKo : nKo G K) (hK0 : ∀ U, K U → sK0 G U) (hKx : ∀ U, K U → xK G U) (hfl : l.stackTraces = false) (ad : Nat → Nat) (x : nPic) (si : AI) (sa : Nat → AI) (rn : Value) (k q i n_ : Int32) (hAc : x 40 = actE 8 ad k q i n_) (mc_ ms_ : Nat) (hM : MetT l yX3_done (ws_ yX3_done cX3_done 1 (some .int)) (sR 9 mc_ ms_) (nPc G nCl K ad (sPic G x ad (upd si 9 0) sa rn) [.ref (ad 40)]) (xQ "java/lang/ClassCastException" G nCl ad (sPic G x ad (upd si 9 0) sa rn)) mc_ ms_ (fun q => G.2 ≤ q)) : Met l yX2_tried (wsW_ yX2_tried cX2_tried 2 (some .int) [(8, 12, 13, 23), (8, 12, 23, 29), (8, 12, 23, 31), (8, 12, 33, 33), (8, 12, 43, 35)]) (sR 10 mc_ ms_) (nPc G nCl K ad (sPic G x ad si sa rn) [.ref (ad 40)]) (nQ G nCl (fun rv ad' c' => rv = some (.int (-10 - 2)) ∧ ad = ad' ∧ sPic G x ad (upd si 9 2) sa rn = c')) mc_ ms_ (fun q => G.2 ≤ q) := by
  refine nMetW RX2 (by decide) rfl (Nat.le_of_ble_eq_true rfl) ?_
  intro p e s m below meth c ls SS hR hxh hadm hK hN hS hl
  obtain ⟨hx, hb, hml, hown, hts⟩ := id SS
  obtain ⟨hr, hlk, hnm⟩ := hR
  have hX := hKx s hK
  obtain ⟨hKv, hKw, hKf, hKz, hKm⟩ := hK0 s hK
  generalize s.heap = H at hN hS ⊢
  generalize ([] : List Loc) = locs at hS ⊢
  have hl : lv_has ls 2 [(0, .ref (ad 40))] := hl
  refine lv_aload_n hx hb dX2_tried_0 rfl (lv_at hl 0 rfl) ?_
  refine n_get (ci := 8) (C := RX4) (T := TX4) (N := 7) hx hb hts in_X4 hown hKv hN (40) ((sPic_x (by decide)).trans hAc) rfl 5 (by decide) q671 (fun z h => h) (rfl) dX2_tried_1 ?_
  refine lv_iconst (v := 0) hx hb dX2_tried_4 (by decide) ?_
  refine n_putN (ci := 0) (C := RX0) (T := TX0) (N := 12) hx hb hts in_X0 tyX0 tyX0_ok (va_apart (own := RX0) hts in_X0 tyX0 tyX0_ok nmX0 hKv rfl) hown hKv hN hS (0) sPic_0 rfl 9 (by decide) (hKw _ q137 rfl) (fun z h => h) rfl rfl rfl (Nat.le_of_ble_eq_true rfl) dX2_tried_5 (fun H locs hN hS => ?_)
  have hN := hN.congr (sPic_put rfl)
  refine lv_aload_n hx hb dX2_tried_8 rfl (lv_at hl 0 rfl) ?_
  refine n_callUT (C := RX4) (As := []) (b := 40) SS hKo hK hKv (hM) (va_cwA 0 hts (lw_U q716 q718 q724 q725 q63 q726) rfl rfl rfl (hKw _ q717 rfl) (by decide +kernel) ⟨Nat.le_of_ble_eq_true rfl, Nat.le_of_ble_eq_true rfl⟩) hN hS ((sPic_x (by decide)).trans hAc) rfl rfl hl.1 rfl (Nat.le_of_ble_eq_true rfl) dX2_tried_9 ⟨by show 0 + mc_ ≤ mc_; omega, by show 0 + ms_ ≤ ms_; omega⟩ (fun a_ cell_ H locs hA1 hA2 hA3 hN hS => ?_)
  refine WT.catch (own := "TowerTell$Act") (pre := [(8, 12, 13, 23)]) (post := [(8, 12, 23, 31), (8, 12, 33, 33), (8, 12, 43, 35)]) (s0 := 8) (e0 := 12) (h0 := 23) (t0 := 29) (nmT := "java/lang/ClassCastException") hown hxh (List.forall_mem_cons.mpr ⟨⟨by decide, "java/lang/NullPointerException", hts _ q698, hX.2.2.2.1 ("java/lang/ClassCastException", "java/lang/NullPointerException") (List.mem_of_getElem? (i := 9) rfl)⟩, List.forall_mem_nil _⟩) ⟨by decide, by decide⟩ (by decide) (hts _ q699) (hKw _ q634 rfl) hA1 hA2 hA3 ?_
  refine lv_astore_n (lv' := [(1, _), (0, _)]) hx hb dX2_tried_23 rfl hl (by decide) rfl (fun ls hl => ?_)
  refine lv_aload_n hx hb dX2_tried_24 rfl (lv_at hl 1 rfl) ?_
  refine n_get (ci := 8) (C := RX4) (T := TX4) (N := 7) hx hb hts in_X4 hown hKv hN (40) ((sPic_x (by decide)).trans hAc) rfl 5 (by decide) q671 (fun z h => h) (rfl) dX2_tried_25 ?_
  refine lv_iconst (v := 2) hx hb dX2_tried_28 (by decide) ?_
  refine n_callVN (As := [_]) (C := RX0) (b := 0) SS hKo hK hKv (sX0_fails l G K hKo hK0 ad x (upd si 9 0) sa rn 2) (⟨va_cnB 1 hts (lw_meth q559) rfl rfl rfl (hKw _ q872 rfl) (hts _ q57) (by decide +kernel) ⟨Nat.le_of_ble_eq_true rfl, Nat.le_of_ble_eq_true rfl⟩, hts _ q558, hts _ qs15⟩) hN hS sPic_0 rfl rfl hl.1 rfl (Nat.le_of_ble_eq_true rfl) dX2_tried_29 ⟨by show 0 + mc_ + 0 ≤ mc_; omega, by show 0 + ms_ + 0 ≤ ms_; omega⟩ (fun v ad' c' H locs hv hN hS => ?_)
  obtain ⟨rfl, rfl, rfl⟩ := hv
  refine W.eq (g2 := F0 m 32 ls (_ :: _)) rfl ?_
  refine W.widen (k := mc_) (n := ms_) (by first | (show 0 + mc_ ≤ mc_; omega) | (show 0 + ms_ ≤ ms_; omega) | (show 0 + mc_ + 0 ≤ mc_; omega) | (show 0 + ms_ + 0 ≤ ms_; omega)) (by first | (show 0 + mc_ ≤ mc_; omega) | (show 0 + ms_ ≤ ms_; omega) | (show 0 + mc_ + 0 ≤ mc_; omega) | (show 0 + ms_ + 0 ≤ ms_; omega)) ?_
  exact W.iret hx hb hr (nEnd hN hS ⟨rfl, rfl, by rw [upd_upd]⟩) hS.2 dX2_tried_32
set_option maxHeartbeats 1000000 in
set_option maxRecDepth 100000 in
theorem sX2_tried_X4S (l : Launch) (G : nG) (K : State → Prop) (hKo : nKo G K) (hK0 : ∀ U, K U → sK0 G U) (hKx : ∀ U, K U → xK G U) (hfl : l.stackTraces = false) (ad : Nat → Nat) (x : nPic) (si : AI) (sa : Nat → AI) (rn : Value) (k q i n_ : Int32) (hAc : x 40 = actE 8 ad k q i n_) (mc_ ms_ : Nat) (hM : MetT l yX3_done (ws_ yX3_done cX3_done 1 (some .int)) (sR 9 mc_ ms_) (nPc G nCl K ad (sPic G x ad (upd si 9 0) sa rn) [.ref (ad 40)]) (xQ "java/lang/NegativeArraySizeException" G nCl ad (sPic G x ad (upd si 9 0) sa rn)) mc_ ms_ (fun q => G.2 ≤ q)) : Met l yX2_tried (wsW_ yX2_tried cX2_tried 2 (some .int) [(8, 12, 13, 23), (8, 12, 23, 29), (8, 12, 23, 31), (8, 12, 33, 33), (8, 12, 43, 35)]) (sR 10 mc_ ms_) (nPc G nCl K ad (sPic G x ad si sa rn) [.ref (ad 40)]) (nQ G nCl (fun rv ad' c' => rv = some (.int (-10 - 4)) ∧ ad = ad' ∧ sPic G x ad (upd si 9 4) sa rn = c')) mc_ ms_ (fun q => G.2 ≤ q) := by
  refine nMetW RX2 (by decide) rfl (Nat.le_of_ble_eq_true rfl) ?_
  intro p e s m below meth c ls SS hR hxh hadm hK hN hS hl
  obtain ⟨hx, hb, hml, hown, hts⟩ := id SS
  obtain ⟨hr, hlk, hnm⟩ := hR
  have hX := hKx s hK
  obtain ⟨hKv, hKw, hKf, hKz, hKm⟩ := hK0 s hK
  generalize s.heap = H at hN hS ⊢
  generalize ([] : List Loc) = locs at hS ⊢
  have hl : lv_has ls 2 [(0, .ref (ad 40))] := hl
  refine lv_aload_n hx hb dX2_tried_0 rfl (lv_at hl 0 rfl) ?_
  refine n_get (ci := 8) (C := RX4) (T := TX4) (N := 7) hx hb hts in_X4 hown hKv hN (40) ((sPic_x (by decide)).trans hAc) rfl 5 (by decide) q671 (fun z h => h) (rfl) dX2_tried_1 ?_
  refine lv_iconst (v := 0) hx hb dX2_tried_4 (by decide) ?_
  refine n_putN (ci := 0) (C := RX0) (T := TX0) (N := 12) hx hb hts in_X0 tyX0 tyX0_ok (va_apart (own := RX0) hts in_X0 tyX0 tyX0_ok nmX0 hKv rfl) hown hKv hN hS (0) sPic_0 rfl 9 (by decide) (hKw _ q137 rfl) (fun z h => h) rfl rfl rfl (Nat.le_of_ble_eq_true rfl) dX2_tried_5 (fun H locs hN hS => ?_)
  have hN := hN.congr (sPic_put rfl)
  refine lv_aload_n hx hb dX2_tried_8 rfl (lv_at hl 0 rfl) ?_
  refine n_callUT (C := RX4) (As := []) (b := 40) SS hKo hK hKv (hM) (va_cwA 0 hts (lw_U q716 q718 q724 q725 q63 q726) rfl rfl rfl (hKw _ q717 rfl) (by decide +kernel) ⟨Nat.le_of_ble_eq_true rfl, Nat.le_of_ble_eq_true rfl⟩) hN hS ((sPic_x (by decide)).trans hAc) rfl rfl hl.1 rfl (Nat.le_of_ble_eq_true rfl) dX2_tried_9 ⟨by show 0 + mc_ ≤ mc_; omega, by show 0 + ms_ ≤ ms_; omega⟩ (fun a_ cell_ H locs hA1 hA2 hA3 hN hS => ?_)
  refine WT.catch (own := "TowerTell$Act") (pre := [(8, 12, 13, 23), (8, 12, 23, 29), (8, 12, 23, 31)]) (post := [(8, 12, 43, 35)]) (s0 := 8) (e0 := 12) (h0 := 33) (t0 := 33) (nmT := "java/lang/NegativeArraySizeException") hown hxh (List.forall_mem_cons.mpr ⟨⟨by decide, "java/lang/NullPointerException", hts _ q698, hX.2.2.2.1 ("java/lang/NegativeArraySizeException", "java/lang/NullPointerException") (List.mem_of_getElem? (i := 14) rfl)⟩, List.forall_mem_cons.mpr ⟨⟨by decide, "java/lang/ClassCastException", hts _ q699, hX.2.2.2.1 ("java/lang/NegativeArraySizeException", "java/lang/ClassCastException") (List.mem_of_getElem? (i := 15) rfl)⟩, List.forall_mem_cons.mpr ⟨⟨by decide, "java/lang/ArrayStoreException", hts _ q700, hX.2.2.2.1 ("java/lang/NegativeArraySizeException", "java/lang/ArrayStoreException") (List.mem_of_getElem? (i := 16) rfl)⟩, List.forall_mem_nil _⟩⟩⟩) ⟨by decide, by decide⟩ (by decide) (hts _ q714) (hKw _ q510 rfl) hA1 hA2 hA3 ?_
  refine lv_astore_n (lv' := [(1, _), (0, _)]) hx hb dX2_tried_33 rfl hl (by decide) rfl (fun ls hl => ?_)
  refine lv_aload_n hx hb dX2_tried_34 rfl (lv_at hl 1 rfl) ?_
  refine n_get (ci := 8) (C := RX4) (T := TX4) (N := 7) hx hb hts in_X4 hown hKv hN (40) ((sPic_x (by decide)).trans hAc) rfl 5 (by decide) q671 (fun z h => h) (rfl) dX2_tried_35 ?_
  refine lv_iconst (v := 4) hx hb dX2_tried_38 (by decide) ?_
  refine n_callVN (As := [_]) (C := RX0) (b := 0) SS hKo hK hKv (sX0_fails l G K hKo hK0 ad x (upd si 9 0) sa rn 4) (⟨va_cnB 1 hts (lw_meth q559) rfl rfl rfl (hKw _ q872 rfl) (hts _ q57) (by decide +kernel) ⟨Nat.le_of_ble_eq_true rfl, Nat.le_of_ble_eq_true rfl⟩, hts _ q558, hts _ qs15⟩) hN hS sPic_0 rfl rfl hl.1 rfl (Nat.le_of_ble_eq_true rfl) dX2_tried_39 ⟨by show 0 + mc_ + 0 ≤ mc_; omega, by show 0 + ms_ + 0 ≤ ms_; omega⟩ (fun v ad' c' H locs hv hN hS => ?_)
  obtain ⟨rfl, rfl, rfl⟩ := hv
  refine W.eq (g2 := F0 m 42 ls (_ :: _)) rfl ?_
  refine W.widen (k := mc_) (n := ms_) (by first | (show 0 + mc_ ≤ mc_; omega) | (show 0 + ms_ ≤ ms_; omega) | (show 0 + mc_ + 0 ≤ mc_; omega) | (show 0 + ms_ + 0 ≤ ms_; omega)) (by first | (show 0 + mc_ ≤ mc_; omega) | (show 0 + ms_ ≤ ms_; omega) | (show 0 + mc_ + 0 ≤ mc_; omega) | (show 0 + ms_ + 0 ≤ ms_; omega)) ?_
  exact W.iret hx hb hr (nEnd hN hS ⟨rfl, rfl, by rw [upd_upd]⟩) hS.2 dX2_tried_42
set_option maxHeartbeats 1000000 in
set_option maxRecDepth 100000 in
theorem sX2_tried_X4I (l : Launch) (G : nG) (K : State → Prop) (hKo : nKo G K) (hK0 : ∀ U, K U → sK0 G U) (hKx : ∀ U, K U → xK G U) (hfl : l.stackTraces = false) (ad : Nat → Nat) (x : nPic) (si : AI) (sa : Nat → AI) (rn : Value) (k q i n_ : Int32) (hAc : x 40 = actE 8 ad k q i n_) (mc_ ms_ : Nat) (hM : MetT l yX3_done (ws_ yX3_done cX3_done 1 (some .int)) (sR 9 mc_ ms_) (nPc G nCl K ad (sPic G x ad (upd si 9 0) sa rn) [.ref (ad 40)]) (xQ "java/lang/IndexOutOfBoundsException" G nCl ad (sPic G x ad (upd si 9 0) sa rn)) mc_ ms_ (fun q => G.2 ≤ q)) : Met l yX2_tried (wsW_ yX2_tried cX2_tried 2 (some .int) [(8, 12, 13, 23), (8, 12, 23, 29), (8, 12, 23, 31), (8, 12, 33, 33), (8, 12, 43, 35)]) (sR 10 mc_ ms_) (nPc G nCl K ad (sPic G x ad si sa rn) [.ref (ad 40)]) (nQ G nCl (fun rv ad' c' => rv = some (.int (-10 - 3)) ∧ ad = ad' ∧ sPic G x ad (upd si 9 3) sa rn = c')) mc_ ms_ (fun q => G.2 ≤ q) := by
  refine nMetW RX2 (by decide) rfl (Nat.le_of_ble_eq_true rfl) ?_
  intro p e s m below meth c ls SS hR hxh hadm hK hN hS hl
  obtain ⟨hx, hb, hml, hown, hts⟩ := id SS
  obtain ⟨hr, hlk, hnm⟩ := hR
  have hX := hKx s hK
  obtain ⟨hKv, hKw, hKf, hKz, hKm⟩ := hK0 s hK
  generalize s.heap = H at hN hS ⊢
  generalize ([] : List Loc) = locs at hS ⊢
  have hl : lv_has ls 2 [(0, .ref (ad 40))] := hl
  refine lv_aload_n hx hb dX2_tried_0 rfl (lv_at hl 0 rfl) ?_
  refine n_get (ci := 8) (C := RX4) (T := TX4) (N := 7) hx hb hts in_X4 hown hKv hN (40) ((sPic_x (by decide)).trans hAc) rfl 5 (by decide) q671 (fun z h => h) (rfl) dX2_tried_1 ?_
  refine lv_iconst (v := 0) hx hb dX2_tried_4 (by decide) ?_
  refine n_putN (ci := 0) (C := RX0) (T := TX0) (N := 12) hx hb hts in_X0 tyX0 tyX0_ok (va_apart (own := RX0) hts in_X0 tyX0 tyX0_ok nmX0 hKv rfl) hown hKv hN hS (0) sPic_0 rfl 9 (by decide) (hKw _ q137 rfl) (fun z h => h) rfl rfl rfl (Nat.le_of_ble_eq_true rfl) dX2_tried_5 (fun H locs hN hS => ?_)
  have hN := hN.congr (sPic_put rfl)
  refine lv_aload_n hx hb dX2_tried_8 rfl (lv_at hl 0 rfl) ?_
  refine n_callUT (C := RX4) (As := []) (b := 40) SS hKo hK hKv (hM) (va_cwA 0 hts (lw_U q716 q718 q724 q725 q63 q726) rfl rfl rfl (hKw _ q717 rfl) (by decide +kernel) ⟨Nat.le_of_ble_eq_true rfl, Nat.le_of_ble_eq_true rfl⟩) hN hS ((sPic_x (by decide)).trans hAc) rfl rfl hl.1 rfl (Nat.le_of_ble_eq_true rfl) dX2_tried_9 ⟨by show 0 + mc_ ≤ mc_; omega, by show 0 + ms_ ≤ ms_; omega⟩ (fun a_ cell_ H locs hA1 hA2 hA3 hN hS => ?_)
  refine WT.catch (own := "TowerTell$Act") (pre := [(8, 12, 13, 23), (8, 12, 23, 29), (8, 12, 23, 31), (8, 12, 33, 33)]) (post := []) (s0 := 8) (e0 := 12) (h0 := 43) (t0 := 35) (nmT := "java/lang/IndexOutOfBoundsException") hown hxh (List.forall_mem_cons.mpr ⟨⟨by decide, "java/lang/NullPointerException", hts _ q698, hX.2.2.2.1 ("java/lang/IndexOutOfBoundsException", "java/lang/NullPointerException") (List.mem_of_getElem? (i := 19) rfl)⟩, List.forall_mem_cons.mpr ⟨⟨by decide, "java/lang/ClassCastException", hts _ q699, hX.2.2.2.1 ("java/lang/IndexOutOfBoundsException", "java/lang/ClassCastException") (List.mem_of_getElem? (i := 20) rfl)⟩, List.forall_mem_cons.mpr ⟨⟨by decide, "java/lang/ArrayStoreException", hts _ q700, hX.2.2.2.1 ("java/lang/IndexOutOfBoundsException", "java/lang/ArrayStoreException") (List.mem_of_getElem? (i := 21) rfl)⟩, List.forall_mem_cons.mpr ⟨⟨by decide, "java/lang/NegativeArraySizeException", hts _ q714, hX.2.2.2.1 ("java/lang/IndexOutOfBoundsException", "java/lang/NegativeArraySizeException") (List.mem_of_getElem? (i := 22) rfl)⟩, List.forall_mem_nil _⟩⟩⟩⟩) ⟨by decide, by decide⟩ (by decide) (hts _ q715) (hKw _ q739 rfl) hA1 hA2 hA3 ?_
  refine lv_astore_n (lv' := [(1, _), (0, _)]) hx hb dX2_tried_43 rfl hl (by decide) rfl (fun ls hl => ?_)
  refine lv_aload_n hx hb dX2_tried_44 rfl (lv_at hl 1 rfl) ?_
  refine n_get (ci := 8) (C := RX4) (T := TX4) (N := 7) hx hb hts in_X4 hown hKv hN (40) ((sPic_x (by decide)).trans hAc) rfl 5 (by decide) q671 (fun z h => h) (rfl) dX2_tried_45 ?_
  refine lv_iconst (v := 3) hx hb dX2_tried_48 (by decide) ?_
  refine n_callVN (As := [_]) (C := RX0) (b := 0) SS hKo hK hKv (sX0_fails l G K hKo hK0 ad x (upd si 9 0) sa rn 3) (⟨va_cnB 1 hts (lw_meth q559) rfl rfl rfl (hKw _ q872 rfl) (hts _ q57) (by decide +kernel) ⟨Nat.le_of_ble_eq_true rfl, Nat.le_of_ble_eq_true rfl⟩, hts _ q558, hts _ qs15⟩) hN hS sPic_0 rfl rfl hl.1 rfl (Nat.le_of_ble_eq_true rfl) dX2_tried_49 ⟨by show 0 + mc_ + 0 ≤ mc_; omega, by show 0 + ms_ + 0 ≤ ms_; omega⟩ (fun v ad' c' H locs hv hN hS => ?_)
  obtain ⟨rfl, rfl, rfl⟩ := hv
  refine W.eq (g2 := F0 m 52 ls (_ :: _)) rfl ?_
  refine W.widen (k := mc_) (n := ms_) (by first | (show 0 + mc_ ≤ mc_; omega) | (show 0 + ms_ ≤ ms_; omega) | (show 0 + mc_ + 0 ≤ mc_; omega) | (show 0 + ms_ + 0 ≤ ms_; omega)) (by first | (show 0 + mc_ ≤ mc_; omega) | (show 0 + ms_ ≤ ms_; omega) | (show 0 + mc_ + 0 ≤ mc_; omega) | (show 0 + ms_ + 0 ≤ ms_; omega)) ?_
  exact W.iret hx hb hr (nEnd hN hS ⟨rfl, rfl, by rw [upd_upd]⟩) hS.2 dX2_tried_52
set_option maxHeartbeats 1000000 in
set_option maxRecDepth 100000 in
theorem sX2_tried_X8 (l : Launch) (G : nG) (K : State → Prop) (hKo : nKo G K) (hK0 : ∀ U, K U → sK0 G U) (hKx : ∀ U, K U → xK G U) (hfl : l.stackTraces = false) (ad : Nat → Nat) (x : nPic) (si : AI) (sa : Nat → AI) (rn : Value) (k q i n_ : Int32) (hAc : x 40 = actE 9 ad k q i n_) (mc_ ms_ : Nat) (P : Option Value → (Nat → Nat) → nPic → Prop) (hPi : ∀ v a c, P v a c → ∃ z : Int32, v = some (.int z)) (hM : Met l yX3_done (ws_ yX3_done cX3_done 1 (some .int)) (sR 9 mc_ ms_) (nPc G nCl K ad (sPic G x ad (upd si 9 0) sa rn) [.ref (ad 40)]) (nQ G nCl P) mc_ ms_ (fun q => G.2 ≤ q)) : Met l yX2_tried (wsW_ yX2_tried cX2_tried 2 (some .int) [(8, 12, 13, 23), (8, 12, 23, 29), (8, 12, 23, 31), (8, 12, 33, 33), (8, 12, 43, 35)]) (sR 10 mc_ ms_) (nPc G nCl K ad (sPic G x ad si sa rn) [.ref (ad 40)]) (nQ G nCl (P)) mc_ ms_ (fun q => G.2 ≤ q) := by
  refine nMetW RX2 (by decide) rfl (Nat.le_of_ble_eq_true rfl) ?_
  intro p e s m below meth c ls SS hR hxh hadm hK hN hS hl
  obtain ⟨hx, hb, hml, hown, hts⟩ := id SS
  obtain ⟨hr, hlk, hnm⟩ := hR
  have hX := hKx s hK
  obtain ⟨hKv, hKw, hKf, hKz, hKm⟩ := hK0 s hK
  generalize s.heap = H at hN hS ⊢
  generalize ([] : List Loc) = locs at hS ⊢
  have hl : lv_has ls 2 [(0, .ref (ad 40))] := hl
  refine lv_aload_n hx hb dX2_tried_0 rfl (lv_at hl 0 rfl) ?_
  refine n_get (ci := 9) (C := RX8) (T := TX8) (N := 7) hx hb hts in_X8 hown hKv hN (40) ((sPic_x (by decide)).trans hAc) rfl 5 (by decide) q671 (fun z h => h) (rfl) dX2_tried_1 ?_
  refine lv_iconst (v := 0) hx hb dX2_tried_4 (by decide) ?_
  refine n_putN (ci := 0) (C := RX0) (T := TX0) (N := 12) hx hb hts in_X0 tyX0 tyX0_ok (va_apart (own := RX0) hts in_X0 tyX0 tyX0_ok nmX0 hKv rfl) hown hKv hN hS (0) sPic_0 rfl 9 (by decide) (hKw _ q137 rfl) (fun z h => h) rfl rfl rfl (Nat.le_of_ble_eq_true rfl) dX2_tried_5 (fun H locs hN hS => ?_)
  have hN := hN.congr (sPic_put rfl)
  refine lv_aload_n hx hb dX2_tried_8 rfl (lv_at hl 0 rfl) ?_
  refine n_callU (C := RX8) (As := []) (b := 40) SS hKo hK hKv (hM) (va_cwA 0 hts (lw_U q716 q718 q866 q725 q63 q726) rfl rfl rfl (hKw _ q717 rfl) (by decide +kernel) ⟨Nat.le_of_ble_eq_true rfl, Nat.le_of_ble_eq_true rfl⟩) hN hS ((sPic_x (by decide)).trans hAc) rfl rfl hl.1 rfl (Nat.le_of_ble_eq_true rfl) dX2_tried_9 ⟨by show 0 + mc_ ≤ mc_; omega, by show 0 + ms_ ≤ ms_; omega⟩ (fun v ad' c' H locs hv hN hS => ?_)
  obtain ⟨z_, rfl⟩ := hPi _ _ _ hv
  refine W.eq (g2 := F0 m 12 ls (_ :: _)) rfl ?_
  refine W.widen (k := mc_) (n := ms_) (by first | (show 0 + mc_ ≤ mc_; omega) | (show 0 + ms_ ≤ ms_; omega) | (show 0 + mc_ + 0 ≤ mc_; omega) | (show 0 + ms_ + 0 ≤ ms_; omega)) (by first | (show 0 + mc_ ≤ mc_; omega) | (show 0 + ms_ ≤ ms_; omega) | (show 0 + mc_ + 0 ≤ mc_; omega) | (show 0 + ms_ + 0 ≤ ms_; omega)) ?_
  exact W.iret hx hb hr (nEnd hN hS hv) hS.2 dX2_tried_12
set_option maxHeartbeats 1000000 in
set_option maxRecDepth 100000 in
theorem sX2_tried_X8N (l : Launch) (G : nG) (K : State → Prop) (hKo : nKo G K) (hK0 : ∀ U, K U → sK0 G U) (hKx : ∀ U, K U → xK G U) (hfl : l.stackTraces = false) (ad : Nat → Nat) (x : nPic) (si : AI) (sa : Nat → AI) (rn : Value) (k q i n_ : Int32) (hAc : x 40 = actE 9 ad k q i n_) (mc_ ms_ : Nat) (hM : MetT l yX3_done (ws_ yX3_done cX3_done 1 (some .int)) (sR 9 mc_ ms_) (nPc G nCl K ad (sPic G x ad (upd si 9 0) sa rn) [.ref (ad 40)]) (xQ "java/lang/NullPointerException" G nCl ad (sPic G x ad (upd si 9 0) sa rn)) mc_ ms_ (fun q => G.2 ≤ q)) : Met l yX2_tried (wsW_ yX2_tried cX2_tried 2 (some .int) [(8, 12, 13, 23), (8, 12, 23, 29), (8, 12, 23, 31), (8, 12, 33, 33), (8, 12, 43, 35)]) (sR 10 mc_ ms_) (nPc G nCl K ad (sPic G x ad si sa rn) [.ref (ad 40)]) (nQ G nCl (fun rv ad' c' => rv = some (.int (-10 - 1)) ∧ ad = ad' ∧ sPic G x ad (upd si 9 1) sa rn = c')) mc_ ms_ (fun q => G.2 ≤ q) := by
  refine nMetW RX2 (by decide) rfl (Nat.le_of_ble_eq_true rfl) ?_
  intro p e s m below meth c ls SS hR hxh hadm hK hN hS hl
  obtain ⟨hx, hb, hml, hown, hts⟩ := id SS
  obtain ⟨hr, hlk, hnm⟩ := hR
  have hX := hKx s hK
  obtain ⟨hKv, hKw, hKf, hKz, hKm⟩ := hK0 s hK
  generalize s.heap = H at hN hS ⊢
  generalize ([] : List Loc) = locs at hS ⊢
  have hl : lv_has ls 2 [(0, .ref (ad 40))] := hl
  refine lv_aload_n hx hb dX2_tried_0 rfl (lv_at hl 0 rfl) ?_
  refine n_get (ci := 9) (C := RX8) (T := TX8) (N := 7) hx hb hts in_X8 hown hKv hN (40) ((sPic_x (by decide)).trans hAc) rfl 5 (by decide) q671 (fun z h => h) (rfl) dX2_tried_1 ?_
  refine lv_iconst (v := 0) hx hb dX2_tried_4 (by decide) ?_
  refine n_putN (ci := 0) (C := RX0) (T := TX0) (N := 12) hx hb hts in_X0 tyX0 tyX0_ok (va_apart (own := RX0) hts in_X0 tyX0 tyX0_ok nmX0 hKv rfl) hown hKv hN hS (0) sPic_0 rfl 9 (by decide) (hKw _ q137 rfl) (fun z h => h) rfl rfl rfl (Nat.le_of_ble_eq_true rfl) dX2_tried_5 (fun H locs hN hS => ?_)
  have hN := hN.congr (sPic_put rfl)
  refine lv_aload_n hx hb dX2_tried_8 rfl (lv_at hl 0 rfl) ?_
  refine n_callUT (C := RX8) (As := []) (b := 40) SS hKo hK hKv (hM) (va_cwA 0 hts (lw_U q716 q718 q866 q725 q63 q726) rfl rfl rfl (hKw _ q717 rfl) (by decide +kernel) ⟨Nat.le_of_ble_eq_true rfl, Nat.le_of_ble_eq_true rfl⟩) hN hS ((sPic_x (by decide)).trans hAc) rfl rfl hl.1 rfl (Nat.le_of_ble_eq_true rfl) dX2_tried_9 ⟨by show 0 + mc_ ≤ mc_; omega, by show 0 + ms_ ≤ ms_; omega⟩ (fun a_ cell_ H locs hA1 hA2 hA3 hN hS => ?_)
  refine WT.catch (own := "TowerTell$Act") (pre := []) (post := [(8, 12, 23, 29), (8, 12, 23, 31), (8, 12, 33, 33), (8, 12, 43, 35)]) (s0 := 8) (e0 := 12) (h0 := 13) (t0 := 23) (nmT := "java/lang/NullPointerException") hown hxh (List.forall_mem_nil _) ⟨by decide, by decide⟩ (by decide) (hts _ q698) (hKw _ q590 rfl) hA1 hA2 hA3 ?_
  refine lv_astore_n (lv' := [(1, _), (0, _)]) hx hb dX2_tried_13 rfl hl (by decide) rfl (fun ls hl => ?_)
  refine lv_aload_n hx hb dX2_tried_14 rfl (lv_at hl 1 rfl) ?_
  refine n_get (ci := 9) (C := RX8) (T := TX8) (N := 7) hx hb hts in_X8 hown hKv hN (40) ((sPic_x (by decide)).trans hAc) rfl 5 (by decide) q671 (fun z h => h) (rfl) dX2_tried_15 ?_
  refine lv_iconst (v := 1) hx hb dX2_tried_18 (by decide) ?_
  refine n_callVN (As := [_]) (C := RX0) (b := 0) SS hKo hK hKv (sX0_fails l G K hKo hK0 ad x (upd si 9 0) sa rn 1) (⟨va_cnB 1 hts (lw_meth q559) rfl rfl rfl (hKw _ q872 rfl) (hts _ q57) (by decide +kernel) ⟨Nat.le_of_ble_eq_true rfl, Nat.le_of_ble_eq_true rfl⟩, hts _ q558, hts _ qs15⟩) hN hS sPic_0 rfl rfl hl.1 rfl (Nat.le_of_ble_eq_true rfl) dX2_tried_19 ⟨by show 0 + mc_ + 0 ≤ mc_; omega, by show 0 + ms_ + 0 ≤ ms_; omega⟩ (fun v ad' c' H locs hv hN hS => ?_)
  obtain ⟨rfl, rfl, rfl⟩ := hv
  refine W.eq (g2 := F0 m 22 ls (_ :: _)) rfl ?_
  refine W.widen (k := mc_) (n := ms_) (by first | (show 0 + mc_ ≤ mc_; omega) | (show 0 + ms_ ≤ ms_; omega) | (show 0 + mc_ + 0 ≤ mc_; omega) | (show 0 + ms_ + 0 ≤ ms_; omega)) (by first | (show 0 + mc_ ≤ mc_; omega) | (show 0 + ms_ ≤ ms_; omega) | (show 0 + mc_ + 0 ≤ mc_; omega) | (show 0 + ms_ + 0 ≤ ms_; omega)) ?_
  exact W.iret hx hb hr (nEnd hN hS ⟨rfl, rfl, by rw [upd_upd]⟩) hS.2 dX2_tried_22
set_option maxHeartbeats 1000000 in
set_option maxRecDepth 100000 in
theorem sX2_tried_X8C (l : Launch) (G : nG) (K : State → Prop) (hKo : nKo G K) (hK0 : ∀ U, K U → sK0 G U) (hKx : ∀ U, K U → xK G U) (hfl : l.stackTraces = false) (ad : Nat → Nat) (x : nPic) (si : AI) (sa : Nat → AI) (rn : Value) (k q i n_ : Int32) (hAc : x 40 = actE 9 ad k q i n_) (mc_ ms_ : Nat) (hM : MetT l yX3_done (ws_ yX3_done cX3_done 1 (some .int)) (sR 9 mc_ ms_) (nPc G nCl K ad (sPic G x ad (upd si 9 0) sa rn) [.ref (ad 40)]) (xQ "java/lang/ClassCastException" G nCl ad (sPic G x ad (upd si 9 0) sa rn)) mc_ ms_ (fun q => G.2 ≤ q)) : Met l yX2_tried (wsW_ yX2_tried cX2_tried 2 (some .int) [(8, 12, 13, 23), (8, 12, 23, 29), (8, 12, 23, 31), (8, 12, 33, 33), (8, 12, 43, 35)]) (sR 10 mc_ ms_) (nPc G nCl K ad (sPic G x ad si sa rn) [.ref (ad 40)]) (nQ G nCl (fun rv ad' c' => rv = some (.int (-10 - 2)) ∧ ad = ad' ∧ sPic G x ad (upd si 9 2) sa rn = c')) mc_ ms_ (fun q => G.2 ≤ q) := by
  refine nMetW RX2 (by decide) rfl (Nat.le_of_ble_eq_true rfl) ?_
  intro p e s m below meth c ls SS hR hxh hadm hK hN hS hl
  obtain ⟨hx, hb, hml, hown, hts⟩ := id SS
  obtain ⟨hr, hlk, hnm⟩ := hR
  have hX := hKx s hK
  obtain ⟨hKv, hKw, hKf, hKz, hKm⟩ := hK0 s hK
  generalize s.heap = H at hN hS ⊢
  generalize ([] : List Loc) = locs at hS ⊢
  have hl : lv_has ls 2 [(0, .ref (ad 40))] := hl
  refine lv_aload_n hx hb dX2_tried_0 rfl (lv_at hl 0 rfl) ?_
  refine n_get (ci := 9) (C := RX8) (T := TX8) (N := 7) hx hb hts in_X8 hown hKv hN (40) ((sPic_x (by decide)).trans hAc) rfl 5 (by decide) q671 (fun z h => h) (rfl) dX2_tried_1 ?_
  refine lv_iconst (v := 0) hx hb dX2_tried_4 (by decide) ?_
  refine n_putN (ci := 0) (C := RX0) (T := TX0) (N := 12) hx hb hts in_X0 tyX0 tyX0_ok (va_apart (own := RX0) hts in_X0 tyX0 tyX0_ok nmX0 hKv rfl) hown hKv hN hS (0) sPic_0 rfl 9 (by decide) (hKw _ q137 rfl) (fun z h => h) rfl rfl rfl (Nat.le_of_ble_eq_true rfl) dX2_tried_5 (fun H locs hN hS => ?_)
  have hN := hN.congr (sPic_put rfl)
  refine lv_aload_n hx hb dX2_tried_8 rfl (lv_at hl 0 rfl) ?_
  refine n_callUT (C := RX8) (As := []) (b := 40) SS hKo hK hKv (hM) (va_cwA 0 hts (lw_U q716 q718 q866 q725 q63 q726) rfl rfl rfl (hKw _ q717 rfl) (by decide +kernel) ⟨Nat.le_of_ble_eq_true rfl, Nat.le_of_ble_eq_true rfl⟩) hN hS ((sPic_x (by decide)).trans hAc) rfl rfl hl.1 rfl (Nat.le_of_ble_eq_true rfl) dX2_tried_9 ⟨by show 0 + mc_ ≤ mc_; omega, by show 0 + ms_ ≤ ms_; omega⟩ (fun a_ cell_ H locs hA1 hA2 hA3 hN hS => ?_)
  refine WT.catch (own := "TowerTell$Act") (pre := [(8, 12, 13, 23)]) (post := [(8, 12, 23, 31), (8, 12, 33, 33), (8, 12, 43, 35)]) (s0 := 8) (e0 := 12) (h0 := 23) (t0 := 29) (nmT := "java/lang/ClassCastException") hown hxh (List.forall_mem_cons.mpr ⟨⟨by decide, "java/lang/NullPointerException", hts _ q698, hX.2.2.2.1 ("java/lang/ClassCastException", "java/lang/NullPointerException") (List.mem_of_getElem? (i := 9) rfl)⟩, List.forall_mem_nil _⟩) ⟨by decide, by decide⟩ (by decide) (hts _ q699) (hKw _ q634 rfl) hA1 hA2 hA3 ?_
  refine lv_astore_n (lv' := [(1, _), (0, _)]) hx hb dX2_tried_23 rfl hl (by decide) rfl (fun ls hl => ?_)
  refine lv_aload_n hx hb dX2_tried_24 rfl (lv_at hl 1 rfl) ?_
  refine n_get (ci := 9) (C := RX8) (T := TX8) (N := 7) hx hb hts in_X8 hown hKv hN (40) ((sPic_x (by decide)).trans hAc) rfl 5 (by decide) q671 (fun z h => h) (rfl) dX2_tried_25 ?_
  refine lv_iconst (v := 2) hx hb dX2_tried_28 (by decide) ?_
  refine n_callVN (As := [_]) (C := RX0) (b := 0) SS hKo hK hKv (sX0_fails l G K hKo hK0 ad x (upd si 9 0) sa rn 2) (⟨va_cnB 1 hts (lw_meth q559) rfl rfl rfl (hKw _ q872 rfl) (hts _ q57) (by decide +kernel) ⟨Nat.le_of_ble_eq_true rfl, Nat.le_of_ble_eq_true rfl⟩, hts _ q558, hts _ qs15⟩) hN hS sPic_0 rfl rfl hl.1 rfl (Nat.le_of_ble_eq_true rfl) dX2_tried_29 ⟨by show 0 + mc_ + 0 ≤ mc_; omega, by show 0 + ms_ + 0 ≤ ms_; omega⟩ (fun v ad' c' H locs hv hN hS => ?_)
  obtain ⟨rfl, rfl, rfl⟩ := hv
  refine W.eq (g2 := F0 m 32 ls (_ :: _)) rfl ?_
  refine W.widen (k := mc_) (n := ms_) (by first | (show 0 + mc_ ≤ mc_; omega) | (show 0 + ms_ ≤ ms_; omega) | (show 0 + mc_ + 0 ≤ mc_; omega) | (show 0 + ms_ + 0 ≤ ms_; omega)) (by first | (show 0 + mc_ ≤ mc_; omega) | (show 0 + ms_ ≤ ms_; omega) | (show 0 + mc_ + 0 ≤ mc_; omega) | (show 0 + ms_ + 0 ≤ ms_; omega)) ?_
  exact W.iret hx hb hr (nEnd hN hS ⟨rfl, rfl, by rw [upd_upd]⟩) hS.2 dX2_tried_32
set_option maxHeartbeats 1000000 in
set_option maxRecDepth 100000 in
theorem sX2_tried_X8S (l : Launch) (G : nG) (K : State → Prop) (hKo : nKo G K) (hK0 : ∀ U, K U → sK0 G U) (hKx : ∀ U, K U → xK G U) (hfl : l.stackTraces = false) (ad : Nat → Nat) (x : nPic) (si : AI) (sa : Nat → AI) (rn : Value) (k q i n_ : Int32) (hAc : x 40 = actE 9 ad k q i n_) (mc_ ms_ : Nat) (hM : MetT l yX3_done (ws_ yX3_done cX3_done 1 (some .int)) (sR 9 mc_ ms_) (nPc G nCl K ad (sPic G x ad (upd si 9 0) sa rn) [.ref (ad 40)]) (xQ "java/lang/NegativeArraySizeException" G nCl ad (sPic G x ad (upd si 9 0) sa rn)) mc_ ms_ (fun q => G.2 ≤ q)) : Met l yX2_tried (wsW_ yX2_tried cX2_tried 2 (some .int) [(8, 12, 13, 23), (8, 12, 23, 29), (8, 12, 23, 31), (8, 12, 33, 33), (8, 12, 43, 35)]) (sR 10 mc_ ms_) (nPc G nCl K ad (sPic G x ad si sa rn) [.ref (ad 40)]) (nQ G nCl (fun rv ad' c' => rv = some (.int (-10 - 4)) ∧ ad = ad' ∧ sPic G x ad (upd si 9 4) sa rn = c')) mc_ ms_ (fun q => G.2 ≤ q) := by
  refine nMetW RX2 (by decide) rfl (Nat.le_of_ble_eq_true rfl) ?_
  intro p e s m below meth c ls SS hR hxh hadm hK hN hS hl
  obtain ⟨hx, hb, hml, hown, hts⟩ := id SS
  obtain ⟨hr, hlk, hnm⟩ := hR
  have hX := hKx s hK
  obtain ⟨hKv, hKw, hKf, hKz, hKm⟩ := hK0 s hK
  generalize s.heap = H at hN hS ⊢
  generalize ([] : List Loc) = locs at hS ⊢
  have hl : lv_has ls 2 [(0, .ref (ad 40))] := hl
  refine lv_aload_n hx hb dX2_tried_0 rfl (lv_at hl 0 rfl) ?_
  refine n_get (ci := 9) (C := RX8) (T := TX8) (N := 7) hx hb hts in_X8 hown hKv hN (40) ((sPic_x (by decide)).trans hAc) rfl 5 (by decide) q671 (fun z h => h) (rfl) dX2_tried_1 ?_
  refine lv_iconst (v := 0) hx hb dX2_tried_4 (by decide) ?_
  refine n_putN (ci := 0) (C := RX0) (T := TX0) (N := 12) hx hb hts in_X0 tyX0 tyX0_ok (va_apart (own := RX0) hts in_X0 tyX0 tyX0_ok nmX0 hKv rfl) hown hKv hN hS (0) sPic_0 rfl 9 (by decide) (hKw _ q137 rfl) (fun z h => h) rfl rfl rfl (Nat.le_of_ble_eq_true rfl) dX2_tried_5 (fun H locs hN hS => ?_)
  have hN := hN.congr (sPic_put rfl)
  refine lv_aload_n hx hb dX2_tried_8 rfl (lv_at hl 0 rfl) ?_
  refine n_callUT (C := RX8) (As := []) (b := 40) SS hKo hK hKv (hM) (va_cwA 0 hts (lw_U q716 q718 q866 q725 q63 q726) rfl rfl rfl (hKw _ q717 rfl) (by decide +kernel) ⟨Nat.le_of_ble_eq_true rfl, Nat.le_of_ble_eq_true rfl⟩) hN hS ((sPic_x (by decide)).trans hAc) rfl rfl hl.1 rfl (Nat.le_of_ble_eq_true rfl) dX2_tried_9 ⟨by show 0 + mc_ ≤ mc_; omega, by show 0 + ms_ ≤ ms_; omega⟩ (fun a_ cell_ H locs hA1 hA2 hA3 hN hS => ?_)
  refine WT.catch (own := "TowerTell$Act") (pre := [(8, 12, 13, 23), (8, 12, 23, 29), (8, 12, 23, 31)]) (post := [(8, 12, 43, 35)]) (s0 := 8) (e0 := 12) (h0 := 33) (t0 := 33) (nmT := "java/lang/NegativeArraySizeException") hown hxh (List.forall_mem_cons.mpr ⟨⟨by decide, "java/lang/NullPointerException", hts _ q698, hX.2.2.2.1 ("java/lang/NegativeArraySizeException", "java/lang/NullPointerException") (List.mem_of_getElem? (i := 14) rfl)⟩, List.forall_mem_cons.mpr ⟨⟨by decide, "java/lang/ClassCastException", hts _ q699, hX.2.2.2.1 ("java/lang/NegativeArraySizeException", "java/lang/ClassCastException") (List.mem_of_getElem? (i := 15) rfl)⟩, List.forall_mem_cons.mpr ⟨⟨by decide, "java/lang/ArrayStoreException", hts _ q700, hX.2.2.2.1 ("java/lang/NegativeArraySizeException", "java/lang/ArrayStoreException") (List.mem_of_getElem? (i := 16) rfl)⟩, List.forall_mem_nil _⟩⟩⟩) ⟨by decide, by decide⟩ (by decide) (hts _ q714) (hKw _ q510 rfl) hA1 hA2 hA3 ?_
  refine lv_astore_n (lv' := [(1, _), (0, _)]) hx hb dX2_tried_33 rfl hl (by decide) rfl (fun ls hl => ?_)
  refine lv_aload_n hx hb dX2_tried_34 rfl (lv_at hl 1 rfl) ?_
  refine n_get (ci := 9) (C := RX8) (T := TX8) (N := 7) hx hb hts in_X8 hown hKv hN (40) ((sPic_x (by decide)).trans hAc) rfl 5 (by decide) q671 (fun z h => h) (rfl) dX2_tried_35 ?_
  refine lv_iconst (v := 4) hx hb dX2_tried_38 (by decide) ?_
  refine n_callVN (As := [_]) (C := RX0) (b := 0) SS hKo hK hKv (sX0_fails l G K hKo hK0 ad x (upd si 9 0) sa rn 4) (⟨va_cnB 1 hts (lw_meth q559) rfl rfl rfl (hKw _ q872 rfl) (hts _ q57) (by decide +kernel) ⟨Nat.le_of_ble_eq_true rfl, Nat.le_of_ble_eq_true rfl⟩, hts _ q558, hts _ qs15⟩) hN hS sPic_0 rfl rfl hl.1 rfl (Nat.le_of_ble_eq_true rfl) dX2_tried_39 ⟨by show 0 + mc_ + 0 ≤ mc_; omega, by show 0 + ms_ + 0 ≤ ms_; omega⟩ (fun v ad' c' H locs hv hN hS => ?_)
  obtain ⟨rfl, rfl, rfl⟩ := hv
  refine W.eq (g2 := F0 m 42 ls (_ :: _)) rfl ?_
  refine W.widen (k := mc_) (n := ms_) (by first | (show 0 + mc_ ≤ mc_; omega) | (show 0 + ms_ ≤ ms_; omega) | (show 0 + mc_ + 0 ≤ mc_; omega) | (show 0 + ms_ + 0 ≤ ms_; omega)) (by first | (show 0 + mc_ ≤ mc_; omega) | (show 0 + ms_ ≤ ms_; omega) | (show 0 + mc_ + 0 ≤ mc_; omega) | (show 0 + ms_ + 0 ≤ ms_; omega)) ?_
  exact W.iret hx hb hr (nEnd hN hS ⟨rfl, rfl, by rw [upd_upd]⟩) hS.2 dX2_tried_42
set_option maxHeartbeats 1000000 in
set_option maxRecDepth 100000 in
theorem sX2_tried_X8I (l : Launch) (G : nG) (K : State → Prop) (hKo : nKo G K) (hK0 : ∀ U, K U → sK0 G U) (hKx : ∀ U, K U → xK G U) (hfl : l.stackTraces = false) (ad : Nat → Nat) (x : nPic) (si : AI) (sa : Nat → AI) (rn : Value) (k q i n_ : Int32) (hAc : x 40 = actE 9 ad k q i n_) (mc_ ms_ : Nat) (hM : MetT l yX3_done (ws_ yX3_done cX3_done 1 (some .int)) (sR 9 mc_ ms_) (nPc G nCl K ad (sPic G x ad (upd si 9 0) sa rn) [.ref (ad 40)]) (xQ "java/lang/IndexOutOfBoundsException" G nCl ad (sPic G x ad (upd si 9 0) sa rn)) mc_ ms_ (fun q => G.2 ≤ q)) : Met l yX2_tried (wsW_ yX2_tried cX2_tried 2 (some .int) [(8, 12, 13, 23), (8, 12, 23, 29), (8, 12, 23, 31), (8, 12, 33, 33), (8, 12, 43, 35)]) (sR 10 mc_ ms_) (nPc G nCl K ad (sPic G x ad si sa rn) [.ref (ad 40)]) (nQ G nCl (fun rv ad' c' => rv = some (.int (-10 - 3)) ∧ ad = ad' ∧ sPic G x ad (upd si 9 3) sa rn = c')) mc_ ms_ (fun q => G.2 ≤ q) := by
  refine nMetW RX2 (by decide) rfl (Nat.le_of_ble_eq_true rfl) ?_
  intro p e s m below meth c ls SS hR hxh hadm hK hN hS hl
  obtain ⟨hx, hb, hml, hown, hts⟩ := id SS
  obtain ⟨hr, hlk, hnm⟩ := hR
  have hX := hKx s hK
  obtain ⟨hKv, hKw, hKf, hKz, hKm⟩ := hK0 s hK
  generalize s.heap = H at hN hS ⊢
  generalize ([] : List Loc) = locs at hS ⊢
  have hl : lv_has ls 2 [(0, .ref (ad 40))] := hl
  refine lv_aload_n hx hb dX2_tried_0 rfl (lv_at hl 0 rfl) ?_
  refine n_get (ci := 9) (C := RX8) (T := TX8) (N := 7) hx hb hts in_X8 hown hKv hN (40) ((sPic_x (by decide)).trans hAc) rfl 5 (by decide) q671 (fun z h => h) (rfl) dX2_tried_1 ?_
  refine lv_iconst (v := 0) hx hb dX2_tried_4 (by decide) ?_
  refine n_putN (ci := 0) (C := RX0) (T := TX0) (N := 12) hx hb hts in_X0 tyX0 tyX0_ok (va_apart (own := RX0) hts in_X0 tyX0 tyX0_ok nmX0 hKv rfl) hown hKv hN hS (0) sPic_0 rfl 9 (by decide) (hKw _ q137 rfl) (fun z h => h) rfl rfl rfl (Nat.le_of_ble_eq_true rfl) dX2_tried_5 (fun H locs hN hS => ?_)
  have hN := hN.congr (sPic_put rfl)
  refine lv_aload_n hx hb dX2_tried_8 rfl (lv_at hl 0 rfl) ?_
  refine n_callUT (C := RX8) (As := []) (b := 40) SS hKo hK hKv (hM) (va_cwA 0 hts (lw_U q716 q718 q866 q725 q63 q726) rfl rfl rfl (hKw _ q717 rfl) (by decide +kernel) ⟨Nat.le_of_ble_eq_true rfl, Nat.le_of_ble_eq_true rfl⟩) hN hS ((sPic_x (by decide)).trans hAc) rfl rfl hl.1 rfl (Nat.le_of_ble_eq_true rfl) dX2_tried_9 ⟨by show 0 + mc_ ≤ mc_; omega, by show 0 + ms_ ≤ ms_; omega⟩ (fun a_ cell_ H locs hA1 hA2 hA3 hN hS => ?_)
  refine WT.catch (own := "TowerTell$Act") (pre := [(8, 12, 13, 23), (8, 12, 23, 29), (8, 12, 23, 31), (8, 12, 33, 33)]) (post := []) (s0 := 8) (e0 := 12) (h0 := 43) (t0 := 35) (nmT := "java/lang/IndexOutOfBoundsException") hown hxh (List.forall_mem_cons.mpr ⟨⟨by decide, "java/lang/NullPointerException", hts _ q698, hX.2.2.2.1 ("java/lang/IndexOutOfBoundsException", "java/lang/NullPointerException") (List.mem_of_getElem? (i := 19) rfl)⟩, List.forall_mem_cons.mpr ⟨⟨by decide, "java/lang/ClassCastException", hts _ q699, hX.2.2.2.1 ("java/lang/IndexOutOfBoundsException", "java/lang/ClassCastException") (List.mem_of_getElem? (i := 20) rfl)⟩, List.forall_mem_cons.mpr ⟨⟨by decide, "java/lang/ArrayStoreException", hts _ q700, hX.2.2.2.1 ("java/lang/IndexOutOfBoundsException", "java/lang/ArrayStoreException") (List.mem_of_getElem? (i := 21) rfl)⟩, List.forall_mem_cons.mpr ⟨⟨by decide, "java/lang/NegativeArraySizeException", hts _ q714, hX.2.2.2.1 ("java/lang/IndexOutOfBoundsException", "java/lang/NegativeArraySizeException") (List.mem_of_getElem? (i := 22) rfl)⟩, List.forall_mem_nil _⟩⟩⟩⟩) ⟨by decide, by decide⟩ (by decide) (hts _ q715) (hKw _ q739 rfl) hA1 hA2 hA3 ?_
  refine lv_astore_n (lv' := [(1, _), (0, _)]) hx hb dX2_tried_43 rfl hl (by decide) rfl (fun ls hl => ?_)
  refine lv_aload_n hx hb dX2_tried_44 rfl (lv_at hl 1 rfl) ?_
  refine n_get (ci := 9) (C := RX8) (T := TX8) (N := 7) hx hb hts in_X8 hown hKv hN (40) ((sPic_x (by decide)).trans hAc) rfl 5 (by decide) q671 (fun z h => h) (rfl) dX2_tried_45 ?_
  refine lv_iconst (v := 3) hx hb dX2_tried_48 (by decide) ?_
  refine n_callVN (As := [_]) (C := RX0) (b := 0) SS hKo hK hKv (sX0_fails l G K hKo hK0 ad x (upd si 9 0) sa rn 3) (⟨va_cnB 1 hts (lw_meth q559) rfl rfl rfl (hKw _ q872 rfl) (hts _ q57) (by decide +kernel) ⟨Nat.le_of_ble_eq_true rfl, Nat.le_of_ble_eq_true rfl⟩, hts _ q558, hts _ qs15⟩) hN hS sPic_0 rfl rfl hl.1 rfl (Nat.le_of_ble_eq_true rfl) dX2_tried_49 ⟨by show 0 + mc_ + 0 ≤ mc_; omega, by show 0 + ms_ + 0 ≤ ms_; omega⟩ (fun v ad' c' H locs hv hN hS => ?_)
  obtain ⟨rfl, rfl, rfl⟩ := hv
  refine W.eq (g2 := F0 m 52 ls (_ :: _)) rfl ?_
  refine W.widen (k := mc_) (n := ms_) (by first | (show 0 + mc_ ≤ mc_; omega) | (show 0 + ms_ ≤ ms_; omega) | (show 0 + mc_ + 0 ≤ mc_; omega) | (show 0 + ms_ + 0 ≤ ms_; omega)) (by first | (show 0 + mc_ ≤ mc_; omega) | (show 0 + ms_ ≤ ms_; omega) | (show 0 + mc_ + 0 ≤ mc_; omega) | (show 0 + ms_ + 0 ≤ ms_; omega)) ?_
  exact W.iret hx hb hr (nEnd hN hS ⟨rfl, rfl, by rw [upd_upd]⟩) hS.2 dX2_tried_52
set_option maxHeartbeats 1000000 in
set_option maxRecDepth 100000 in
theorem sX2_tried_X11 (l : Launch) (G : nG) (K : State → Prop) (hKo : nKo G K) (hK0 : ∀ U, K U → sK0 G U) (hKx : ∀ U, K U → xK G U) (hfl : l.stackTraces = false) (ad : Nat → Nat) (x : nPic) (si : AI) (sa : Nat → AI) (rn : Value) (k i k2 j n_ : Int32) (hAc : x 40 = some (.inr (10, [.ref (ad 0), .int k, .int i, .int k2, .int j, .int n_, .ref (ad 0)]))) (mc_ ms_ : Nat) (P : Option Value → (Nat → Nat) → nPic → Prop) (hPi : ∀ v a c, P v a c → ∃ z : Int32, v = some (.int z)) (hM : Met l yX11_done (ws_ yX11_done cX11_done 1 (some .int)) (sR 9 mc_ ms_) (nPc G nCl K ad (sPic G x ad (upd si 9 0) sa rn) [.ref (ad 40)]) (nQ G nCl P) mc_ ms_ (fun q => G.2 ≤ q)) : Met l yX2_tried (wsW_ yX2_tried cX2_tried 2 (some .int) [(8, 12, 13, 23), (8, 12, 23, 29), (8, 12, 23, 31), (8, 12, 33, 33), (8, 12, 43, 35)]) (sR 10 mc_ ms_) (nPc G nCl K ad (sPic G x ad si sa rn) [.ref (ad 40)]) (nQ G nCl (P)) mc_ ms_ (fun q => G.2 ≤ q) := by
  refine nMetW RX2 (by decide) rfl (Nat.le_of_ble_eq_true rfl) ?_
  intro p e s m below meth c ls SS hR hxh hadm hK hN hS hl
  obtain ⟨hx, hb, hml, hown, hts⟩ := id SS
  obtain ⟨hr, hlk, hnm⟩ := hR
  have hX := hKx s hK
  obtain ⟨hKv, hKw, hKf, hKz, hKm⟩ := hK0 s hK
  generalize s.heap = H at hN hS ⊢
  generalize ([] : List Loc) = locs at hS ⊢
  have hl : lv_has ls 2 [(0, .ref (ad 40))] := hl
  refine lv_aload_n hx hb dX2_tried_0 rfl (lv_at hl 0 rfl) ?_
  refine n_get (ci := 10) (C := RX11) (T := TX11) (N := 7) hx hb hts in_X11 hown hKv hN (40) ((sPic_x (by decide)).trans hAc) rfl 0 (by decide) q671 (fun z h => h) (rfl) dX2_tried_1 ?_
  refine lv_iconst (v := 0) hx hb dX2_tried_4 (by decide) ?_
  refine n_putN (ci := 0) (C := RX0) (T := TX0) (N := 12) hx hb hts in_X0 tyX0 tyX0_ok (va_apart (own := RX0) hts in_X0 tyX0 tyX0_ok nmX0 hKv rfl) hown hKv hN hS (0) sPic_0 rfl 9 (by decide) (hKw _ q137 rfl) (fun z h => h) rfl rfl rfl (Nat.le_of_ble_eq_true rfl) dX2_tried_5 (fun H locs hN hS => ?_)
  have hN := hN.congr (sPic_put rfl)
  refine lv_aload_n hx hb dX2_tried_8 rfl (lv_at hl 0 rfl) ?_
  refine n_callU (C := RX11) (As := []) (b := 40) SS hKo hK hKv (hM) (va_cwA 0 hts (lw_U q716 q718 q719 q720 q88 q721) rfl rfl rfl (hKw _ q717 rfl) (by decide +kernel) ⟨Nat.le_of_ble_eq_true rfl, Nat.le_of_ble_eq_true rfl⟩) hN hS ((sPic_x (by decide)).trans hAc) rfl rfl hl.1 rfl (Nat.le_of_ble_eq_true rfl) dX2_tried_9 ⟨by show 0 + mc_ ≤ mc_; omega, by show 0 + ms_ ≤ ms_; omega⟩ (fun v ad' c' H locs hv hN hS => ?_)
  obtain ⟨z_, rfl⟩ := hPi _ _ _ hv
  refine W.eq (g2 := F0 m 12 ls (_ :: _)) rfl ?_
  refine W.widen (k := mc_) (n := ms_) (by first | (show 0 + mc_ ≤ mc_; omega) | (show 0 + ms_ ≤ ms_; omega) | (show 0 + mc_ + 0 ≤ mc_; omega) | (show 0 + ms_ + 0 ≤ ms_; omega)) (by first | (show 0 + mc_ ≤ mc_; omega) | (show 0 + ms_ ≤ ms_; omega) | (show 0 + mc_ + 0 ≤ mc_; omega) | (show 0 + ms_ + 0 ≤ ms_; omega)) ?_
  exact W.iret hx hb hr (nEnd hN hS hv) hS.2 dX2_tried_12
set_option maxHeartbeats 1000000 in
set_option maxRecDepth 100000 in
theorem sX2_tried_X11N (l : Launch) (G : nG) (K : State → Prop) (hKo : nKo G K) (hK0 : ∀ U, K U → sK0 G U) (hKx : ∀ U, K U → xK G U) (hfl : l.stackTraces = false) (ad : Nat → Nat) (x : nPic) (si : AI) (sa : Nat → AI) (rn : Value) (k i k2 j n_ : Int32) (hAc : x 40 = some (.inr (10, [.ref (ad 0), .int k, .int i, .int k2, .int j, .int n_, .ref (ad 0)]))) (mc_ ms_ : Nat) (hM : MetT l yX11_done (ws_ yX11_done cX11_done 1 (some .int)) (sR 9 mc_ ms_) (nPc G nCl K ad (sPic G x ad (upd si 9 0) sa rn) [.ref (ad 40)]) (xQ "java/lang/NullPointerException" G nCl ad (sPic G x ad (upd si 9 0) sa rn)) mc_ ms_ (fun q => G.2 ≤ q)) : Met l yX2_tried (wsW_ yX2_tried cX2_tried 2 (some .int) [(8, 12, 13, 23), (8, 12, 23, 29), (8, 12, 23, 31), (8, 12, 33, 33), (8, 12, 43, 35)]) (sR 10 mc_ ms_) (nPc G nCl K ad (sPic G x ad si sa rn) [.ref (ad 40)]) (nQ G nCl (fun rv ad' c' => rv = some (.int (-10 - 1)) ∧ ad = ad' ∧ sPic G x ad (upd si 9 1) sa rn = c')) mc_ ms_ (fun q => G.2 ≤ q) := by
  refine nMetW RX2 (by decide) rfl (Nat.le_of_ble_eq_true rfl) ?_
  intro p e s m below meth c ls SS hR hxh hadm hK hN hS hl
  obtain ⟨hx, hb, hml, hown, hts⟩ := id SS
  obtain ⟨hr, hlk, hnm⟩ := hR
  have hX := hKx s hK
  obtain ⟨hKv, hKw, hKf, hKz, hKm⟩ := hK0 s hK
  generalize s.heap = H at hN hS ⊢
  generalize ([] : List Loc) = locs at hS ⊢
  have hl : lv_has ls 2 [(0, .ref (ad 40))] := hl
  refine lv_aload_n hx hb dX2_tried_0 rfl (lv_at hl 0 rfl) ?_
  refine n_get (ci := 10) (C := RX11) (T := TX11) (N := 7) hx hb hts in_X11 hown hKv hN (40) ((sPic_x (by decide)).trans hAc) rfl 0 (by decide) q671 (fun z h => h) (rfl) dX2_tried_1 ?_
  refine lv_iconst (v := 0) hx hb dX2_tried_4 (by decide) ?_
  refine n_putN (ci := 0) (C := RX0) (T := TX0) (N := 12) hx hb hts in_X0 tyX0 tyX0_ok (va_apart (own := RX0) hts in_X0 tyX0 tyX0_ok nmX0 hKv rfl) hown hKv hN hS (0) sPic_0 rfl 9 (by decide) (hKw _ q137 rfl) (fun z h => h) rfl rfl rfl (Nat.le_of_ble_eq_true rfl) dX2_tried_5 (fun H locs hN hS => ?_)
  have hN := hN.congr (sPic_put rfl)
  refine lv_aload_n hx hb dX2_tried_8 rfl (lv_at hl 0 rfl) ?_
  refine n_callUT (C := RX11) (As := []) (b := 40) SS hKo hK hKv (hM) (va_cwA 0 hts (lw_U q716 q718 q719 q720 q88 q721) rfl rfl rfl (hKw _ q717 rfl) (by decide +kernel) ⟨Nat.le_of_ble_eq_true rfl, Nat.le_of_ble_eq_true rfl⟩) hN hS ((sPic_x (by decide)).trans hAc) rfl rfl hl.1 rfl (Nat.le_of_ble_eq_true rfl) dX2_tried_9 ⟨by show 0 + mc_ ≤ mc_; omega, by show 0 + ms_ ≤ ms_; omega⟩ (fun a_ cell_ H locs hA1 hA2 hA3 hN hS => ?_)
  refine WT.catch (own := "TowerTell$Act") (pre := []) (post := [(8, 12, 23, 29), (8, 12, 23, 31), (8, 12, 33, 33), (8, 12, 43, 35)]) (s0 := 8) (e0 := 12) (h0 := 13) (t0 := 23) (nmT := "java/lang/NullPointerException") hown hxh (List.forall_mem_nil _) ⟨by decide, by decide⟩ (by decide) (hts _ q698) (hKw _ q590 rfl) hA1 hA2 hA3 ?_
  refine lv_astore_n (lv' := [(1, _), (0, _)]) hx hb dX2_tried_13 rfl hl (by decide) rfl (fun ls hl => ?_)
  refine lv_aload_n hx hb dX2_tried_14 rfl (lv_at hl 1 rfl) ?_
  refine n_get (ci := 10) (C := RX11) (T := TX11) (N := 7) hx hb hts in_X11 hown hKv hN (40) ((sPic_x (by decide)).trans hAc) rfl 0 (by decide) q671 (fun z h => h) (rfl) dX2_tried_15 ?_
  refine lv_iconst (v := 1) hx hb dX2_tried_18 (by decide) ?_
  refine n_callVN (As := [_]) (C := RX0) (b := 0) SS hKo hK hKv (sX0_fails l G K hKo hK0 ad x (upd si 9 0) sa rn 1) (⟨va_cnB 1 hts (lw_meth q559) rfl rfl rfl (hKw _ q872 rfl) (hts _ q57) (by decide +kernel) ⟨Nat.le_of_ble_eq_true rfl, Nat.le_of_ble_eq_true rfl⟩, hts _ q558, hts _ qs15⟩) hN hS sPic_0 rfl rfl hl.1 rfl (Nat.le_of_ble_eq_true rfl) dX2_tried_19 ⟨by show 0 + mc_ + 0 ≤ mc_; omega, by show 0 + ms_ + 0 ≤ ms_; omega⟩ (fun v ad' c' H locs hv hN hS => ?_)
  obtain ⟨rfl, rfl, rfl⟩ := hv
  refine W.eq (g2 := F0 m 22 ls (_ :: _)) rfl ?_
  refine W.widen (k := mc_) (n := ms_) (by first | (show 0 + mc_ ≤ mc_; omega) | (show 0 + ms_ ≤ ms_; omega) | (show 0 + mc_ + 0 ≤ mc_; omega) | (show 0 + ms_ + 0 ≤ ms_; omega)) (by first | (show 0 + mc_ ≤ mc_; omega) | (show 0 + ms_ ≤ ms_; omega) | (show 0 + mc_ + 0 ≤ mc_; omega) | (show 0 + ms_ + 0 ≤ ms_; omega)) ?_
  exact W.iret hx hb hr (nEnd hN hS ⟨rfl, rfl, by rw [upd_upd]⟩) hS.2 dX2_tried_22
set_option maxHeartbeats 1000000 in
set_option maxRecDepth 100000 in
theorem sX2_tried_X11A (l : Launch) (G : nG) (K : State → Prop) (hKo : nKo G K) (hK0 : ∀ U, K U → sK0 G U) (hKx : ∀ U, K U → xK G U) (hfl : l.stackTraces = false) (ad : Nat → Nat) (x : nPic) (si : AI) (sa : Nat → AI) (rn : Value) (k i k2 j n_ : Int32) (hAc : x 40 = some (.inr (10, [.ref (ad 0), .int k, .int i, .int k2, .int j, .int n_, .ref (ad 0)]))) (mc_ ms_ : Nat) (hM : MetT l yX11_done (ws_ yX11_done cX11_done 1 (some .int)) (sR 9 mc_ ms_) (nPc G nCl K ad (sPic G x ad (upd si 9 0) sa rn) [.ref (ad 40)]) (xQ "java/lang/ArrayStoreException" G nCl ad (sPic G x ad (upd si 9 0) sa rn)) mc_ ms_ (fun q => G.2 ≤ q)) : Met l yX2_tried (wsW_ yX2_tried cX2_tried 2 (some .int) [(8, 12, 13, 23), (8, 12, 23, 29), (8, 12, 23, 31), (8, 12, 33, 33), (8, 12, 43, 35)]) (sR 10 mc_ ms_) (nPc G nCl K ad (sPic G x ad si sa rn) [.ref (ad 40)]) (nQ G nCl (fun rv ad' c' => rv = some (.int (-10 - 2)) ∧ ad = ad' ∧ sPic G x ad (upd si 9 2) sa rn = c')) mc_ ms_ (fun q => G.2 ≤ q) := by
  refine nMetW RX2 (by decide) rfl (Nat.le_of_ble_eq_true rfl) ?_
  intro p e s m below meth c ls SS hR hxh hadm hK hN hS hl
  obtain ⟨hx, hb, hml, hown, hts⟩ := id SS
  obtain ⟨hr, hlk, hnm⟩ := hR
  have hX := hKx s hK
  obtain ⟨hKv, hKw, hKf, hKz, hKm⟩ := hK0 s hK
  generalize s.heap = H at hN hS ⊢
  generalize ([] : List Loc) = locs at hS ⊢
  have hl : lv_has ls 2 [(0, .ref (ad 40))] := hl
  refine lv_aload_n hx hb dX2_tried_0 rfl (lv_at hl 0 rfl) ?_
  refine n_get (ci := 10) (C := RX11) (T := TX11) (N := 7) hx hb hts in_X11 hown hKv hN (40) ((sPic_x (by decide)).trans hAc) rfl 0 (by decide) q671 (fun z h => h) (rfl) dX2_tried_1 ?_
  refine lv_iconst (v := 0) hx hb dX2_tried_4 (by decide) ?_
  refine n_putN (ci := 0) (C := RX0) (T := TX0) (N := 12) hx hb hts in_X0 tyX0 tyX0_ok (va_apart (own := RX0) hts in_X0 tyX0 tyX0_ok nmX0 hKv rfl) hown hKv hN hS (0) sPic_0 rfl 9 (by decide) (hKw _ q137 rfl) (fun z h => h) rfl rfl rfl (Nat.le_of_ble_eq_true rfl) dX2_tried_5 (fun H locs hN hS => ?_)
  have hN := hN.congr (sPic_put rfl)
  refine lv_aload_n hx hb dX2_tried_8 rfl (lv_at hl 0 rfl) ?_
  refine n_callUT (C := RX11) (As := []) (b := 40) SS hKo hK hKv (hM) (va_cwA 0 hts (lw_U q716 q718 q719 q720 q88 q721) rfl rfl rfl (hKw _ q717 rfl) (by decide +kernel) ⟨Nat.le_of_ble_eq_true rfl, Nat.le_of_ble_eq_true rfl⟩) hN hS ((sPic_x (by decide)).trans hAc) rfl rfl hl.1 rfl (Nat.le_of_ble_eq_true rfl) dX2_tried_9 ⟨by show 0 + mc_ ≤ mc_; omega, by show 0 + ms_ ≤ ms_; omega⟩ (fun a_ cell_ H locs hA1 hA2 hA3 hN hS => ?_)
  refine WT.catch (own := "TowerTell$Act") (pre := [(8, 12, 13, 23), (8, 12, 23, 29)]) (post := [(8, 12, 33, 33), (8, 12, 43, 35)]) (s0 := 8) (e0 := 12) (h0 := 23) (t0 := 31) (nmT := "java/lang/ArrayStoreException") hown hxh (List.forall_mem_cons.mpr ⟨⟨by decide, "java/lang/NullPointerException", hts _ q698, hX.2.2.2.1 ("java/lang/ArrayStoreException", "java/lang/NullPointerException") (List.mem_of_getElem? (i := 12) rfl)⟩, List.forall_mem_cons.mpr ⟨⟨by decide, "java/lang/ClassCastException", hts _ q699, hX.2.2.2.1 ("java/lang/ArrayStoreException", "java/lang/ClassCastException") (List.mem_of_getElem? (i := 13) rfl)⟩, List.forall_mem_nil _⟩⟩) ⟨by decide, by decide⟩ (by decide) (hts _ q700) (hKw _ q712 rfl) hA1 hA2 hA3 ?_
  refine lv_astore_n (lv' := [(1, _), (0, _)]) hx hb dX2_tried_23 rfl hl (by decide) rfl (fun ls hl => ?_)
  refine lv_aload_n hx hb dX2_tried_24 rfl (lv_at hl 1 rfl) ?_
  refine n_get (ci := 10) (C := RX11) (T := TX11) (N := 7) hx hb hts in_X11 hown hKv hN (40) ((sPic_x (by decide)).trans hAc) rfl 0 (by decide) q671 (fun z h => h) (rfl) dX2_tried_25 ?_
  refine lv_iconst (v := 2) hx hb dX2_tried_28 (by decide) ?_
  refine n_callVN (As := [_]) (C := RX0) (b := 0) SS hKo hK hKv (sX0_fails l G K hKo hK0 ad x (upd si 9 0) sa rn 2) (⟨va_cnB 1 hts (lw_meth q559) rfl rfl rfl (hKw _ q872 rfl) (hts _ q57) (by decide +kernel) ⟨Nat.le_of_ble_eq_true rfl, Nat.le_of_ble_eq_true rfl⟩, hts _ q558, hts _ qs15⟩) hN hS sPic_0 rfl rfl hl.1 rfl (Nat.le_of_ble_eq_true rfl) dX2_tried_29 ⟨by show 0 + mc_ + 0 ≤ mc_; omega, by show 0 + ms_ + 0 ≤ ms_; omega⟩ (fun v ad' c' H locs hv hN hS => ?_)
  obtain ⟨rfl, rfl, rfl⟩ := hv
  refine W.eq (g2 := F0 m 32 ls (_ :: _)) rfl ?_
  refine W.widen (k := mc_) (n := ms_) (by first | (show 0 + mc_ ≤ mc_; omega) | (show 0 + ms_ ≤ ms_; omega) | (show 0 + mc_ + 0 ≤ mc_; omega) | (show 0 + ms_ + 0 ≤ ms_; omega)) (by first | (show 0 + mc_ ≤ mc_; omega) | (show 0 + ms_ ≤ ms_; omega) | (show 0 + mc_ + 0 ≤ mc_; omega) | (show 0 + ms_ + 0 ≤ ms_; omega)) ?_
  exact W.iret hx hb hr (nEnd hN hS ⟨rfl, rfl, by rw [upd_upd]⟩) hS.2 dX2_tried_32
set_option maxHeartbeats 1000000 in
set_option maxRecDepth 100000 in
theorem sX2_tried_X11I (l : Launch) (G : nG) (K : State → Prop) (hKo : nKo G K) (hK0 : ∀ U, K U → sK0 G U) (hKx : ∀ U, K U → xK G U) (hfl : l.stackTraces = false) (ad : Nat → Nat) (x : nPic) (si : AI) (sa : Nat → AI) (rn : Value) (k i k2 j n_ : Int32) (hAc : x 40 = some (.inr (10, [.ref (ad 0), .int k, .int i, .int k2, .int j, .int n_, .ref (ad 0)]))) (mc_ ms_ : Nat) (hM : MetT l yX11_done (ws_ yX11_done cX11_done 1 (some .int)) (sR 9 mc_ ms_) (nPc G nCl K ad (sPic G x ad (upd si 9 0) sa rn) [.ref (ad 40)]) (xQ "java/lang/ArrayIndexOutOfBoundsException" G nCl ad (sPic G x ad (upd si 9 0) sa rn)) mc_ ms_ (fun q => G.2 ≤ q)) : Met l yX2_tried (wsW_ yX2_tried cX2_tried 2 (some .int) [(8, 12, 13, 23), (8, 12, 23, 29), (8, 12, 23, 31), (8, 12, 33, 33), (8, 12, 43, 35)]) (sR 10 mc_ ms_) (nPc G nCl K ad (sPic G x ad si sa rn) [.ref (ad 40)]) (nQ G nCl (fun rv ad' c' => rv = some (.int (-10 - 3)) ∧ ad = ad' ∧ sPic G x ad (upd si 9 3) sa rn = c')) mc_ ms_ (fun q => G.2 ≤ q) := by
  refine nMetW RX2 (by decide) rfl (Nat.le_of_ble_eq_true rfl) ?_
  intro p e s m below meth c ls SS hR hxh hadm hK hN hS hl
  obtain ⟨hx, hb, hml, hown, hts⟩ := id SS
  obtain ⟨hr, hlk, hnm⟩ := hR
  have hX := hKx s hK
  obtain ⟨hKv, hKw, hKf, hKz, hKm⟩ := hK0 s hK
  generalize s.heap = H at hN hS ⊢
  generalize ([] : List Loc) = locs at hS ⊢
  have hl : lv_has ls 2 [(0, .ref (ad 40))] := hl
  refine lv_aload_n hx hb dX2_tried_0 rfl (lv_at hl 0 rfl) ?_
  refine n_get (ci := 10) (C := RX11) (T := TX11) (N := 7) hx hb hts in_X11 hown hKv hN (40) ((sPic_x (by decide)).trans hAc) rfl 0 (by decide) q671 (fun z h => h) (rfl) dX2_tried_1 ?_
  refine lv_iconst (v := 0) hx hb dX2_tried_4 (by decide) ?_
  refine n_putN (ci := 0) (C := RX0) (T := TX0) (N := 12) hx hb hts in_X0 tyX0 tyX0_ok (va_apart (own := RX0) hts in_X0 tyX0 tyX0_ok nmX0 hKv rfl) hown hKv hN hS (0) sPic_0 rfl 9 (by decide) (hKw _ q137 rfl) (fun z h => h) rfl rfl rfl (Nat.le_of_ble_eq_true rfl) dX2_tried_5 (fun H locs hN hS => ?_)
  have hN := hN.congr (sPic_put rfl)
  refine lv_aload_n hx hb dX2_tried_8 rfl (lv_at hl 0 rfl) ?_
  refine n_callUT (C := RX11) (As := []) (b := 40) SS hKo hK hKv (hM) (va_cwA 0 hts (lw_U q716 q718 q719 q720 q88 q721) rfl rfl rfl (hKw _ q717 rfl) (by decide +kernel) ⟨Nat.le_of_ble_eq_true rfl, Nat.le_of_ble_eq_true rfl⟩) hN hS ((sPic_x (by decide)).trans hAc) rfl rfl hl.1 rfl (Nat.le_of_ble_eq_true rfl) dX2_tried_9 ⟨by show 0 + mc_ ≤ mc_; omega, by show 0 + ms_ ≤ ms_; omega⟩ (fun a_ cell_ H locs hA1 hA2 hA3 hN hS => ?_)
  refine WT.catch (own := "TowerTell$Act") (pre := [(8, 12, 13, 23), (8, 12, 23, 29), (8, 12, 23, 31), (8, 12, 33, 33)]) (post := []) (s0 := 8) (e0 := 12) (h0 := 43) (t0 := 35) (nmT := "java/lang/IndexOutOfBoundsException") hown hxh (List.forall_mem_cons.mpr ⟨⟨by decide, "java/lang/NullPointerException", hts _ q698, hX.2.2.2.1 ("java/lang/ArrayIndexOutOfBoundsException", "java/lang/NullPointerException") (List.mem_of_getElem? (i := 10) rfl)⟩, List.forall_mem_cons.mpr ⟨⟨by decide, "java/lang/ClassCastException", hts _ q699, hX.2.2.2.1 ("java/lang/ArrayIndexOutOfBoundsException", "java/lang/ClassCastException") (List.mem_of_getElem? (i := 11) rfl)⟩, List.forall_mem_cons.mpr ⟨⟨by decide, "java/lang/ArrayStoreException", hts _ q700, hX.2.2.2.1 ("java/lang/ArrayIndexOutOfBoundsException", "java/lang/ArrayStoreException") (List.mem_of_getElem? (i := 17) rfl)⟩, List.forall_mem_cons.mpr ⟨⟨by decide, "java/lang/NegativeArraySizeException", hts _ q714, hX.2.2.2.1 ("java/lang/ArrayIndexOutOfBoundsException", "java/lang/NegativeArraySizeException") (List.mem_of_getElem? (i := 18) rfl)⟩, List.forall_mem_nil _⟩⟩⟩⟩) ⟨by decide, by decide⟩ (by decide) (hts _ q715) (hKw _ q1435 rfl) hA1 hA2 hA3 ?_
  refine lv_astore_n (lv' := [(1, _), (0, _)]) hx hb dX2_tried_43 rfl hl (by decide) rfl (fun ls hl => ?_)
  refine lv_aload_n hx hb dX2_tried_44 rfl (lv_at hl 1 rfl) ?_
  refine n_get (ci := 10) (C := RX11) (T := TX11) (N := 7) hx hb hts in_X11 hown hKv hN (40) ((sPic_x (by decide)).trans hAc) rfl 0 (by decide) q671 (fun z h => h) (rfl) dX2_tried_45 ?_
  refine lv_iconst (v := 3) hx hb dX2_tried_48 (by decide) ?_
  refine n_callVN (As := [_]) (C := RX0) (b := 0) SS hKo hK hKv (sX0_fails l G K hKo hK0 ad x (upd si 9 0) sa rn 3) (⟨va_cnB 1 hts (lw_meth q559) rfl rfl rfl (hKw _ q872 rfl) (hts _ q57) (by decide +kernel) ⟨Nat.le_of_ble_eq_true rfl, Nat.le_of_ble_eq_true rfl⟩, hts _ q558, hts _ qs15⟩) hN hS sPic_0 rfl rfl hl.1 rfl (Nat.le_of_ble_eq_true rfl) dX2_tried_49 ⟨by show 0 + mc_ + 0 ≤ mc_; omega, by show 0 + ms_ + 0 ≤ ms_; omega⟩ (fun v ad' c' H locs hv hN hS => ?_)
  obtain ⟨rfl, rfl, rfl⟩ := hv
  refine W.eq (g2 := F0 m 52 ls (_ :: _)) rfl ?_
  refine W.widen (k := mc_) (n := ms_) (by first | (show 0 + mc_ ≤ mc_; omega) | (show 0 + ms_ ≤ ms_; omega) | (show 0 + mc_ + 0 ≤ mc_; omega) | (show 0 + ms_ + 0 ≤ ms_; omega)) (by first | (show 0 + mc_ ≤ mc_; omega) | (show 0 + ms_ ≤ ms_; omega) | (show 0 + mc_ + 0 ≤ mc_; omega) | (show 0 + ms_ + 0 ≤ ms_; omega)) ?_
  exact W.iret hx hb hr (nEnd hN hS ⟨rfl, rfl, by rw [upd_upd]⟩) hS.2 dX2_tried_52
set_option maxHeartbeats 1000000 in
set_option maxRecDepth 100000 in
theorem sX2_tried_X12 (l : Launch) (G : nG) (K : State → Prop) (hKo : nKo G K) (hK0 : ∀ U, K U → sK0 G U) (hKx : ∀ U, K U → xK G U) (hfl : l.stackTraces = false) (ad : Nat → Nat) (x : nPic) (si : AI) (sa : Nat → AI) (rn : Value) (r_ : Nat) (k : Int32) (hAc : x 40 = some (.inr (11, [.ref (ad 0), .ref r_, .int k, .ref (ad 0)]))) (mc_ ms_ : Nat) (P : Option Value → (Nat → Nat) → nPic → Prop) (hPi : ∀ v a c, P v a c → ∃ z : Int32, v = some (.int z)) (hM : Met l yX12_done (ws_ yX12_done cX12_done 2 (some .int)) (sR 1 mc_ ms_) (nPc G nCl K ad (sPic G x ad (upd si 9 0) sa rn) [.ref (ad 40)]) (nQ G nCl P) mc_ ms_ (fun q => G.2 ≤ q)) : Met l yX2_tried (wsW_ yX2_tried cX2_tried 2 (some .int) [(8, 12, 13, 23), (8, 12, 23, 29), (8, 12, 23, 31), (8, 12, 33, 33), (8, 12, 43, 35)]) (sR 10 mc_ ms_) (nPc G nCl K ad (sPic G x ad si sa rn) [.ref (ad 40)]) (nQ G nCl (P)) mc_ ms_ (fun q => G.2 ≤ q) := by
  refine nMetW RX2 (by decide) rfl (Nat.le_of_ble_eq_true rfl) ?_
  intro p e s m below meth c ls SS hR hxh hadm hK hN hS hl
  obtain ⟨hx, hb, hml, hown, hts⟩ := id SS
  obtain ⟨hr, hlk, hnm⟩ := hR
  have hX := hKx s hK
  obtain ⟨hKv, hKw, hKf, hKz, hKm⟩ := hK0 s hK
  generalize s.heap = H at hN hS ⊢
  generalize ([] : List Loc) = locs at hS ⊢
  have hl : lv_has ls 2 [(0, .ref (ad 40))] := hl
  refine lv_aload_n hx hb dX2_tried_0 rfl (lv_at hl 0 rfl) ?_
  refine n_get (ci := 11) (C := RX12) (T := TX12) (N := 4) hx hb hts in_X12 hown hKv hN (40) ((sPic_x (by decide)).trans hAc) rfl 0 (by decide) q671 (fun z h => h) (rfl) dX2_tried_1 ?_
  refine lv_iconst (v := 0) hx hb dX2_tried_4 (by decide) ?_
  refine n_putN (ci := 0) (C := RX0) (T := TX0) (N := 12) hx hb hts in_X0 tyX0 tyX0_ok (va_apart (own := RX0) hts in_X0 tyX0 tyX0_ok nmX0 hKv rfl) hown hKv hN hS (0) sPic_0 rfl 9 (by decide) (hKw _ q137 rfl) (fun z h => h) rfl rfl rfl (Nat.le_of_ble_eq_true rfl) dX2_tried_5 (fun H locs hN hS => ?_)
  have hN := hN.congr (sPic_put rfl)
  refine lv_aload_n hx hb dX2_tried_8 rfl (lv_at hl 0 rfl) ?_
  refine n_callU (C := RX12) (As := []) (b := 40) SS hKo hK hKv (hM) (va_cwA 0 hts (lw_U q716 q718 q867 q868 q89 q869) rfl rfl rfl (hKw _ q717 rfl) (by decide +kernel) ⟨Nat.le_of_ble_eq_true rfl, Nat.le_of_ble_eq_true rfl⟩) hN hS ((sPic_x (by decide)).trans hAc) rfl rfl hl.1 rfl (Nat.le_of_ble_eq_true rfl) dX2_tried_9 ⟨by show 0 + mc_ ≤ mc_; omega, by show 0 + ms_ ≤ ms_; omega⟩ (fun v ad' c' H locs hv hN hS => ?_)
  obtain ⟨z_, rfl⟩ := hPi _ _ _ hv
  refine W.eq (g2 := F0 m 12 ls (_ :: _)) rfl ?_
  refine W.widen (k := mc_) (n := ms_) (by first | (show 0 + mc_ ≤ mc_; omega) | (show 0 + ms_ ≤ ms_; omega) | (show 0 + mc_ + 0 ≤ mc_; omega) | (show 0 + ms_ + 0 ≤ ms_; omega)) (by first | (show 0 + mc_ ≤ mc_; omega) | (show 0 + ms_ ≤ ms_; omega) | (show 0 + mc_ + 0 ≤ mc_; omega) | (show 0 + ms_ + 0 ≤ ms_; omega)) ?_
  exact W.iret hx hb hr (nEnd hN hS hv) hS.2 dX2_tried_12
set_option maxHeartbeats 1000000 in
set_option maxRecDepth 100000 in
theorem sX2_tried_X12C (l : Launch) (G : nG) (K : State → Prop) (hKo : nKo G K) (hK0 : ∀ U, K U → sK0 G U) (hKx : ∀ U, K U → xK G U) (hfl : l.stackTraces = false) (ad : Nat → Nat) (x : nPic) (si : AI) (sa : Nat → AI) (rn : Value) (r_ : Nat) (k : Int32) (hAc : x 40 = some (.inr (11, [.ref (ad 0), .ref r_, .int k, .ref (ad 0)]))) (mc_ ms_ : Nat) (hM : MetT l yX12_done (ws_ yX12_done cX12_done 2 (some .int)) (sR 1 mc_ ms_) (nPc G nCl K ad (sPic G x ad (upd si 9 0) sa rn) [.ref (ad 40)]) (xQ "java/lang/ClassCastException" G nCl ad (sPic G x ad (upd si 9 0) sa rn)) mc_ ms_ (fun q => G.2 ≤ q)) : Met l yX2_tried (wsW_ yX2_tried cX2_tried 2 (some .int) [(8, 12, 13, 23), (8, 12, 23, 29), (8, 12, 23, 31), (8, 12, 33, 33), (8, 12, 43, 35)]) (sR 10 mc_ ms_) (nPc G nCl K ad (sPic G x ad si sa rn) [.ref (ad 40)]) (nQ G nCl (fun rv ad' c' => rv = some (.int (-10 - 2)) ∧ ad = ad' ∧ sPic G x ad (upd si 9 2) sa rn = c')) mc_ ms_ (fun q => G.2 ≤ q) := by
  refine nMetW RX2 (by decide) rfl (Nat.le_of_ble_eq_true rfl) ?_
  intro p e s m below meth c ls SS hR hxh hadm hK hN hS hl
  obtain ⟨hx, hb, hml, hown, hts⟩ := id SS
  obtain ⟨hr, hlk, hnm⟩ := hR
  have hX := hKx s hK
  obtain ⟨hKv, hKw, hKf, hKz, hKm⟩ := hK0 s hK
  generalize s.heap = H at hN hS ⊢
  generalize ([] : List Loc) = locs at hS ⊢
  have hl : lv_has ls 2 [(0, .ref (ad 40))] := hl
  refine lv_aload_n hx hb dX2_tried_0 rfl (lv_at hl 0 rfl) ?_
  refine n_get (ci := 11) (C := RX12) (T := TX12) (N := 4) hx hb hts in_X12 hown hKv hN (40) ((sPic_x (by decide)).trans hAc) rfl 0 (by decide) q671 (fun z h => h) (rfl) dX2_tried_1 ?_
  refine lv_iconst (v := 0) hx hb dX2_tried_4 (by decide) ?_
  refine n_putN (ci := 0) (C := RX0) (T := TX0) (N := 12) hx hb hts in_X0 tyX0 tyX0_ok (va_apart (own := RX0) hts in_X0 tyX0 tyX0_ok nmX0 hKv rfl) hown hKv hN hS (0) sPic_0 rfl 9 (by decide) (hKw _ q137 rfl) (fun z h => h) rfl rfl rfl (Nat.le_of_ble_eq_true rfl) dX2_tried_5 (fun H locs hN hS => ?_)
  have hN := hN.congr (sPic_put rfl)
  refine lv_aload_n hx hb dX2_tried_8 rfl (lv_at hl 0 rfl) ?_
  refine n_callUT (C := RX12) (As := []) (b := 40) SS hKo hK hKv (hM) (va_cwA 0 hts (lw_U q716 q718 q867 q868 q89 q869) rfl rfl rfl (hKw _ q717 rfl) (by decide +kernel) ⟨Nat.le_of_ble_eq_true rfl, Nat.le_of_ble_eq_true rfl⟩) hN hS ((sPic_x (by decide)).trans hAc) rfl rfl hl.1 rfl (Nat.le_of_ble_eq_true rfl) dX2_tried_9 ⟨by show 0 + mc_ ≤ mc_; omega, by show 0 + ms_ ≤ ms_; omega⟩ (fun a_ cell_ H locs hA1 hA2 hA3 hN hS => ?_)
  refine WT.catch (own := "TowerTell$Act") (pre := [(8, 12, 13, 23)]) (post := [(8, 12, 23, 31), (8, 12, 33, 33), (8, 12, 43, 35)]) (s0 := 8) (e0 := 12) (h0 := 23) (t0 := 29) (nmT := "java/lang/ClassCastException") hown hxh (List.forall_mem_cons.mpr ⟨⟨by decide, "java/lang/NullPointerException", hts _ q698, hX.2.2.2.1 ("java/lang/ClassCastException", "java/lang/NullPointerException") (List.mem_of_getElem? (i := 9) rfl)⟩, List.forall_mem_nil _⟩) ⟨by decide, by decide⟩ (by decide) (hts _ q699) (hKw _ q634 rfl) hA1 hA2 hA3 ?_
  refine lv_astore_n (lv' := [(1, _), (0, _)]) hx hb dX2_tried_23 rfl hl (by decide) rfl (fun ls hl => ?_)
  refine lv_aload_n hx hb dX2_tried_24 rfl (lv_at hl 1 rfl) ?_
  refine n_get (ci := 11) (C := RX12) (T := TX12) (N := 4) hx hb hts in_X12 hown hKv hN (40) ((sPic_x (by decide)).trans hAc) rfl 0 (by decide) q671 (fun z h => h) (rfl) dX2_tried_25 ?_
  refine lv_iconst (v := 2) hx hb dX2_tried_28 (by decide) ?_
  refine n_callVN (As := [_]) (C := RX0) (b := 0) SS hKo hK hKv (sX0_fails l G K hKo hK0 ad x (upd si 9 0) sa rn 2) (⟨va_cnB 1 hts (lw_meth q559) rfl rfl rfl (hKw _ q872 rfl) (hts _ q57) (by decide +kernel) ⟨Nat.le_of_ble_eq_true rfl, Nat.le_of_ble_eq_true rfl⟩, hts _ q558, hts _ qs15⟩) hN hS sPic_0 rfl rfl hl.1 rfl (Nat.le_of_ble_eq_true rfl) dX2_tried_29 ⟨by show 0 + mc_ + 0 ≤ mc_; omega, by show 0 + ms_ + 0 ≤ ms_; omega⟩ (fun v ad' c' H locs hv hN hS => ?_)
  obtain ⟨rfl, rfl, rfl⟩ := hv
  refine W.eq (g2 := F0 m 32 ls (_ :: _)) rfl ?_
  refine W.widen (k := mc_) (n := ms_) (by first | (show 0 + mc_ ≤ mc_; omega) | (show 0 + ms_ ≤ ms_; omega) | (show 0 + mc_ + 0 ≤ mc_; omega) | (show 0 + ms_ + 0 ≤ ms_; omega)) (by first | (show 0 + mc_ ≤ mc_; omega) | (show 0 + ms_ ≤ ms_; omega) | (show 0 + mc_ + 0 ≤ mc_; omega) | (show 0 + ms_ + 0 ≤ ms_; omega)) ?_
  exact W.iret hx hb hr (nEnd hN hS ⟨rfl, rfl, by rw [upd_upd]⟩) hS.2 dX2_tried_32
