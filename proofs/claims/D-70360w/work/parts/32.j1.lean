/-! JDK: small methods, reading a list: printed by wip/gen/j1.py -/
set_option maxHeartbeats 4000000 in
set_option maxRecDepth 100000 in
theorem tJ17_checkIndex (l : Launch) (G : nG) (K : State → Prop) (hKo : nKo G K) (hK0 : ∀ U, K U → sK0 G U) (ad : Nat → Nat) (c0 : nPic) (i n : Nat) (hi : i < n) (hn : n < 2 ^ 31) : Met l yJ17_checkIndex (ws_ yJ17_checkIndex cJ17_checkIndex 3 (some .int)) (sR 0 0 0) (nPc G nCl K ad c0 [.int (nI i), .int (nI n), .null]) (nQ G nCl (fun rv ad' c' => rv = some (.int (nI i)) ∧ ad = ad' ∧ c0 = c')) 0 0 (fun q => G.2 ≤ q) := by
  refine nMet RJ17 (by decide) rfl (Nat.le_of_ble_eq_true rfl) ?_
  intro p e s m below meth c ls SS hR hK hN hS hl
  obtain ⟨hx, hb, hml, hown, hts⟩ := id SS
  obtain ⟨hr, hlk, hnm⟩ := hR
  obtain ⟨hKv, hKw, hKf, hKz, hKm⟩ := hK0 s hK
  generalize s.heap = H at hN hS ⊢
  generalize ([] : List Loc) = locs at hS ⊢
  have hl : lv_has ls 3 [(0, .int (nI i)), (1, .int (nI n)), (2, .null)] := hl
  refine lv_iload_n hx hb dJ17_checkIndex_0 rfl (lv_at hl 0 rfl) ?_
  refine lv_if_lt (tgt := 9) hx hb dJ17_checkIndex_1 (by decide) (fun c1 => absurd c1 (nI_pos (by omega))) (fun c1 => ?_)
  refine lv_iload_n hx hb dJ17_checkIndex_4 rfl (lv_at hl 0 rfl) ?_
  refine lv_iload_n hx hb dJ17_checkIndex_5 rfl (lv_at hl 1 rfl) ?_
  refine lv_icmp_lt (tgt := 16) hx hb dJ17_checkIndex_6 (by decide) (fun c6 => ?_) (fun c6 => absurd c6 (fun z => z (nI_lt hi hn)))
  refine lv_iload_n hx hb dJ17_checkIndex_16 rfl (lv_at hl 0 rfl) ?_
  exact W.iret hx hb hr (nEnd hN hS ⟨rfl, rfl, rfl⟩) hS.2 dJ17_checkIndex_17
set_option maxHeartbeats 4000000 in
set_option maxRecDepth 100000 in
theorem tJ16_checkIndex (l : Launch) (G : nG) (K : State → Prop) (hKo : nKo G K) (hK0 : ∀ U, K U → sK0 G U) (ad : Nat → Nat) (c0 : nPic) (i n : Nat) (hi : i < n) (hn : n < 2 ^ 31) : Met l yJ16_checkIndex (ws_ yJ16_checkIndex cJ16_checkIndex 2 (some .int)) (sR 1 0 0) (nPc G nCl K ad c0 [.int (nI i), .int (nI n)]) (nQ G nCl (fun rv ad' c' => rv = some (.int (nI i)) ∧ ad = ad' ∧ c0 = c')) 0 0 (fun q => G.2 ≤ q) := by
  refine nMet RJ16 (by decide) rfl (Nat.le_of_ble_eq_true rfl) ?_
  intro p e s m below meth c ls SS hR hK hN hS hl
  obtain ⟨hx, hb, hml, hown, hts⟩ := id SS
  obtain ⟨hr, hlk, hnm⟩ := hR
  obtain ⟨hKv, hKw, hKf, hKz, hKm⟩ := hK0 s hK
  generalize s.heap = H at hN hS ⊢
  generalize ([] : List Loc) = locs at hS ⊢
  have hl : lv_has ls 2 [(0, .int (nI i)), (1, .int (nI n))] := hl
  refine lv_iload_n hx hb dJ16_checkIndex_0 rfl (lv_at hl 0 rfl) ?_
  refine lv_iload_n hx hb dJ16_checkIndex_1 rfl (lv_at hl 1 rfl) ?_
  refine lv_null hx hb dJ16_checkIndex_2 ?_
  refine n_callS (As := [_, _, _]) SS hKo hK (tJ17_checkIndex l G K hKo hK0 ad c0 i n hi hn) (va_cwS 3 hts (lw_S q200 q201 q83 q202) rfl rfl rfl (by decide +kernel) ⟨Nat.le_of_ble_eq_true rfl, Nat.le_of_ble_eq_true rfl⟩) hN hS rfl hl.1 rfl (Nat.le_of_ble_eq_true rfl) dJ16_checkIndex_3 ⟨Nat.le_of_ble_eq_true rfl, Nat.le_of_ble_eq_true rfl⟩ (fun v ad' c' H locs hv hN hS => ?_)
  obtain ⟨rfl, rfl, rfl⟩ := hv
  refine W.eq (g2 := F0 m 6 ls (_ :: _)) rfl ?_
  exact W.iret hx hb hr (nEnd hN hS ⟨rfl, rfl, rfl⟩) hS.2 dJ16_checkIndex_6
set_option maxHeartbeats 4000000 in
set_option maxRecDepth 100000 in
theorem tJ2_size (l : Launch) (G : nG) (K : State → Prop) (hKo : nKo G K) (hK0 : ∀ U, K U → sK0 G U) (ad : Nat → Nat) (c0 : nPic) (li : Nat) (mc_ : Int32) (ea : Value) (n : Nat) (hL : c0 li = some (.inr (7, [.int mc_, ea, .int (nI n)]))) : Met l yJ2_size (ws_ yJ2_size cJ2_size 1 (some .int)) (sR 0 0 0) (nPc G nCl K ad c0 [.ref (ad li)]) (nQ G nCl (fun rv ad' c' => rv = some (.int (nI n)) ∧ ad = ad' ∧ c0 = c')) 0 0 (fun q => G.2 ≤ q) := by
  refine nMet RJ2 (by decide) rfl (Nat.le_of_ble_eq_true rfl) ?_
  intro p e s m below meth c ls SS hR hK hN hS hl
  obtain ⟨hx, hb, hml, hown, hts⟩ := id SS
  obtain ⟨hr, hlk, hnm⟩ := hR
  obtain ⟨hKv, hKw, hKf, hKz, hKm⟩ := hK0 s hK
  generalize s.heap = H at hN hS ⊢
  generalize ([] : List Loc) = locs at hS ⊢
  have hl : lv_has ls 1 [(0, .ref (ad li))] := hl
  refine lv_aload_n hx hb dJ2_size_0 rfl (lv_at hl 0 rfl) ?_
  refine n_get (ci := 7) (C := RJ2) (T := TJ2) (N := 3) hx hb hts in_J2 hown hKv hN (li) hL rfl 2 (by decide) q113 (fun z h => h) (rfl) dJ2_size_1 ?_
  exact W.iret hx hb hr (nEnd hN hS ⟨rfl, rfl, rfl⟩) hS.2 dJ2_size_4
set_option maxHeartbeats 4000000 in
set_option maxRecDepth 100000 in
theorem tJ2_isEmpty (l : Launch) (G : nG) (K : State → Prop) (hKo : nKo G K) (hK0 : ∀ U, K U → sK0 G U) (ad : Nat → Nat) (c0 : nPic) (li : Nat) (mc_ : Int32) (ea : Value) (n : Nat) (hL : c0 li = some (.inr (7, [.int mc_, ea, .int (nI n)]))) (hn : n < 2 ^ 31) : Met l yJ2_isEmpty (ws_ yJ2_isEmpty cJ2_isEmpty 1 (some .boolean)) (sR 0 0 0) (nPc G nCl K ad c0 [.ref (ad li)]) (nQ G nCl (fun rv ad' c' => rv = some (.int (zI (decide (n = 0)))) ∧ ad = ad' ∧ c0 = c')) 0 0 (fun q => G.2 ≤ q) := by
  refine nMet RJ2 (by decide) rfl (Nat.le_of_ble_eq_true rfl) ?_
  intro p e s m below meth c ls SS hR hK hN hS hl
  obtain ⟨hx, hb, hml, hown, hts⟩ := id SS
  obtain ⟨hr, hlk, hnm⟩ := hR
  obtain ⟨hKv, hKw, hKf, hKz, hKm⟩ := hK0 s hK
  generalize s.heap = H at hN hS ⊢
  generalize ([] : List Loc) = locs at hS ⊢
  have hl : lv_has ls 1 [(0, .ref (ad li))] := hl
  refine lv_aload_n hx hb dJ2_isEmpty_0 rfl (lv_at hl 0 rfl) ?_
  refine n_get (ci := 7) (C := RJ2) (T := TJ2) (N := 3) hx hb hts in_J2 hown hKv hN (li) hL rfl 2 (by decide) q113 (fun z h => h) (rfl) dJ2_isEmpty_1 ?_
  refine lv_if_ne (tgt := 11) hx hb dJ2_isEmpty_4 (by decide) (fun c4 => ?_) (fun c4 => ?_)
  · have c4 : ¬ n = 0 := fun z => c4 (by rw [z]; rfl)
    refine lv_iconst (v := 0) hx hb dJ2_isEmpty_11 (by decide) ?_
    exact W.zret hx hb hr (rfl) (nEnd hN hS ⟨by simp [c4, zI], rfl, rfl⟩) hS.2 dJ2_isEmpty_12
  · have c4 : n = 0 := (nI_eq (by omega) (by omega)).mp c4
    refine lv_iconst (v := 1) hx hb dJ2_isEmpty_7 (by decide) ?_
    refine lv_goto (tgt := 12) hx hb dJ2_isEmpty_8 (by decide) ?_
    exact W.zret hx hb hr (rfl) (nEnd hN hS ⟨by simp [c4, zI], rfl, rfl⟩) hS.2 dJ2_isEmpty_12
set_option maxHeartbeats 4000000 in
set_option maxRecDepth 100000 in
theorem tJ2_elementData (l : Launch) (G : nG) (K : State → Prop) (hKo : nKo G K) (hK0 : ∀ U, K U → sK0 G U) (ad : Nat → Nat) (c0 : nPic) (li la : Nat) (mc_ : Int32) (n cap : Nat) (f : Nat → Option Nat) (hL : c0 li = some (.inr (7, [.int mc_, .ref (ad la), .int (nI n)]))) (hA : c0 la = some (qA (G.1.1 103) cap f)) (hcap : cap < 2 ^ 31) (j : Nat) (hj : j < cap) : Met l yJ2_elementData (ws_ yJ2_elementData cJ2_elementData 2 (some (.object "java/lang/Object"))) (sR 0 0 0) (nPc G nCl K ad c0 [.ref (ad li), .int (nI j)]) (nQ G nCl (fun rv ad' c' => rv = some (va_rf (f j)) ∧ ad = ad' ∧ c0 = c')) 0 0 (fun q => G.2 ≤ q) := by
  refine nMet RJ2 (by decide) rfl (Nat.le_of_ble_eq_true rfl) ?_
  intro p e s m below meth c ls SS hR hK hN hS hl
  obtain ⟨hx, hb, hml, hown, hts⟩ := id SS
  obtain ⟨hr, hlk, hnm⟩ := hR
  obtain ⟨hKv, hKw, hKf, hKz, hKm⟩ := hK0 s hK
  generalize s.heap = H at hN hS ⊢
  generalize ([] : List Loc) = locs at hS ⊢
  have hl : lv_has ls 2 [(0, .ref (ad li)), (1, .int (nI j))] := hl
  refine lv_aload_n hx hb dJ2_elementData_0 rfl (lv_at hl 0 rfl) ?_
  refine n_get (ci := 7) (C := RJ2) (T := TJ2) (N := 3) hx hb hts in_J2 hown hKv hN (li) hL rfl 1 (by decide) q112 (fun z h => h) (rfl) dJ2_elementData_1 ?_
  refine lv_iload_n hx hb dJ2_elementData_4 rfl (lv_at hl 1 rfl) ?_
  refine n_aald hx hb hKv hN (la) 3 hA rfl (j) (rfl) (by omega) (hcap) dJ2_elementData_5 ?_
  exact W.aret hx hb hr (Or.inl ⟨_, rfl⟩) (va_rf_or _) (nEnd hN hS ⟨rfl, rfl, rfl⟩) hS.2 dJ2_elementData_6
set_option maxHeartbeats 4000000 in
set_option maxRecDepth 100000 in
theorem tJ2_get (l : Launch) (G : nG) (K : State → Prop) (hKo : nKo G K) (hK0 : ∀ U, K U → sK0 G U) (ad : Nat → Nat) (c0 : nPic) (li la : Nat) (mc_ : Int32) (n cap : Nat) (f : Nat → Option Nat) (hL : c0 li = some (.inr (7, [.int mc_, .ref (ad la), .int (nI n)]))) (hA : c0 la = some (qA (G.1.1 103) cap f)) (hcap : cap < 2 ^ 31) (j : Nat) (hj : j < n) (hnc : n ≤ cap) : Met l yJ2_get (ws_ yJ2_get cJ2_get 2 (some (.object "java/lang/Object"))) (sR 2 0 0) (nPc G nCl K ad c0 [.ref (ad li), .int (nI j)]) (nQ G nCl (fun rv ad' c' => rv = some (va_rf (f j)) ∧ ad = ad' ∧ c0 = c')) 0 0 (fun q => G.2 ≤ q) := by
  refine nMet RJ2 (by decide) rfl (Nat.le_of_ble_eq_true rfl) ?_
  intro p e s m below meth c ls SS hR hK hN hS hl
  obtain ⟨hx, hb, hml, hown, hts⟩ := id SS
  obtain ⟨hr, hlk, hnm⟩ := hR
  obtain ⟨hKv, hKw, hKf, hKz, hKm⟩ := hK0 s hK
  generalize s.heap = H at hN hS ⊢
  generalize ([] : List Loc) = locs at hS ⊢
  have hl : lv_has ls 2 [(0, .ref (ad li)), (1, .int (nI j))] := hl
  refine lv_iload_n hx hb dJ2_get_0 rfl (lv_at hl 1 rfl) ?_
  refine lv_aload_n hx hb dJ2_get_1 rfl (lv_at hl 0 rfl) ?_
  refine n_get (ci := 7) (C := RJ2) (T := TJ2) (N := 3) hx hb hts in_J2 hown hKv hN (li) hL rfl 2 (by decide) q113 (fun z h => h) (rfl) dJ2_get_2 ?_
  refine n_callS (As := [_, _]) SS hKo hK (tJ16_checkIndex l G K hKo hK0 ad c0 j n hj (by omega)) (va_cwS 2 hts (lw_S q197 q198 q82 q199) rfl rfl rfl (by decide +kernel) ⟨Nat.le_of_ble_eq_true rfl, Nat.le_of_ble_eq_true rfl⟩) hN hS rfl hl.1 rfl (Nat.le_of_ble_eq_true rfl) dJ2_get_5 ⟨Nat.le_of_ble_eq_true rfl, Nat.le_of_ble_eq_true rfl⟩ (fun v ad' c' H locs hv hN hS => ?_)
  obtain ⟨rfl, rfl, rfl⟩ := hv
  refine W.eq (g2 := F0 m 8 ls (_ :: _)) rfl ?_
  refine lv_pop hx hb dJ2_get_8 rfl ?_
  refine lv_aload_n hx hb dJ2_get_9 rfl (lv_at hl 0 rfl) ?_
  refine lv_iload_n hx hb dJ2_get_10 rfl (lv_at hl 1 rfl) ?_
  refine n_callV (C := RJ2) (As := [_]) (b := li) SS hKo hK hKv (tJ2_elementData l G K hKo hK0 ad c0 li la mc_ n cap f hL hA hcap j (by omega)) (cwV 1 hts (lw_V q203 q204 q205 q60 q206) rfl rfl rfl (by decide +kernel) ⟨Nat.le_of_ble_eq_true rfl, Nat.le_of_ble_eq_true rfl⟩) hN hS hL rfl rfl hl.1 rfl (Nat.le_of_ble_eq_true rfl) dJ2_get_11 ⟨Nat.le_of_ble_eq_true rfl, Nat.le_of_ble_eq_true rfl⟩ (fun v ad' c' H locs hv hN hS => ?_)
  obtain ⟨rfl, rfl, rfl⟩ := hv
  refine W.eq (g2 := F0 m 14 ls (_ :: _)) rfl ?_
  exact W.aret hx hb hr (Or.inl ⟨_, rfl⟩) (va_rf_or _) (nEnd hN hS ⟨rfl, rfl, rfl⟩) hS.2 dJ2_get_14
