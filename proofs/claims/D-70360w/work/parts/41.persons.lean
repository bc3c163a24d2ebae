/-! PERSONS: printed by wip/gen/p1.py -/
theorem p_2k (k : Int32) : k + 100 + k = 2 * k + 100 := by
  have h : (2 : Int32) * k = k + k := by
    rw [show (2 : Int32) = 1 + 1 from by decide, Int32.add_mul, Int32.one_mul]
  rw [h, Int32.add_assoc, Int32.add_comm 100 k, ← Int32.add_assoc]
set_option maxHeartbeats 4000000 in
set_option maxRecDepth 100000 in
theorem tX5_kind (l : Launch) (G : nG) (K : State → Prop) (hKo : nKo G K) (hK0 : ∀ U, K U → sK0 G U) (ad : Nat → Nat) (c0 : nPic) (q : Nat) : Met l yX5_kind (ws_ yX5_kind cX5_kind 1 (some .int)) (sR 0 0 0) (nPc G nCl K ad c0 [.ref q]) (nQ G nCl (fun rv ad' c' => rv = some (.int 0) ∧ ad = ad' ∧ c0 = c')) 0 0 (fun q => G.2 ≤ q) := by
  refine nMet RX5 (by decide) rfl (Nat.le_of_ble_eq_true rfl) ?_
  intro p e s m below meth c ls SS hR hK hN hS hl
  obtain ⟨hx, hb, hml, hown, hts⟩ := id SS
  obtain ⟨hr, hlk, hnm⟩ := hR
  obtain ⟨hKv, hKw, hKf, hKz, hKm⟩ := hK0 s hK
  generalize s.heap = H at hN hS ⊢
  generalize ([] : List Loc) = locs at hS ⊢
  have hl : lv_has ls 1 [(0, .ref q)] := hl
  refine lv_iconst (v := 0) hx hb dX5_kind_0 (by decide) ?_
  exact W.iret hx hb hr (nEnd hN hS ⟨rfl, rfl, rfl⟩) hS.2 dX5_kind_1
set_option maxHeartbeats 4000000 in
set_option maxRecDepth 100000 in
theorem tX6_kind (l : Launch) (G : nG) (K : State → Prop) (hKo : nKo G K) (hK0 : ∀ U, K U → sK0 G U) (ad : Nat → Nat) (c0 : nPic) (q : Nat) : Met l yX6_kind (ws_ yX6_kind cX6_kind 1 (some .int)) (sR 0 0 0) (nPc G nCl K ad c0 [.ref q]) (nQ G nCl (fun rv ad' c' => rv = some (.int 1) ∧ ad = ad' ∧ c0 = c')) 0 0 (fun q => G.2 ≤ q) := by
  refine nMet RX6 (by decide) rfl (Nat.le_of_ble_eq_true rfl) ?_
  intro p e s m below meth c ls SS hR hK hN hS hl
  obtain ⟨hx, hb, hml, hown, hts⟩ := id SS
  obtain ⟨hr, hlk, hnm⟩ := hR
  obtain ⟨hKv, hKw, hKf, hKz, hKm⟩ := hK0 s hK
  generalize s.heap = H at hN hS ⊢
  generalize ([] : List Loc) = locs at hS ⊢
  have hl : lv_has ls 1 [(0, .ref q)] := hl
  refine lv_iconst (v := 1) hx hb dX6_kind_0 (by decide) ?_
  exact W.iret hx hb hr (nEnd hN hS ⟨rfl, rfl, rfl⟩) hS.2 dX6_kind_1
set_option maxHeartbeats 4000000 in
set_option maxRecDepth 100000 in
theorem tX7_kind (l : Launch) (G : nG) (K : State → Prop) (hKo : nKo G K) (hK0 : ∀ U, K U → sK0 G U) (ad : Nat → Nat) (c0 : nPic) (q : Nat) : Met l yX7_kind (ws_ yX7_kind cX7_kind 1 (some .int)) (sR 0 0 0) (nPc G nCl K ad c0 [.ref q]) (nQ G nCl (fun rv ad' c' => rv = some (.int 2) ∧ ad = ad' ∧ c0 = c')) 0 0 (fun q => G.2 ≤ q) := by
  refine nMet RX7 (by decide) rfl (Nat.le_of_ble_eq_true rfl) ?_
  intro p e s m below meth c ls SS hR hK hN hS hl
  obtain ⟨hx, hb, hml, hown, hts⟩ := id SS
  obtain ⟨hr, hlk, hnm⟩ := hR
  obtain ⟨hKv, hKw, hKf, hKz, hKm⟩ := hK0 s hK
  generalize s.heap = H at hN hS ⊢
  generalize ([] : List Loc) = locs at hS ⊢
  have hl : lv_has ls 1 [(0, .ref q)] := hl
  refine lv_iconst (v := 2) hx hb dX7_kind_0 (by decide) ?_
  exact W.iret hx hb hr (nEnd hN hS ⟨rfl, rfl, rfl⟩) hS.2 dX7_kind_1
set_option maxHeartbeats 4000000 in
set_option maxRecDepth 100000 in
theorem tX5_rises (l : Launch) (G : nG) (K : State → Prop) (hKo : nKo G K) (hK0 : ∀ U, K U → sK0 G U) (ad : Nat → Nat) (c0 : nPic) (q : Nat) (w : Int32) : Met l yX5_rises (ws_ yX5_rises cX5_rises 2 (some .int)) (sR 0 0 0) (nPc G nCl K ad c0 [.ref q, .int w]) (nQ G nCl (fun rv ad' c' => rv = some (.int w) ∧ ad = ad' ∧ c0 = c')) 0 0 (fun q => G.2 ≤ q) := by
  refine nMet RX5 (by decide) rfl (Nat.le_of_ble_eq_true rfl) ?_
  intro p e s m below meth c ls SS hR hK hN hS hl
  obtain ⟨hx, hb, hml, hown, hts⟩ := id SS
  obtain ⟨hr, hlk, hnm⟩ := hR
  obtain ⟨hKv, hKw, hKf, hKz, hKm⟩ := hK0 s hK
  generalize s.heap = H at hN hS ⊢
  generalize ([] : List Loc) = locs at hS ⊢
  have hl : lv_has ls 2 [(0, .ref q), (1, .int w)] := hl
  refine lv_iload_n hx hb dX5_rises_0 rfl (lv_at hl 1 rfl) ?_
  exact W.iret hx hb hr (nEnd hN hS ⟨rfl, rfl, rfl⟩) hS.2 dX5_rises_1
set_option maxHeartbeats 4000000 in
set_option maxRecDepth 100000 in
theorem tX6_plainlyRises_1 (l : Launch) (G : nG) (K : State → Prop) (hKo : nKo G K) (hK0 : ∀ U, K U → sK0 G U) (ad : Nat → Nat) (c0 : nPic) (i : Nat) (a b kk : Int32) (hP : c0 i = some (.inr (3, [.int a, .int b, .int kk, .ref (ad 0), .ref (ad 0)]))) (w : Int32) : Met l yX6_plainlyRises (ws_ yX6_plainlyRises cX6_plainlyRises 2 (some .int)) (sR 1 0 0) (nPc G nCl K ad c0 [.ref (ad i), .int w]) (nQ G nCl (fun rv ad' c' => rv = some (.int w) ∧ ad = ad' ∧ c0 = c')) 0 0 (fun q => G.2 ≤ q) := by
  refine nMet RX6 (by decide) rfl (Nat.le_of_ble_eq_true rfl) ?_
  intro p e s m below meth c ls SS hR hK hN hS hl
  obtain ⟨hx, hb, hml, hown, hts⟩ := id SS
  obtain ⟨hr, hlk, hnm⟩ := hR
  obtain ⟨hKv, hKw, hKf, hKz, hKm⟩ := hK0 s hK
  generalize s.heap = H at hN hS ⊢
  generalize ([] : List Loc) = locs at hS ⊢
  have hl : lv_has ls 2 [(0, .ref (ad i)), (1, .int w)] := hl
  refine lv_aload_n hx hb dX6_plainlyRises_0 rfl (lv_at hl 0 rfl) ?_
  refine lv_iload_n hx hb dX6_plainlyRises_1 rfl (lv_at hl 1 rfl) ?_
  refine n_callSU (As := [_]) (C := RX6) (b := i) SS hKo hK hKv (tX5_rises l G K hKo hK0 ad c0 (ad i) w) (va_cwSU 1 hts (lw_SU q247 q237 q248 q235 q77 q253) rfl rfl rfl (by decide +kernel) ⟨Nat.le_of_ble_eq_true rfl, Nat.le_of_ble_eq_true rfl⟩) hN hS hP rfl rfl hl.1 rfl (Nat.le_of_ble_eq_true rfl) dX6_plainlyRises_2 ⟨Nat.le_of_ble_eq_true rfl, Nat.le_of_ble_eq_true rfl⟩ (fun v ad' c' H locs hv hN hS => ?_)
  obtain ⟨rfl, rfl, rfl⟩ := hv
  refine W.eq (g2 := F0 m 5 ls (_ :: _)) rfl ?_
  exact W.iret hx hb hr (nEnd hN hS ⟨rfl, rfl, rfl⟩) hS.2 dX6_plainlyRises_5
set_option maxHeartbeats 4000000 in
set_option maxRecDepth 100000 in
theorem tX6_plainlyRises_2 (l : Launch) (G : nG) (K : State → Prop) (hKo : nKo G K) (hK0 : ∀ U, K U → sK0 G U) (ad : Nat → Nat) (c0 : nPic) (i : Nat) (a b kk : Int32) (hP : c0 i = some (.inr (4, [.int a, .int b, .int kk, .ref (ad 0), .ref (ad 0), .ref (ad 0)]))) (w : Int32) : Met l yX6_plainlyRises (ws_ yX6_plainlyRises cX6_plainlyRises 2 (some .int)) (sR 1 0 0) (nPc G nCl K ad c0 [.ref (ad i), .int w]) (nQ G nCl (fun rv ad' c' => rv = some (.int w) ∧ ad = ad' ∧ c0 = c')) 0 0 (fun q => G.2 ≤ q) := by
  refine nMet RX6 (by decide) rfl (Nat.le_of_ble_eq_true rfl) ?_
  intro p e s m below meth c ls SS hR hK hN hS hl
  obtain ⟨hx, hb, hml, hown, hts⟩ := id SS
  obtain ⟨hr, hlk, hnm⟩ := hR
  obtain ⟨hKv, hKw, hKf, hKz, hKm⟩ := hK0 s hK
  generalize s.heap = H at hN hS ⊢
  generalize ([] : List Loc) = locs at hS ⊢
  have hl : lv_has ls 2 [(0, .ref (ad i)), (1, .int w)] := hl
  refine lv_aload_n hx hb dX6_plainlyRises_0 rfl (lv_at hl 0 rfl) ?_
  refine lv_iload_n hx hb dX6_plainlyRises_1 rfl (lv_at hl 1 rfl) ?_
  refine n_callSU (As := [_]) (C := RX7) (b := i) SS hKo hK hKv (tX5_rises l G K hKo hK0 ad c0 (ad i) w) (va_cwSU 1 hts (lw_SU q247 q237 q248 q235 q77 q253) rfl rfl rfl (by decide +kernel) ⟨Nat.le_of_ble_eq_true rfl, Nat.le_of_ble_eq_true rfl⟩) hN hS hP rfl rfl hl.1 rfl (Nat.le_of_ble_eq_true rfl) dX6_plainlyRises_2 ⟨Nat.le_of_ble_eq_true rfl, Nat.le_of_ble_eq_true rfl⟩ (fun v ad' c' H locs hv hN hS => ?_)
  obtain ⟨rfl, rfl, rfl⟩ := hv
  refine W.eq (g2 := F0 m 5 ls (_ :: _)) rfl ?_
  exact W.iret hx hb hr (nEnd hN hS ⟨rfl, rfl, rfl⟩) hS.2 dX6_plainlyRises_5
set_option maxHeartbeats 4000000 in
set_option maxRecDepth 100000 in
theorem tX6_rises (l : Launch) (G : nG) (K : State → Prop) (hKo : nKo G K) (hK0 : ∀ U, K U → sK0 G U) (ad : Nat → Nat) (c0 : nPic) (i : Nat) (a b kk : Int32) (hP : c0 i = some (.inr (3, [.int a, .int b, .int kk, .ref (ad 0), .ref (ad 0)]))) (w : Int32) : Met l yX6_rises (ws_ yX6_rises cX6_rises 2 (some .int)) (sR 2 0 0) (nPc G nCl K ad c0 [.ref (ad i), .int w]) (nQ G nCl (fun rv ad' c' => rv = some (.int (w - 1)) ∧ ad = ad' ∧ c0 = c')) 0 0 (fun q => G.2 ≤ q) := by
  refine nMet RX6 (by decide) rfl (Nat.le_of_ble_eq_true rfl) ?_
  intro p e s m below meth c ls SS hR hK hN hS hl
  obtain ⟨hx, hb, hml, hown, hts⟩ := id SS
  obtain ⟨hr, hlk, hnm⟩ := hR
  obtain ⟨hKv, hKw, hKf, hKz, hKm⟩ := hK0 s hK
  generalize s.heap = H at hN hS ⊢
  generalize ([] : List Loc) = locs at hS ⊢
  have hl : lv_has ls 2 [(0, .ref (ad i)), (1, .int w)] := hl
  refine lv_aload_n hx hb dX6_rises_0 rfl (lv_at hl 0 rfl) ?_
  refine lv_iload_n hx hb dX6_rises_1 rfl (lv_at hl 1 rfl) ?_
  refine n_callV (C := RX6) (As := [_]) (b := i) SS hKo hK hKv (tX6_plainlyRises_1 l G K hKo hK0 ad c0 i a b kk hP w) (cwV 1 hts (lw_V q252 q245 q1428 q78 q246) rfl rfl rfl (by decide +kernel) ⟨Nat.le_of_ble_eq_true rfl, Nat.le_of_ble_eq_true rfl⟩) hN hS hP rfl rfl hl.1 rfl (Nat.le_of_ble_eq_true rfl) dX6_rises_2 ⟨Nat.le_of_ble_eq_true rfl, Nat.le_of_ble_eq_true rfl⟩ (fun v ad' c' H locs hv hN hS => ?_)
  obtain ⟨rfl, rfl, rfl⟩ := hv
  refine W.eq (g2 := F0 m 5 ls (_ :: _)) rfl ?_
  refine lv_iconst (v := 1) hx hb dX6_rises_5 (by decide) ?_
  refine lv_isub hx hb dX6_rises_6 ?_
  exact W.iret hx hb hr (nEnd hN hS ⟨rfl, rfl, rfl⟩) hS.2 dX6_rises_7
set_option maxHeartbeats 4000000 in
set_option maxRecDepth 100000 in
theorem tX7_rises (l : Launch) (G : nG) (K : State → Prop) (hKo : nKo G K) (hK0 : ∀ U, K U → sK0 G U) (ad : Nat → Nat) (c0 : nPic) (i : Nat) (a b kk : Int32) (hP : c0 i = some (.inr (4, [.int a, .int b, .int kk, .ref (ad 0), .ref (ad 0), .ref (ad 0)]))) (w : Int32) : Met l yX7_rises (ws_ yX7_rises cX7_rises 2 (some .int)) (sR 2 0 0) (nPc G nCl K ad c0 [.ref (ad i), .int w]) (nQ G nCl (fun rv ad' c' => rv = some (.int (2 * w)) ∧ ad = ad' ∧ c0 = c')) 0 0 (fun q => G.2 ≤ q) := by
  refine nMet RX7 (by decide) rfl (Nat.le_of_ble_eq_true rfl) ?_
  intro p e s m below meth c ls SS hR hK hN hS hl
  obtain ⟨hx, hb, hml, hown, hts⟩ := id SS
  obtain ⟨hr, hlk, hnm⟩ := hR
  obtain ⟨hKv, hKw, hKf, hKz, hKm⟩ := hK0 s hK
  generalize s.heap = H at hN hS ⊢
  generalize ([] : List Loc) = locs at hS ⊢
  have hl : lv_has ls 2 [(0, .ref (ad i)), (1, .int w)] := hl
  refine lv_iconst (v := 2) hx hb dX7_rises_0 (by decide) ?_
  refine lv_aload_n hx hb dX7_rises_1 rfl (lv_at hl 0 rfl) ?_
  refine lv_iload_n hx hb dX7_rises_2 rfl (lv_at hl 1 rfl) ?_
  refine n_callU (C := RX7) (As := [_]) (b := i) SS hKo hK hKv (tX6_plainlyRises_2 l G K hKo hK0 ad c0 i a b kk hP w) (va_cwU 1 hts (lw_U q241 q242 q244 q245 q78 q246) rfl rfl rfl rfl (by decide +kernel) ⟨Nat.le_of_ble_eq_true rfl, Nat.le_of_ble_eq_true rfl⟩) hN hS hP rfl rfl hl.1 rfl (Nat.le_of_ble_eq_true rfl) dX7_rises_3 ⟨Nat.le_of_ble_eq_true rfl, Nat.le_of_ble_eq_true rfl⟩ (fun v ad' c' H locs hv hN hS => ?_)
  obtain ⟨rfl, rfl, rfl⟩ := hv
  refine W.eq (g2 := F0 m 6 ls (_ :: _)) rfl ?_
  refine lv_imul hx hb dX7_rises_6 ?_
  exact W.iret hx hb hr (nEnd hN hS ⟨rfl, rfl, rfl⟩) hS.2 dX7_rises_7
set_option maxHeartbeats 4000000 in
set_option maxRecDepth 100000 in
theorem sX5_tracedBy_0 (l : Launch) (G : nG) (K : State → Prop) (hKo : nKo G K) (hK0 : ∀ U, K U → sK0 G U) (ad : Nat → Nat) (x : nPic) (si : AI) (sa : Nat → AI) (rn : Value) (i : Nat) (a b kk : Int32) (hi : i ≠ 0 ∧ i ≠ 1 ∧ i ≠ 4 ∧ i ≠ 5) (hX : x i = some (.inr (2, [.int a, .int b, .int kk, .ref (ad 0)]))) (z : Int32) : Met l yX5_tracedBy (ws_ yX5_tracedBy cX5_tracedBy 2 (some .int)) (sR 0 0 0) (nPc G nCl K ad (sPic G x ad si sa rn) [.ref (ad i), .int z]) (nQ G nCl (fun rv ad' c' => rv = some (.int 0) ∧ ad = ad' ∧ sPic G x ad (upd si 0 (sTr (si 0) z)) sa rn = c')) 0 0 (fun q => G.2 ≤ q) := by
  refine nMet RX5 (by decide) rfl (Nat.le_of_ble_eq_true rfl) ?_
  intro p e s m below meth c ls SS hR hK hN hS hl
  obtain ⟨hx, hb, hml, hown, hts⟩ := id SS
  obtain ⟨hr, hlk, hnm⟩ := hR
  obtain ⟨hKv, hKw, hKf, hKz, hKm⟩ := hK0 s hK
  generalize s.heap = H at hN hS ⊢
  generalize ([] : List Loc) = locs at hS ⊢
  have hl : lv_has ls 2 [(0, .ref (ad i)), (1, .int z)] := hl
  refine lv_aload_n hx hb dX5_tracedBy_0 rfl (lv_at hl 0 rfl) ?_
  refine n_get (ci := 2) (C := RX5) (T := TX5) (N := 4) hx hb hts in_X5 hown hKv hN (i) ((sPic_x hi).trans hX) rfl 3 (by decide) q793 (fun z h => h) (rfl) dX5_tracedBy_1 ?_
  refine lv_bipush (v := 31) hx hb dX5_tracedBy_4 (by decide) ?_
  refine lv_aload_n hx hb dX5_tracedBy_6 rfl (lv_at hl 0 rfl) ?_
  refine n_get (ci := 2) (C := RX5) (T := TX5) (N := 4) hx hb hts in_X5 hown hKv hN (i) ((sPic_x hi).trans hX) rfl 3 (by decide) q793 (fun z h => h) (rfl) dX5_tracedBy_7 ?_
  refine n_getN (ci := 0) (C := RX0) (T := TX0) (N := 12) hx hb hts in_X0 hown hKv hN (0) sPic_0 rfl 0 (by decide) (hKw _ q127 rfl) (fun z h => h) (rfl) dX5_tracedBy_10 ?_
  refine lv_imul hx hb dX5_tracedBy_13 ?_
  refine lv_iload_n hx hb dX5_tracedBy_14 rfl (lv_at hl 1 rfl) ?_
  refine lv_iadd hx hb dX5_tracedBy_15 ?_
  refine n_putN (ci := 0) (C := RX0) (T := TX0) (N := 12) hx hb hts in_X0 tyX0 tyX0_ok (va_apart (own := RX0) hts in_X0 tyX0 tyX0_ok nmX0 hKv rfl) hown hKv hN hS (0) sPic_0 rfl 0 (by decide) (hKw _ q127 rfl) (fun z h => h) rfl rfl rfl (Nat.le_of_ble_eq_true rfl) dX5_tracedBy_16 (fun H locs hN hS => ?_)
  have hN := hN.congr (sPic_put rfl)
  refine lv_iconst (v := 0) hx hb dX5_tracedBy_19 (by decide) ?_
  exact W.iret hx hb hr (nEnd hN hS ⟨rfl, rfl, rfl⟩) hS.2 dX5_tracedBy_20
set_option maxHeartbeats 4000000 in
set_option maxRecDepth 100000 in
theorem sX5_tracedBy_1 (l : Launch) (G : nG) (K : State → Prop) (hKo : nKo G K) (hK0 : ∀ U, K U → sK0 G U) (ad : Nat → Nat) (x : nPic) (si : AI) (sa : Nat → AI) (rn : Value) (i : Nat) (a b kk : Int32) (hi : i ≠ 0 ∧ i ≠ 1 ∧ i ≠ 4 ∧ i ≠ 5) (hX : x i = some (.inr (3, [.int a, .int b, .int kk, .ref (ad 0), .ref (ad 0)]))) (z : Int32) : Met l yX5_tracedBy (ws_ yX5_tracedBy cX5_tracedBy 2 (some .int)) (sR 0 0 0) (nPc G nCl K ad (sPic G x ad si sa rn) [.ref (ad i), .int z]) (nQ G nCl (fun rv ad' c' => rv = some (.int 0) ∧ ad = ad' ∧ sPic G x ad (upd si 0 (sTr (si 0) z)) sa rn = c')) 0 0 (fun q => G.2 ≤ q) := by
  refine nMet RX5 (by decide) rfl (Nat.le_of_ble_eq_true rfl) ?_
  intro p e s m below meth c ls SS hR hK hN hS hl
  obtain ⟨hx, hb, hml, hown, hts⟩ := id SS
  obtain ⟨hr, hlk, hnm⟩ := hR
  obtain ⟨hKv, hKw, hKf, hKz, hKm⟩ := hK0 s hK
  generalize s.heap = H at hN hS ⊢
  generalize ([] : List Loc) = locs at hS ⊢
  have hl : lv_has ls 2 [(0, .ref (ad i)), (1, .int z)] := hl
  refine lv_aload_n hx hb dX5_tracedBy_0 rfl (lv_at hl 0 rfl) ?_
  refine n_get (ci := 3) (C := RX6) (T := TX6) (N := 5) hx hb hts in_X6 hown hKv hN (i) ((sPic_x hi).trans hX) rfl 3 (by decide) q793 (fun z h => h) (rfl) dX5_tracedBy_1 ?_
  refine lv_bipush (v := 31) hx hb dX5_tracedBy_4 (by decide) ?_
  refine lv_aload_n hx hb dX5_tracedBy_6 rfl (lv_at hl 0 rfl) ?_
  refine n_get (ci := 3) (C := RX6) (T := TX6) (N := 5) hx hb hts in_X6 hown hKv hN (i) ((sPic_x hi).trans hX) rfl 3 (by decide) q793 (fun z h => h) (rfl) dX5_tracedBy_7 ?_
  refine n_getN (ci := 0) (C := RX0) (T := TX0) (N := 12) hx hb hts in_X0 hown hKv hN (0) sPic_0 rfl 0 (by decide) (hKw _ q127 rfl) (fun z h => h) (rfl) dX5_tracedBy_10 ?_
  refine lv_imul hx hb dX5_tracedBy_13 ?_
  refine lv_iload_n hx hb dX5_tracedBy_14 rfl (lv_at hl 1 rfl) ?_
  refine lv_iadd hx hb dX5_tracedBy_15 ?_
  refine n_putN (ci := 0) (C := RX0) (T := TX0) (N := 12) hx hb hts in_X0 tyX0 tyX0_ok (va_apart (own := RX0) hts in_X0 tyX0 tyX0_ok nmX0 hKv rfl) hown hKv hN hS (0) sPic_0 rfl 0 (by decide) (hKw _ q127 rfl) (fun z h => h) rfl rfl rfl (Nat.le_of_ble_eq_true rfl) dX5_tracedBy_16 (fun H locs hN hS => ?_)
  have hN := hN.congr (sPic_put rfl)
  refine lv_iconst (v := 0) hx hb dX5_tracedBy_19 (by decide) ?_
  exact W.iret hx hb hr (nEnd hN hS ⟨rfl, rfl, rfl⟩) hS.2 dX5_tracedBy_20
set_option maxHeartbeats 4000000 in
set_option maxRecDepth 100000 in
theorem sX5_tracedBy_2 (l : Launch) (G : nG) (K : State → Prop) (hKo : nKo G K) (hK0 : ∀ U, K U → sK0 G U) (ad : Nat → Nat) (x : nPic) (si : AI) (sa : Nat → AI) (rn : Value) (i : Nat) (a b kk : Int32) (hi : i ≠ 0 ∧ i ≠ 1 ∧ i ≠ 4 ∧ i ≠ 5) (hX : x i = some (.inr (4, [.int a, .int b, .int kk, .ref (ad 0), .ref (ad 0), .ref (ad 0)]))) (z : Int32) : Met l yX5_tracedBy (ws_ yX5_tracedBy cX5_tracedBy 2 (some .int)) (sR 0 0 0) (nPc G nCl K ad (sPic G x ad si sa rn) [.ref (ad i), .int z]) (nQ G nCl (fun rv ad' c' => rv = some (.int 0) ∧ ad = ad' ∧ sPic G x ad (upd si 0 (sTr (si 0) z)) sa rn = c')) 0 0 (fun q => G.2 ≤ q) := by
  refine nMet RX5 (by decide) rfl (Nat.le_of_ble_eq_true rfl) ?_
  intro p e s m below meth c ls SS hR hK hN hS hl
  obtain ⟨hx, hb, hml, hown, hts⟩ := id SS
  obtain ⟨hr, hlk, hnm⟩ := hR
  obtain ⟨hKv, hKw, hKf, hKz, hKm⟩ := hK0 s hK
  generalize s.heap = H at hN hS ⊢
  generalize ([] : List Loc) = locs at hS ⊢
  have hl : lv_has ls 2 [(0, .ref (ad i)), (1, .int z)] := hl
  refine lv_aload_n hx hb dX5_tracedBy_0 rfl (lv_at hl 0 rfl) ?_
  refine n_get (ci := 4) (C := RX7) (T := TX7) (N := 6) hx hb hts in_X7 hown hKv hN (i) ((sPic_x hi).trans hX) rfl 3 (by decide) q793 (fun z h => h) (rfl) dX5_tracedBy_1 ?_
  refine lv_bipush (v := 31) hx hb dX5_tracedBy_4 (by decide) ?_
  refine lv_aload_n hx hb dX5_tracedBy_6 rfl (lv_at hl 0 rfl) ?_
  refine n_get (ci := 4) (C := RX7) (T := TX7) (N := 6) hx hb hts in_X7 hown hKv hN (i) ((sPic_x hi).trans hX) rfl 3 (by decide) q793 (fun z h => h) (rfl) dX5_tracedBy_7 ?_
  refine n_getN (ci := 0) (C := RX0) (T := TX0) (N := 12) hx hb hts in_X0 hown hKv hN (0) sPic_0 rfl 0 (by decide) (hKw _ q127 rfl) (fun z h => h) (rfl) dX5_tracedBy_10 ?_
  refine lv_imul hx hb dX5_tracedBy_13 ?_
  refine lv_iload_n hx hb dX5_tracedBy_14 rfl (lv_at hl 1 rfl) ?_
  refine lv_iadd hx hb dX5_tracedBy_15 ?_
  refine n_putN (ci := 0) (C := RX0) (T := TX0) (N := 12) hx hb hts in_X0 tyX0 tyX0_ok (va_apart (own := RX0) hts in_X0 tyX0 tyX0_ok nmX0 hKv rfl) hown hKv hN hS (0) sPic_0 rfl 0 (by decide) (hKw _ q127 rfl) (fun z h => h) rfl rfl rfl (Nat.le_of_ble_eq_true rfl) dX5_tracedBy_16 (fun H locs hN hS => ?_)
  have hN := hN.congr (sPic_put rfl)
  refine lv_iconst (v := 0) hx hb dX5_tracedBy_19 (by decide) ?_
  exact W.iret hx hb hr (nEnd hN hS ⟨rfl, rfl, rfl⟩) hS.2 dX5_tracedBy_20
set_option maxHeartbeats 4000000 in
set_option maxRecDepth 100000 in
theorem sX5_said_0 (l : Launch) (G : nG) (K : State → Prop) (hKo : nKo G K) (hK0 : ∀ U, K U → sK0 G U) (ad : Nat → Nat) (x : nPic) (si : AI) (sa : Nat → AI) (rn : Value) (i : Nat) (a b kk : Int32) (hi : i ≠ 0 ∧ i ≠ 1 ∧ i ≠ 4 ∧ i ≠ 5) (hX : x i = some (.inr (2, [.int a, .int b, .int kk, .ref (ad 0)]))) : Met l yX5_said (ws_ yX5_said cX5_said 1 (some .int)) (sR 1 0 0) (nPc G nCl K ad (sPic G x ad si sa rn) [.ref (ad i)]) (nQ G nCl (fun rv ad' c' => rv = some (.int kk) ∧ ad = ad' ∧ sPic G x ad (upd si 0 (sTr (si 0) 1)) sa rn = c')) 0 0 (fun q => G.2 ≤ q) := by
  refine nMet RX5 (by decide) rfl (Nat.le_of_ble_eq_true rfl) ?_
  intro p e s m below meth c ls SS hR hK hN hS hl
  obtain ⟨hx, hb, hml, hown, hts⟩ := id SS
  obtain ⟨hr, hlk, hnm⟩ := hR
  obtain ⟨hKv, hKw, hKf, hKz, hKm⟩ := hK0 s hK
  generalize s.heap = H at hN hS ⊢
  generalize ([] : List Loc) = locs at hS ⊢
  have hl : lv_has ls 1 [(0, .ref (ad i))] := hl
  refine lv_aload_n hx hb dX5_said_0 rfl (lv_at hl 0 rfl) ?_
  refine lv_iconst (v := 1) hx hb dX5_said_1 (by decide) ?_
  refine n_callV (C := RX5) (As := [_]) (b := i) SS hKo hK hKv (sX5_tracedBy_0 l G K hKo hK0 ad x (si) sa rn i a b kk hi hX 1) (cwV 1 hts (lw_V q1030 q1012 q1433 q77 q1013) rfl rfl rfl (by decide +kernel) ⟨Nat.le_of_ble_eq_true rfl, Nat.le_of_ble_eq_true rfl⟩) hN hS ((sPic_x hi).trans hX) rfl rfl hl.1 rfl (Nat.le_of_ble_eq_true rfl) dX5_said_2 ⟨Nat.le_of_ble_eq_true rfl, Nat.le_of_ble_eq_true rfl⟩ (fun v ad' c' H locs hv hN hS => ?_)
  obtain ⟨rfl, rfl, rfl⟩ := hv
  refine W.eq (g2 := F0 m 5 ls (_ :: _)) rfl ?_
  refine lv_aload_n hx hb dX5_said_5 rfl (lv_at hl 0 rfl) ?_
  refine n_get (ci := 2) (C := RX5) (T := TX5) (N := 4) hx hb hts in_X5 hown hKv hN (i) ((sPic_x hi).trans hX) rfl 2 (by decide) q791 (fun z h => h) (rfl) dX5_said_6 ?_
  refine lv_iadd hx hb dX5_said_9 ?_
  refine n_top (y := kk) (Int32.zero_add _) ?_
  exact W.iret hx hb hr (nEnd hN hS ⟨rfl, rfl, rfl⟩) hS.2 dX5_said_10
set_option maxHeartbeats 4000000 in
set_option maxRecDepth 100000 in
theorem sX5_said_1 (l : Launch) (G : nG) (K : State → Prop) (hKo : nKo G K) (hK0 : ∀ U, K U → sK0 G U) (ad : Nat → Nat) (x : nPic) (si : AI) (sa : Nat → AI) (rn : Value) (i : Nat) (a b kk : Int32) (hi : i ≠ 0 ∧ i ≠ 1 ∧ i ≠ 4 ∧ i ≠ 5) (hX : x i = some (.inr (3, [.int a, .int b, .int kk, .ref (ad 0), .ref (ad 0)]))) : Met l yX5_said (ws_ yX5_said cX5_said 1 (some .int)) (sR 1 0 0) (nPc G nCl K ad (sPic G x ad si sa rn) [.ref (ad i)]) (nQ G nCl (fun rv ad' c' => rv = some (.int kk) ∧ ad = ad' ∧ sPic G x ad (upd si 0 (sTr (si 0) 1)) sa rn = c')) 0 0 (fun q => G.2 ≤ q) := by
  refine nMet RX5 (by decide) rfl (Nat.le_of_ble_eq_true rfl) ?_
  intro p e s m below meth c ls SS hR hK hN hS hl
  obtain ⟨hx, hb, hml, hown, hts⟩ := id SS
  obtain ⟨hr, hlk, hnm⟩ := hR
  obtain ⟨hKv, hKw, hKf, hKz, hKm⟩ := hK0 s hK
  generalize s.heap = H at hN hS ⊢
  generalize ([] : List Loc) = locs at hS ⊢
  have hl : lv_has ls 1 [(0, .ref (ad i))] := hl
  refine lv_aload_n hx hb dX5_said_0 rfl (lv_at hl 0 rfl) ?_
  refine lv_iconst (v := 1) hx hb dX5_said_1 (by decide) ?_
  refine n_callU (C := RX6) (As := [_]) (b := i) SS hKo hK hKv (sX5_tracedBy_1 l G K hKo hK0 ad x (si) sa rn i a b kk hi hX 1) (va_cwU 1 hts (lw_U q1030 q1431 q1434 q1012 q77 q1013) rfl rfl rfl rfl (by decide +kernel) ⟨Nat.le_of_ble_eq_true rfl, Nat.le_of_ble_eq_true rfl⟩) hN hS ((sPic_x hi).trans hX) rfl rfl hl.1 rfl (Nat.le_of_ble_eq_true rfl) dX5_said_2 ⟨Nat.le_of_ble_eq_true rfl, Nat.le_of_ble_eq_true rfl⟩ (fun v ad' c' H locs hv hN hS => ?_)
  obtain ⟨rfl, rfl, rfl⟩ := hv
  refine W.eq (g2 := F0 m 5 ls (_ :: _)) rfl ?_
  refine lv_aload_n hx hb dX5_said_5 rfl (lv_at hl 0 rfl) ?_
  refine n_get (ci := 3) (C := RX6) (T := TX6) (N := 5) hx hb hts in_X6 hown hKv hN (i) ((sPic_x hi).trans hX) rfl 2 (by decide) q791 (fun z h => h) (rfl) dX5_said_6 ?_
  refine lv_iadd hx hb dX5_said_9 ?_
  refine n_top (y := kk) (Int32.zero_add _) ?_
  exact W.iret hx hb hr (nEnd hN hS ⟨rfl, rfl, rfl⟩) hS.2 dX5_said_10
set_option maxHeartbeats 4000000 in
set_option maxRecDepth 100000 in
theorem sX5_said_2 (l : Launch) (G : nG) (K : State → Prop) (hKo : nKo G K) (hK0 : ∀ U, K U → sK0 G U) (ad : Nat → Nat) (x : nPic) (si : AI) (sa : Nat → AI) (rn : Value) (i : Nat) (a b kk : Int32) (hi : i ≠ 0 ∧ i ≠ 1 ∧ i ≠ 4 ∧ i ≠ 5) (hX : x i = some (.inr (4, [.int a, .int b, .int kk, .ref (ad 0), .ref (ad 0), .ref (ad 0)]))) : Met l yX5_said (ws_ yX5_said cX5_said 1 (some .int)) (sR 1 0 0) (nPc G nCl K ad (sPic G x ad si sa rn) [.ref (ad i)]) (nQ G nCl (fun rv ad' c' => rv = some (.int kk) ∧ ad = ad' ∧ sPic G x ad (upd si 0 (sTr (si 0) 1)) sa rn = c')) 0 0 (fun q => G.2 ≤ q) := by
  refine nMet RX5 (by decide) rfl (Nat.le_of_ble_eq_true rfl) ?_
  intro p e s m below meth c ls SS hR hK hN hS hl
  obtain ⟨hx, hb, hml, hown, hts⟩ := id SS
  obtain ⟨hr, hlk, hnm⟩ := hR
  obtain ⟨hKv, hKw, hKf, hKz, hKm⟩ := hK0 s hK
  generalize s.heap = H at hN hS ⊢
  generalize ([] : List Loc) = locs at hS ⊢
  have hl : lv_has ls 1 [(0, .ref (ad i))] := hl
  refine lv_aload_n hx hb dX5_said_0 rfl (lv_at hl 0 rfl) ?_
  refine lv_iconst (v := 1) hx hb dX5_said_1 (by decide) ?_
  refine n_callU (C := RX7) (As := [_]) (b := i) SS hKo hK hKv (sX5_tracedBy_2 l G K hKo hK0 ad x (si) sa rn i a b kk hi hX 1) (va_cwU 1 hts (lw_U q1030 q1431 q1432 q1012 q77 q1013) rfl rfl rfl rfl (by decide +kernel) ⟨Nat.le_of_ble_eq_true rfl, Nat.le_of_ble_eq_true rfl⟩) hN hS ((sPic_x hi).trans hX) rfl rfl hl.1 rfl (Nat.le_of_ble_eq_true rfl) dX5_said_2 ⟨Nat.le_of_ble_eq_true rfl, Nat.le_of_ble_eq_true rfl⟩ (fun v ad' c' H locs hv hN hS => ?_)
  obtain ⟨rfl, rfl, rfl⟩ := hv
  refine W.eq (g2 := F0 m 5 ls (_ :: _)) rfl ?_
  refine lv_aload_n hx hb dX5_said_5 rfl (lv_at hl 0 rfl) ?_
  refine n_get (ci := 4) (C := RX7) (T := TX7) (N := 6) hx hb hts in_X7 hown hKv hN (i) ((sPic_x hi).trans hX) rfl 2 (by decide) q791 (fun z h => h) (rfl) dX5_said_6 ?_
  refine lv_iadd hx hb dX5_said_9 ?_
  refine n_top (y := kk) (Int32.zero_add _) ?_
  exact W.iret hx hb hr (nEnd hN hS ⟨rfl, rfl, rfl⟩) hS.2 dX5_said_10
set_option maxHeartbeats 4000000 in
set_option maxRecDepth 100000 in
theorem sX6_said_1 (l : Launch) (G : nG) (K : State → Prop) (hKo : nKo G K) (hK0 : ∀ U, K U → sK0 G U) (ad : Nat → Nat) (x : nPic) (si : AI) (sa : Nat → AI) (rn : Value) (i : Nat) (a b kk : Int32) (hi : i ≠ 0 ∧ i ≠ 1 ∧ i ≠ 4 ∧ i ≠ 5) (hX : x i = some (.inr (3, [.int a, .int b, .int kk, .ref (ad 0), .ref (ad 0)]))) : Met l yX6_said (ws_ yX6_said cX6_said 1 (some .int)) (sR 2 0 0) (nPc G nCl K ad (sPic G x ad si sa rn) [.ref (ad i)]) (nQ G nCl (fun rv ad' c' => rv = some (.int (kk + 100)) ∧ ad = ad' ∧ sPic G x ad (upd si 0 (sTr (sTr (si 0) 2) 1)) sa rn = c')) 0 0 (fun q => G.2 ≤ q) := by
  refine nMet RX6 (by decide) rfl (Nat.le_of_ble_eq_true rfl) ?_
  intro p e s m below meth c ls SS hR hK hN hS hl
  obtain ⟨hx, hb, hml, hown, hts⟩ := id SS
  obtain ⟨hr, hlk, hnm⟩ := hR
  obtain ⟨hKv, hKw, hKf, hKz, hKm⟩ := hK0 s hK
  generalize s.heap = H at hN hS ⊢
  generalize ([] : List Loc) = locs at hS ⊢
  have hl : lv_has ls 1 [(0, .ref (ad i))] := hl
  refine lv_aload_n hx hb dX6_said_0 rfl (lv_at hl 0 rfl) ?_
  refine lv_iconst (v := 2) hx hb dX6_said_1 (by decide) ?_
  refine n_callU (C := RX6) (As := [_]) (b := i) SS hKo hK hKv (sX5_tracedBy_1 l G K hKo hK0 ad x (si) sa rn i a b kk hi hX 2) (va_cwU 1 hts (lw_U q1017 q1018 q1020 q1012 q77 q1013) rfl rfl rfl rfl (by decide +kernel) ⟨Nat.le_of_ble_eq_true rfl, Nat.le_of_ble_eq_true rfl⟩) hN hS ((sPic_x hi).trans hX) rfl rfl hl.1 rfl (Nat.le_of_ble_eq_true rfl) dX6_said_2 ⟨Nat.le_of_ble_eq_true rfl, Nat.le_of_ble_eq_true rfl⟩ (fun v ad' c' H locs hv hN hS => ?_)
  obtain ⟨rfl, rfl, rfl⟩ := hv
  refine W.eq (g2 := F0 m 5 ls (_ :: _)) rfl ?_
  refine lv_aload_n hx hb dX6_said_5 rfl (lv_at hl 0 rfl) ?_
  refine n_callSU (As := []) (C := RX6) (b := i) SS hKo hK hKv (sX5_said_1 l G K hKo hK0 ad x (upd si 0 (sTr (si 0) 2)) sa rn i a b kk hi hX) (va_cwSU 0 hts (lw_SU q1021 q1004 q248 q1002 q77 q1029) rfl rfl rfl (by decide +kernel) ⟨Nat.le_of_ble_eq_true rfl, Nat.le_of_ble_eq_true rfl⟩) hN hS ((sPic_x hi).trans hX) rfl rfl hl.1 rfl (Nat.le_of_ble_eq_true rfl) dX6_said_6 ⟨Nat.le_of_ble_eq_true rfl, Nat.le_of_ble_eq_true rfl⟩ (fun v ad' c' H locs hv hN hS => ?_)
  obtain ⟨rfl, rfl, rfl⟩ := hv
  rw [upd_upd, pk_us] at hN
  refine W.eq (g2 := F0 m 9 ls (_ :: _)) rfl ?_
  refine lv_iadd hx hb dX6_said_9 ?_
  refine n_top (y := kk) (Int32.zero_add _) ?_
  refine lv_bipush (v := 100) hx hb dX6_said_10 (by decide) ?_
  refine lv_iadd hx hb dX6_said_12 ?_
  exact W.iret hx hb hr (nEnd hN hS ⟨rfl, rfl, rfl⟩) hS.2 dX6_said_13
set_option maxHeartbeats 4000000 in
set_option maxRecDepth 100000 in
theorem sX6_said_2 (l : Launch) (G : nG) (K : State → Prop) (hKo : nKo G K) (hK0 : ∀ U, K U → sK0 G U) (ad : Nat → Nat) (x : nPic) (si : AI) (sa : Nat → AI) (rn : Value) (i : Nat) (a b kk : Int32) (hi : i ≠ 0 ∧ i ≠ 1 ∧ i ≠ 4 ∧ i ≠ 5) (hX : x i = some (.inr (4, [.int a, .int b, .int kk, .ref (ad 0), .ref (ad 0), .ref (ad 0)]))) : Met l yX6_said (ws_ yX6_said cX6_said 1 (some .int)) (sR 2 0 0) (nPc G nCl K ad (sPic G x ad si sa rn) [.ref (ad i)]) (nQ G nCl (fun rv ad' c' => rv = some (.int (kk + 100)) ∧ ad = ad' ∧ sPic G x ad (upd si 0 (sTr (sTr (si 0) 2) 1)) sa rn = c')) 0 0 (fun q => G.2 ≤ q) := by
  refine nMet RX6 (by decide) rfl (Nat.le_of_ble_eq_true rfl) ?_
  intro p e s m below meth c ls SS hR hK hN hS hl
  obtain ⟨hx, hb, hml, hown, hts⟩ := id SS
  obtain ⟨hr, hlk, hnm⟩ := hR
  obtain ⟨hKv, hKw, hKf, hKz, hKm⟩ := hK0 s hK
  generalize s.heap = H at hN hS ⊢
  generalize ([] : List Loc) = locs at hS ⊢
  have hl : lv_has ls 1 [(0, .ref (ad i))] := hl
  refine lv_aload_n hx hb dX6_said_0 rfl (lv_at hl 0 rfl) ?_
  refine lv_iconst (v := 2) hx hb dX6_said_1 (by decide) ?_
  refine n_callU (C := RX7) (As := [_]) (b := i) SS hKo hK hKv (sX5_tracedBy_2 l G K hKo hK0 ad x (si) sa rn i a b kk hi hX 2) (va_cwU 1 hts (lw_U q1017 q1018 q1019 q1012 q77 q1013) rfl rfl rfl rfl (by decide +kernel) ⟨Nat.le_of_ble_eq_true rfl, Nat.le_of_ble_eq_true rfl⟩) hN hS ((sPic_x hi).trans hX) rfl rfl hl.1 rfl (Nat.le_of_ble_eq_true rfl) dX6_said_2 ⟨Nat.le_of_ble_eq_true rfl, Nat.le_of_ble_eq_true rfl⟩ (fun v ad' c' H locs hv hN hS => ?_)
  obtain ⟨rfl, rfl, rfl⟩ := hv
  refine W.eq (g2 := F0 m 5 ls (_ :: _)) rfl ?_
  refine lv_aload_n hx hb dX6_said_5 rfl (lv_at hl 0 rfl) ?_
  refine n_callSU (As := []) (C := RX7) (b := i) SS hKo hK hKv (sX5_said_2 l G K hKo hK0 ad x (upd si 0 (sTr (si 0) 2)) sa rn i a b kk hi hX) (va_cwSU 0 hts (lw_SU q1021 q1004 q248 q1002 q77 q1029) rfl rfl rfl (by decide +kernel) ⟨Nat.le_of_ble_eq_true rfl, Nat.le_of_ble_eq_true rfl⟩) hN hS ((sPic_x hi).trans hX) rfl rfl hl.1 rfl (Nat.le_of_ble_eq_true rfl) dX6_said_6 ⟨Nat.le_of_ble_eq_true rfl, Nat.le_of_ble_eq_true rfl⟩ (fun v ad' c' H locs hv hN hS => ?_)
  obtain ⟨rfl, rfl, rfl⟩ := hv
  rw [upd_upd, pk_us] at hN
  refine W.eq (g2 := F0 m 9 ls (_ :: _)) rfl ?_
  refine lv_iadd hx hb dX6_said_9 ?_
  refine n_top (y := kk) (Int32.zero_add _) ?_
  refine lv_bipush (v := 100) hx hb dX6_said_10 (by decide) ?_
  refine lv_iadd hx hb dX6_said_12 ?_
  exact W.iret hx hb hr (nEnd hN hS ⟨rfl, rfl, rfl⟩) hS.2 dX6_said_13
set_option maxHeartbeats 4000000 in
set_option maxRecDepth 100000 in
theorem sX6_plainly (l : Launch) (G : nG) (K : State → Prop) (hKo : nKo G K) (hK0 : ∀ U, K U → sK0 G U) (ad : Nat → Nat) (x : nPic) (si : AI) (sa : Nat → AI) (rn : Value) (i : Nat) (a b kk : Int32) (hi : i ≠ 0 ∧ i ≠ 1 ∧ i ≠ 4 ∧ i ≠ 5) (hX : x i = some (.inr (4, [.int a, .int b, .int kk, .ref (ad 0), .ref (ad 0), .ref (ad 0)]))) : Met l yX6_plainly (ws_ yX6_plainly cX6_plainly 1 (some .int)) (sR 2 0 0) (nPc G nCl K ad (sPic G x ad si sa rn) [.ref (ad i)]) (nQ G nCl (fun rv ad' c' => rv = some (.int kk) ∧ ad = ad' ∧ sPic G x ad (upd si 0 (sTr (si 0) 1)) sa rn = c')) 0 0 (fun q => G.2 ≤ q) := by
  refine nMet RX6 (by decide) rfl (Nat.le_of_ble_eq_true rfl) ?_
  intro p e s m below meth c ls SS hR hK hN hS hl
  obtain ⟨hx, hb, hml, hown, hts⟩ := id SS
  obtain ⟨hr, hlk, hnm⟩ := hR
  obtain ⟨hKv, hKw, hKf, hKz, hKm⟩ := hK0 s hK
  generalize s.heap = H at hN hS ⊢
  generalize ([] : List Loc) = locs at hS ⊢
  have hl : lv_has ls 1 [(0, .ref (ad i))] := hl
  refine lv_aload_n hx hb dX6_plainly_0 rfl (lv_at hl 0 rfl) ?_
  refine n_callSU (As := []) (C := RX7) (b := i) SS hKo hK hKv (sX5_said_2 l G K hKo hK0 ad x si sa rn i a b kk hi hX) (va_cwSU 0 hts (lw_SU q1021 q1004 q248 q1002 q77 q1029) rfl rfl rfl (by decide +kernel) ⟨Nat.le_of_ble_eq_true rfl, Nat.le_of_ble_eq_true rfl⟩) hN hS ((sPic_x hi).trans hX) rfl rfl hl.1 rfl (Nat.le_of_ble_eq_true rfl) dX6_plainly_1 ⟨Nat.le_of_ble_eq_true rfl, Nat.le_of_ble_eq_true rfl⟩ (fun v ad' c' H locs hv hN hS => ?_)
  obtain ⟨rfl, rfl, rfl⟩ := hv
  refine W.eq (g2 := F0 m 4 ls (_ :: _)) rfl ?_
  exact W.iret hx hb hr (nEnd hN hS ⟨rfl, rfl, rfl⟩) hS.2 dX6_plainly_4
set_option maxHeartbeats 4000000 in
set_option maxRecDepth 100000 in
theorem sX7_said (l : Launch) (G : nG) (K : State → Prop) (hKo : nKo G K) (hK0 : ∀ U, K U → sK0 G U) (ad : Nat → Nat) (x : nPic) (si : AI) (sa : Nat → AI) (rn : Value) (i : Nat) (a b kk : Int32) (hi : i ≠ 0 ∧ i ≠ 1 ∧ i ≠ 4 ∧ i ≠ 5) (hX : x i = some (.inr (4, [.int a, .int b, .int kk, .ref (ad 0), .ref (ad 0), .ref (ad 0)]))) : Met l yX7_said (ws_ yX7_said cX7_said 1 (some .int)) (sR 3 0 0) (nPc G nCl K ad (sPic G x ad si sa rn) [.ref (ad i)]) (nQ G nCl (fun rv ad' c' => rv = some (.int (2 * kk + 100)) ∧ ad = ad' ∧ sPic G x ad (upd si 0 (sTr (sTr (sTr (sTr (si 0) 3) 2) 1) 1)) sa rn = c')) 0 0 (fun q => G.2 ≤ q) := by
  refine nMet RX7 (by decide) rfl (Nat.le_of_ble_eq_true rfl) ?_
  intro p e s m below meth c ls SS hR hK hN hS hl
  obtain ⟨hx, hb, hml, hown, hts⟩ := id SS
  obtain ⟨hr, hlk, hnm⟩ := hR
  obtain ⟨hKv, hKw, hKf, hKz, hKm⟩ := hK0 s hK
  generalize s.heap = H at hN hS ⊢
  generalize ([] : List Loc) = locs at hS ⊢
  have hl : lv_has ls 1 [(0, .ref (ad i))] := hl
  refine lv_aload_n hx hb dX7_said_0 rfl (lv_at hl 0 rfl) ?_
  refine lv_iconst (v := 3) hx hb dX7_said_1 (by decide) ?_
  refine n_callU (C := RX7) (As := [_]) (b := i) SS hKo hK hKv (sX5_tracedBy_2 l G K hKo hK0 ad x (si) sa rn i a b kk hi hX 3) (va_cwU 1 hts (lw_U q1008 q1009 q1011 q1012 q77 q1013) rfl rfl rfl rfl (by decide +kernel) ⟨Nat.le_of_ble_eq_true rfl, Nat.le_of_ble_eq_true rfl⟩) hN hS ((sPic_x hi).trans hX) rfl rfl hl.1 rfl (Nat.le_of_ble_eq_true rfl) dX7_said_2 ⟨Nat.le_of_ble_eq_true rfl, Nat.le_of_ble_eq_true rfl⟩ (fun v ad' c' H locs hv hN hS => ?_)
  obtain ⟨rfl, rfl, rfl⟩ := hv
  refine W.eq (g2 := F0 m 5 ls (_ :: _)) rfl ?_
  refine lv_aload_n hx hb dX7_said_5 rfl (lv_at hl 0 rfl) ?_
  refine n_callSU (As := []) (C := RX7) (b := i) SS hKo hK hKv (sX6_said_2 l G K hKo hK0 ad x (upd si 0 (sTr (si 0) 3)) sa rn i a b kk hi hX) (va_cwSU 0 hts (lw_SU q1014 q1430 q830 q1015 q78 q1016) rfl rfl rfl (by decide +kernel) ⟨Nat.le_of_ble_eq_true rfl, Nat.le_of_ble_eq_true rfl⟩) hN hS ((sPic_x hi).trans hX) rfl rfl hl.1 rfl (Nat.le_of_ble_eq_true rfl) dX7_said_6 ⟨Nat.le_of_ble_eq_true rfl, Nat.le_of_ble_eq_true rfl⟩ (fun v ad' c' H locs hv hN hS => ?_)
  obtain ⟨rfl, rfl, rfl⟩ := hv
  rw [upd_upd, pk_us] at hN
  refine W.eq (g2 := F0 m 9 ls (_ :: _)) rfl ?_
  refine lv_iadd hx hb dX7_said_9 ?_
  refine n_top (y := kk + 100) (Int32.zero_add _) ?_
  refine lv_aload_n hx hb dX7_said_10 rfl (lv_at hl 0 rfl) ?_
  refine n_callU (C := RX7) (As := []) (b := i) SS hKo hK hKv (sX6_plainly l G K hKo hK0 ad x (upd si 0 (sTr (sTr (sTr (si 0) 3) 2) 1)) sa rn i a b kk hi hX) (va_cwU 0 hts (lw_U q1022 q1023 q1025 q1026 q78 q1027) rfl rfl rfl rfl (by decide +kernel) ⟨Nat.le_of_ble_eq_true rfl, Nat.le_of_ble_eq_true rfl⟩) hN hS ((sPic_x hi).trans hX) rfl rfl hl.1 rfl (Nat.le_of_ble_eq_true rfl) dX7_said_11 ⟨Nat.le_of_ble_eq_true rfl, Nat.le_of_ble_eq_true rfl⟩ (fun v ad' c' H locs hv hN hS => ?_)
  obtain ⟨rfl, rfl, rfl⟩ := hv
  rw [upd_upd, pk_us] at hN
  refine W.eq (g2 := F0 m 14 ls (_ :: _)) rfl ?_
  refine lv_iadd hx hb dX7_said_14 ?_
  refine n_top (y := 2 * kk + 100) (p_2k kk) ?_
  exact W.iret hx hb hr (nEnd hN hS ⟨rfl, rfl, rfl⟩) hS.2 dX7_said_15
set_option maxHeartbeats 4000000 in
set_option maxRecDepth 100000 in
theorem tX5_number_0 (l : Launch) (G : nG) (K : State → Prop) (hKo : nKo G K) (hK0 : ∀ U, K U → sK0 G U) (ad : Nat → Nat) (c0 : nPic) (i : Nat) (a b kk : Int32) (hP : c0 i = some (.inr (2, [.int a, .int b, .int kk, .ref (ad 0)]))) : Met l yX5_number (ws_ yX5_number cX5_number 1 (some .int)) (sR 0 0 0) (nPc G nCl K ad c0 [.ref (ad i)]) (nQ G nCl (fun rv ad' c' => rv = some (.int a) ∧ ad = ad' ∧ c0 = c')) 0 0 (fun q => G.2 ≤ q) := by
  refine nMet RX5 (by decide) rfl (Nat.le_of_ble_eq_true rfl) ?_
  intro p e s m below meth c ls SS hR hK hN hS hl
  obtain ⟨hx, hb, hml, hown, hts⟩ := id SS
  obtain ⟨hr, hlk, hnm⟩ := hR
  obtain ⟨hKv, hKw, hKf, hKz, hKm⟩ := hK0 s hK
  generalize s.heap = H at hN hS ⊢
  generalize ([] : List Loc) = locs at hS ⊢
  have hl : lv_has ls 1 [(0, .ref (ad i))] := hl
  refine lv_aload_n hx hb dX5_number_0 rfl (lv_at hl 0 rfl) ?_
  refine n_get (ci := 2) (C := RX5) (T := TX5) (N := 4) hx hb hts in_X5 hown hKv hN (i) hP rfl 0 (by decide) q783 (fun z h => h) (rfl) dX5_number_1 ?_
  exact W.iret hx hb hr (nEnd hN hS ⟨rfl, rfl, rfl⟩) hS.2 dX5_number_4
set_option maxHeartbeats 4000000 in
set_option maxRecDepth 100000 in
theorem tX5_number_1 (l : Launch) (G : nG) (K : State → Prop) (hKo : nKo G K) (hK0 : ∀ U, K U → sK0 G U) (ad : Nat → Nat) (c0 : nPic) (i : Nat) (a b kk : Int32) (hP : c0 i = some (.inr (3, [.int a, .int b, .int kk, .ref (ad 0), .ref (ad 0)]))) : Met l yX5_number (ws_ yX5_number cX5_number 1 (some .int)) (sR 0 0 0) (nPc G nCl K ad c0 [.ref (ad i)]) (nQ G nCl (fun rv ad' c' => rv = some (.int a) ∧ ad = ad' ∧ c0 = c')) 0 0 (fun q => G.2 ≤ q) := by
  refine nMet RX5 (by decide) rfl (Nat.le_of_ble_eq_true rfl) ?_
  intro p e s m below meth c ls SS hR hK hN hS hl
  obtain ⟨hx, hb, hml, hown, hts⟩ := id SS
  obtain ⟨hr, hlk, hnm⟩ := hR
  obtain ⟨hKv, hKw, hKf, hKz, hKm⟩ := hK0 s hK
  generalize s.heap = H at hN hS ⊢
  generalize ([] : List Loc) = locs at hS ⊢
  have hl : lv_has ls 1 [(0, .ref (ad i))] := hl
  refine lv_aload_n hx hb dX5_number_0 rfl (lv_at hl 0 rfl) ?_
  refine n_get (ci := 3) (C := RX6) (T := TX6) (N := 5) hx hb hts in_X6 hown hKv hN (i) hP rfl 0 (by decide) q783 (fun z h => h) (rfl) dX5_number_1 ?_
  exact W.iret hx hb hr (nEnd hN hS ⟨rfl, rfl, rfl⟩) hS.2 dX5_number_4
set_option maxHeartbeats 4000000 in
set_option maxRecDepth 100000 in
theorem sX7_greeted (l : Launch) (G : nG) (K : State → Prop) (hKo : nKo G K) (hK0 : ∀ U, K U → sK0 G U) (ad : Nat → Nat) (x : nPic) (si : AI) (sa : Nat → AI) (rn : Value) (i : Nat) (a b kk : Int32) (hi : i ≠ 0 ∧ i ≠ 1 ∧ i ≠ 4 ∧ i ≠ 5) (hX : x i = some (.inr (4, [.int a, .int b, .int kk, .ref (ad 0), .ref (ad 0), .ref (ad 0)]))) : Met l yX7_greeted (ws_ yX7_greeted cX7_greeted 1 (some .int)) (sR 1 0 0) (nPc G nCl K ad (sPic G x ad si sa rn) [.ref (ad i)]) (nQ G nCl (fun rv ad' c' => rv = some (.int 80) ∧ ad = ad' ∧ sPic G x ad (upd si 0 (sTr (si 0) 5)) sa rn = c')) 0 0 (fun q => G.2 ≤ q) := by
  refine nMet RX7 (by decide) rfl (Nat.le_of_ble_eq_true rfl) ?_
  intro p e s m below meth c ls SS hR hK hN hS hl
  obtain ⟨hx, hb, hml, hown, hts⟩ := id SS
  obtain ⟨hr, hlk, hnm⟩ := hR
  obtain ⟨hKv, hKw, hKf, hKz, hKm⟩ := hK0 s hK
  generalize s.heap = H at hN hS ⊢
  generalize ([] : List Loc) = locs at hS ⊢
  have hl : lv_has ls 1 [(0, .ref (ad i))] := hl
  refine lv_aload_n hx hb dX7_greeted_0 rfl (lv_at hl 0 rfl) ?_
  refine lv_iconst (v := 5) hx hb dX7_greeted_1 (by decide) ?_
  refine n_callU (C := RX7) (As := [_]) (b := i) SS hKo hK hKv (sX5_tracedBy_2 l G K hKo hK0 ad x (si) sa rn i a b kk hi hX 5) (va_cwU 1 hts (lw_U q1008 q1009 q1011 q1012 q77 q1013) rfl rfl rfl rfl (by decide +kernel) ⟨Nat.le_of_ble_eq_true rfl, Nat.le_of_ble_eq_true rfl⟩) hN hS ((sPic_x hi).trans hX) rfl rfl hl.1 rfl (Nat.le_of_ble_eq_true rfl) dX7_greeted_2 ⟨Nat.le_of_ble_eq_true rfl, Nat.le_of_ble_eq_true rfl⟩ (fun v ad' c' H locs hv hN hS => ?_)
  obtain ⟨rfl, rfl, rfl⟩ := hv
  refine W.eq (g2 := F0 m 5 ls (_ :: _)) rfl ?_
  refine lv_bipush (v := 80) hx hb dX7_greeted_5 (by decide) ?_
  refine lv_iadd hx hb dX7_greeted_7 ?_
  refine n_top (y := 80) (by decide) ?_
  exact W.iret hx hb hr (nEnd hN hS ⟨rfl, rfl, rfl⟩) hS.2 dX7_greeted_8
set_option maxHeartbeats 4000000 in
set_option maxRecDepth 100000 in
theorem tX5_init_0 (l : Launch) (G : nG) (K : State → Prop) (hKo : nKo G K) (hK0 : ∀ U, K U → sK0 G U) (ad : Nat → Nat) (c0 : nPic) (i : Nat) (v0 v1 v2 v3 : Value) (hP : c0 i = some (.inr (2, [v0, v1, v2, v3]))) (a b kk : Int32) (o : Nat) : Met l yX5_init (ws_ yX5_init cX5_init 5 none) (sR 1 0 0) (nPc G nCl K ad c0 [.ref (ad i), .ref o, .int a, .int b, .int kk]) (nQ G nCl (fun rv ad' c' => rv = none ∧ ad = ad' ∧ va_up c0 i (some (.inr (2, [.int a, .int b, .int kk, .ref o]))) = c')) 0 0 (fun q => G.2 ≤ q) := by
  refine nMet RX5 (by decide) rfl (Nat.le_of_ble_eq_true rfl) ?_
  intro p e s m below meth c ls SS hR hK hN hS hl
  obtain ⟨hx, hb, hml, hown, hts⟩ := id SS
  obtain ⟨hr, hlk, hnm⟩ := hR
  obtain ⟨hKv, hKw, hKf, hKz, hKm⟩ := hK0 s hK
  generalize s.heap = H at hN hS ⊢
  generalize ([] : List Loc) = locs at hS ⊢
  have hl : lv_has ls 5 [(0, .ref (ad i)), (1, .ref o), (2, .int a), (3, .int b), (4, .int kk)] := hl
  refine lv_aload_n hx hb dX5_init_0 rfl (lv_at hl 0 rfl) ?_
  refine lv_aload_n hx hb dX5_init_1 rfl (lv_at hl 1 rfl) ?_
  refine n_putF (ci := 2) (C := RX5) (T := TX5) (N := 4) hx hb hts in_X5 tyX5 tyX5_ok (n_apart hts in_X5 tyX5 tyX5_ok ndX5 hKv rfl) hown hKv hN hS (i) hP rfl 3 (by decide) q793 (fun z h => h) rfl hnm rfl rfl rfl (Nat.le_of_ble_eq_true rfl) dX5_init_2 (fun H locs hN hS => ?_)
  have hP : va_up c0 i (some (.inr (2, [v0, v1, v2, .ref o]))) i = _ := va_up_self _ _ _
  refine lv_aload_n hx hb dX5_init_5 rfl (lv_at hl 0 rfl) ?_
  refine W.objInit hx hb (g := F0 m 6 ls _) hown (hts _ q782) (hts _ q96) (hts _ q97) rfl (hl.1.trans hml.symm) rfl dX5_init_6 (Nat.le_of_ble_eq_true rfl) (Nat.le_of_ble_eq_true rfl) ?_
  refine lv_aload_n hx hb dX5_init_9 rfl (lv_at hl 0 rfl) ?_
  refine lv_iload_n hx hb dX5_init_10 rfl (lv_at hl 2 rfl) ?_
  refine n_putF (ci := 2) (C := RX5) (T := TX5) (N := 4) hx hb hts in_X5 tyX5 tyX5_ok (n_apart hts in_X5 tyX5 tyX5_ok ndX5 hKv rfl) hown hKv hN hS (i) hP rfl 0 (by decide) q783 (fun z h => h) rfl hnm rfl rfl rfl (Nat.le_of_ble_eq_true rfl) dX5_init_11 (fun H locs hN hS => ?_)
  have hN := hN.congr (va_up_up c0 i _ (some (.inr (2, [.int a, v1, v2, .ref o]))))
  have hP : va_up c0 i (some (.inr (2, [.int a, v1, v2, .ref o]))) i = _ := va_up_self _ _ _
  refine lv_aload_n hx hb dX5_init_14 rfl (lv_at hl 0 rfl) ?_
  refine lv_iload_n hx hb dX5_init_15 rfl (lv_at hl 3 rfl) ?_
  refine n_putF (ci := 2) (C := RX5) (T := TX5) (N := 4) hx hb hts in_X5 tyX5 tyX5_ok (n_apart hts in_X5 tyX5 tyX5_ok ndX5 hKv rfl) hown hKv hN hS (i) hP rfl 1 (by decide) q789 (fun z h => h) rfl hnm rfl rfl rfl (Nat.le_of_ble_eq_true rfl) dX5_init_16 (fun H locs hN hS => ?_)
  have hN := hN.congr (va_up_up c0 i _ (some (.inr (2, [.int a, .int b, v2, .ref o]))))
  have hP : va_up c0 i (some (.inr (2, [.int a, .int b, v2, .ref o]))) i = _ := va_up_self _ _ _
  refine lv_aload_n hx hb dX5_init_19 rfl (lv_at hl 0 rfl) ?_
  refine lv_iload hx hb dX5_init_20 (lv_at hl 4 rfl) ?_
  refine n_put (ci := 2) (C := RX5) (T := TX5) (N := 4) hx hb hts in_X5 tyX5 tyX5_ok (n_apart hts in_X5 tyX5 tyX5_ok ndX5 hKv rfl) hown hKv hN hS (i) hP rfl 2 (by decide) q791 (fun z h => h) rfl rfl rfl (Nat.le_of_ble_eq_true rfl) dX5_init_22 (fun H locs hN hS => ?_)
  have hN := hN.congr (va_up_up c0 i _ (some (.inr (2, [.int a, .int b, .int kk, .ref o]))))
  have hP : va_up c0 i (some (.inr (2, [.int a, .int b, .int kk, .ref o]))) i = _ := va_up_self _ _ _
  exact W.vret hx hb hr (nEnd hN hS ⟨rfl, rfl, rfl⟩) hS.2 dX5_init_25
set_option maxHeartbeats 4000000 in
set_option maxRecDepth 100000 in
theorem tX5_init_1 (l : Launch) (G : nG) (K : State → Prop) (hKo : nKo G K) (hK0 : ∀ U, K U → sK0 G U) (ad : Nat → Nat) (c0 : nPic) (i : Nat) (v0 v1 v2 v3 v4 : Value) (hP : c0 i = some (.inr (3, [v0, v1, v2, v3, v4]))) (a b kk : Int32) (o : Nat) : Met l yX5_init (ws_ yX5_init cX5_init 5 none) (sR 1 0 0) (nPc G nCl K ad c0 [.ref (ad i), .ref o, .int a, .int b, .int kk]) (nQ G nCl (fun rv ad' c' => rv = none ∧ ad = ad' ∧ va_up c0 i (some (.inr (3, [.int a, .int b, .int kk, .ref o, v4]))) = c')) 0 0 (fun q => G.2 ≤ q) := by
  refine nMet RX5 (by decide) rfl (Nat.le_of_ble_eq_true rfl) ?_
  intro p e s m below meth c ls SS hR hK hN hS hl
  obtain ⟨hx, hb, hml, hown, hts⟩ := id SS
  obtain ⟨hr, hlk, hnm⟩ := hR
  obtain ⟨hKv, hKw, hKf, hKz, hKm⟩ := hK0 s hK
  generalize s.heap = H at hN hS ⊢
  generalize ([] : List Loc) = locs at hS ⊢
  have hl : lv_has ls 5 [(0, .ref (ad i)), (1, .ref o), (2, .int a), (3, .int b), (4, .int kk)] := hl
  refine lv_aload_n hx hb dX5_init_0 rfl (lv_at hl 0 rfl) ?_
  refine lv_aload_n hx hb dX5_init_1 rfl (lv_at hl 1 rfl) ?_
  refine n_putF (ci := 3) (C := RX6) (T := TX6) (N := 5) hx hb hts in_X6 tyX6 tyX6_ok (n_apart hts in_X6 tyX6 tyX6_ok ndX6 hKv rfl) hown hKv hN hS (i) hP rfl 3 (by decide) q793 (fun z h => h) rfl hnm rfl rfl rfl (Nat.le_of_ble_eq_true rfl) dX5_init_2 (fun H locs hN hS => ?_)
  have hP : va_up c0 i (some (.inr (3, [v0, v1, v2, .ref o, v4]))) i = _ := va_up_self _ _ _
  refine lv_aload_n hx hb dX5_init_5 rfl (lv_at hl 0 rfl) ?_
  refine W.objInit hx hb (g := F0 m 6 ls _) hown (hts _ q782) (hts _ q96) (hts _ q97) rfl (hl.1.trans hml.symm) rfl dX5_init_6 (Nat.le_of_ble_eq_true rfl) (Nat.le_of_ble_eq_true rfl) ?_
  refine lv_aload_n hx hb dX5_init_9 rfl (lv_at hl 0 rfl) ?_
  refine lv_iload_n hx hb dX5_init_10 rfl (lv_at hl 2 rfl) ?_
  refine n_putF (ci := 3) (C := RX6) (T := TX6) (N := 5) hx hb hts in_X6 tyX6 tyX6_ok (n_apart hts in_X6 tyX6 tyX6_ok ndX6 hKv rfl) hown hKv hN hS (i) hP rfl 0 (by decide) q783 (fun z h => h) rfl hnm rfl rfl rfl (Nat.le_of_ble_eq_true rfl) dX5_init_11 (fun H locs hN hS => ?_)
  have hN := hN.congr (va_up_up c0 i _ (some (.inr (3, [.int a, v1, v2, .ref o, v4]))))
  have hP : va_up c0 i (some (.inr (3, [.int a, v1, v2, .ref o, v4]))) i = _ := va_up_self _ _ _
  refine lv_aload_n hx hb dX5_init_14 rfl (lv_at hl 0 rfl) ?_
  refine lv_iload_n hx hb dX5_init_15 rfl (lv_at hl 3 rfl) ?_
  refine n_putF (ci := 3) (C := RX6) (T := TX6) (N := 5) hx hb hts in_X6 tyX6 tyX6_ok (n_apart hts in_X6 tyX6 tyX6_ok ndX6 hKv rfl) hown hKv hN hS (i) hP rfl 1 (by decide) q789 (fun z h => h) rfl hnm rfl rfl rfl (Nat.le_of_ble_eq_true rfl) dX5_init_16 (fun H locs hN hS => ?_)
  have hN := hN.congr (va_up_up c0 i _ (some (.inr (3, [.int a, .int b, v2, .ref o, v4]))))
  have hP : va_up c0 i (some (.inr (3, [.int a, .int b, v2, .ref o, v4]))) i = _ := va_up_self _ _ _
  refine lv_aload_n hx hb dX5_init_19 rfl (lv_at hl 0 rfl) ?_
  refine lv_iload hx hb dX5_init_20 (lv_at hl 4 rfl) ?_
  refine n_put (ci := 3) (C := RX6) (T := TX6) (N := 5) hx hb hts in_X6 tyX6 tyX6_ok (n_apart hts in_X6 tyX6 tyX6_ok ndX6 hKv rfl) hown hKv hN hS (i) hP rfl 2 (by decide) q791 (fun z h => h) rfl rfl rfl (Nat.le_of_ble_eq_true rfl) dX5_init_22 (fun H locs hN hS => ?_)
  have hN := hN.congr (va_up_up c0 i _ (some (.inr (3, [.int a, .int b, .int kk, .ref o, v4]))))
  have hP : va_up c0 i (some (.inr (3, [.int a, .int b, .int kk, .ref o, v4]))) i = _ := va_up_self _ _ _
  exact W.vret hx hb hr (nEnd hN hS ⟨rfl, rfl, rfl⟩) hS.2 dX5_init_25
set_option maxHeartbeats 4000000 in
set_option maxRecDepth 100000 in
theorem tX5_init_2 (l : Launch) (G : nG) (K : State → Prop) (hKo : nKo G K) (hK0 : ∀ U, K U → sK0 G U) (ad : Nat → Nat) (c0 : nPic) (i : Nat) (v0 v1 v2 v3 v4 v5 : Value) (hP : c0 i = some (.inr (4, [v0, v1, v2, v3, v4, v5]))) (a b kk : Int32) (o : Nat) : Met l yX5_init (ws_ yX5_init cX5_init 5 none) (sR 1 0 0) (nPc G nCl K ad c0 [.ref (ad i), .ref o, .int a, .int b, .int kk]) (nQ G nCl (fun rv ad' c' => rv = none ∧ ad = ad' ∧ va_up c0 i (some (.inr (4, [.int a, .int b, .int kk, .ref o, v4, v5]))) = c')) 0 0 (fun q => G.2 ≤ q) := by
  refine nMet RX5 (by decide) rfl (Nat.le_of_ble_eq_true rfl) ?_
  intro p e s m below meth c ls SS hR hK hN hS hl
  obtain ⟨hx, hb, hml, hown, hts⟩ := id SS
  obtain ⟨hr, hlk, hnm⟩ := hR
  obtain ⟨hKv, hKw, hKf, hKz, hKm⟩ := hK0 s hK
  generalize s.heap = H at hN hS ⊢
  generalize ([] : List Loc) = locs at hS ⊢
  have hl : lv_has ls 5 [(0, .ref (ad i)), (1, .ref o), (2, .int a), (3, .int b), (4, .int kk)] := hl
  refine lv_aload_n hx hb dX5_init_0 rfl (lv_at hl 0 rfl) ?_
  refine lv_aload_n hx hb dX5_init_1 rfl (lv_at hl 1 rfl) ?_
  refine n_putF (ci := 4) (C := RX7) (T := TX7) (N := 6) hx hb hts in_X7 tyX7 tyX7_ok (n_apart hts in_X7 tyX7 tyX7_ok ndX7 hKv rfl) hown hKv hN hS (i) hP rfl 3 (by decide) q793 (fun z h => h) rfl hnm rfl rfl rfl (Nat.le_of_ble_eq_true rfl) dX5_init_2 (fun H locs hN hS => ?_)
  have hP : va_up c0 i (some (.inr (4, [v0, v1, v2, .ref o, v4, v5]))) i = _ := va_up_self _ _ _
  refine lv_aload_n hx hb dX5_init_5 rfl (lv_at hl 0 rfl) ?_
  refine W.objInit hx hb (g := F0 m 6 ls _) hown (hts _ q782) (hts _ q96) (hts _ q97) rfl (hl.1.trans hml.symm) rfl dX5_init_6 (Nat.le_of_ble_eq_true rfl) (Nat.le_of_ble_eq_true rfl) ?_
  refine lv_aload_n hx hb dX5_init_9 rfl (lv_at hl 0 rfl) ?_
  refine lv_iload_n hx hb dX5_init_10 rfl (lv_at hl 2 rfl) ?_
  refine n_putF (ci := 4) (C := RX7) (T := TX7) (N := 6) hx hb hts in_X7 tyX7 tyX7_ok (n_apart hts in_X7 tyX7 tyX7_ok ndX7 hKv rfl) hown hKv hN hS (i) hP rfl 0 (by decide) q783 (fun z h => h) rfl hnm rfl rfl rfl (Nat.le_of_ble_eq_true rfl) dX5_init_11 (fun H locs hN hS => ?_)
  have hN := hN.congr (va_up_up c0 i _ (some (.inr (4, [.int a, v1, v2, .ref o, v4, v5]))))
  have hP : va_up c0 i (some (.inr (4, [.int a, v1, v2, .ref o, v4, v5]))) i = _ := va_up_self _ _ _
  refine lv_aload_n hx hb dX5_init_14 rfl (lv_at hl 0 rfl) ?_
  refine lv_iload_n hx hb dX5_init_15 rfl (lv_at hl 3 rfl) ?_
  refine n_putF (ci := 4) (C := RX7) (T := TX7) (N := 6) hx hb hts in_X7 tyX7 tyX7_ok (n_apart hts in_X7 tyX7 tyX7_ok ndX7 hKv rfl) hown hKv hN hS (i) hP rfl 1 (by decide) q789 (fun z h => h) rfl hnm rfl rfl rfl (Nat.le_of_ble_eq_true rfl) dX5_init_16 (fun H locs hN hS => ?_)
  have hN := hN.congr (va_up_up c0 i _ (some (.inr (4, [.int a, .int b, v2, .ref o, v4, v5]))))
  have hP : va_up c0 i (some (.inr (4, [.int a, .int b, v2, .ref o, v4, v5]))) i = _ := va_up_self _ _ _
  refine lv_aload_n hx hb dX5_init_19 rfl (lv_at hl 0 rfl) ?_
  refine lv_iload hx hb dX5_init_20 (lv_at hl 4 rfl) ?_
  refine n_put (ci := 4) (C := RX7) (T := TX7) (N := 6) hx hb hts in_X7 tyX7 tyX7_ok (n_apart hts in_X7 tyX7 tyX7_ok ndX7 hKv rfl) hown hKv hN hS (i) hP rfl 2 (by decide) q791 (fun z h => h) rfl rfl rfl (Nat.le_of_ble_eq_true rfl) dX5_init_22 (fun H locs hN hS => ?_)
  have hN := hN.congr (va_up_up c0 i _ (some (.inr (4, [.int a, .int b, .int kk, .ref o, v4, v5]))))
  have hP : va_up c0 i (some (.inr (4, [.int a, .int b, .int kk, .ref o, v4, v5]))) i = _ := va_up_self _ _ _
  exact W.vret hx hb hr (nEnd hN hS ⟨rfl, rfl, rfl⟩) hS.2 dX5_init_25
set_option maxHeartbeats 4000000 in
set_option maxRecDepth 100000 in
theorem tX6_init_1 (l : Launch) (G : nG) (K : State → Prop) (hKo : nKo G K) (hK0 : ∀ U, K U → sK0 G U) (ad : Nat → Nat) (c0 : nPic) (i : Nat) (v0 v1 v2 v3 v4 : Value) (hP : c0 i = some (.inr (3, [v0, v1, v2, v3, v4]))) (a b kk : Int32) (o : Nat) : Met l yX6_init (ws_ yX6_init cX6_init 5 none) (sR 2 0 0) (nPc G nCl K ad c0 [.ref (ad i), .ref o, .int a, .int b, .int kk]) (nQ G nCl (fun rv ad' c' => rv = none ∧ ad = ad' ∧ va_up c0 i (some (.inr (3, [.int a, .int b, .int kk, .ref o, .ref o]))) = c')) 0 0 (fun q => G.2 ≤ q) := by
  refine nMet RX6 (by decide) rfl (Nat.le_of_ble_eq_true rfl) ?_
  intro p e s m below meth c ls SS hR hK hN hS hl
  obtain ⟨hx, hb, hml, hown, hts⟩ := id SS
  obtain ⟨hr, hlk, hnm⟩ := hR
  obtain ⟨hKv, hKw, hKf, hKz, hKm⟩ := hK0 s hK
  generalize s.heap = H at hN hS ⊢
  generalize ([] : List Loc) = locs at hS ⊢
  have hl : lv_has ls 5 [(0, .ref (ad i)), (1, .ref o), (2, .int a), (3, .int b), (4, .int kk)] := hl
  refine lv_aload_n hx hb dX6_init_0 rfl (lv_at hl 0 rfl) ?_
  refine lv_aload_n hx hb dX6_init_1 rfl (lv_at hl 1 rfl) ?_
  refine n_putF (ci := 3) (C := RX6) (T := TX6) (N := 5) hx hb hts in_X6 tyX6 tyX6_ok (n_apart hts in_X6 tyX6 tyX6_ok ndX6 hKv rfl) hown hKv hN hS (i) hP rfl 4 (by decide) q809 (fun z h => h) rfl hnm rfl rfl rfl (Nat.le_of_ble_eq_true rfl) dX6_init_2 (fun H locs hN hS => ?_)
  have hP : va_up c0 i (some (.inr (3, [v0, v1, v2, v3, .ref o]))) i = _ := va_up_self _ _ _
  refine lv_aload_n hx hb dX6_init_5 rfl (lv_at hl 0 rfl) ?_
  refine lv_aload_n hx hb dX6_init_6 rfl (lv_at hl 1 rfl) ?_
  refine lv_iload_n hx hb dX6_init_7 rfl (lv_at hl 2 rfl) ?_
  refine lv_iload_n hx hb dX6_init_8 rfl (lv_at hl 3 rfl) ?_
  refine lv_iload hx hb dX6_init_9 (lv_at hl 4 rfl) ?_
  refine n_callI (As := [_, _, _, _]) SS hKo hK (tX5_init_1 l G K hKo hK0 ad _ i v0 v1 v2 v3 (.ref o) hP a b kk o) (cwI 4 hts (lw_meth q781) rfl rfl rfl (hts _ q77) (hts _ q808) (hts _ q780) rfl (by decide +kernel) ⟨Nat.le_of_ble_eq_true rfl, Nat.le_of_ble_eq_true rfl⟩) hN hS rfl hl.1 rfl (Nat.le_of_ble_eq_true rfl) dX6_init_11 ⟨Nat.le_of_ble_eq_true rfl, Nat.le_of_ble_eq_true rfl⟩ (fun v ad' c' H locs hv hN hS => ?_)
  obtain ⟨rfl, rfl, rfl⟩ := hv
  refine W.eq (g2 := F0 m 14 ls _) rfl ?_
  exact W.vret hx hb hr (nEnd hN hS ⟨rfl, rfl, by rw [va_up_up]⟩) hS.2 dX6_init_14
set_option maxHeartbeats 4000000 in
set_option maxRecDepth 100000 in
theorem tX6_init_2 (l : Launch) (G : nG) (K : State → Prop) (hKo : nKo G K) (hK0 : ∀ U, K U → sK0 G U) (ad : Nat → Nat) (c0 : nPic) (i : Nat) (v0 v1 v2 v3 v4 v5 : Value) (hP : c0 i = some (.inr (4, [v0, v1, v2, v3, v4, v5]))) (a b kk : Int32) (o : Nat) : Met l yX6_init (ws_ yX6_init cX6_init 5 none) (sR 2 0 0) (nPc G nCl K ad c0 [.ref (ad i), .ref o, .int a, .int b, .int kk]) (nQ G nCl (fun rv ad' c' => rv = none ∧ ad = ad' ∧ va_up c0 i (some (.inr (4, [.int a, .int b, .int kk, .ref o, .ref o, v5]))) = c')) 0 0 (fun q => G.2 ≤ q) := by
  refine nMet RX6 (by decide) rfl (Nat.le_of_ble_eq_true rfl) ?_
  intro p e s m below meth c ls SS hR hK hN hS hl
  obtain ⟨hx, hb, hml, hown, hts⟩ := id SS
  obtain ⟨hr, hlk, hnm⟩ := hR
  obtain ⟨hKv, hKw, hKf, hKz, hKm⟩ := hK0 s hK
  generalize s.heap = H at hN hS ⊢
  generalize ([] : List Loc) = locs at hS ⊢
  have hl : lv_has ls 5 [(0, .ref (ad i)), (1, .ref o), (2, .int a), (3, .int b), (4, .int kk)] := hl
  refine lv_aload_n hx hb dX6_init_0 rfl (lv_at hl 0 rfl) ?_
  refine lv_aload_n hx hb dX6_init_1 rfl (lv_at hl 1 rfl) ?_
  refine n_putF (ci := 4) (C := RX7) (T := TX7) (N := 6) hx hb hts in_X7 tyX7 tyX7_ok (n_apart hts in_X7 tyX7 tyX7_ok ndX7 hKv rfl) hown hKv hN hS (i) hP rfl 4 (by decide) q809 (fun z h => h) rfl hnm rfl rfl rfl (Nat.le_of_ble_eq_true rfl) dX6_init_2 (fun H locs hN hS => ?_)
  have hP : va_up c0 i (some (.inr (4, [v0, v1, v2, v3, .ref o, v5]))) i = _ := va_up_self _ _ _
  refine lv_aload_n hx hb dX6_init_5 rfl (lv_at hl 0 rfl) ?_
  refine lv_aload_n hx hb dX6_init_6 rfl (lv_at hl 1 rfl) ?_
  refine lv_iload_n hx hb dX6_init_7 rfl (lv_at hl 2 rfl) ?_
  refine lv_iload_n hx hb dX6_init_8 rfl (lv_at hl 3 rfl) ?_
  refine lv_iload hx hb dX6_init_9 (lv_at hl 4 rfl) ?_
  refine n_callI (As := [_, _, _, _]) SS hKo hK (tX5_init_2 l G K hKo hK0 ad _ i v0 v1 v2 v3 (.ref o) v5 hP a b kk o) (cwI 4 hts (lw_meth q781) rfl rfl rfl (hts _ q77) (hts _ q808) (hts _ q780) rfl (by decide +kernel) ⟨Nat.le_of_ble_eq_true rfl, Nat.le_of_ble_eq_true rfl⟩) hN hS rfl hl.1 rfl (Nat.le_of_ble_eq_true rfl) dX6_init_11 ⟨Nat.le_of_ble_eq_true rfl, Nat.le_of_ble_eq_true rfl⟩ (fun v ad' c' H locs hv hN hS => ?_)
  obtain ⟨rfl, rfl, rfl⟩ := hv
  refine W.eq (g2 := F0 m 14 ls _) rfl ?_
  exact W.vret hx hb hr (nEnd hN hS ⟨rfl, rfl, by rw [va_up_up]⟩) hS.2 dX6_init_14
set_option maxHeartbeats 4000000 in
set_option maxRecDepth 100000 in
theorem tX7_init (l : Launch) (G : nG) (K : State → Prop) (hKo : nKo G K) (hK0 : ∀ U, K U → sK0 G U) (ad : Nat → Nat) (c0 : nPic) (i : Nat) (v0 v1 v2 v3 v4 v5 : Value) (hP : c0 i = some (.inr (4, [v0, v1, v2, v3, v4, v5]))) (a b kk : Int32) (o : Nat) : Met l yX7_init (ws_ yX7_init cX7_init 5 none) (sR 3 0 0) (nPc G nCl K ad c0 [.ref (ad i), .ref o, .int a, .int b, .int kk]) (nQ G nCl (fun rv ad' c' => rv = none ∧ ad = ad' ∧ va_up c0 i (some (.inr (4, [.int a, .int b, .int kk, .ref o, .ref o, .ref o]))) = c')) 0 0 (fun q => G.2 ≤ q) := by
  refine nMet RX7 (by decide) rfl (Nat.le_of_ble_eq_true rfl) ?_
  intro p e s m below meth c ls SS hR hK hN hS hl
  obtain ⟨hx, hb, hml, hown, hts⟩ := id SS
  obtain ⟨hr, hlk, hnm⟩ := hR
  obtain ⟨hKv, hKw, hKf, hKz, hKm⟩ := hK0 s hK
  generalize s.heap = H at hN hS ⊢
  generalize ([] : List Loc) = locs at hS ⊢
  have hl : lv_has ls 5 [(0, .ref (ad i)), (1, .ref o), (2, .int a), (3, .int b), (4, .int kk)] := hl
  refine lv_aload_n hx hb dX7_init_0 rfl (lv_at hl 0 rfl) ?_
  refine lv_aload_n hx hb dX7_init_1 rfl (lv_at hl 1 rfl) ?_
  refine n_putF (ci := 4) (C := RX7) (T := TX7) (N := 6) hx hb hts in_X7 tyX7 tyX7_ok (n_apart hts in_X7 tyX7 tyX7_ok ndX7 hKv rfl) hown hKv hN hS (i) hP rfl 5 (by decide) q822 (fun z h => h) rfl hnm rfl rfl rfl (Nat.le_of_ble_eq_true rfl) dX7_init_2 (fun H locs hN hS => ?_)
  have hP : va_up c0 i (some (.inr (4, [v0, v1, v2, v3, v4, .ref o]))) i = _ := va_up_self _ _ _
  refine lv_aload_n hx hb dX7_init_5 rfl (lv_at hl 0 rfl) ?_
  refine lv_aload_n hx hb dX7_init_6 rfl (lv_at hl 1 rfl) ?_
  refine lv_iload_n hx hb dX7_init_7 rfl (lv_at hl 2 rfl) ?_
  refine lv_iload_n hx hb dX7_init_8 rfl (lv_at hl 3 rfl) ?_
  refine lv_iload hx hb dX7_init_9 (lv_at hl 4 rfl) ?_
  refine n_callI (As := [_, _, _, _]) SS hKo hK (tX6_init_2 l G K hKo hK0 ad _ i v0 v1 v2 v3 v4 (.ref o) hP a b kk o) (cwI 4 hts (lw_meth q807) rfl rfl rfl (hts _ q78) (hts _ q821) (hts _ q806) rfl (by decide +kernel) ⟨Nat.le_of_ble_eq_true rfl, Nat.le_of_ble_eq_true rfl⟩) hN hS rfl hl.1 rfl (Nat.le_of_ble_eq_true rfl) dX7_init_11 ⟨Nat.le_of_ble_eq_true rfl, Nat.le_of_ble_eq_true rfl⟩ (fun v ad' c' H locs hv hN hS => ?_)
  obtain ⟨rfl, rfl, rfl⟩ := hv
  refine W.eq (g2 := F0 m 14 ls _) rfl ?_
  exact W.vret hx hb hr (nEnd hN hS ⟨rfl, rfl, by rw [va_up_up]⟩) hS.2 dX7_init_14
set_option maxHeartbeats 4000000 in
set_option maxRecDepth 100000 in
theorem tX9_init (l : Launch) (G : nG) (K : State → Prop) (hKo : nKo G K) (hK0 : ∀ U, K U → sK0 G U) (ad : Nat → Nat) (c0 : nPic) (i : Nat) (v0 v1 : Value) (hP : c0 i = some (.inr (5, [v0, v1]))) (a b : Int32) : Met l yX9_init (ws_ yX9_init cX9_init 3 none) (sR 1 0 0) (nPc G nCl K ad c0 [.ref (ad i), .int a, .int b]) (nQ G nCl (fun rv ad' c' => rv = none ∧ ad = ad' ∧ va_up c0 i (some (.inr (5, [.int a, .int b]))) = c')) 0 0 (fun q => G.2 ≤ q) := by
  refine nMet RX9 (by decide) rfl (Nat.le_of_ble_eq_true rfl) ?_
  intro p e s m below meth c ls SS hR hK hN hS hl
  obtain ⟨hx, hb, hml, hown, hts⟩ := id SS
  obtain ⟨hr, hlk, hnm⟩ := hR
  obtain ⟨hKv, hKw, hKf, hKz, hKm⟩ := hK0 s hK
  generalize s.heap = H at hN hS ⊢
  generalize ([] : List Loc) = locs at hS ⊢
  have hl : lv_has ls 3 [(0, .ref (ad i)), (1, .int a), (2, .int b)] := hl
  refine lv_aload_n hx hb dX9_init_0 rfl (lv_at hl 0 rfl) ?_
  refine W.objInit hx hb (g := F0 m 1 ls _) hown (hts _ q336) (hts _ q96) (hts _ q97) rfl (hl.1.trans hml.symm) rfl dX9_init_1 (Nat.le_of_ble_eq_true rfl) (Nat.le_of_ble_eq_true rfl) ?_
  refine lv_aload_n hx hb dX9_init_4 rfl (lv_at hl 0 rfl) ?_
  refine lv_iload_n hx hb dX9_init_5 rfl (lv_at hl 1 rfl) ?_
  refine n_putF (ci := 5) (C := RX9) (T := TX9) (N := 2) hx hb hts in_X9 tyX9 tyX9_ok (va_apart (own := RX9) hts in_X9 tyX9 tyX9_ok nmX9 hKv rfl) hown hKv hN hS (i) hP rfl 0 (by decide) q337 (fun z h => h) rfl hnm rfl rfl rfl (Nat.le_of_ble_eq_true rfl) dX9_init_6 (fun H locs hN hS => ?_)
  have hP : va_up c0 i (some (.inr (5, [.int a, v1]))) i = _ := va_up_self _ _ _
  refine lv_aload_n hx hb dX9_init_9 rfl (lv_at hl 0 rfl) ?_
  refine lv_iload_n hx hb dX9_init_10 rfl (lv_at hl 2 rfl) ?_
  refine n_putF (ci := 5) (C := RX9) (T := TX9) (N := 2) hx hb hts in_X9 tyX9 tyX9_ok (va_apart (own := RX9) hts in_X9 tyX9 tyX9_ok nmX9 hKv rfl) hown hKv hN hS (i) hP rfl 1 (by decide) q339 (fun z h => h) rfl hnm rfl rfl rfl (Nat.le_of_ble_eq_true rfl) dX9_init_11 (fun H locs hN hS => ?_)
  have hN := hN.congr (va_up_up c0 i _ (some (.inr (5, [.int a, .int b]))))
  exact W.vret hx hb hr (nEnd hN hS ⟨rfl, rfl, rfl⟩) hS.2 dX9_init_14
