/-! JDK: making a list, growing: printed by wip/gen/j2.py -/
set_option maxHeartbeats 4000000 in
set_option maxRecDepth 100000 in
theorem tJ0_init (l : Launch) (G : nG) (K : State → Prop) (hKo : nKo G K) (hK0 : ∀ U, K U → sK0 G U) (ad : Nat → Nat) (c0 : nPic) (b : Nat) : Met l yJ0_init (ws_ yJ0_init cJ0_init 1 none) (sR 1 0 0) (nPc G nCl K ad c0 [.ref b]) (nQ G nCl (fun rv ad' c' => rv = none ∧ ad = ad' ∧ c0 = c')) 0 0 (fun q => G.2 ≤ q) := by
  refine nMet RJ0 (by decide) rfl (Nat.le_of_ble_eq_true rfl) ?_
  intro p e s m below meth c ls SS hR hK hN hS hl
  obtain ⟨hx, hb, hml, hown, hts⟩ := id SS
  obtain ⟨hr, hlk, hnm⟩ := hR
  obtain ⟨hKv, hKw, hKf, hKz, hKm⟩ := hK0 s hK
  generalize s.heap = H at hN hS ⊢
  generalize ([] : List Loc) = locs at hS ⊢
  have hl : lv_has ls 1 [(0, .ref b)] := hl
  refine lv_aload_n hx hb dJ0_init_0 rfl (lv_at hl 0 rfl) ?_
  refine W.objInit hx hb (g := F0 m 1 ls _) hown (hts _ q109) (hts _ q96) (hts _ q97) rfl (hl.1.trans hml.symm) rfl dJ0_init_1 (Nat.le_of_ble_eq_true rfl) (Nat.le_of_ble_eq_true rfl) ?_
  exact W.vret hx hb hr (nEnd hN hS ⟨rfl, rfl, rfl⟩) hS.2 dJ0_init_4
set_option maxHeartbeats 4000000 in
set_option maxRecDepth 100000 in
theorem tJ1_init (l : Launch) (G : nG) (K : State → Prop) (hKo : nKo G K) (hK0 : ∀ U, K U → sK0 G U) (ad : Nat → Nat) (c0 : nPic) (li : Nat) (mc_ : Int32) (ea : Value) (n : Nat) (hL : c0 li = some (.inr (7, [.int mc_, ea, .int (nI n)]))) : Met l yJ1_init (ws_ yJ1_init cJ1_init 1 none) (sR 2 0 0) (nPc G nCl K ad c0 [.ref (ad li)]) (nQ G nCl (fun rv ad' c' => rv = none ∧ ad = ad' ∧ va_up c0 li (some (.inr (7, [.int 0, ea, .int (nI n)]))) = c')) 0 0 (fun q => G.2 ≤ q) := by
  refine nMet RJ1 (by decide) rfl (Nat.le_of_ble_eq_true rfl) ?_
  intro p e s m below meth c ls SS hR hK hN hS hl
  obtain ⟨hx, hb, hml, hown, hts⟩ := id SS
  obtain ⟨hr, hlk, hnm⟩ := hR
  obtain ⟨hKv, hKw, hKf, hKz, hKm⟩ := hK0 s hK
  generalize s.heap = H at hN hS ⊢
  generalize ([] : List Loc) = locs at hS ⊢
  have hl : lv_has ls 1 [(0, .ref (ad li))] := hl
  refine lv_aload_n hx hb dJ1_init_0 rfl (lv_at hl 0 rfl) ?_
  refine n_callI (As := []) SS hKo hK (tJ0_init l G K hKo hK0 ad c0 (ad li)) (cwI 0 hts (lw_meth q108) rfl rfl rfl (hts _ q58) (hts _ q106) (hts _ q107) rfl (by decide +kernel) ⟨Nat.le_of_ble_eq_true rfl, Nat.le_of_ble_eq_true rfl⟩) hN hS rfl hl.1 rfl (Nat.le_of_ble_eq_true rfl) dJ1_init_1 ⟨Nat.le_of_ble_eq_true rfl, Nat.le_of_ble_eq_true rfl⟩ (fun v ad' c' H locs hv hN hS => ?_)
  obtain ⟨rfl, rfl, rfl⟩ := hv
  refine W.eq (g2 := F0 m 4 ls _) rfl ?_
  refine lv_aload_n hx hb dJ1_init_4 rfl (lv_at hl 0 rfl) ?_
  refine lv_iconst (v := 0) hx hb dJ1_init_5 (by decide) ?_
  refine n_put (ci := 7) (C := RJ2) (T := TJ2) (N := 3) hx hb hts in_J2 tyJ2 tyJ2_ok (va_apart (own := RJ2) hts in_J2 tyJ2 tyJ2_ok nmJ2 hKv rfl) hown hKv hN hS (li) hL rfl 0 (by decide) q114 (fun z h => h) rfl rfl rfl (Nat.le_of_ble_eq_true rfl) dJ1_init_6 (fun H locs hN hS => ?_)
  exact W.vret hx hb hr (nEnd hN hS ⟨rfl, rfl, rfl⟩) hS.2 dJ1_init_9
set_option maxHeartbeats 4000000 in
set_option maxRecDepth 100000 in
theorem tJ2_init (l : Launch) (G : nG) (K : State → Prop) (hKo : nKo G K) (hK0 : ∀ U, K U → sK0 G U) (ad : Nat → Nat) (c0 : nPic) (li : Nat) (mc_ : Int32) (ea : Value) (n : Nat) (hL : c0 li = some (.inr (7, [.int mc_, ea, .int (nI n)]))) : Met l yJ2_init (ws_ yJ2_init cJ2_init 1 none) (sR 3 0 0) (nPc G nCl K ad c0 [.ref (ad li)]) (nQ G nCl (fun rv ad' c' => rv = none ∧ ad = ad' ∧ va_up c0 li (some (.inr (7, [.int 0, .ref (nDea G), .int (nI n)]))) = c')) 0 0 (fun q => G.2 ≤ q) := by
  refine nMet RJ2 (by decide) rfl (Nat.le_of_ble_eq_true rfl) ?_
  intro p e s m below meth c ls SS hR hK hN hS hl
  obtain ⟨hx, hb, hml, hown, hts⟩ := id SS
  obtain ⟨hr, hlk, hnm⟩ := hR
  obtain ⟨hKv, hKw, hKf, hKz, hKm⟩ := hK0 s hK
  generalize s.heap = H at hN hS ⊢
  generalize ([] : List Loc) = locs at hS ⊢
  have hl : lv_has ls 1 [(0, .ref (ad li))] := hl
  refine lv_aload_n hx hb dJ2_init_0 rfl (lv_at hl 0 rfl) ?_
  refine n_callI (As := []) SS hKo hK (tJ1_init l G K hKo hK0 ad c0 li mc_ ea n hL) (cwI 0 hts (lw_meth q105) rfl rfl rfl (hts _ q59) (hts _ q103) (hts _ q104) rfl (by decide +kernel) ⟨Nat.le_of_ble_eq_true rfl, Nat.le_of_ble_eq_true rfl⟩) hN hS rfl hl.1 rfl (Nat.le_of_ble_eq_true rfl) dJ2_init_1 ⟨Nat.le_of_ble_eq_true rfl, Nat.le_of_ble_eq_true rfl⟩ (fun v ad' c' H locs hv hN hS => ?_)
  obtain ⟨rfl, rfl, rfl⟩ := hv
  have hL : va_up c0 li (some (.inr (7, [.int 0, ea, .int (nI n)]))) li = _ := va_up_self _ _ _
  refine W.eq (g2 := F0 m 4 ls _) rfl ?_
  refine lv_aload_n hx hb dJ2_init_4 rfl (lv_at hl 0 rfl) ?_
  refine n_gets hx hb hts hKz.1 hS hown q110 (fun z h => h) dJ2_init_5 ?_
  refine n_put (ci := 7) (C := RJ2) (T := TJ2) (N := 3) hx hb hts in_J2 tyJ2 tyJ2_ok (va_apart (own := RJ2) hts in_J2 tyJ2 tyJ2_ok nmJ2 hKv rfl) hown hKv hN hS (li) hL rfl 1 (by decide) q112 (fun z h => h) rfl rfl rfl (Nat.le_of_ble_eq_true rfl) dJ2_init_8 (fun H locs hN hS => ?_)
  exact W.vret hx hb hr (nEnd hN hS ⟨rfl, rfl, (va_up_up _ _ _ _).symm⟩) hS.2 dJ2_init_11
set_option maxHeartbeats 4000000 in
set_option maxRecDepth 100000 in
theorem tJ2_init_2 (l : Launch) (G : nG) (K : State → Prop) (hKo : nKo G K) (hK0 : ∀ U, K U → sK0 G U) (ad : Nat → Nat) (c0 : nPic) (li : Nat) (mc_ : Int32) (ea : Value) (n : Nat) (hL : c0 li = some (.inr (7, [.int mc_, ea, .int (nI n)]))) (la : Nat) (hne : li ≠ la) : Met l yJ2_init_2 (ws_ yJ2_init_2 cJ2_init_2 2 none) (sR 3 1 4) (nPc G nCl K ad c0 [.ref (ad li), .int 4]) (nQ G nCl (fun rv ad' c' => ∃ q : Nat, rv = none ∧ va_up ad la q = ad' ∧ va_up (va_up c0 li (some (.inr (7, [.int 0, .ref q, .int (nI n)])))) la (some (qA (G.1.1 103) 4 (fun _ => none))) = c')) 1 4 (fun q => G.2 ≤ q) := by
  refine nMet RJ2 (by decide) rfl (Nat.le_of_ble_eq_true rfl) ?_
  intro p e s m below meth c ls SS hR hK hN hS hl
  obtain ⟨hx, hb, hml, hown, hts⟩ := id SS
  obtain ⟨hr, hlk, hnm⟩ := hR
  obtain ⟨hKv, hKw, hKf, hKz, hKm⟩ := hK0 s hK
  generalize s.heap = H at hN hS ⊢
  generalize ([] : List Loc) = locs at hS ⊢
  have hl : lv_has ls 2 [(0, .ref (ad li)), (1, .int 4)] := hl
  refine lv_aload_n hx hb dJ2_init_2_0 rfl (lv_at hl 0 rfl) ?_
  refine n_callI (As := []) SS hKo hK (tJ1_init l G K hKo hK0 ad c0 li mc_ ea n hL) (cwI 0 hts (lw_meth q105) rfl rfl rfl (hts _ q59) (hts _ q103) (hts _ q104) rfl (by decide +kernel) ⟨Nat.le_of_ble_eq_true rfl, Nat.le_of_ble_eq_true rfl⟩) hN hS rfl hl.1 rfl (Nat.le_of_ble_eq_true rfl) dJ2_init_2_1 ⟨Nat.le_of_ble_eq_true rfl, Nat.le_of_ble_eq_true rfl⟩ (fun v ad' c' H locs hv hN hS => ?_)
  obtain ⟨rfl, rfl, rfl⟩ := hv
  have hL : va_up c0 li (some (.inr (7, [.int 0, ea, .int (nI n)]))) li = _ := va_up_self _ _ _
  refine W.eq (g2 := F0 m 4 ls _) rfl ?_
  refine lv_iload_n hx hb dJ2_init_2_4 rfl (lv_at hl 1 rfl) ?_
  refine lv_if_le (tgt := 19) hx hb dJ2_init_2_5 (by decide) (fun c5 => absurd c5 (by decide)) (fun c5 => ?_)
  refine lv_aload_n hx hb dJ2_init_2_8 rfl (lv_at hl 0 rfl) ?_
  refine lv_iload_n hx hb dJ2_init_2_9 rfl (lv_at hl 1 rfl) ?_
  refine n_anew hx hb hts hown q415 (hKw _ q406 rfl) hKv hN hS (la) 3 rfl (4) (rfl) (by decide) (Nat.le_of_ble_eq_true rfl) (Nat.le_of_ble_eq_true rfl) dJ2_init_2_10 (fun q10 H hN hS => ?_)
  have ea_ := va_up_ne ad q10 hne
  have hL := (va_up_ne (va_up c0 li (some (.inr (7, [.int 0, ea, .int (nI n)])))) (some (qA (G.1.1 103) 4 (fun _ => none))) hne).trans hL
  refine W.eq (g2 := F0 m 13 ls [.ref q10, .ref (va_up ad la q10 li)]) (by rw [ea_] <;> rfl) ?_
  refine n_put (ci := 7) (C := RJ2) (T := TJ2) (N := 3) hx hb hts in_J2 tyJ2 tyJ2_ok (va_apart (own := RJ2) hts in_J2 tyJ2 tyJ2_ok nmJ2 hKv rfl) hown hKv hN hS (li) hL rfl 1 (by decide) q112 (fun z h => h) rfl rfl rfl (Nat.le_of_ble_eq_true rfl) dJ2_init_2_13 (fun H locs hN hS => ?_)
  refine lv_goto (tgt := 60) hx hb dJ2_init_2_16 (by decide) ?_
  refine W.widen (k := 1) (n := 4) (by first | omega | decide) (by first | omega | decide) ?_
  exact W.vret hx hb hr (nEnd hN hS ⟨q10, rfl, rfl, by rw [va_up_up2 _ hne]; rfl⟩) hS.2 dJ2_init_2_60
set_option maxHeartbeats 4000000 in
set_option maxRecDepth 100000 in
theorem tJ2_grow_2Z (l : Launch) (G : nG) (K : State → Prop) (hKo : nKo G K) (hK0 : ∀ U, K U → sK0 G U) (ad : Nat → Nat) (c0 : nPic) (li : Nat) (mc_ : Int32) (n : Nat) (hL : c0 li = some (.inr (7, [.int mc_, .ref (nDea G), .int (nI n)]))) (la k : Nat) (hne : li ≠ la) (hk : k ≤ 10) : Met l yJ2_grow_2 (ws_ yJ2_grow_2 cJ2_grow_2 4 (some (.array (.object "java/lang/Object")))) (sR 1 1 10) (nPc G nCl K ad c0 [.ref (ad li), .int (nI k)]) (nQ G nCl (fun rv ad' c' => ∃ q : Nat, rv = some (.ref q) ∧ va_up ad la q = ad' ∧ va_up (va_up c0 li (some (.inr (7, [.int mc_, .ref q, .int (nI n)])))) la (some (qA (G.1.1 103) 10 (fun _ => none))) = c')) 1 10 (fun q => G.2 ≤ q) := by
  refine nMet RJ2 (by decide) rfl (Nat.le_of_ble_eq_true rfl) ?_
  intro p e s m below meth c ls SS hR hK hN hS hl
  obtain ⟨hx, hb, hml, hown, hts⟩ := id SS
  obtain ⟨hr, hlk, hnm⟩ := hR
  obtain ⟨hKv, hKw, hKf, hKz, hKm⟩ := hK0 s hK
  generalize s.heap = H at hN hS ⊢
  generalize ([] : List Loc) = locs at hS ⊢
  have hl : lv_has ls 4 [(0, .ref (ad li)), (1, .int (nI k))] := hl
  refine lv_aload_n hx hb dJ2_grow_2_0 rfl (lv_at hl 0 rfl) ?_
  refine n_get (ci := 7) (C := RJ2) (T := TJ2) (N := 3) hx hb hts in_J2 hown hKv hN (li) hL rfl 1 (by decide) q112 (fun z h => h) (rfl) dJ2_grow_2_1 ?_
  refine n_alenZ hx hb hKv hKz hS dJ2_grow_2_4 ?_
  refine lv_istore_n (lv' := [(2, _), (0, _), (1, _)]) hx hb dJ2_grow_2_5 rfl hl (by decide) rfl (fun ls hl => ?_)
  refine lv_iload_n hx hb dJ2_grow_2_6 rfl (lv_at hl 0 rfl) ?_
  refine lv_if_gt (tgt := 20) hx hb dJ2_grow_2_7 (by decide) (fun c7 => absurd c7 (by decide)) (fun c7 => ?_)
  refine lv_aload_n hx hb dJ2_grow_2_10 rfl (lv_at hl 1 rfl) ?_
  refine n_get (ci := 7) (C := RJ2) (T := TJ2) (N := 3) hx hb hts in_J2 hown hKv hN (li) hL rfl 1 (by decide) q112 (fun z h => h) (rfl) dJ2_grow_2_11 ?_
  refine n_gets hx hb hts hKz.1 hS hown q110 (fun z h => h) dJ2_grow_2_14 ?_
  refine W.eq (g2 := F0 m 17 ls (va_rf (some (nDea G)) :: va_rf (some (nDea G)) :: _)) rfl ?_
  refine lv_acmp_eq (tgt := 45) hx hb dJ2_grow_2_17 (by decide) (fun c17 => ?_) (fun c17 => absurd c17 (fun z => z rfl))
  refine lv_aload_n hx hb dJ2_grow_2_45 rfl (lv_at hl 1 rfl) ?_
  refine lv_bipush (v := 10) hx hb dJ2_grow_2_46 (by decide) ?_
  refine lv_iload_n hx hb dJ2_grow_2_48 rfl (lv_at hl 2 rfl) ?_
  refine va_mmax hx hb (hml.trans hl.1.symm) hown (hts _ q414) (hts _ q371) (hts _ q76) (hts _ q372) (Nat.le_of_ble_eq_true rfl) (Nat.le_of_ble_eq_true rfl) (by first | decide | omega) (by first | decide | omega) dJ2_grow_2_49 ?_
  refine n_top (y := 10) (if_neg (fun z => absurd (Int32.lt_iff_toInt_lt.mp z) (by rw [nI_toInt (by omega)]; show ¬ (10 : Int) < _; omega))) ?_
  refine n_anew hx hb hts hown q415 (hKw _ q406 rfl) hKv hN hS (la) 3 rfl (10) (rfl) (by decide) (Nat.le_of_ble_eq_true rfl) (Nat.le_of_ble_eq_true rfl) dJ2_grow_2_52 (fun q52 H hN hS => ?_)
  have ea_ := va_up_ne ad q52 hne
  have hL := (va_up_ne c0 (some (qA (G.1.1 103) 10 (fun _ => none))) hne).trans hL
  refine W.eq (g2 := F0 m 55 ls [.ref q52, .ref (va_up ad la q52 li)]) (by rw [ea_] <;> rfl) ?_
  refine lv_dup_x1 hx hb dJ2_grow_2_55 rfl rfl ?_
  refine n_put (ci := 7) (C := RJ2) (T := TJ2) (N := 3) hx hb hts in_J2 tyJ2 tyJ2_ok (va_apart (own := RJ2) hts in_J2 tyJ2 tyJ2_ok nmJ2 hKv rfl) hown hKv hN hS (li) hL rfl 1 (by decide) q112 (fun z h => h) rfl rfl rfl (Nat.le_of_ble_eq_true rfl) dJ2_grow_2_56 (fun H locs hN hS => ?_)
  refine W.widen (k := 1) (n := 10) (by first | omega | decide) (by first | omega | decide) ?_
  exact W.aret hx hb hr (Or.inr ⟨_, rfl⟩) (Or.inr ⟨_, rfl⟩) (nEnd hN hS ⟨q52, rfl, rfl, va_up_cm _ hne _ _⟩) hS.2 dJ2_grow_2_59
set_option maxHeartbeats 4000000 in
set_option maxRecDepth 100000 in
theorem tJ2_growZ (l : Launch) (G : nG) (K : State → Prop) (hKo : nKo G K) (hK0 : ∀ U, K U → sK0 G U) (ad : Nat → Nat) (c0 : nPic) (li : Nat) (mc_ : Int32) (n : Nat) (hL : c0 li = some (.inr (7, [.int mc_, .ref (nDea G), .int (nI n)]))) (la : Nat) (hne : li ≠ la) (hn : n < 10) : Met l yJ2_grow (ws_ yJ2_grow cJ2_grow 1 (some (.array (.object "java/lang/Object")))) (sR 2 1 10) (nPc G nCl K ad c0 [.ref (ad li)]) (nQ G nCl (fun rv ad' c' => ∃ q : Nat, rv = some (.ref q) ∧ va_up ad la q = ad' ∧ va_up (va_up c0 li (some (.inr (7, [.int mc_, .ref q, .int (nI n)])))) la (some (qA (G.1.1 103) 10 (fun _ => none))) = c')) 1 10 (fun q => G.2 ≤ q) := by
  refine nMet RJ2 (by decide) rfl (Nat.le_of_ble_eq_true rfl) ?_
  intro p e s m below meth c ls SS hR hK hN hS hl
  obtain ⟨hx, hb, hml, hown, hts⟩ := id SS
  obtain ⟨hr, hlk, hnm⟩ := hR
  obtain ⟨hKv, hKw, hKf, hKz, hKm⟩ := hK0 s hK
  generalize s.heap = H at hN hS ⊢
  generalize ([] : List Loc) = locs at hS ⊢
  have hl : lv_has ls 1 [(0, .ref (ad li))] := hl
  refine lv_aload_n hx hb dJ2_grow_0 rfl (lv_at hl 0 rfl) ?_
  refine lv_aload_n hx hb dJ2_grow_1 rfl (lv_at hl 0 rfl) ?_
  refine n_get (ci := 7) (C := RJ2) (T := TJ2) (N := 3) hx hb hts in_J2 hown hKv hN (li) hL rfl 2 (by decide) q113 (fun z h => h) (rfl) dJ2_grow_2 ?_
  refine lv_iconst (v := 1) hx hb dJ2_grow_5 (by decide) ?_
  refine lv_iadd hx hb dJ2_grow_6 ?_
  refine n_top (y := nI (n + 1)) (nI_inc n) ?_
  refine n_callV (C := RJ2) (As := [_]) (b := li) SS hKo hK hKv (tJ2_grow_2Z l G K hKo hK0 ad c0 li mc_ n hL la (n + 1) hne (by omega)) (cwV 1 hts (lw_V q363 q365 qs10 q60 q366) rfl rfl rfl (by decide +kernel) ⟨Nat.le_of_ble_eq_true rfl, Nat.le_of_ble_eq_true rfl⟩) hN hS hL rfl rfl hl.1 rfl (Nat.le_of_ble_eq_true rfl) dJ2_grow_7 ⟨Nat.le_of_ble_eq_true rfl, Nat.le_of_ble_eq_true rfl⟩ (fun v ad' c' H locs hv hN hS => ?_)
  obtain ⟨q, rfl, rfl, rfl⟩ := hv
  refine W.eq (g2 := F0 m 10 ls (_ :: _)) rfl ?_
  refine W.widen (k := 1) (n := 10) (by first | omega | decide) (by first | omega | decide) ?_
  exact W.aret hx hb hr (Or.inr ⟨_, rfl⟩) (Or.inr ⟨_, rfl⟩) (nEnd hN hS ⟨q, rfl, rfl, rfl⟩) hS.2 dJ2_grow_10
