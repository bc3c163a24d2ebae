/-! JDK: toArray, remove: printed by wip/gen/j4.py -/
set_option maxHeartbeats 4000000 in
set_option maxRecDepth 100000 in
theorem tJ15_copyOf_2 (l : Launch) (G : nG) (K : State → Prop) (hKo : nKo G K) (hK0 : ∀ U, K U → sK0 G U) (ad : Nat → Nat) (c0 : nPic) (la : Nat) (n cap : Nat) (f : Nat → Option Nat) (hA : c0 la = some (qA (G.1.1 103) cap f)) (hcap : cap ≤ 10) (hn : n ≤ cap) (ta : Nat) (hta : la ≠ ta) (hF : ∀ i, i < n → ∀ y, f i = some y → ∃ el, el ≠ ta ∧ y = ad el ∧ nEl c0 el) : Met l yJ15_copyOf_2 (ws_ yJ15_copyOf_2 cJ15_copyOf_2 4 (some (.array (.object "java/lang/Object")))) (sR 1 1 10) (nPc G nCl K ad c0 [.ref (ad la), .int (nI n), .ref (G.1.2 1000 1)]) (nQ G nCl (fun rv ad' c' => ∃ q : Nat, rv = some (.ref q) ∧ va_up ad ta q = ad' ∧ va_up c0 ta (some (qA (G.1.1 103) n (va_cpy f (fun _ => none) 0 0 n))) = c')) 1 10 (fun q => G.2 ≤ q) := by
  refine nMet RJ15 (by decide) rfl (Nat.le_of_ble_eq_true rfl) ?_
  intro p e s m below meth c ls SS hR hK hN hS hl
  obtain ⟨hx, hb, hml, hown, hts⟩ := id SS
  obtain ⟨hr, hlk, hnm⟩ := hR
  obtain ⟨hKv, hKw, hKf, hKz, hKm⟩ := hK0 s hK
  generalize s.heap = H at hN hS ⊢
  generalize ([] : List Loc) = locs at hS ⊢
  have hl : lv_has ls 4 [(0, .ref (ad la)), (1, .int (nI n)), (2, .ref (G.1.2 1000 1))] := hl
  refine lv_aload_n hx hb dJ15_copyOf_2_0 rfl (lv_at hl 2 rfl) ?_
  refine va_ldcM hx hb hown (hts _ q405) hKm dJ15_copyOf_2_1 ?_
  refine W.eq (g2 := F0 m 3 ls (va_rf (some (G.1.2 1000 1)) :: va_rf (some (G.1.2 1000 1)) :: _)) rfl ?_
  refine lv_acmp_ne (tgt := 13) hx hb dJ15_copyOf_2_3 (by decide) (fun c3 => absurd c3 (fun z => z rfl)) (fun c3 => ?_)
  refine lv_iload_n hx hb dJ15_copyOf_2_6 rfl (lv_at hl 1 rfl) ?_
  refine n_anew hx hb hts hown q407 (hKw _ q406 rfl) hKv hN hS (ta) 3 rfl (n) (rfl) (by omega) (Nat.le_of_ble_eq_true rfl) (by show 0 + n ≤ 10; omega) dJ15_copyOf_2_7 (fun q7 H hN hS => ?_)
  have ea_ := va_up_ne ad q7 hta
  have ec_ := va_up_self ad ta q7
  rw [← ea_] at hl
  have hA := (va_up_ne c0 (some (qA (G.1.1 103) n (fun _ => none))) hta).trans hA
  have hT : va_up c0 ta (some (qA (G.1.1 103) n (fun _ => none))) ta = _ := va_up_self _ _ _
  refine W.eq (g2 := F0 m 10 ls [.ref (va_up ad ta q7 ta)]) (by rw [ec_] <;> rfl) ?_
  refine lv_goto (tgt := 24) hx hb dJ15_copyOf_2_10 (by decide) ?_
  refine lv_astore_n (lv' := [(3, _), (0, _), (1, _), (2, _)]) hx hb dJ15_copyOf_2_24 rfl hl (by decide) rfl (fun ls hl => ?_)
  refine lv_aload_n hx hb dJ15_copyOf_2_25 rfl (lv_at hl 1 rfl) ?_
  refine lv_iconst (v := 0) hx hb dJ15_copyOf_2_26 (by decide) ?_
  refine lv_aload_n hx hb dJ15_copyOf_2_27 rfl (lv_at hl 0 rfl) ?_
  refine lv_iconst (v := 0) hx hb dJ15_copyOf_2_28 (by decide) ?_
  refine lv_aload_n hx hb dJ15_copyOf_2_29 rfl (lv_at hl 1 rfl) ?_
  refine n_alen hx hb hKv hN (la) 3 hA rfl dJ15_copyOf_2_30 ?_
  refine lv_iload_n hx hb dJ15_copyOf_2_31 rfl (lv_at hl 2 rfl) ?_
  refine va_mmin hx hb (hml.trans hl.1.symm) hown (hts _ q408) (hts _ q409) (hts _ q76) (hts _ q410) (Nat.le_of_ble_eq_true rfl) (Nat.le_of_ble_eq_true rfl) (by first | decide | omega) (by first | decide | omega | (show _ ≤ 10; omega)) dJ15_copyOf_2_32 ?_
  refine n_top (y := nI n) (n_min hn (by omega)) ?_
  refine n_copyq hx hb (hml.trans hl.1.symm) hts hown q411 q413 q412 q75 hKv hN hS la ta 3 3 hA hT rfl rfl 0 0 n rfl rfl rfl (by omega) (by omega) (by omega) (by omega) (fun i hi y hy => by rw [Nat.zero_add] at hy; obtain ⟨el, h1, h2, h3⟩ := hF i hi y hy; rw [h2, ← va_up_ne ad q7 h1]; exact n_any (hK0 s hK) hN (nEl_up h1 h3)) (Nat.le_of_ble_eq_true rfl) (Nat.le_of_ble_eq_true rfl) dJ15_copyOf_2_35 (fun H locs hN hS => ?_)
  refine lv_aload_n hx hb dJ15_copyOf_2_38 rfl (lv_at hl 0 rfl) ?_
  refine W.widen (k := 1) (n := 10) (by first | omega | decide) (by first | omega | decide) ?_
  exact W.aret hx hb hr (Or.inr ⟨_, rfl⟩) (Or.inr ⟨_, rfl⟩) (nEnd hN hS ⟨q7, by rw [ec_], rfl, (va_up_up _ _ _ _).symm⟩) hS.2 dJ15_copyOf_2_39
set_option maxHeartbeats 4000000 in
set_option maxRecDepth 100000 in
theorem tJ15_copyOf (l : Launch) (G : nG) (K : State → Prop) (hKo : nKo G K) (hK0 : ∀ U, K U → sK0 G U) (ad : Nat → Nat) (c0 : nPic) (la : Nat) (n cap : Nat) (f : Nat → Option Nat) (hA : c0 la = some (qA (G.1.1 103) cap f)) (hcap : cap ≤ 10) (hn : n ≤ cap) (ta : Nat) (hta : la ≠ ta) (hF : ∀ i, i < n → ∀ y, f i = some y → ∃ el, el ≠ ta ∧ y = ad el ∧ nEl c0 el) : Met l yJ15_copyOf (ws_ yJ15_copyOf cJ15_copyOf 2 (some (.array (.object "java/lang/Object")))) (sR 2 1 10) (nPc G nCl K ad c0 [.ref (ad la), .int (nI n)]) (nQ G nCl (fun rv ad' c' => ∃ q : Nat, rv = some (.ref q) ∧ va_up ad ta q = ad' ∧ va_up c0 ta (some (qA (G.1.1 103) n (va_cpy f (fun _ => none) 0 0 n))) = c')) 1 10 (fun q => G.2 ≤ q) := by
  refine nMet RJ15 (by decide) rfl (Nat.le_of_ble_eq_true rfl) ?_
  intro p e s m below meth c ls SS hR hK hN hS hl
  obtain ⟨hx, hb, hml, hown, hts⟩ := id SS
  obtain ⟨hr, hlk, hnm⟩ := hR
  obtain ⟨hKv, hKw, hKf, hKz, hKm⟩ := hK0 s hK
  generalize s.heap = H at hN hS ⊢
  generalize ([] : List Loc) = locs at hS ⊢
  have hl : lv_has ls 2 [(0, .ref (ad la)), (1, .int (nI n))] := hl
  refine lv_aload_n hx hb dJ15_copyOf_0 rfl (lv_at hl 0 rfl) ?_
  refine lv_iload_n hx hb dJ15_copyOf_1 rfl (lv_at hl 1 rfl) ?_
  refine lv_aload_n hx hb dJ15_copyOf_2 rfl (lv_at hl 0 rfl) ?_
  refine va_getC hx hb (hml.trans hl.1.symm) hown (hts _ q380) (va_Nw.use rfl (hKw _ q1461 rfl)) (hts _ q1460) (hts _ q381) (hts _ q401) hKm ⟨_, (hN.1 la _ hA).1, rfl, va_nmO (hKv.2 3 _ rfl).2 rfl⟩ (Nat.le_of_ble_eq_true rfl) (Nat.le_of_ble_eq_true rfl) dJ15_copyOf_3 ?_
  refine n_callS (As := [_, _, _]) SS hKo hK (tJ15_copyOf_2 l G K hKo hK0 ad c0 la n cap f hA hcap hn ta hta hF) (va_cwS 3 hts (lw_S q402 q403 q81 q404) rfl rfl rfl (by decide +kernel) ⟨Nat.le_of_ble_eq_true rfl, Nat.le_of_ble_eq_true rfl⟩) hN hS rfl hl.1 rfl (Nat.le_of_ble_eq_true rfl) dJ15_copyOf_6 ⟨Nat.le_of_ble_eq_true rfl, Nat.le_of_ble_eq_true rfl⟩ (fun v ad' c' H locs hv hN hS => ?_)
  obtain ⟨q, rfl, rfl, rfl⟩ := hv
  refine W.eq (g2 := F0 m 9 ls (_ :: _)) rfl ?_
  refine W.widen (k := 1) (n := 10) (by first | omega | decide) (by first | omega | decide) ?_
  exact W.aret hx hb hr (Or.inr ⟨_, rfl⟩) (Or.inr ⟨_, rfl⟩) (nEnd hN hS ⟨q, rfl, rfl, rfl⟩) hS.2 dJ15_copyOf_9
set_option maxHeartbeats 4000000 in
set_option maxRecDepth 100000 in
theorem tJ2_toArray (l : Launch) (G : nG) (K : State → Prop) (hKo : nKo G K) (hK0 : ∀ U, K U → sK0 G U) (ad : Nat → Nat) (c0 : nPic) (lj : Nat) (mj : Int32) (la : Nat) (n cap : Nat) (f : Nat → Option Nat) (hA : c0 la = some (qA (G.1.1 103) cap f)) (hcap : cap ≤ 10) (hn : n ≤ cap) (ta : Nat) (hta : la ≠ ta) (hF : ∀ i, i < n → ∀ y, f i = some y → ∃ el, el ≠ ta ∧ y = ad el ∧ nEl c0 el) (hL : c0 lj = some (.inr (7, [.int mj, .ref (ad la), .int (nI n)]))) : Met l yJ2_toArray (ws_ yJ2_toArray cJ2_toArray 1 (some (.array (.object "java/lang/Object")))) (sR 3 1 10) (nPc G nCl K ad c0 [.ref (ad lj)]) (nQ G nCl (fun rv ad' c' => ∃ q : Nat, rv = some (.ref q) ∧ va_up ad ta q = ad' ∧ va_up c0 ta (some (qA (G.1.1 103) n (va_cpy f (fun _ => none) 0 0 n))) = c')) 1 10 (fun q => G.2 ≤ q) := by
  refine nMet RJ2 (by decide) rfl (Nat.le_of_ble_eq_true rfl) ?_
  intro p e s m below meth c ls SS hR hK hN hS hl
  obtain ⟨hx, hb, hml, hown, hts⟩ := id SS
  obtain ⟨hr, hlk, hnm⟩ := hR
  obtain ⟨hKv, hKw, hKf, hKz, hKm⟩ := hK0 s hK
  generalize s.heap = H at hN hS ⊢
  generalize ([] : List Loc) = locs at hS ⊢
  have hl : lv_has ls 1 [(0, .ref (ad lj))] := hl
  refine lv_aload_n hx hb dJ2_toArray_0 rfl (lv_at hl 0 rfl) ?_
  refine n_get (ci := 7) (C := RJ2) (T := TJ2) (N := 3) hx hb hts in_J2 hown hKv hN (lj) hL rfl 1 (by decide) q112 (fun z h => h) (rfl) dJ2_toArray_1 ?_
  refine lv_aload_n hx hb dJ2_toArray_4 rfl (lv_at hl 0 rfl) ?_
  refine n_get (ci := 7) (C := RJ2) (T := TJ2) (N := 3) hx hb hts in_J2 hown hKv hN (lj) hL rfl 2 (by decide) q113 (fun z h => h) (rfl) dJ2_toArray_5 ?_
  refine n_callS (As := [_, _]) SS hKo hK (tJ15_copyOf l G K hKo hK0 ad c0 la n cap f hA hcap hn ta hta hF) (va_cwS 2 hts (lw_S q377 q378 q81 q379) rfl rfl rfl (by decide +kernel) ⟨Nat.le_of_ble_eq_true rfl, Nat.le_of_ble_eq_true rfl⟩) hN hS rfl hl.1 rfl (Nat.le_of_ble_eq_true rfl) dJ2_toArray_8 ⟨Nat.le_of_ble_eq_true rfl, Nat.le_of_ble_eq_true rfl⟩ (fun v ad' c' H locs hv hN hS => ?_)
  obtain ⟨q, rfl, rfl, rfl⟩ := hv
  refine W.eq (g2 := F0 m 11 ls (_ :: _)) rfl ?_
  refine W.widen (k := 1) (n := 10) (by first | omega | decide) (by first | omega | decide) ?_
  exact W.aret hx hb hr (Or.inr ⟨_, rfl⟩) (Or.inr ⟨_, rfl⟩) (nEnd hN hS ⟨q, rfl, rfl, rfl⟩) hS.2 dJ2_toArray_11
set_option maxHeartbeats 4000000 in
set_option maxRecDepth 100000 in
theorem tJ2_fastRemove (l : Launch) (G : nG) (K : State → Prop) (hKo : nKo G K) (hK0 : ∀ U, K U → sK0 G U) (ad : Nat → Nat) (c0 : nPic) (li la : Nat) (mc_ : Int32) (j cap : Nat) (f : Nat → Option Nat) (hL : c0 li = some (.inr (7, [.int mc_, .ref (ad la), .int (nI (j + 1))]))) (hA : c0 la = some (qA (G.1.1 103) cap f)) (hcap : cap < 2 ^ 31) (hne : li ≠ la) (hj : j < cap) : Met l yJ2_fastRemove (ws_ yJ2_fastRemove cJ2_fastRemove 4 none) (sR 0 0 0) (nPc G nCl K ad c0 [.ref (ad li), .ref (ad la), .int (nI j)]) (nQ G nCl (fun rv ad' c' => rv = none ∧ ad = ad' ∧ va_up (va_up c0 li (some (.inr (7, [.int (mc_ + 1), .ref (ad la), .int (nI j)])))) la (some (qA (G.1.1 103) cap (va_up f j none))) = c')) 0 0 (fun q => G.2 ≤ q) := by
  refine nMet RJ2 (by decide) rfl (Nat.le_of_ble_eq_true rfl) ?_
  intro p e s m below meth c ls SS hR hK hN hS hl
  obtain ⟨hx, hb, hml, hown, hts⟩ := id SS
  obtain ⟨hr, hlk, hnm⟩ := hR
  obtain ⟨hKv, hKw, hKf, hKz, hKm⟩ := hK0 s hK
  generalize s.heap = H at hN hS ⊢
  generalize ([] : List Loc) = locs at hS ⊢
  have hl : lv_has ls 4 [(0, .ref (ad li)), (1, .ref (ad la)), (2, .int (nI j))] := hl
  refine lv_aload_n hx hb dJ2_fastRemove_0 rfl (lv_at hl 0 rfl) ?_
  refine lv_dup hx hb dJ2_fastRemove_1 rfl ?_
  refine n_get (ci := 7) (C := RJ2) (T := TJ2) (N := 3) hx hb hts in_J2 hown hKv hN (li) hL rfl 0 (by decide) q115 (fun z h => u_same (hts _ q116) z h) (rfl) dJ2_fastRemove_2 ?_
  refine lv_iconst (v := 1) hx hb dJ2_fastRemove_5 (by decide) ?_
  refine lv_iadd hx hb dJ2_fastRemove_6 ?_
  refine n_put (ci := 7) (C := RJ2) (T := TJ2) (N := 3) hx hb hts in_J2 tyJ2 tyJ2_ok (va_apart (own := RJ2) hts in_J2 tyJ2 tyJ2_ok nmJ2 hKv rfl) hown hKv hN hS (li) hL rfl 0 (by decide) q115 (fun z h => u_same (hts _ q116) z h) rfl rfl rfl (Nat.le_of_ble_eq_true rfl) dJ2_fastRemove_7 (fun H locs hN hS => ?_)
  have hL : va_up c0 li (some (.inr (7, [.int (mc_ + 1), .ref (ad la), .int (nI (j + 1))]))) li = _ := va_up_self _ _ _
  refine lv_aload_n hx hb dJ2_fastRemove_10 rfl (lv_at hl 0 rfl) ?_
  refine n_get (ci := 7) (C := RJ2) (T := TJ2) (N := 3) hx hb hts in_J2 hown hKv hN (li) hL rfl 2 (by decide) q113 (fun z h => h) (rfl) dJ2_fastRemove_11 ?_
  refine lv_iconst (v := 1) hx hb dJ2_fastRemove_14 (by decide) ?_
  refine lv_isub hx hb dJ2_fastRemove_15 ?_
  refine n_top (y := nI j) (nI_pred j) ?_
  refine lv_dup hx hb dJ2_fastRemove_16 rfl ?_
  refine lv_istore_n (lv' := [(3, _), (0, _), (1, _), (2, _)]) hx hb dJ2_fastRemove_17 rfl hl (by decide) rfl (fun ls hl => ?_)
  refine lv_iload_n hx hb dJ2_fastRemove_18 rfl (lv_at hl 3 rfl) ?_
  refine lv_icmp_le (tgt := 34) hx hb dJ2_fastRemove_19 (by decide) (fun c19 => ?_) (fun c19 => absurd c19 (fun z => z (nI_le (Nat.le_refl _) (by omega))))
  refine lv_aload_n hx hb dJ2_fastRemove_34 rfl (lv_at hl 2 rfl) ?_
  refine lv_aload_n hx hb dJ2_fastRemove_35 rfl (lv_at hl 1 rfl) ?_
  refine lv_iload_n hx hb dJ2_fastRemove_36 rfl (lv_at hl 0 rfl) ?_
  refine lv_dup_x1 hx hb dJ2_fastRemove_37 rfl rfl ?_
  refine n_put (ci := 7) (C := RJ2) (T := TJ2) (N := 3) hx hb hts in_J2 tyJ2 tyJ2_ok (va_apart (own := RJ2) hts in_J2 tyJ2 tyJ2_ok nmJ2 hKv rfl) hown hKv hN hS (li) hL rfl 2 (by decide) q113 (fun z h => h) rfl rfl rfl (Nat.le_of_ble_eq_true rfl) dJ2_fastRemove_38 (fun H locs hN hS => ?_)
  have hN := hN.congr (va_up_up c0 li _ (some (.inr (7, [.int (mc_ + 1), .ref (ad la), .int (nI j)]))))
  have hA := (va_up_ne c0 (some (.inr (7, [.int (mc_ + 1), .ref (ad la), .int (nI j)]))) (Ne.symm hne)).trans hA
  refine lv_null hx hb dJ2_fastRemove_41 ?_
  refine n_aastN hx hb hKv hN hS (la) 3 hA rfl (j) (rfl) (by omega) (hcap) dJ2_fastRemove_42 (fun H locs hN hS => ?_)
  exact W.vret hx hb hr (nEnd hN hS ⟨rfl, rfl, rfl⟩) hS.2 dJ2_fastRemove_43
set_option maxHeartbeats 4000000 in
set_option maxRecDepth 100000 in
theorem tJ2_remove (l : Launch) (G : nG) (K : State → Prop) (hKo : nKo G K) (hK0 : ∀ U, K U → sK0 G U) (ad : Nat → Nat) (c0 : nPic) (li la : Nat) (mc_ : Int32) (j cap : Nat) (f : Nat → Option Nat) (hL : c0 li = some (.inr (7, [.int mc_, .ref (ad la), .int (nI (j + 1))]))) (hA : c0 la = some (qA (G.1.1 103) cap f)) (hcap : cap < 2 ^ 31) (hne : li ≠ la) (hj : j < cap) (old : Nat) (hf : f j = some old) : Met l yJ2_remove (ws_ yJ2_remove cJ2_remove 4 (some (.object "java/lang/Object"))) (sR 2 0 0) (nPc G nCl K ad c0 [.ref (ad li), .int (nI j)]) (nQ G nCl (fun rv ad' c' => rv = some (.ref old) ∧ ad = ad' ∧ va_up (va_up c0 li (some (.inr (7, [.int (mc_ + 1), .ref (ad la), .int (nI j)])))) la (some (qA (G.1.1 103) cap (va_up f j none))) = c')) 0 0 (fun q => G.2 ≤ q) := by
  refine nMet RJ2 (by decide) rfl (Nat.le_of_ble_eq_true rfl) ?_
  intro p e s m below meth c ls SS hR hK hN hS hl
  obtain ⟨hx, hb, hml, hown, hts⟩ := id SS
  obtain ⟨hr, hlk, hnm⟩ := hR
  obtain ⟨hKv, hKw, hKf, hKz, hKm⟩ := hK0 s hK
  generalize s.heap = H at hN hS ⊢
  generalize ([] : List Loc) = locs at hS ⊢
  have hl : lv_has ls 4 [(0, .ref (ad li)), (1, .int (nI j))] := hl
  refine lv_iload_n hx hb dJ2_remove_0 rfl (lv_at hl 1 rfl) ?_
  refine lv_aload_n hx hb dJ2_remove_1 rfl (lv_at hl 0 rfl) ?_
  refine n_get (ci := 7) (C := RJ2) (T := TJ2) (N := 3) hx hb hts in_J2 hown hKv hN (li) hL rfl 2 (by decide) q113 (fun z h => h) (rfl) dJ2_remove_2 ?_
  refine n_callS (As := [_, _]) SS hKo hK (tJ16_checkIndex l G K hKo hK0 ad c0 j (j + 1) (by omega) (by omega)) (va_cwS 2 hts (lw_S q197 q198 q82 q199) rfl rfl rfl (by decide +kernel) ⟨Nat.le_of_ble_eq_true rfl, Nat.le_of_ble_eq_true rfl⟩) hN hS rfl hl.1 rfl (Nat.le_of_ble_eq_true rfl) dJ2_remove_5 ⟨Nat.le_of_ble_eq_true rfl, Nat.le_of_ble_eq_true rfl⟩ (fun v ad' c' H locs hv hN hS => ?_)
  obtain ⟨rfl, rfl, rfl⟩ := hv
  refine W.eq (g2 := F0 m 8 ls (_ :: _)) rfl ?_
  refine lv_pop hx hb dJ2_remove_8 rfl ?_
  refine lv_aload_n hx hb dJ2_remove_9 rfl (lv_at hl 0 rfl) ?_
  refine n_get (ci := 7) (C := RJ2) (T := TJ2) (N := 3) hx hb hts in_J2 hown hKv hN (li) hL rfl 1 (by decide) q112 (fun z h => h) (rfl) dJ2_remove_10 ?_
  refine lv_astore_n (lv' := [(2, _), (0, _), (1, _)]) hx hb dJ2_remove_13 rfl hl (by decide) rfl (fun ls hl => ?_)
  refine lv_aload_n hx hb dJ2_remove_14 rfl (lv_at hl 0 rfl) ?_
  refine lv_iload_n hx hb dJ2_remove_15 rfl (lv_at hl 2 rfl) ?_
  refine n_aald hx hb hKv hN (la) 3 hA rfl (j) (rfl) (by omega) (hcap) dJ2_remove_16 ?_
  refine n_topv (y := .ref old) (by rw [hf]; rfl) ?_
  refine lv_astore_n (lv' := [(3, _), (2, _), (0, _), (1, _)]) hx hb dJ2_remove_17 rfl hl (by decide) rfl (fun ls hl => ?_)
  refine lv_aload_n hx hb dJ2_remove_18 rfl (lv_at hl 2 rfl) ?_
  refine lv_aload_n hx hb dJ2_remove_19 rfl (lv_at hl 1 rfl) ?_
  refine lv_iload_n hx hb dJ2_remove_20 rfl (lv_at hl 3 rfl) ?_
  refine n_callV (C := RJ2) (As := [_, _]) (b := li) SS hKo hK hKv (tJ2_fastRemove l G K hKo hK0 ad c0 li la mc_ j cap f hL hA hcap hne hj) (cwV 2 hts (lw_V q429 q431 qs11 q60 q432) rfl rfl rfl (by decide +kernel) ⟨Nat.le_of_ble_eq_true rfl, Nat.le_of_ble_eq_true rfl⟩) hN hS hL rfl rfl hl.1 rfl (Nat.le_of_ble_eq_true rfl) dJ2_remove_21 ⟨Nat.le_of_ble_eq_true rfl, Nat.le_of_ble_eq_true rfl⟩ (fun v ad' c' H locs hv hN hS => ?_)
  obtain ⟨rfl, rfl, rfl⟩ := hv
  refine W.eq (g2 := F0 m 24 ls _) rfl ?_
  refine lv_aload_n hx hb dJ2_remove_24 rfl (lv_at hl 0 rfl) ?_
  exact W.aret hx hb hr (Or.inl ⟨_, rfl⟩) (Or.inr ⟨_, rfl⟩) (nEnd hN hS ⟨rfl, rfl, rfl⟩) hS.2 dJ2_remove_25
