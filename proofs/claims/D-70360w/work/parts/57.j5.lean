/-! JDK: clear, addAll: printed by wip/gen/j5.py -/
theorem n_cpyq {g h : Nat → Option Nat} {k i : Nat} (hi : i < k) : va_cpy g h 0 0 k i = g i := by
  unfold va_cpy
  rw [if_pos ⟨by omega, by omega⟩, Nat.sub_zero, Nat.zero_add]
set_option maxHeartbeats 1000000 in
set_option maxRecDepth 100000 in
theorem tJ2_clear0 (l : Launch) (G : nG) (K : State → Prop) (hKo : nKo G K) (hK0 : ∀ U, K U → sK0 G U) (ad : Nat → Nat) (c0 : nPic) (li : Nat) (mc_ : Int32) (ea : Value) (hea : ∃ q : Nat, ea = .ref q) (hL : c0 li = some (.inr (7, [.int mc_, ea, .int 0]))) : Met l yJ2_clear (ws_ yJ2_clear cJ2_clear 4 none) (sR 0 0 0) (nPc G nCl K ad c0 [.ref (ad li)]) (nQ G nCl (fun rv ad' c' => rv = none ∧ ad = ad' ∧ va_up c0 li (some (.inr (7, [.int (mc_ + 1), ea, .int 0]))) = c')) 0 0 (fun q => G.2 ≤ q) := by
  refine nMet RJ2 (by decide) rfl (Nat.le_of_ble_eq_true rfl) ?_
  intro p e s m below meth c ls SS hR hK hN hS hl
  obtain ⟨hx, hb, hml, hown, hts⟩ := id SS
  obtain ⟨hr, hlk, hnm⟩ := hR
  obtain ⟨hKv, hKw, hKf, hKz, hKm⟩ := hK0 s hK
  generalize s.heap = H at hN hS ⊢
  generalize ([] : List Loc) = locs at hS ⊢
  have hl : lv_has ls 4 [(0, .ref (ad li))] := hl
  obtain ⟨qe, rfl⟩ := hea
  refine lv_aload_n hx hb dJ2_clear_0 rfl (lv_at hl 0 rfl) ?_
  refine lv_dup hx hb dJ2_clear_1 rfl ?_
  refine n_get (ci := 7) (C := RJ2) (T := TJ2) (N := 3) hx hb hts in_J2 hown hKv hN (li) hL rfl 0 (by decide) q115 (fun z h => u_same (hts _ q116) z h) (rfl) dJ2_clear_2 ?_
  refine lv_iconst (v := 1) hx hb dJ2_clear_5 (by decide) ?_
  refine lv_iadd hx hb dJ2_clear_6 ?_
  refine n_put (ci := 7) (C := RJ2) (T := TJ2) (N := 3) hx hb hts in_J2 tyJ2 tyJ2_ok (va_apart (own := RJ2) hts in_J2 tyJ2 tyJ2_ok nmJ2 hKv rfl) hown hKv hN hS (li) hL rfl 0 (by decide) q115 (fun z h => u_same (hts _ q116) z h) rfl rfl rfl (Nat.le_of_ble_eq_true rfl) dJ2_clear_7 (fun H locs hN hS => ?_)
  have hL : va_up c0 li (some (.inr (7, [.int (mc_ + 1), .ref qe, .int 0]))) li = _ := va_up_self _ _ _
  refine lv_aload_n hx hb dJ2_clear_10 rfl (lv_at hl 0 rfl) ?_
  refine n_get (ci := 7) (C := RJ2) (T := TJ2) (N := 3) hx hb hts in_J2 hown hKv hN (li) hL rfl 1 (by decide) q112 (fun z h => h) (rfl) dJ2_clear_11 ?_
  refine lv_astore_n (lv' := [(1, _), (0, _)]) hx hb dJ2_clear_14 rfl hl (by decide) rfl (fun ls hl => ?_)
  refine lv_aload_n hx hb dJ2_clear_15 rfl (lv_at hl 1 rfl) ?_
  refine n_get (ci := 7) (C := RJ2) (T := TJ2) (N := 3) hx hb hts in_J2 hown hKv hN (li) hL rfl 2 (by decide) q113 (fun z h => h) (rfl) dJ2_clear_16 ?_
  refine lv_istore_n (lv' := [(2, _), (1, _), (0, _)]) hx hb dJ2_clear_19 rfl hl (by decide) rfl (fun ls hl => ?_)
  refine lv_aload_n hx hb dJ2_clear_20 rfl (lv_at hl 2 rfl) ?_
  refine lv_iconst (v := 0) hx hb dJ2_clear_21 (by decide) ?_
  refine lv_dup_x1 hx hb dJ2_clear_22 rfl rfl ?_
  refine n_put (ci := 7) (C := RJ2) (T := TJ2) (N := 3) hx hb hts in_J2 tyJ2 tyJ2_ok (va_apart (own := RJ2) hts in_J2 tyJ2 tyJ2_ok nmJ2 hKv rfl) hown hKv hN hS (li) hL rfl 2 (by decide) q113 (fun z h => h) rfl rfl rfl (Nat.le_of_ble_eq_true rfl) dJ2_clear_23 (fun H locs hN hS => ?_)
  refine lv_istore_n (lv' := [(3, _), (2, _), (1, _), (0, _)]) hx hb dJ2_clear_26 rfl hl (by decide) rfl (fun ls hl => ?_)
  refine lv_iload_n hx hb dJ2_clear_27 rfl (lv_at hl 0 rfl) ?_
  refine lv_iload_n hx hb dJ2_clear_28 rfl (lv_at hl 1 rfl) ?_
  refine lv_icmp_ge (tgt := 42) hx hb dJ2_clear_29 (by decide) (fun c29 => ?_) (fun c29 => absurd c29 (fun z => z (by decide)))
  exact W.vret hx hb hr (nEnd hN hS ⟨rfl, rfl, (va_up_up _ _ _ _).symm⟩) hS.2 dJ2_clear_42
set_option maxHeartbeats 1000000 in
set_option maxRecDepth 100000 in
theorem tJ2_addAll (l : Launch) (G : nG) (K : State → Prop) (hKo : nKo G K) (hK0 : ∀ U, K U → sK0 G U) (ad : Nat → Nat) (c0 : nPic) (li la lj lb ta : Nat) (mc_ mj : Int32) (k : Nat) (f g : Nat → Option Nat) (hL : c0 li = some (.inr (7, [.int mc_, .ref (ad la), .int 0]))) (hA : c0 la = some (qA (G.1.1 103) 10 f)) (hLj : c0 lj = some (.inr (7, [.int mj, .ref (ad lb), .int (nI k)]))) (hB : c0 lb = some (qA (G.1.1 103) 4 g)) (hk : k ≤ 4) (hk0 : 0 < k) (h1 : li ≠ la) (h2 : li ≠ ta) (h3 : la ≠ ta) (h4 : lb ≠ ta) (h5 : lj ≠ ta) (h6 : lj ≠ la) (hF : ∀ i, i < k → ∀ y, g i = some y → ∃ el, el ≠ ta ∧ el ≠ li ∧ el ≠ la ∧ y = ad el ∧ nEl c0 el) : Met l yJ2_addAll (ws_ yJ2_addAll cJ2_addAll 6 (some .boolean)) (sR 5 1 10) (nPc G nCl K ad c0 [.ref (ad li), .ref (ad lj)]) (nQ G nCl (fun rv ad' c' => rv = some (.int 1) ∧ (∀ z, z ≠ ta → z ≠ la → ad' z = ad z) ∧ va_up (va_up (va_up c0 ta (some (qA (G.1.1 103) k (va_cpy g (fun _ => none) 0 0 k)))) li (some (.inr (7, [.int (mc_ + 1), (.ref (ad' la)), .int (nI k)])))) la (some (qA (G.1.1 103) 10 (va_cpy (va_cpy g (fun _ => none) 0 0 k) f 0 0 k))) = c')) 1 10 (fun q => G.2 ≤ q) := by
  refine nMet RJ2 (by decide) rfl (Nat.le_of_ble_eq_true rfl) ?_
  intro p e s m below meth c ls SS hR hK hN hS hl
  obtain ⟨hx, hb, hml, hown, hts⟩ := id SS
  obtain ⟨hr, hlk, hnm⟩ := hR
  obtain ⟨hKv, hKw, hKf, hKz, hKm⟩ := hK0 s hK
  generalize s.heap = H at hN hS ⊢
  generalize ([] : List Loc) = locs at hS ⊢
  have hl : lv_has ls 6 [(0, .ref (ad li)), (1, .ref (ad lj))] := hl
  refine lv_aload_n hx hb dJ2_addAll_0 rfl (lv_at hl 1 rfl) ?_
  refine n_callF (As := []) (C := RJ2) (b := lj) SS hKo hK hKv (tJ2_toArray l G K hKo hK0 ad c0 lj mj lb k 4 g hB (by decide) hk ta h4 (fun i hi y hy => by obtain ⟨el, g1, -, -, g4, g5⟩ := hF i hi y hy; exact ⟨el, g1, g4, g5⟩) hLj) (va_cwF 0 hts (lw_F q850 q854 q856 q60 q858) rfl rfl rfl (hKf (RJ2, ⟨"java/util/Collection", "toArray", "()[Ljava/lang/Object;"⟩, ⟨"java/util/ArrayList", "toArray", "()[Ljava/lang/Object;"⟩) (List.mem_of_getElem? (i := 8) rfl)) (by decide +kernel) ⟨Nat.le_of_ble_eq_true rfl, Nat.le_of_ble_eq_true rfl⟩) hN hS hLj rfl rfl hl.1 rfl (Nat.le_of_ble_eq_true rfl) dJ2_addAll_1 ⟨Nat.le_of_ble_eq_true rfl, Nat.le_of_ble_eq_true rfl⟩ (fun v ad' c' H locs hv hN hS => ?_)
  obtain ⟨q, rfl, rfl, rfl⟩ := hv
  refine W.eq (g2 := F0 m 6 ls (_ :: _)) rfl ?_
  obtain ⟨ad1, e1⟩ : ∃ ad1, ad1 = va_up ad ta q := ⟨_, rfl⟩
  have had1 : ∀ z, z ≠ ta → ad1 z = ad z := fun z hz => by rw [e1]; exact va_up_ne ad q hz
  have hq1 : ad1 ta = q := by rw [e1]; exact va_up_self _ _ _
  rw [← e1] at hN
  rw [← had1 li h2, ← had1 lj h5] at hl
  refine W.eq (g2 := F0 m 6 ls [.ref (ad1 ta)]) (by rw [hq1] <;> rfl) ?_
  have hL : (va_up c0 ta (some (qA (G.1.1 103) k (va_cpy g (fun _ => none) 0 0 k)))) li = some (.inr (7, [.int mc_, .ref (ad1 la), .int 0])) := by rw [va_up_ne _ _ h2, hL, had1 la h3]
  have hT : (va_up c0 ta (some (qA (G.1.1 103) k (va_cpy g (fun _ => none) 0 0 k)))) ta = _ := va_up_self _ _ _
  have hA : (va_up c0 ta (some (qA (G.1.1 103) k (va_cpy g (fun _ => none) 0 0 k)))) la = _ := (va_up_ne c0 _ h3).trans hA
  refine lv_astore_n (lv' := [(2, _), (0, _), (1, _)]) hx hb dJ2_addAll_6 rfl hl (by decide) rfl (fun ls hl => ?_)
  refine lv_aload_n hx hb dJ2_addAll_7 rfl (lv_at hl 1 rfl) ?_
  refine lv_dup hx hb dJ2_addAll_8 rfl ?_
  refine n_get (ci := 7) (C := RJ2) (T := TJ2) (N := 3) hx hb hts in_J2 hown hKv hN (li) hL rfl 0 (by decide) q115 (fun z h => u_same (hts _ q116) z h) (rfl) dJ2_addAll_9 ?_
  refine lv_iconst (v := 1) hx hb dJ2_addAll_12 (by decide) ?_
  refine lv_iadd hx hb dJ2_addAll_13 ?_
  refine n_put (ci := 7) (C := RJ2) (T := TJ2) (N := 3) hx hb hts in_J2 tyJ2 tyJ2_ok (va_apart (own := RJ2) hts in_J2 tyJ2 tyJ2_ok nmJ2 hKv rfl) hown hKv hN hS (li) hL rfl 0 (by decide) q115 (fun z h => u_same (hts _ q116) z h) rfl rfl rfl (Nat.le_of_ble_eq_true rfl) dJ2_addAll_14 (fun H locs hN hS => ?_)
  have hL : (va_up (va_up c0 ta (some (qA (G.1.1 103) k (va_cpy g (fun _ => none) 0 0 k)))) li (some (.inr (7, [.int (mc_ + 1), .ref (ad1 la), .int 0])))) li = _ := va_up_self _ _ _
  have hT : (va_up (va_up c0 ta (some (qA (G.1.1 103) k (va_cpy g (fun _ => none) 0 0 k)))) li (some (.inr (7, [.int (mc_ + 1), .ref (ad1 la), .int 0])))) ta = _ := (va_up_ne _ _ (Ne.symm h2)).trans hT
  have hA : (va_up (va_up c0 ta (some (qA (G.1.1 103) k (va_cpy g (fun _ => none) 0 0 k)))) li (some (.inr (7, [.int (mc_ + 1), .ref (ad1 la), .int 0])))) la = _ := (va_up_ne _ _ (Ne.symm h1)).trans hA
  refine lv_aload_n hx hb dJ2_addAll_17 rfl (lv_at hl 0 rfl) ?_
  refine n_alen hx hb hKv hN (ta) 3 hT rfl dJ2_addAll_18 ?_
  refine lv_istore_n (lv' := [(3, _), (2, _), (0, _), (1, _)]) hx hb dJ2_addAll_19 rfl hl (by decide) rfl (fun ls hl => ?_)
  refine lv_iload_n hx hb dJ2_addAll_20 rfl (lv_at hl 0 rfl) ?_
  refine lv_if_ne (tgt := 26) hx hb dJ2_addAll_21 (by decide) (fun c21 => ?_) (fun c21 => absurd c21 (fun z => by have := (nI_eq (a := k) (b := 0) (by omega) (by omega)).mp z; omega))
  refine lv_iload_n hx hb dJ2_addAll_26 rfl (lv_at hl 0 rfl) ?_
  refine lv_aload_n hx hb dJ2_addAll_27 rfl (lv_at hl 2 rfl) ?_
  refine n_get (ci := 7) (C := RJ2) (T := TJ2) (N := 3) hx hb hts in_J2 hown hKv hN (li) hL rfl 1 (by decide) q112 (fun z h => h) (rfl) dJ2_addAll_28 ?_
  refine lv_dup hx hb dJ2_addAll_31 rfl ?_
  refine lv_astore (lv' := [(4, _), (3, _), (2, _), (0, _), (1, _)]) hx hb dJ2_addAll_32 hl (by decide) rfl (fun ls hl => ?_)
  refine n_alen hx hb hKv hN (la) 3 hA rfl dJ2_addAll_34 ?_
  refine lv_aload_n hx hb dJ2_addAll_35 rfl (lv_at hl 3 rfl) ?_
  refine n_get (ci := 7) (C := RJ2) (T := TJ2) (N := 3) hx hb hts in_J2 hown hKv hN (li) hL rfl 2 (by decide) q113 (fun z h => h) (rfl) dJ2_addAll_36 ?_
  refine lv_dup hx hb dJ2_addAll_39 rfl ?_
  refine lv_istore (lv' := [(5, _), (4, _), (3, _), (2, _), (0, _), (1, _)]) hx hb dJ2_addAll_40 hl (by decide) rfl (fun ls hl => ?_)
  refine lv_isub hx hb dJ2_addAll_42 ?_
  refine n_top (y := nI 10) (by show nI 10 - 0 = nI 10; decide) ?_
  refine lv_icmp_le (tgt := 56) hx hb dJ2_addAll_43 (by decide) (fun c43 => ?_) (fun c43 => absurd c43 (fun z => z (nI_le (by omega) (by omega))))
  refine lv_aload_n hx hb dJ2_addAll_56 rfl (lv_at hl 3 rfl) ?_
  refine lv_iconst (v := 0) hx hb dJ2_addAll_57 (by decide) ?_
  refine lv_aload hx hb dJ2_addAll_58 (lv_at hl 1 rfl) ?_
  refine lv_iload hx hb dJ2_addAll_60 (lv_at hl 0 rfl) ?_
  refine lv_iload_n hx hb dJ2_addAll_62 rfl (lv_at hl 2 rfl) ?_
  refine n_copyq hx hb (hml.trans hl.1.symm) hts hown q433 q413 q412 q75 hKv hN hS ta la 3 3 hT hA rfl rfl 0 0 k rfl rfl rfl (by omega) (by omega) (by omega) (by decide) (fun i hi y hy => by rw [Nat.zero_add, n_cpyq hi] at hy; obtain ⟨el, g1, g2, g3, g4, g5⟩ := hF i hi y hy; rw [g4, ← had1 el g1]; exact n_any (hK0 s hK) hN (nEl_up g2 (nEl_up g1 g5))) (Nat.le_of_ble_eq_true rfl) (Nat.le_of_ble_eq_true rfl) dJ2_addAll_63 (fun H locs hN hS => ?_)
  have hL : (va_up (va_up (va_up c0 ta (some (qA (G.1.1 103) k (va_cpy g (fun _ => none) 0 0 k)))) li (some (.inr (7, [.int (mc_ + 1), .ref (ad1 la), .int 0])))) la (some (qA (G.1.1 103) 10 (va_cpy (va_cpy g (fun _ => none) 0 0 k) f 0 0 k)))) li = _ := (va_up_ne _ _ h1).trans hL
  refine lv_aload_n hx hb dJ2_addAll_66 rfl (lv_at hl 4 rfl) ?_
  refine lv_iload hx hb dJ2_addAll_67 (lv_at hl 0 rfl) ?_
  refine lv_iload_n hx hb dJ2_addAll_69 rfl (lv_at hl 2 rfl) ?_
  refine lv_iadd hx hb dJ2_addAll_70 ?_
  refine n_top (y := nI k) (Int32.zero_add _) ?_
  refine n_put (ci := 7) (C := RJ2) (T := TJ2) (N := 3) hx hb hts in_J2 tyJ2 tyJ2_ok (va_apart (own := RJ2) hts in_J2 tyJ2 tyJ2_ok nmJ2 hKv rfl) hown hKv hN hS (li) hL rfl 2 (by decide) q113 (fun z h => h) rfl rfl rfl (Nat.le_of_ble_eq_true rfl) dJ2_addAll_71 (fun H locs hN hS => ?_)
  refine lv_iconst (v := 1) hx hb dJ2_addAll_74 (by decide) ?_
  refine W.widen (k := 1) (n := 10) (by first | omega | decide) (by first | omega | decide) ?_
  exact W.zret hx hb hr (rfl) (nEnd hN hS ⟨rfl, fun z g1 _ => had1 z g1, (va_up_up2 _ h1 _ _ _).symm⟩) hS.2 dJ2_addAll_75
set_option maxHeartbeats 1000000 in
set_option maxRecDepth 100000 in
theorem tJ2_addAllZ (l : Launch) (G : nG) (K : State → Prop) (hKo : nKo G K) (hK0 : ∀ U, K U → sK0 G U) (ad : Nat → Nat) (c0 : nPic) (li la lj lb ta : Nat) (mc_ mj : Int32) (k : Nat) (g : Nat → Option Nat) (hL : c0 li = some (.inr (7, [.int mc_, .ref (nDea G), .int 0]))) (hLj : c0 lj = some (.inr (7, [.int mj, .ref (ad lb), .int (nI k)]))) (hB : c0 lb = some (qA (G.1.1 103) 4 g)) (hk : k ≤ 4) (hk0 : 0 < k) (h1 : li ≠ la) (h2 : li ≠ ta) (h3 : la ≠ ta) (h4 : lb ≠ ta) (h5 : lj ≠ ta) (h6 : lj ≠ la) (hF : ∀ i, i < k → ∀ y, g i = some y → ∃ el, el ≠ ta ∧ el ≠ li ∧ el ≠ la ∧ y = ad el ∧ nEl c0 el) : Met l yJ2_addAll (ws_ yJ2_addAll cJ2_addAll 6 (some .boolean)) (sR 5 2 20) (nPc G nCl K ad c0 [.ref (ad li), .ref (ad lj)]) (nQ G nCl (fun rv ad' c' => rv = some (.int 1) ∧ (∀ z, z ≠ ta → z ≠ la → ad' z = ad z) ∧ va_up (va_up (va_up c0 ta (some (qA (G.1.1 103) k (va_cpy g (fun _ => none) 0 0 k)))) li (some (.inr (7, [.int (mc_ + 1), (.ref (ad' la)), .int (nI k)])))) la (some (qA (G.1.1 103) 10 (va_cpy (va_cpy g (fun _ => none) 0 0 k) (fun _ => none) 0 0 k))) = c')) 2 20 (fun q => G.2 ≤ q) := by
  refine nMet RJ2 (by decide) rfl (Nat.le_of_ble_eq_true rfl) ?_
  intro p e s m below meth c ls SS hR hK hN hS hl
  obtain ⟨hx, hb, hml, hown, hts⟩ := id SS
  obtain ⟨hr, hlk, hnm⟩ := hR
  obtain ⟨hKv, hKw, hKf, hKz, hKm⟩ := hK0 s hK
  generalize s.heap = H at hN hS ⊢
  generalize ([] : List Loc) = locs at hS ⊢
  have hl : lv_has ls 6 [(0, .ref (ad li)), (1, .ref (ad lj))] := hl
  refine lv_aload_n hx hb dJ2_addAll_0 rfl (lv_at hl 1 rfl) ?_
  refine n_callF (As := []) (C := RJ2) (b := lj) SS hKo hK hKv (tJ2_toArray l G K hKo hK0 ad c0 lj mj lb k 4 g hB (by decide) hk ta h4 (fun i hi y hy => by obtain ⟨el, g1, -, -, g4, g5⟩ := hF i hi y hy; exact ⟨el, g1, g4, g5⟩) hLj) (va_cwF 0 hts (lw_F q850 q854 q856 q60 q858) rfl rfl rfl (hKf (RJ2, ⟨"java/util/Collection", "toArray", "()[Ljava/lang/Object;"⟩, ⟨"java/util/ArrayList", "toArray", "()[Ljava/lang/Object;"⟩) (List.mem_of_getElem? (i := 8) rfl)) (by decide +kernel) ⟨Nat.le_of_ble_eq_true rfl, Nat.le_of_ble_eq_true rfl⟩) hN hS hLj rfl rfl hl.1 rfl (Nat.le_of_ble_eq_true rfl) dJ2_addAll_1 ⟨Nat.le_of_ble_eq_true rfl, Nat.le_of_ble_eq_true rfl⟩ (fun v ad' c' H locs hv hN hS => ?_)
  obtain ⟨q, rfl, rfl, rfl⟩ := hv
  refine W.eq (g2 := F0 m 6 ls (_ :: _)) rfl ?_
  obtain ⟨ad1, e1⟩ : ∃ ad1, ad1 = va_up ad ta q := ⟨_, rfl⟩
  have had1 : ∀ z, z ≠ ta → ad1 z = ad z := fun z hz => by rw [e1]; exact va_up_ne ad q hz
  have hq1 : ad1 ta = q := by rw [e1]; exact va_up_self _ _ _
  rw [← e1] at hN
  rw [← had1 li h2, ← had1 lj h5] at hl
  refine W.eq (g2 := F0 m 6 ls [.ref (ad1 ta)]) (by rw [hq1] <;> rfl) ?_
  have hL : (va_up c0 ta (some (qA (G.1.1 103) k (va_cpy g (fun _ => none) 0 0 k)))) li = some (.inr (7, [.int mc_, .ref (nDea G), .int 0])) := by rw [va_up_ne _ _ h2, hL]
  have hT : (va_up c0 ta (some (qA (G.1.1 103) k (va_cpy g (fun _ => none) 0 0 k)))) ta = _ := va_up_self _ _ _
  refine lv_astore_n (lv' := [(2, _), (0, _), (1, _)]) hx hb dJ2_addAll_6 rfl hl (by decide) rfl (fun ls hl => ?_)
  refine lv_aload_n hx hb dJ2_addAll_7 rfl (lv_at hl 1 rfl) ?_
  refine lv_dup hx hb dJ2_addAll_8 rfl ?_
  refine n_get (ci := 7) (C := RJ2) (T := TJ2) (N := 3) hx hb hts in_J2 hown hKv hN (li) hL rfl 0 (by decide) q115 (fun z h => u_same (hts _ q116) z h) (rfl) dJ2_addAll_9 ?_
  refine lv_iconst (v := 1) hx hb dJ2_addAll_12 (by decide) ?_
  refine lv_iadd hx hb dJ2_addAll_13 ?_
  refine n_put (ci := 7) (C := RJ2) (T := TJ2) (N := 3) hx hb hts in_J2 tyJ2 tyJ2_ok (va_apart (own := RJ2) hts in_J2 tyJ2 tyJ2_ok nmJ2 hKv rfl) hown hKv hN hS (li) hL rfl 0 (by decide) q115 (fun z h => u_same (hts _ q116) z h) rfl rfl rfl (Nat.le_of_ble_eq_true rfl) dJ2_addAll_14 (fun H locs hN hS => ?_)
  have hL : (va_up (va_up c0 ta (some (qA (G.1.1 103) k (va_cpy g (fun _ => none) 0 0 k)))) li (some (.inr (7, [.int (mc_ + 1), .ref (nDea G), .int 0])))) li = _ := va_up_self _ _ _
  have hT : (va_up (va_up c0 ta (some (qA (G.1.1 103) k (va_cpy g (fun _ => none) 0 0 k)))) li (some (.inr (7, [.int (mc_ + 1), .ref (nDea G), .int 0])))) ta = _ := (va_up_ne _ _ (Ne.symm h2)).trans hT
  refine lv_aload_n hx hb dJ2_addAll_17 rfl (lv_at hl 0 rfl) ?_
  refine n_alen hx hb hKv hN (ta) 3 hT rfl dJ2_addAll_18 ?_
  refine lv_istore_n (lv' := [(3, _), (2, _), (0, _), (1, _)]) hx hb dJ2_addAll_19 rfl hl (by decide) rfl (fun ls hl => ?_)
  refine lv_iload_n hx hb dJ2_addAll_20 rfl (lv_at hl 0 rfl) ?_
  refine lv_if_ne (tgt := 26) hx hb dJ2_addAll_21 (by decide) (fun c21 => ?_) (fun c21 => absurd c21 (fun z => by have := (nI_eq (a := k) (b := 0) (by omega) (by omega)).mp z; omega))
  refine lv_iload_n hx hb dJ2_addAll_26 rfl (lv_at hl 0 rfl) ?_
  refine lv_aload_n hx hb dJ2_addAll_27 rfl (lv_at hl 2 rfl) ?_
  refine n_get (ci := 7) (C := RJ2) (T := TJ2) (N := 3) hx hb hts in_J2 hown hKv hN (li) hL rfl 1 (by decide) q112 (fun z h => h) (rfl) dJ2_addAll_28 ?_
  refine lv_dup hx hb dJ2_addAll_31 rfl ?_
  refine lv_astore (lv' := [(4, _), (3, _), (2, _), (0, _), (1, _)]) hx hb dJ2_addAll_32 hl (by decide) rfl (fun ls hl => ?_)
  refine n_alenZ hx hb hKv hKz hS dJ2_addAll_34 ?_
  refine lv_aload_n hx hb dJ2_addAll_35 rfl (lv_at hl 3 rfl) ?_
  refine n_get (ci := 7) (C := RJ2) (T := TJ2) (N := 3) hx hb hts in_J2 hown hKv hN (li) hL rfl 2 (by decide) q113 (fun z h => h) (rfl) dJ2_addAll_36 ?_
  refine lv_dup hx hb dJ2_addAll_39 rfl ?_
  refine lv_istore (lv' := [(5, _), (4, _), (3, _), (2, _), (0, _), (1, _)]) hx hb dJ2_addAll_40 hl (by decide) rfl (fun ls hl => ?_)
  refine lv_isub hx hb dJ2_addAll_42 ?_
  refine n_top (y := nI 0) (by decide) ?_
  refine lv_icmp_le (tgt := 56) hx hb dJ2_addAll_43 (by decide) (fun c43 => absurd c43 (fun z => by have := (nI_leI (a := k) (b := 0) (by omega) (by omega)).mp z; omega)) (fun c43 => ?_)
  refine lv_aload_n hx hb dJ2_addAll_46 rfl (lv_at hl 4 rfl) ?_
  refine lv_iload hx hb dJ2_addAll_47 (lv_at hl 0 rfl) ?_
  refine lv_iload_n hx hb dJ2_addAll_49 rfl (lv_at hl 2 rfl) ?_
  refine lv_iadd hx hb dJ2_addAll_50 ?_
  refine n_top (y := nI k) (Int32.zero_add _) ?_
  refine n_callV (C := RJ2) (As := [_]) (b := li) SS hKo hK hKv (tJ2_grow_2Z l G K hKo hK0 ad1 _ li (mc_ + 1) 0 hL la k h1 (by omega)) (cwV 1 hts (lw_V q363 q365 qs10 q60 q366) rfl rfl rfl (by decide +kernel) ⟨Nat.le_of_ble_eq_true rfl, Nat.le_of_ble_eq_true rfl⟩) hN hS hL rfl rfl hl.1 rfl (Nat.le_of_ble_eq_true rfl) dJ2_addAll_51 ⟨Nat.le_of_ble_eq_true rfl, Nat.le_of_ble_eq_true rfl⟩ (fun v ad' c' H locs hv hN hS => ?_)
  obtain ⟨q2, rfl, rfl, rfl⟩ := hv
  refine W.eq (g2 := F0 m 54 ls (_ :: _)) rfl ?_
  obtain ⟨ad2, e2⟩ : ∃ ad2, ad2 = va_up ad1 la q2 := ⟨_, rfl⟩
  have had2 : ∀ z, z ≠ la → ad2 z = ad1 z := fun z hz => by rw [e2]; exact va_up_ne ad1 q2 hz
  have hq2 : ad2 la = q2 := by rw [e2]; exact va_up_self _ _ _
  rw [← e2] at hN
  rw [va_up_up, ← hq2] at hN
  rw [← had2 li h1, ← had2 lj h6, ← had2 ta (Ne.symm h3)] at hl
  refine W.eq (g2 := F0 m 54 ls [.ref (ad2 la)]) (by rw [hq2] <;> rfl) ?_
  have hT : (va_up (va_up (va_up c0 ta (some (qA (G.1.1 103) k (va_cpy g (fun _ => none) 0 0 k)))) li (some (.inr (7, [.int (mc_ + 1), .ref (ad2 la), .int 0])))) la (some (qA (G.1.1 103) 10 (fun _ => none)))) ta = _ := (va_up_ne _ _ (Ne.symm h3)).trans ((va_up_ne _ _ (Ne.symm h2)).trans (va_up_self _ _ _))
  have hA : (va_up (va_up (va_up c0 ta (some (qA (G.1.1 103) k (va_cpy g (fun _ => none) 0 0 k)))) li (some (.inr (7, [.int (mc_ + 1), .ref (ad2 la), .int 0])))) la (some (qA (G.1.1 103) 10 (fun _ => none)))) la = _ := va_up_self _ _ _
  refine lv_astore (lv' := [(4, _), (5, _), (3, _), (2, _), (0, _), (1, _)]) hx hb dJ2_addAll_54 hl (by decide) rfl (fun ls hl => ?_)
  refine lv_aload_n hx hb dJ2_addAll_56 rfl (lv_at hl 3 rfl) ?_
  refine lv_iconst (v := 0) hx hb dJ2_addAll_57 (by decide) ?_
  refine lv_aload hx hb dJ2_addAll_58 (lv_at hl 0 rfl) ?_
  refine lv_iload hx hb dJ2_addAll_60 (lv_at hl 1 rfl) ?_
  refine lv_iload_n hx hb dJ2_addAll_62 rfl (lv_at hl 2 rfl) ?_
  refine n_copyq hx hb (hml.trans hl.1.symm) hts hown q433 q413 q412 q75 hKv hN hS ta la 3 3 hT hA rfl rfl 0 0 k rfl rfl rfl (by omega) (by omega) (by omega) (by decide) (fun i hi y hy => by rw [Nat.zero_add, n_cpyq hi] at hy; obtain ⟨el, g1, g2, g3, g4, g5⟩ := hF i hi y hy; rw [g4, ← had1 el g1, ← had2 el g3]; exact n_any (hK0 s hK) hN (nEl_up g3 (nEl_up g2 (nEl_up g1 g5)))) (Nat.le_of_ble_eq_true rfl) (Nat.le_of_ble_eq_true rfl) dJ2_addAll_63 (fun H locs hN hS => ?_)
  have hN := hN.congr (va_up_up _ la _ _)
  have hL : (va_up (va_up (va_up c0 ta (some (qA (G.1.1 103) k (va_cpy g (fun _ => none) 0 0 k)))) li (some (.inr (7, [.int (mc_ + 1), .ref (ad2 la), .int 0])))) la (some (qA (G.1.1 103) 10 (va_cpy (va_cpy g (fun _ => none) 0 0 k) (fun _ => none) 0 0 k)))) li = _ := (va_up_ne _ _ h1).trans (va_up_self _ _ _)
  refine lv_aload_n hx hb dJ2_addAll_66 rfl (lv_at hl 4 rfl) ?_
  refine lv_iload hx hb dJ2_addAll_67 (lv_at hl 1 rfl) ?_
  refine lv_iload_n hx hb dJ2_addAll_69 rfl (lv_at hl 2 rfl) ?_
  refine lv_iadd hx hb dJ2_addAll_70 ?_
  refine n_top (y := nI k) (Int32.zero_add _) ?_
  refine n_put (ci := 7) (C := RJ2) (T := TJ2) (N := 3) hx hb hts in_J2 tyJ2 tyJ2_ok (va_apart (own := RJ2) hts in_J2 tyJ2 tyJ2_ok nmJ2 hKv rfl) hown hKv hN hS (li) hL rfl 2 (by decide) q113 (fun z h => h) rfl rfl rfl (Nat.le_of_ble_eq_true rfl) dJ2_addAll_71 (fun H locs hN hS => ?_)
  refine lv_iconst (v := 1) hx hb dJ2_addAll_74 (by decide) ?_
  refine W.widen (k := 2) (n := 20) (by first | omega | decide) (by first | omega | decide) ?_
  exact W.zret hx hb hr (rfl) (nEnd hN hS ⟨rfl, fun z g1 g2 => (had2 z g2).trans (had1 z g1), (va_up_up2 _ h1 _ _ _).symm⟩) hS.2 dJ2_addAll_75
