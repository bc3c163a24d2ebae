/-! SYSTEM: cells of a sheet: printed by wip/gen/e2.py -/
theorem x_min61 {n : Int32} (h : n < 0 ∨ n < 61) : (if 61 < n then 61 else n) = n := by
  rw [if_neg]
  intro z
  rw [Int32.lt_iff_toInt_lt] at z
  have e1 : (61 : Int32).toInt = 61 := rfl
  have e0 : (0 : Int32).toInt = 0 := rfl
  rcases h with h | h <;> have := Int32.lt_iff_toInt_lt.mp h <;> omega
theorem x_minW {n : Int32} (h : ¬ n < 0) : ∃ w : Nat, w ≤ 61 ∧ (if 61 < n then 61 else n) = nI w := by
  obtain ⟨j, hj, e⟩ := nI_of h
  subst e
  by_cases hq : j ≤ 61
  · refine ⟨j, hq, if_neg ?_⟩
    intro z
    have := (nI_ltI (a := 61) (b := j) (by decide) hj).mp z
    omega
  · refine ⟨61, Nat.le_refl _, if_pos ?_⟩
    exact (nI_ltI (a := 61) (b := j) (by decide) hj).mpr (by omega)
theorem x_drop {G : nG} {cl : List vw_C} {ad : Nat → Nat} {c0 : nPic} {H : Heap} {i q : Nat} {e : Option va_E} (h : c0 i = none) (hN : nOk G cl (va_up ad i q) (va_up c0 i e) H) : nOk G cl ad c0 H := by
  refine hN.by fun j e he => ?_
  by_cases hj : j = i
  · subst hj
    rw [h] at he
    cases he
  · exact ⟨(va_up_ne _ _ hj).trans he, (va_up_ne _ _ hj).symm⟩
theorem x_some {L : Nat} {i n : Int32} (hL : L ≤ 60) (hn : ¬ n < 0) (h1 : ¬ 61 ≤ n) (h2 : ¬ i < 0) (h3 : ¬ nI L - n < i) : ¬ (i < 0 ∨ nI L < i ∨ nI L - i < n) := by
  obtain ⟨j, hj, e⟩ := nI_of h2
  subst e
  obtain ⟨w, hw, e⟩ := nI_of hn
  subst e
  have h1 : w < 61 := by
    rcases Nat.lt_or_ge w 61 with q | q
    · exact q
    · exact absurd ((nI_leI (a := 61) (b := w) (by decide) hw).mpr q) h1
  have e1 : (nI L - nI w).toInt = (L : Int) - w := by
    rw [Int32.toInt_sub, nI_toInt (by omega), nI_toInt hw]
    exact Int.bmod_eq_of_le (by omega) (by omega)
  have h3 : ¬ (L : Int) - w < j := fun z => h3 (by rw [Int32.lt_iff_toInt_lt, e1, nI_toInt hj]; exact z)
  rintro (z | z | z)
  · exact h2 z
  · have := (nI_ltI (a := L) (b := j) (by omega) hj).mp z
    omega
  · rw [pk_sub (by omega)] at z
    have := (nI_ltI (a := L - j) (b := w) (by omega) hw).mp z
    omega
theorem x_ext {G : nG} {ad : Nat → Nat} {c0 : nPic} {H : Heap} {la n : Nat} {cA : ClassId} {f g : AI} (h : nOk G nCl ad (va_up c0 la (some (.inl (cA, n, .inl f)))) H) (hfg : ∀ j, j < n → f j = g j) : nOk G nCl ad (va_up c0 la (some (.inl (cA, n, .inl g)))) H := by
  have h2 := h.set (e := .inl (cA, n, .inl g)) (va_up_self _ _ _) (by
    obtain ⟨h1, -⟩ := h.1 la _ (va_up_self _ _ _)
    show H[ad la]? = some (vp_cell cA (n, .inl g))
    rw [← arr_ext hfg]
    exact h1) rfl (fun _ _ => rfl)
  rwa [va_up_up] at h2
set_option maxHeartbeats 1000000 in
set_option maxRecDepth 100000 in
theorem sX0_cellsOfN (l : Launch) (G : nG) (K : State → Prop) (hKo : nKo G K) (hK0 : ∀ U, K U → sK0 G U) (hKx : ∀ U, K U → xK G U) (hfl : l.stackTraces = false) (ad : Nat → Nat) (c0 : nPic) (q : Nat) (hq : q < 3) (i n_ : Int32) : MetT l yX0_cellsOf (ws_ yX0_cellsOf cX0_cellsOf 8 (some (.array .int))) (sR 1 4 1980) (nPc G nCl K ad c0 [.null, .int (nI q), .int i, .int n_]) (xQ "java/lang/NullPointerException" G nCl ad c0) 4 1980 (fun q => G.2 ≤ q) := by
  refine nMetT RX0 (by decide) rfl (Nat.le_of_ble_eq_true rfl) ?_
  intro p e s m below meth c ls SS hR hxt hadm hK hN hS hl
  obtain ⟨hx, hb, hml, hown, hts⟩ := id SS
  obtain ⟨hr, hlk, hnm⟩ := hR
  have hX := hKx s hK
  obtain ⟨hKv, hKw, hKf, hKz, hKm⟩ := hK0 s hK
  generalize s.heap = H at hN hS ⊢
  generalize ([] : List Loc) = locs at hS ⊢
  have hl : lv_has ls 8 [(0, .null), (1, .int (nI q)), (2, .int i), (3, .int n_)] := hl
  refine lv_aload_nN hx hb dX0_cellsOf_0 rfl (lv_at hl 0 rfl) ?_
  refine lv_iload_n hx hb dX0_cellsOf_1 rfl (lv_at hl 1 rfl) ?_
  refine n_callST (As := [_, _]) SS hKo hK (sX0_sizeOfN l G K hKo hK0 hKx hfl ad c0 q hq) (va_cwS 2 hts (lw_S q731 q732 q57 q733) rfl rfl rfl (by decide +kernel) ⟨Nat.le_of_ble_eq_true rfl, Nat.le_of_ble_eq_true rfl⟩) hN hS rfl hl.1 rfl (Nat.le_of_ble_eq_true rfl) dX0_cellsOf_2 ⟨Nat.le_of_ble_eq_true rfl, Nat.le_of_ble_eq_true rfl⟩ (fun a_ cell_ H locs hA1 hA2 hA3 hN hS => ?_)
  exact WT.widen (k := 4) (n := 1980) (by first | decide | omega) (by first | decide | omega) (WT.out hlk (hxt _) hA1 hA2 hA3 hN hS)
set_option maxHeartbeats 1000000 in
set_option maxRecDepth 100000 in
theorem sX0_cellsOfC (l : Launch) (G : nG) (K : State → Prop) (hKo : nKo G K) (hK0 : ∀ U, K U → sK0 G U) (hKx : ∀ U, K U → xK G U) (hfl : l.stackTraces = false) (ad : Nat → Nat) (c0 : nPic) (ri q q2 L : Nat) (f : AI) (hq : q < 3) (hq2 : q2 < 3) (hne : q2 ≠ q) (hE : c0 ri = some (rowE G q2 L f)) (i n_ : Int32) : MetT l yX0_cellsOf (ws_ yX0_cellsOf cX0_cellsOf 8 (some (.array .int))) (sR 1 4 1980) (nPc G nCl K ad c0 [.ref (ad ri), .int (nI q), .int i, .int n_]) (xQ "java/lang/ClassCastException" G nCl ad c0) 4 1980 (fun q => G.2 ≤ q) := by
  refine nMetT RX0 (by decide) rfl (Nat.le_of_ble_eq_true rfl) ?_
  intro p e s m below meth c ls SS hR hxt hadm hK hN hS hl
  obtain ⟨hx, hb, hml, hown, hts⟩ := id SS
  obtain ⟨hr, hlk, hnm⟩ := hR
  have hX := hKx s hK
  obtain ⟨hKv, hKw, hKf, hKz, hKm⟩ := hK0 s hK
  generalize s.heap = H at hN hS ⊢
  generalize ([] : List Loc) = locs at hS ⊢
  have hl : lv_has ls 8 [(0, .ref (ad ri)), (1, .int (nI q)), (2, .int i), (3, .int n_)] := hl
  refine lv_aload_n hx hb dX0_cellsOf_0 rfl (lv_at hl 0 rfl) ?_
  refine lv_iload_n hx hb dX0_cellsOf_1 rfl (lv_at hl 1 rfl) ?_
  refine n_callST (As := [_, _]) SS hKo hK (sX0_sizeOfC l G K hKo hK0 hKx hfl ad c0 ri q q2 L f hq hq2 hne hE) (va_cwS 2 hts (lw_S q731 q732 q57 q733) rfl rfl rfl (by decide +kernel) ⟨Nat.le_of_ble_eq_true rfl, Nat.le_of_ble_eq_true rfl⟩) hN hS rfl hl.1 rfl (Nat.le_of_ble_eq_true rfl) dX0_cellsOf_2 ⟨Nat.le_of_ble_eq_true rfl, Nat.le_of_ble_eq_true rfl⟩ (fun a_ cell_ H locs hA1 hA2 hA3 hN hS => ?_)
  exact WT.widen (k := 4) (n := 1980) (by first | decide | omega) (by first | decide | omega) (WT.out hlk (hxt _) hA1 hA2 hA3 hN hS)
set_option maxHeartbeats 1000000 in
set_option maxRecDepth 100000 in
theorem sX0_cellsOfS (l : Launch) (G : nG) (K : State → Prop) (hKo : nKo G K) (hK0 : ∀ U, K U → sK0 G U) (hKx : ∀ U, K U → xK G U) (hfl : l.stackTraces = false) (ad : Nat → Nat) (c0 : nPic) (ri q L : Nat) (f : AI) (hq : q < 3) (hL : L ≤ 60) (hE : c0 ri = some (rowE G q L f)) (i n_ : Int32) (hn : n_ < 0) : MetT l yX0_cellsOf (ws_ yX0_cellsOf cX0_cellsOf 8 (some (.array .int))) (sR 1 4 1980) (nPc G nCl K ad c0 [.ref (ad ri), .int (nI q), .int i, .int n_]) (xQ "java/lang/NegativeArraySizeException" G nCl ad c0) 4 1980 (fun q => G.2 ≤ q) := by
  refine nMetT RX0 (by decide) rfl (Nat.le_of_ble_eq_true rfl) ?_
  intro p e s m below meth c ls SS hR hxt hadm hK hN hS hl
  obtain ⟨hx, hb, hml, hown, hts⟩ := id SS
  obtain ⟨hr, hlk, hnm⟩ := hR
  have hX := hKx s hK
  obtain ⟨hKv, hKw, hKf, hKz, hKm⟩ := hK0 s hK
  have hl : lv_has ls 8 [(0, .ref (ad ri)), (1, .int (nI q)), (2, .int i), (3, .int n_)] := hl
  refine lv_aload_n hx hb dX0_cellsOf_0 rfl (lv_at hl 0 rfl) ?_
  refine lv_iload_n hx hb dX0_cellsOf_1 rfl (lv_at hl 1 rfl) ?_
  refine n_callSh (As := [_, _]) SS hKo hK (sX0_sizeOf l G K hKo hK0 ad c0 ri q L f hq hL hE) (va_cwS 2 hts (lw_S q731 q732 q57 q733) rfl rfl rfl (by decide +kernel) ⟨Nat.le_of_ble_eq_true rfl, Nat.le_of_ble_eq_true rfl⟩) hN hS rfl hl.1 rfl (Nat.le_of_ble_eq_true rfl) dX0_cellsOf_2 ⟨Nat.le_of_ble_eq_true rfl, Nat.le_of_ble_eq_true rfl⟩ ?_
  refine lv_istore (lv' := [(4, _), (0, _), (1, _), (2, _), (3, _)]) hx hb dX0_cellsOf_5 hl (by decide) rfl (fun ls hl => ?_)
  refine lv_iload_n hx hb dX0_cellsOf_7 rfl (lv_at hl 4 rfl) ?_
  refine lv_bipush (v := 61) hx hb dX0_cellsOf_8 (by decide) ?_
  refine va_mmin hx hb (hml.trans hl.1.symm) hown (hts _ q734) (hts _ q409) (hts _ q76) (hts _ q410) (Nat.le_of_ble_eq_true rfl) (Nat.le_of_ble_eq_true rfl) (by first | decide | omega) (by first | decide | omega | (show _ ≤ 10; omega)) dX0_cellsOf_10 ?_
  refine n_top (y := n_) (x_min61 (by left; exact hn)) ?_
  exact x_msg (nm := "java/lang/NegativeArraySizeException") (names := ["java/lang/RuntimeException", "java/lang/Exception"]) hx hfl hlk (hxt _) (hl.1.trans hml.symm) (by decide +kernel) (by decide +kernel) (by first | decide | exact Nat.le_of_ble_eq_true rfl) (by first | decide | exact Nat.le_of_ble_eq_true rfl) (x_aNAS hts hKw hX.1 hX.2.1) hN (by decide) (by first | decide | exact Nat.le_of_ble_eq_true rfl) (by first | decide | exact Nat.le_of_ble_eq_true rfl) (by first | decide | exact Nat.le_of_ble_eq_true rfl) (Nat.le_of_ble_eq_true rfl) (Nat.le_of_ble_eq_true rfl) (Nat.le_of_ble_eq_true rfl) (Nat.le_of_ble_eq_true rfl) (fun T hT X => ⟨T.vm, toString n_, X, x_neg hn, fun target h => X.newarrayNegative hx rfl hn rfl (by rw [hb]; exact dX0_cellsOf_13) target h⟩)
set_option maxHeartbeats 1000000 in
set_option maxRecDepth 100000 in
theorem sX0_cellsOfI (l : Launch) (G : nG) (K : State → Prop) (hKo : nKo G K) (hK0 : ∀ U, K U → sK0 G U) (hKx : ∀ U, K U → xK G U) (hfl : l.stackTraces = false) (ad : Nat → Nat) (c0 : nPic) (ri q L : Nat) (f : AI) (hq : q < 3) (hL : L ≤ 60) (hE : c0 ri = some (rowE G q L f)) (i n_ : Int32) (hn : ¬ n_ < 0) (hno : i < 0 ∨ nI L < i ∨ nI L - i < n_) (h81 : c0 81 = none) : MetT l yX0_cellsOf (ws_ yX0_cellsOf cX0_cellsOf 8 (some (.array .int))) (sR 1 4 1980) (nPc G nCl K ad c0 [.ref (ad ri), .int (nI q), .int i, .int n_]) (xQ "java/lang/IndexOutOfBoundsException" G nCl ad c0) 4 1980 (fun q => G.2 ≤ q) := by
  refine nMetT RX0 (by decide) rfl (Nat.le_of_ble_eq_true rfl) ?_
  intro p e s m below meth c ls SS hR hxt hadm hK hN hS hl
  obtain ⟨hx, hb, hml, hown, hts⟩ := id SS
  obtain ⟨hr, hlk, hnm⟩ := hR
  have hX := hKx s hK
  obtain ⟨hKv, hKw, hKf, hKz, hKm⟩ := hK0 s hK
  generalize s.heap = H at hN hS ⊢
  generalize ([] : List Loc) = locs at hS ⊢
  have hl : lv_has ls 8 [(0, .ref (ad ri)), (1, .int (nI q)), (2, .int i), (3, .int n_)] := hl
  obtain ⟨w, hw, e61⟩ := x_minW hn
  refine lv_aload_n hx hb dX0_cellsOf_0 rfl (lv_at hl 0 rfl) ?_
  refine lv_iload_n hx hb dX0_cellsOf_1 rfl (lv_at hl 1 rfl) ?_
  refine n_callSh (As := [_, _]) SS hKo hK (sX0_sizeOf l G K hKo hK0 ad c0 ri q L f hq hL hE) (va_cwS 2 hts (lw_S q731 q732 q57 q733) rfl rfl rfl (by decide +kernel) ⟨Nat.le_of_ble_eq_true rfl, Nat.le_of_ble_eq_true rfl⟩) hN hS rfl hl.1 rfl (Nat.le_of_ble_eq_true rfl) dX0_cellsOf_2 ⟨Nat.le_of_ble_eq_true rfl, Nat.le_of_ble_eq_true rfl⟩ ?_
  refine lv_istore (lv' := [(4, _), (0, _), (1, _), (2, _), (3, _)]) hx hb dX0_cellsOf_5 hl (by decide) rfl (fun ls hl => ?_)
  refine lv_iload_n hx hb dX0_cellsOf_7 rfl (lv_at hl 4 rfl) ?_
  refine lv_bipush (v := 61) hx hb dX0_cellsOf_8 (by decide) ?_
  refine va_mmin hx hb (hml.trans hl.1.symm) hown (hts _ q734) (hts _ q409) (hts _ q76) (hts _ q410) (Nat.le_of_ble_eq_true rfl) (Nat.le_of_ble_eq_true rfl) (by first | decide | omega) (by first | decide | omega | (show _ ≤ 10; omega)) dX0_cellsOf_10 ?_
  refine n_top (y := nI w) (e61) ?_
  refine n_newa (atype := .byte) hx hb hts q528 hKv hN hS (81) 1 rfl (w) (fun _ => rfl) (rfl) (by omega) (Nat.le_of_ble_eq_true rfl) (by show 0 + w ≤ 1980; omega) dX0_cellsOf_13 (fun q13 H hN hS => ?_)
  have hq81 : q13 = va_up ad 81 q13 81 := (va_up_self _ _ _).symm
  refine W.eq (g2 := F0 m 15 ls [.ref (va_up ad 81 q13 81)]) (by rw [← hq81] <;> rfl) ?_
  refine lv_astore (lv' := [(5, _), (4, _), (0, _), (1, _), (2, _), (3, _)]) hx hb dX0_cellsOf_15 hl (by decide) rfl (fun ls hl => ?_)
  refine lv_iload_n hx hb dX0_cellsOf_17 rfl (lv_at hl 5 rfl) ?_
  refine lv_bipush (v := 61) hx hb dX0_cellsOf_18 (by decide) ?_
  refine lv_icmp_ge (tgt := 39) hx hb dX0_cellsOf_20 (by decide) (fun c20 => ?_) (fun c20 => ?_)
  · refine lv_iconst (v := 0) hx hb dX0_cellsOf_39 (by decide) ?_
    refine n_callST (As := [_]) SS hKo hK (sX0_needI l G K hKo hK0 hKx hfl _ _) (va_cwS 1 hts (lw_S q735 q736 q57 q737) rfl rfl rfl (by decide +kernel) ⟨Nat.le_of_ble_eq_true rfl, Nat.le_of_ble_eq_true rfl⟩) hN hS rfl hl.1 rfl (Nat.le_of_ble_eq_true rfl) dX0_cellsOf_40 ⟨Nat.le_of_ble_eq_true rfl, by show 0 + w + 1910 ≤ 1980; omega⟩ (fun a_ cell_ H locs hA1 hA2 hA3 hN hS => ?_)
    have hN : nOk G nCl ad c0 H := x_drop h81 hN
    exact WT.widen (k := 4) (n := 1980) (by first | decide | omega) (by first | decide | omega) (WT.out hlk (hxt _) hA1 hA2 hA3 hN hS)
  · refine lv_iload_n hx hb dX0_cellsOf_23 rfl (lv_at hl 4 rfl) ?_
    refine lv_if_lt (tgt := 39) hx hb dX0_cellsOf_24 (by decide) (fun c24 => ?_) (fun c24 => ?_)
    · refine lv_iconst (v := 0) hx hb dX0_cellsOf_39 (by decide) ?_
      refine n_callST (As := [_]) SS hKo hK (sX0_needI l G K hKo hK0 hKx hfl _ _) (va_cwS 1 hts (lw_S q735 q736 q57 q737) rfl rfl rfl (by decide +kernel) ⟨Nat.le_of_ble_eq_true rfl, Nat.le_of_ble_eq_true rfl⟩) hN hS rfl hl.1 rfl (Nat.le_of_ble_eq_true rfl) dX0_cellsOf_40 ⟨Nat.le_of_ble_eq_true rfl, by show 0 + w + 1910 ≤ 1980; omega⟩ (fun a_ cell_ H locs hA1 hA2 hA3 hN hS => ?_)
      have hN : nOk G nCl ad c0 H := x_drop h81 hN
      exact WT.widen (k := 4) (n := 1980) (by first | decide | omega) (by first | decide | omega) (WT.out hlk (hxt _) hA1 hA2 hA3 hN hS)
    · refine lv_iload_n hx hb dX0_cellsOf_27 rfl (lv_at hl 4 rfl) ?_
      refine lv_iload hx hb dX0_cellsOf_28 (lv_at hl 1 rfl) ?_
      refine lv_iload_n hx hb dX0_cellsOf_30 rfl (lv_at hl 5 rfl) ?_
      refine lv_isub hx hb dX0_cellsOf_31 ?_
      refine lv_icmp_gt (tgt := 39) hx hb dX0_cellsOf_32 (by decide) (fun c32 => ?_) (fun c32 => ?_)
      · refine lv_iconst (v := 0) hx hb dX0_cellsOf_39 (by decide) ?_
        refine n_callST (As := [_]) SS hKo hK (sX0_needI l G K hKo hK0 hKx hfl _ _) (va_cwS 1 hts (lw_S q735 q736 q57 q737) rfl rfl rfl (by decide +kernel) ⟨Nat.le_of_ble_eq_true rfl, Nat.le_of_ble_eq_true rfl⟩) hN hS rfl hl.1 rfl (Nat.le_of_ble_eq_true rfl) dX0_cellsOf_40 ⟨Nat.le_of_ble_eq_true rfl, by show 0 + w + 1910 ≤ 1980; omega⟩ (fun a_ cell_ H locs hA1 hA2 hA3 hN hS => ?_)
        have hN : nOk G nCl ad c0 H := x_drop h81 hN
        exact WT.widen (k := 4) (n := 1980) (by first | decide | omega) (by first | decide | omega) (WT.out hlk (hxt _) hA1 hA2 hA3 hN hS)
      · exact absurd hno (x_some hL hn c20 c24 c32)
set_option maxHeartbeats 1000000 in
set_option maxRecDepth 100000 in
theorem sX0_cellsOf (l : Launch) (G : nG) (K : State → Prop) (hKo : nKo G K) (hK0 : ∀ U, K U → sK0 G U) (ad : Nat → Nat) (c0 : nPic) (ri q L : Nat) (f : AI) (hq : q < 3) (hL : L ≤ 60) (hE : c0 ri = some (rowE G q L f)) (ii w la : Nat) (hi : ii + w ≤ L) (hla : la ≠ ri) (h81 : c0 81 = none) : Met l yX0_cellsOf (ws_ yX0_cellsOf cX0_cellsOf 8 (some (.array .int))) (sR 1 2 130) (nPc G nCl K ad c0 [.ref (ad ri), .int (nI q), .int (nI ii), .int (nI w)]) (nQ G nCl (fun rv ad' c' => ∃ p : Nat, rv = some (.ref p) ∧ va_up ad la p = ad' ∧ va_up c0 la (some (.inl (G.1.1 100, w, .inl (fun j => f (ii + j))))) = c')) 2 130 (fun q => G.2 ≤ q) := by
  refine nMet RX0 (by decide) rfl (Nat.le_of_ble_eq_true rfl) ?_
  intro p e s m below meth c ls SS hR hK hN hS hl
  obtain ⟨hx, hb, hml, hown, hts⟩ := id SS
  obtain ⟨hr, hlk, hnm⟩ := hR
  obtain ⟨hKv, hKw, hKf, hKz, hKm⟩ := hK0 s hK
  generalize s.heap = H at hN hS ⊢
  generalize ([] : List Loc) = locs at hS ⊢
  have hl : lv_has ls 8 [(0, .ref (ad ri)), (1, .int (nI q)), (2, .int (nI ii)), (3, .int (nI w))] := hl
  refine lv_aload_n hx hb dX0_cellsOf_0 rfl (lv_at hl 0 rfl) ?_
  refine lv_iload_n hx hb dX0_cellsOf_1 rfl (lv_at hl 1 rfl) ?_
  refine n_callSh (As := [_, _]) SS hKo hK (sX0_sizeOf l G K hKo hK0 ad c0 ri q L f hq hL hE) (va_cwS 2 hts (lw_S q731 q732 q57 q733) rfl rfl rfl (by decide +kernel) ⟨Nat.le_of_ble_eq_true rfl, Nat.le_of_ble_eq_true rfl⟩) hN hS rfl hl.1 rfl (Nat.le_of_ble_eq_true rfl) dX0_cellsOf_2 ⟨Nat.le_of_ble_eq_true rfl, Nat.le_of_ble_eq_true rfl⟩ ?_
  refine lv_istore (lv' := [(4, _), (0, _), (1, _), (2, _), (3, _)]) hx hb dX0_cellsOf_5 hl (by decide) rfl (fun ls hl => ?_)
  refine lv_iload_n hx hb dX0_cellsOf_7 rfl (lv_at hl 4 rfl) ?_
  refine lv_bipush (v := 61) hx hb dX0_cellsOf_8 (by decide) ?_
  refine va_mmin hx hb (hml.trans hl.1.symm) hown (hts _ q734) (hts _ q409) (hts _ q76) (hts _ q410) (Nat.le_of_ble_eq_true rfl) (Nat.le_of_ble_eq_true rfl) (by first | decide | omega) (by first | decide | omega | (show _ ≤ 10; omega)) dX0_cellsOf_10 ?_
  refine n_top (y := nI w) (x_min61 (by right; exact nI_lt (a := w) (b := 61) (by omega) (by decide))) ?_
  refine n_newa (atype := .byte) hx hb hts q528 hKv hN hS (81) 1 rfl (w) (fun _ => rfl) (rfl) (by omega) (Nat.le_of_ble_eq_true rfl) (by show 0 + w ≤ 130; omega) dX0_cellsOf_13 (fun q13 H hN hS => ?_)
  have hq81 : q13 = va_up ad 81 q13 81 := (va_up_self _ _ _).symm
  refine W.eq (g2 := F0 m 15 ls [.ref (va_up ad 81 q13 81)]) (by rw [← hq81] <;> rfl) ?_
  refine lv_astore (lv' := [(5, _), (4, _), (0, _), (1, _), (2, _), (3, _)]) hx hb dX0_cellsOf_15 hl (by decide) rfl (fun ls hl => ?_)
  refine lv_iload_n hx hb dX0_cellsOf_17 rfl (lv_at hl 5 rfl) ?_
  refine lv_bipush (v := 61) hx hb dX0_cellsOf_18 (by decide) ?_
  refine lv_icmp_ge (tgt := 39) hx hb dX0_cellsOf_20 (by decide) (fun c20 => absurd c20 (fun z => absurd z (by rw [Int32.not_le]; exact nI_lt (a := w) (b := 61) (by omega) (by decide)))) (fun c20 => ?_)
  refine lv_iload_n hx hb dX0_cellsOf_23 rfl (lv_at hl 4 rfl) ?_
  refine lv_if_lt (tgt := 39) hx hb dX0_cellsOf_24 (by decide) (fun c24 => absurd c24 (nI_pos (by omega))) (fun c24 => ?_)
  refine lv_iload_n hx hb dX0_cellsOf_27 rfl (lv_at hl 4 rfl) ?_
  refine lv_iload hx hb dX0_cellsOf_28 (lv_at hl 1 rfl) ?_
  refine lv_iload_n hx hb dX0_cellsOf_30 rfl (lv_at hl 5 rfl) ?_
  refine lv_isub hx hb dX0_cellsOf_31 ?_
  refine n_top (y := nI (L - w)) (pk_sub (by omega)) ?_
  refine lv_icmp_gt (tgt := 39) hx hb dX0_cellsOf_32 (by decide) (fun c32 => absurd c32 (nI_nlt (by omega) (by omega))) (fun c32 => ?_)
  refine lv_iconst (v := 1) hx hb dX0_cellsOf_35 (by decide) ?_
  refine lv_goto (tgt := 40) hx hb dX0_cellsOf_36 (by decide) ?_
  refine n_callS (As := [_]) SS hKo hK (sX0_need l G K hKo hK0 _ _) (va_cwS 1 hts (lw_S q735 q736 q57 q737) rfl rfl rfl (by decide +kernel) ⟨Nat.le_of_ble_eq_true rfl, Nat.le_of_ble_eq_true rfl⟩) hN hS rfl hl.1 rfl (Nat.le_of_ble_eq_true rfl) dX0_cellsOf_40 ⟨Nat.le_of_ble_eq_true rfl, by show 0 + w + 0 ≤ 130; omega⟩ (fun v ad' c' H locs hv hN hS => ?_)
  obtain ⟨rfl, rfl, rfl⟩ := hv
  refine W.eq (g2 := F0 m 43 ls _) rfl ?_
  refine lv_aload hx hb dX0_cellsOf_43 (lv_at hl 0 rfl) ?_
  refine n_alen hx hb hKv hN (81) 1 (va_up_self _ _ _) rfl dX0_cellsOf_45 ?_
  have hN : nOk G nCl ad c0 H := x_drop h81 hN
  refine n_newa (atype := .int) hx hb hts q124 hKv hN hS (la) 0 rfl (w) (fun _ => rfl) (rfl) (by omega) (Nat.le_of_ble_eq_true rfl) (by show 0 + w + 0 + w ≤ 130; omega) dX0_cellsOf_46 (fun q46 H hN hS => ?_)
  obtain ⟨ad2, e2⟩ : ∃ ad2, ad2 = va_up ad la q46 := ⟨_, rfl⟩
  have hq2 : ad2 la = q46 := by rw [e2]; exact va_up_self _ _ _
  have hri : ad2 ri = ad ri := by rw [e2]; exact va_up_ne ad _ (Ne.symm hla)
  have hN : nOk G nCl ad2 (va_up c0 la (some (.inl (G.1.1 100, w, .inl (pTk 0 (fun j => f (ii + j)) pZ))))) H := by rw [pTk_0]; exact e2 ▸ hN
  rw [← hri] at hl
  refine W.eq (g2 := F0 m 48 ls [.ref (ad2 la)]) (by rw [hq2] <;> rfl) ?_
  refine lv_astore (lv' := [(6, _), (5, _), (4, _), (0, _), (1, _), (2, _), (3, _)]) hx hb dX0_cellsOf_48 hl (by decide) rfl (fun ls hl => ?_)
  refine lv_iconst (v := nI 0) hx hb dX0_cellsOf_50 (rfl) ?_
  refine lv_istore (lv' := [(7, _), (6, _), (5, _), (4, _), (0, _), (1, _), (2, _), (3, _)]) hx hb dX0_cellsOf_51 hl (by decide) rfl (fun ls hl => ?_)
  have loop53 : ∀ (n : Nat) (k : Nat) (H : Heap) (locs : List Loc) (ls : Array Slot), w + 1 ≤ n + k → k ≤ w → nOk G nCl ad2 (va_up c0 la (some (.inl (G.1.1 100, w, .inl (pTk k (fun j => f (ii + j)) pZ))))) H → nS G s H locs → lv_has ls 8 [(0, .ref (ad2 ri)), (1, .int (nI q)), (2, .int (nI ii)), (6, .ref (ad2 la)), (7, .int (nI k))] → W p l e (sR 1 2 130) s m ([.ref (ad ri), .int (nI q), .int (nI ii), .int (nI w)] : List Value).toArray below meth c H locs (0 + 1 + 0 + 1) (0 + w + 0 + w) (MQ below (nQ G nCl (fun rv ad' c' => ∃ p : Nat, rv = some (.ref p) ∧ va_up ad la p = ad' ∧ va_up c0 la (some (.inl (G.1.1 100, w, .inl (fun j => f (ii + j))))) = c')) ([.ref (ad ri), .int (nI q), .int (nI ii), .int (nI w)] : List Value).toArray s 2 130 (fun q => G.2 ≤ q)) (F0 m 53 ls []) := by
    intro n
    induction n with
    | zero => intro k H locs ls hfuel hk hN hS hl; exact absurd hfuel (by omega)
    | succ n ih53 =>
      intro k H locs ls hfuel hk hN hS hl
      have hLa : (va_up c0 la (some (.inl (G.1.1 100, w, .inl (pTk k (fun j => f (ii + j)) pZ))))) la = _ := va_up_self _ _ _
      have hE2 : (va_up c0 la (some (.inl (G.1.1 100, w, .inl (pTk k (fun j => f (ii + j)) pZ))))) ri = _ := (va_up_ne _ _ (Ne.symm hla)).trans hE
      refine lv_iload hx hb dX0_cellsOf_53 (lv_at hl 4 rfl) ?_
      refine lv_aload hx hb dX0_cellsOf_55 (lv_at hl 3 rfl) ?_
      refine n_alen hx hb hKv hN (la) 0 hLa rfl dX0_cellsOf_57 ?_
      refine lv_icmp_ge (tgt := 81) hx hb dX0_cellsOf_58 (by decide) (fun c58 => ?_) (fun c58 => ?_)
      · have c58 : w ≤ k := (nI_leI (by omega) (by omega)).mp c58
        have ek : k = w := by omega
        have hN : nOk G nCl ad2 (va_up c0 la (some (.inl (G.1.1 100, w, .inl (fun j => f (ii + j)))))) H := x_ext hN (fun j hj => if_pos (by omega))
        refine lv_aload hx hb dX0_cellsOf_81 (lv_at hl 3 rfl) ?_
        refine W.widen (k := 2) (n := 130) (by first | omega | decide | (show 0 + w + 0 + w ≤ 130; omega) | (show 0 + w + 0 + w + 0 ≤ 130; omega)) (by first | omega | decide | (show 0 + w + 0 + w ≤ 130; omega) | (show 0 + w + 0 + w + 0 ≤ 130; omega)) ?_
        exact W.aret hx hb hr (Or.inr ⟨_, rfl⟩) (Or.inr ⟨_, rfl⟩) (nEnd hN hS ⟨_, rfl, by rw [hq2, e2], rfl⟩) hS.2 dX0_cellsOf_83
      · have c58 : k < w := by have := mt (nI_leI (a := w) (b := k) (by omega) (by omega)).mpr c58; omega
        refine lv_aload hx hb dX0_cellsOf_61 (lv_at hl 3 rfl) ?_
        refine lv_iload hx hb dX0_cellsOf_63 (lv_at hl 4 rfl) ?_
        refine lv_aload_n hx hb dX0_cellsOf_65 rfl (lv_at hl 0 rfl) ?_
        refine lv_iload_n hx hb dX0_cellsOf_66 rfl (lv_at hl 1 rfl) ?_
        refine lv_iload_n hx hb dX0_cellsOf_67 rfl (lv_at hl 2 rfl) ?_
        refine lv_iload hx hb dX0_cellsOf_68 (lv_at hl 4 rfl) ?_
        refine lv_iadd hx hb dX0_cellsOf_70 ?_
        refine n_top (y := nI (ii + k)) (nI_add ii k) ?_
        refine n_callSh (As := [_, _, _]) SS hKo hK (sX0_cellOf l G K hKo hK0 ad2 _ ri q L f hq hL hE2 (ii + k) (by omega)) (va_cwS 3 hts (lw_S q640 q641 q57 q642) rfl rfl rfl (by decide +kernel) ⟨Nat.le_of_ble_eq_true rfl, Nat.le_of_ble_eq_true rfl⟩) hN hS rfl hl.1 rfl (Nat.le_of_ble_eq_true rfl) dX0_cellsOf_71 ⟨Nat.le_of_ble_eq_true rfl, by show 0 + w + 0 + w + 0 ≤ 130; omega⟩ ?_
        refine n_iast hx hb hKv hN hS (la) 0 hLa rfl (k) (rfl) (by omega) (by omega) dX0_cellsOf_74 (fun H locs hN hS => ?_)
        have hN : nOk G nCl ad2 (va_up c0 la (some (.inl (G.1.1 100, w, .inl (pTk (k + 1) (fun j => f (ii + j)) pZ))))) H := hN.congr (by rw [va_up_up, pTk_s])
        refine lv_iinc (v := nI (k + 1)) (lv' := [(7, _), (0, _), (1, _), (2, _), (6, _)]) hx hb dX0_cellsOf_75 hl (k := 4) rfl (nI_inc k) (by decide) rfl (fun ls hl => ?_)
        refine lv_goto (tgt := 53) hx hb dX0_cellsOf_78 (by decide) ?_
        exact ih53 (k + 1) _ _ _ (by omega) (by omega) hN hS (lv_sub hl [1, 2, 3, 4, 0] (rfl))
  exact loop53 (w + 1) 0 _ _ _ (by omega) (by omega) hN hS (lv_sub hl [4, 5, 6, 1, 0] rfl)
