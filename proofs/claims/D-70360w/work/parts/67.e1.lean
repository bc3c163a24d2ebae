/-! SYSTEM: sheets' leaves: printed by wip/gen/e1.py -/
theorem x_ncB {G : nG} {s : State} (hX : xK G s) {q : Nat} (hq : q < 3) (h : q ≠ 0) : va_Nc (sNm q) "[B" s := by
  have := x_rowNc hX hq (show 0 < 3 by decide) h
  rwa [show sNm 0 = "[B" by decide] at this
theorem x_ncS {G : nG} {s : State} (hX : xK G s) {q : Nat} (hq : q < 3) (h : q ≠ 1) : va_Nc (sNm q) "[S" s := by
  have := x_rowNc hX hq (show 1 < 3 by decide) h
  rwa [show sNm 1 = "[S" by decide] at this
theorem x_ncI {G : nG} {s : State} (hX : xK G s) {q : Nat} (hq : q < 3) (h : q ≠ 2) : va_Nc (sNm q) "[I" s := by
  have := x_rowNc hX hq (show 2 < 3 by decide) h
  rwa [show sNm 2 = "[I" by decide] at this
theorem x_narb (w : Int32) : narrow .byte (.int w.toInt8.toInt32) = .int (sNar (nI 0) w) := by
  show Value.int _ = _
  rw [show w.toInt8.toInt32.toInt8 = w.toInt8 by simp]; rfl
theorem x_nars (w : Int32) : narrow .short (.int w.toInt16.toInt32) = .int (sNar (nI 1) w) := by
  show Value.int _ = _
  rw [show w.toInt16.toInt32.toInt16 = w.toInt16 by simp]; rfl
set_option maxHeartbeats 1000000 in
set_option maxRecDepth 100000 in
theorem sX0_cellOf (l : Launch) (G : nG) (K : State → Prop) (hKo : nKo G K) (hK0 : ∀ U, K U → sK0 G U) (ad : Nat → Nat) (c0 : nPic) (ri q L : Nat) (f : AI) (hq : q < 3) (hL : L ≤ 60) (hE : c0 ri = some (rowE G q L f)) (i : Nat) (hi : i < L) : Met l yX0_cellOf (ws_ yX0_cellOf cX0_cellOf 3 (some .int)) (sR 0 0 0) (nPc G nCl K ad c0 [.ref (ad ri), .int (nI q), .int (nI i)]) (nQh (.int (f i))) 0 0 (fun _ => False) := by
  refine nMeth RX0 (by decide) rfl (Nat.le_of_ble_eq_true rfl) ?_
  intro p e s m below meth c ls SS hR hK hN hS hl
  obtain ⟨hx, hb, hml, hown, hts⟩ := id SS
  obtain ⟨hr, hlk, hnm⟩ := hR
  obtain ⟨hKv, hKw, hKf, hKz, hKm⟩ := hK0 s hK
  have hl : lv_has ls 3 [(0, .ref (ad ri)), (1, .int (nI q)), (2, .int (nI i))] := hl
  rcases (show q = 0 ∨ q = 1 ∨ q = 2 by omega) with z | z | z
  · subst z
    have hE : c0 ri = some (.inl (G.1.1 101, L, .inl f)) := hE
    refine lv_iload_n hx hb dX0_cellOf_0 rfl (lv_at hl 1 rfl) ?_
    refine lv_if_ne (tgt := 13) hx hb dX0_cellOf_1 (by decide) (fun c1 => absurd c1 (fun z => z rfl)) (fun c1 => ?_)
    refine lv_aload_n hx hb dX0_cellOf_4 rfl (lv_at hl 0 rfl) ?_
    refine va_castA hx hb hown (hts _ q615) (hN.P1 hE) 0 rfl (hKv.2 1 _ rfl).2 dX0_cellOf_5 ?_
    refine lv_iload_n hx hb dX0_cellOf_8 rfl (lv_at hl 2 rfl) ?_
    refine n_bald hx hb hKv hN (ri) 1 hE rfl (i) (rfl) (by omega) (by omega) dX0_cellOf_9 ?_
    refine lv_goto (tgt := 33) hx hb dX0_cellOf_10 (by decide) ?_
    exact W.iret hx hb hr (fun t ht _ => ⟨rfl, ht⟩) (fun q h => by cases h) dX0_cellOf_33
  · subst z
    have hE : c0 ri = some (.inl (G.1.1 102, L, .inl f)) := hE
    refine lv_iload_n hx hb dX0_cellOf_0 rfl (lv_at hl 1 rfl) ?_
    refine lv_if_ne (tgt := 13) hx hb dX0_cellOf_1 (by decide) (fun c1 => ?_) (fun c1 => absurd c1 (by decide))
    refine lv_iload_n hx hb dX0_cellOf_13 rfl (lv_at hl 1 rfl) ?_
    refine lv_iconst (v := 1) hx hb dX0_cellOf_14 (by decide) ?_
    refine lv_icmp_ne (tgt := 27) hx hb dX0_cellOf_15 (by decide) (fun c15 => absurd c15 (fun z => z rfl)) (fun c15 => ?_)
    refine lv_aload_n hx hb dX0_cellOf_18 rfl (lv_at hl 0 rfl) ?_
    refine va_castA hx hb hown (hts _ q616) (hN.P1 hE) 0 rfl (hKv.2 2 _ rfl).2 dX0_cellOf_19 ?_
    refine lv_iload_n hx hb dX0_cellOf_22 rfl (lv_at hl 2 rfl) ?_
    refine n_sald hx hb hKv hN (ri) 2 hE rfl (i) (rfl) (by omega) (by omega) dX0_cellOf_23 ?_
    refine lv_goto (tgt := 33) hx hb dX0_cellOf_24 (by decide) ?_
    exact W.iret hx hb hr (fun t ht _ => ⟨rfl, ht⟩) (fun q h => by cases h) dX0_cellOf_33
  · subst z
    have hE : c0 ri = some (.inl (G.1.1 100, L, .inl f)) := hE
    refine lv_iload_n hx hb dX0_cellOf_0 rfl (lv_at hl 1 rfl) ?_
    refine lv_if_ne (tgt := 13) hx hb dX0_cellOf_1 (by decide) (fun c1 => ?_) (fun c1 => absurd c1 (by decide))
    refine lv_iload_n hx hb dX0_cellOf_13 rfl (lv_at hl 1 rfl) ?_
    refine lv_iconst (v := 1) hx hb dX0_cellOf_14 (by decide) ?_
    refine lv_icmp_ne (tgt := 27) hx hb dX0_cellOf_15 (by decide) (fun c15 => ?_) (fun c15 => absurd c15 (by decide))
    refine lv_aload_n hx hb dX0_cellOf_27 rfl (lv_at hl 0 rfl) ?_
    refine va_castA hx hb hown (hts _ q617) (hN.P1 hE) 0 rfl (hKv.2 0 _ rfl).2 dX0_cellOf_28 ?_
    refine lv_iload_n hx hb dX0_cellOf_31 rfl (lv_at hl 2 rfl) ?_
    refine n_iald hx hb hKv hN (ri) 0 hE rfl (i) (rfl) (by omega) (by omega) dX0_cellOf_32 ?_
    exact W.iret hx hb hr (fun t ht _ => ⟨rfl, ht⟩) (fun q h => by cases h) dX0_cellOf_33
set_option maxHeartbeats 1000000 in
set_option maxRecDepth 100000 in
theorem sX0_cellOfN (l : Launch) (G : nG) (K : State → Prop) (hKo : nKo G K) (hK0 : ∀ U, K U → sK0 G U) (hKx : ∀ U, K U → xK G U) (hfl : l.stackTraces = false) (ad : Nat → Nat) (c0 : nPic) (q : Nat) (hq : q < 3) (i : Int32) : MetT l yX0_cellOf (ws_ yX0_cellOf cX0_cellOf 3 (some .int)) (sR 0 3 1910) (nPc G nCl K ad c0 [.null, .int (nI q), .int i]) (xQ "java/lang/NullPointerException" G nCl ad c0) 3 1910 (fun q => G.2 ≤ q) := by
  refine nMetT RX0 (by decide) rfl (Nat.le_of_ble_eq_true rfl) ?_
  intro p e s m below meth c ls SS hR hxt hadm hK hN hS hl
  obtain ⟨hx, hb, hml, hown, hts⟩ := id SS
  obtain ⟨hr, hlk, hnm⟩ := hR
  have hX := hKx s hK
  obtain ⟨hKv, hKw, hKf, hKz, hKm⟩ := hK0 s hK
  have hl : lv_has ls 3 [(0, .null), (1, .int (nI q)), (2, .int i)] := hl
  rcases (show q = 0 ∨ q = 1 ∨ q = 2 by omega) with z | z | z
  · subst z
    refine lv_iload_n hx hb dX0_cellOf_0 rfl (lv_at hl 1 rfl) ?_
    refine lv_if_ne (tgt := 13) hx hb dX0_cellOf_1 (by decide) (fun c1 => absurd c1 (fun z => z rfl)) (fun c1 => ?_)
    refine lv_aload_nN hx hb dX0_cellOf_4 rfl (lv_at hl 0 rfl) ?_
    refine x_castN hx hb dX0_cellOf_5 ?_
    refine lv_iload_n hx hb dX0_cellOf_8 rfl (lv_at hl 2 rfl) ?_
    exact x_npe hx hfl hlk (hxt _) (hl.1.trans hml.symm) (x_aNPE hts hKw hX.1 hX.2.1) hN (by decide) (by decide) (by decide) (Nat.le_of_ble_eq_true rfl) (Nat.le_of_ble_eq_true rfl) (Nat.le_of_ble_eq_true rfl) (Nat.le_of_ble_eq_true rfl) (fun T hT X => ⟨T.vm, X, fun target h => X.baloadNull hx rfl rfl (by rw [hb]; exact dX0_cellOf_9) target h⟩)
  · subst z
    refine lv_iload_n hx hb dX0_cellOf_0 rfl (lv_at hl 1 rfl) ?_
    refine lv_if_ne (tgt := 13) hx hb dX0_cellOf_1 (by decide) (fun c1 => ?_) (fun c1 => absurd c1 (by decide))
    refine lv_iload_n hx hb dX0_cellOf_13 rfl (lv_at hl 1 rfl) ?_
    refine lv_iconst (v := 1) hx hb dX0_cellOf_14 (by decide) ?_
    refine lv_icmp_ne (tgt := 27) hx hb dX0_cellOf_15 (by decide) (fun c15 => absurd c15 (fun z => z rfl)) (fun c15 => ?_)
    refine lv_aload_nN hx hb dX0_cellOf_18 rfl (lv_at hl 0 rfl) ?_
    refine x_castN hx hb dX0_cellOf_19 ?_
    refine lv_iload_n hx hb dX0_cellOf_22 rfl (lv_at hl 2 rfl) ?_
    exact x_npe hx hfl hlk (hxt _) (hl.1.trans hml.symm) (x_aNPE hts hKw hX.1 hX.2.1) hN (by decide) (by decide) (by decide) (Nat.le_of_ble_eq_true rfl) (Nat.le_of_ble_eq_true rfl) (Nat.le_of_ble_eq_true rfl) (Nat.le_of_ble_eq_true rfl) (fun T hT X => ⟨T.vm, X, fun target h => X.saloadNull hx rfl rfl (by rw [hb]; exact dX0_cellOf_23) target h⟩)
  · subst z
    refine lv_iload_n hx hb dX0_cellOf_0 rfl (lv_at hl 1 rfl) ?_
    refine lv_if_ne (tgt := 13) hx hb dX0_cellOf_1 (by decide) (fun c1 => ?_) (fun c1 => absurd c1 (by decide))
    refine lv_iload_n hx hb dX0_cellOf_13 rfl (lv_at hl 1 rfl) ?_
    refine lv_iconst (v := 1) hx hb dX0_cellOf_14 (by decide) ?_
    refine lv_icmp_ne (tgt := 27) hx hb dX0_cellOf_15 (by decide) (fun c15 => ?_) (fun c15 => absurd c15 (by decide))
    refine lv_aload_nN hx hb dX0_cellOf_27 rfl (lv_at hl 0 rfl) ?_
    refine x_castN hx hb dX0_cellOf_28 ?_
    refine lv_iload_n hx hb dX0_cellOf_31 rfl (lv_at hl 2 rfl) ?_
    exact x_npe hx hfl hlk (hxt _) (hl.1.trans hml.symm) (x_aNPE hts hKw hX.1 hX.2.1) hN (by decide) (by decide) (by decide) (Nat.le_of_ble_eq_true rfl) (Nat.le_of_ble_eq_true rfl) (Nat.le_of_ble_eq_true rfl) (Nat.le_of_ble_eq_true rfl) (fun T hT X => ⟨T.vm, X, fun target h => X.ialoadNull hx rfl rfl (by rw [hb]; exact dX0_cellOf_32) target h⟩)
set_option maxHeartbeats 1000000 in
set_option maxRecDepth 100000 in
theorem sX0_cellOfC (l : Launch) (G : nG) (K : State → Prop) (hKo : nKo G K) (hK0 : ∀ U, K U → sK0 G U) (hKx : ∀ U, K U → xK G U) (hfl : l.stackTraces = false) (ad : Nat → Nat) (c0 : nPic) (ri q q2 L : Nat) (f : AI) (hq : q < 3) (hq2 : q2 < 3) (hne : q2 ≠ q) (hE : c0 ri = some (rowE G q2 L f)) (i : Int32) : MetT l yX0_cellOf (ws_ yX0_cellOf cX0_cellOf 3 (some .int)) (sR 0 3 1910) (nPc G nCl K ad c0 [.ref (ad ri), .int (nI q), .int i]) (xQ "java/lang/ClassCastException" G nCl ad c0) 3 1910 (fun q => G.2 ≤ q) := by
  refine nMetT RX0 (by decide) rfl (Nat.le_of_ble_eq_true rfl) ?_
  intro p e s m below meth c ls SS hR hxt hadm hK hN hS hl
  obtain ⟨hx, hb, hml, hown, hts⟩ := id SS
  obtain ⟨hr, hlk, hnm⟩ := hR
  have hX := hKx s hK
  obtain ⟨hKv, hKw, hKf, hKz, hKm⟩ := hK0 s hK
  have hl : lv_has ls 3 [(0, .ref (ad ri)), (1, .int (nI q)), (2, .int i)] := hl
  rcases (show q = 0 ∨ q = 1 ∨ q = 2 by omega) with z | z | z
  · subst z
    refine lv_iload_n hx hb dX0_cellOf_0 rfl (lv_at hl 1 rfl) ?_
    refine lv_if_ne (tgt := 13) hx hb dX0_cellOf_1 (by decide) (fun c1 => absurd c1 (fun z => z rfl)) (fun c1 => ?_)
    refine lv_aload_n hx hb dX0_cellOf_4 rfl (lv_at hl 0 rfl) ?_
    exact x_msg (nm := "java/lang/ClassCastException") (names := ["java/lang/RuntimeException", "java/lang/Exception"]) hx hfl hlk (hxt _) (hl.1.trans hml.symm) (by decide +kernel) (by decide +kernel) (by first | decide | exact Nat.le_of_ble_eq_true rfl) (by first | decide | exact Nat.le_of_ble_eq_true rfl) (x_aCCE hts hKw hX.1 hX.2.1) hN (by decide) (by first | decide | exact Nat.le_of_ble_eq_true rfl) (by first | decide | exact Nat.le_of_ble_eq_true rfl) (by first | decide | exact Nat.le_of_ble_eq_true rfl) (Nat.le_of_ble_eq_true rfl) (Nat.le_of_ble_eq_true rfl) (Nat.le_of_ble_eq_true rfl) (Nat.le_of_ble_eq_true rfl) (fun T hT X => x_castS X hx hb hown (hts _ q615) hT (x_arr hKv hN hE (x_rowNm hKv hq2)) (x_ncB hX hq2 hne) hX.2.2.1 (x_shq hq2) x_shB dX0_cellOf_5)
  · subst z
    refine lv_iload_n hx hb dX0_cellOf_0 rfl (lv_at hl 1 rfl) ?_
    refine lv_if_ne (tgt := 13) hx hb dX0_cellOf_1 (by decide) (fun c1 => ?_) (fun c1 => absurd c1 (by decide))
    refine lv_iload_n hx hb dX0_cellOf_13 rfl (lv_at hl 1 rfl) ?_
    refine lv_iconst (v := 1) hx hb dX0_cellOf_14 (by decide) ?_
    refine lv_icmp_ne (tgt := 27) hx hb dX0_cellOf_15 (by decide) (fun c15 => absurd c15 (fun z => z rfl)) (fun c15 => ?_)
    refine lv_aload_n hx hb dX0_cellOf_18 rfl (lv_at hl 0 rfl) ?_
    exact x_msg (nm := "java/lang/ClassCastException") (names := ["java/lang/RuntimeException", "java/lang/Exception"]) hx hfl hlk (hxt _) (hl.1.trans hml.symm) (by decide +kernel) (by decide +kernel) (by first | decide | exact Nat.le_of_ble_eq_true rfl) (by first | decide | exact Nat.le_of_ble_eq_true rfl) (x_aCCE hts hKw hX.1 hX.2.1) hN (by decide) (by first | decide | exact Nat.le_of_ble_eq_true rfl) (by first | decide | exact Nat.le_of_ble_eq_true rfl) (by first | decide | exact Nat.le_of_ble_eq_true rfl) (Nat.le_of_ble_eq_true rfl) (Nat.le_of_ble_eq_true rfl) (Nat.le_of_ble_eq_true rfl) (Nat.le_of_ble_eq_true rfl) (fun T hT X => x_castS X hx hb hown (hts _ q616) hT (x_arr hKv hN hE (x_rowNm hKv hq2)) (x_ncS hX hq2 hne) hX.2.2.1 (x_shq hq2) x_shS dX0_cellOf_19)
  · subst z
    refine lv_iload_n hx hb dX0_cellOf_0 rfl (lv_at hl 1 rfl) ?_
    refine lv_if_ne (tgt := 13) hx hb dX0_cellOf_1 (by decide) (fun c1 => ?_) (fun c1 => absurd c1 (by decide))
    refine lv_iload_n hx hb dX0_cellOf_13 rfl (lv_at hl 1 rfl) ?_
    refine lv_iconst (v := 1) hx hb dX0_cellOf_14 (by decide) ?_
    refine lv_icmp_ne (tgt := 27) hx hb dX0_cellOf_15 (by decide) (fun c15 => ?_) (fun c15 => absurd c15 (by decide))
    refine lv_aload_n hx hb dX0_cellOf_27 rfl (lv_at hl 0 rfl) ?_
    exact x_msg (nm := "java/lang/ClassCastException") (names := ["java/lang/RuntimeException", "java/lang/Exception"]) hx hfl hlk (hxt _) (hl.1.trans hml.symm) (by decide +kernel) (by decide +kernel) (by first | decide | exact Nat.le_of_ble_eq_true rfl) (by first | decide | exact Nat.le_of_ble_eq_true rfl) (x_aCCE hts hKw hX.1 hX.2.1) hN (by decide) (by first | decide | exact Nat.le_of_ble_eq_true rfl) (by first | decide | exact Nat.le_of_ble_eq_true rfl) (by first | decide | exact Nat.le_of_ble_eq_true rfl) (Nat.le_of_ble_eq_true rfl) (Nat.le_of_ble_eq_true rfl) (Nat.le_of_ble_eq_true rfl) (Nat.le_of_ble_eq_true rfl) (fun T hT X => x_castS X hx hb hown (hts _ q617) hT (x_arr hKv hN hE (x_rowNm hKv hq2)) (x_ncI hX hq2 hne) hX.2.2.1 (x_shq hq2) x_shI dX0_cellOf_28)
set_option maxHeartbeats 1000000 in
set_option maxRecDepth 100000 in
theorem sX0_cellOfX (l : Launch) (G : nG) (K : State → Prop) (hKo : nKo G K) (hK0 : ∀ U, K U → sK0 G U) (hKx : ∀ U, K U → xK G U) (hfl : l.stackTraces = false) (ad : Nat → Nat) (c0 : nPic) (ri q L : Nat) (f : AI) (hq : q < 3) (hL : L ≤ 60) (hE : c0 ri = some (rowE G q L f)) (i : Int32) (hi : i < 0 ∨ nI L ≤ i) : MetT l yX0_cellOf (ws_ yX0_cellOf cX0_cellOf 3 (some .int)) (sR 0 3 1910) (nPc G nCl K ad c0 [.ref (ad ri), .int (nI q), .int i]) (xQ "java/lang/ArrayIndexOutOfBoundsException" G nCl ad c0) 3 1910 (fun q => G.2 ≤ q) := by
  refine nMetT RX0 (by decide) rfl (Nat.le_of_ble_eq_true rfl) ?_
  intro p e s m below meth c ls SS hR hxt hadm hK hN hS hl
  obtain ⟨hx, hb, hml, hown, hts⟩ := id SS
  obtain ⟨hr, hlk, hnm⟩ := hR
  have hX := hKx s hK
  obtain ⟨hKv, hKw, hKf, hKz, hKm⟩ := hK0 s hK
  have hl : lv_has ls 3 [(0, .ref (ad ri)), (1, .int (nI q)), (2, .int i)] := hl
  rcases (show q = 0 ∨ q = 1 ∨ q = 2 by omega) with z | z | z
  · subst z
    have hE : c0 ri = some (.inl (G.1.1 101, L, .inl f)) := hE
    refine lv_iload_n hx hb dX0_cellOf_0 rfl (lv_at hl 1 rfl) ?_
    refine lv_if_ne (tgt := 13) hx hb dX0_cellOf_1 (by decide) (fun c1 => absurd c1 (fun z => z rfl)) (fun c1 => ?_)
    refine lv_aload_n hx hb dX0_cellOf_4 rfl (lv_at hl 0 rfl) ?_
    refine va_castA hx hb hown (hts _ q615) (hN.P1 hE) 0 rfl (hKv.2 1 _ rfl).2 dX0_cellOf_5 ?_
    refine lv_iload_n hx hb dX0_cellOf_8 rfl (lv_at hl 2 rfl) ?_
    obtain ⟨cell, w1, w2, w3⟩ := x_sz hKv hN hE (t0 := 1) rfl
    exact x_msg (nm := "java/lang/ArrayIndexOutOfBoundsException") (names := ["java/lang/IndexOutOfBoundsException", "java/lang/RuntimeException", "java/lang/Exception"]) hx hfl hlk (hxt _) (hl.1.trans hml.symm) (by decide +kernel) (by decide +kernel) (by first | decide | exact Nat.le_of_ble_eq_true rfl) (by first | decide | exact Nat.le_of_ble_eq_true rfl) (x_aAIO hts hKw hX.1 hX.2.1) hN (by decide) (by first | decide | exact Nat.le_of_ble_eq_true rfl) (by first | decide | exact Nat.le_of_ble_eq_true rfl) (by first | decide | exact Nat.le_of_ble_eq_true rfl) (Nat.le_of_ble_eq_true rfl) (Nat.le_of_ble_eq_true rfl) (Nat.le_of_ble_eq_true rfl) (Nat.le_of_ble_eq_true rfl) (fun T hT X => ⟨T.vm, xIdx i cell.slots.size, X, x_idx i (by omega), fun target h => X.baloadOut hx (by rw [hT]; exact w1) w2 (by rw [w3]; exact x_outN (by omega) hi) rfl rfl (by rw [hb]; exact dX0_cellOf_9) target h⟩)
  · subst z
    have hE : c0 ri = some (.inl (G.1.1 102, L, .inl f)) := hE
    refine lv_iload_n hx hb dX0_cellOf_0 rfl (lv_at hl 1 rfl) ?_
    refine lv_if_ne (tgt := 13) hx hb dX0_cellOf_1 (by decide) (fun c1 => ?_) (fun c1 => absurd c1 (by decide))
    refine lv_iload_n hx hb dX0_cellOf_13 rfl (lv_at hl 1 rfl) ?_
    refine lv_iconst (v := 1) hx hb dX0_cellOf_14 (by decide) ?_
    refine lv_icmp_ne (tgt := 27) hx hb dX0_cellOf_15 (by decide) (fun c15 => absurd c15 (fun z => z rfl)) (fun c15 => ?_)
    refine lv_aload_n hx hb dX0_cellOf_18 rfl (lv_at hl 0 rfl) ?_
    refine va_castA hx hb hown (hts _ q616) (hN.P1 hE) 0 rfl (hKv.2 2 _ rfl).2 dX0_cellOf_19 ?_
    refine lv_iload_n hx hb dX0_cellOf_22 rfl (lv_at hl 2 rfl) ?_
    obtain ⟨cell, w1, w2, w3⟩ := x_sz hKv hN hE (t0 := 2) rfl
    exact x_msg (nm := "java/lang/ArrayIndexOutOfBoundsException") (names := ["java/lang/IndexOutOfBoundsException", "java/lang/RuntimeException", "java/lang/Exception"]) hx hfl hlk (hxt _) (hl.1.trans hml.symm) (by decide +kernel) (by decide +kernel) (by first | decide | exact Nat.le_of_ble_eq_true rfl) (by first | decide | exact Nat.le_of_ble_eq_true rfl) (x_aAIO hts hKw hX.1 hX.2.1) hN (by decide) (by first | decide | exact Nat.le_of_ble_eq_true rfl) (by first | decide | exact Nat.le_of_ble_eq_true rfl) (by first | decide | exact Nat.le_of_ble_eq_true rfl) (Nat.le_of_ble_eq_true rfl) (Nat.le_of_ble_eq_true rfl) (Nat.le_of_ble_eq_true rfl) (Nat.le_of_ble_eq_true rfl) (fun T hT X => ⟨T.vm, xIdx i cell.slots.size, X, x_idx i (by omega), fun target h => X.saloadOut hx (by rw [hT]; exact w1) w2 (by rw [w3]; exact x_outN (by omega) hi) rfl rfl (by rw [hb]; exact dX0_cellOf_23) target h⟩)
  · subst z
    have hE : c0 ri = some (.inl (G.1.1 100, L, .inl f)) := hE
    refine lv_iload_n hx hb dX0_cellOf_0 rfl (lv_at hl 1 rfl) ?_
    refine lv_if_ne (tgt := 13) hx hb dX0_cellOf_1 (by decide) (fun c1 => ?_) (fun c1 => absurd c1 (by decide))
    refine lv_iload_n hx hb dX0_cellOf_13 rfl (lv_at hl 1 rfl) ?_
    refine lv_iconst (v := 1) hx hb dX0_cellOf_14 (by decide) ?_
    refine lv_icmp_ne (tgt := 27) hx hb dX0_cellOf_15 (by decide) (fun c15 => ?_) (fun c15 => absurd c15 (by decide))
    refine lv_aload_n hx hb dX0_cellOf_27 rfl (lv_at hl 0 rfl) ?_
    refine va_castA hx hb hown (hts _ q617) (hN.P1 hE) 0 rfl (hKv.2 0 _ rfl).2 dX0_cellOf_28 ?_
    refine lv_iload_n hx hb dX0_cellOf_31 rfl (lv_at hl 2 rfl) ?_
    obtain ⟨cell, w1, w2, w3⟩ := x_sz hKv hN hE (t0 := 0) rfl
    exact x_msg (nm := "java/lang/ArrayIndexOutOfBoundsException") (names := ["java/lang/IndexOutOfBoundsException", "java/lang/RuntimeException", "java/lang/Exception"]) hx hfl hlk (hxt _) (hl.1.trans hml.symm) (by decide +kernel) (by decide +kernel) (by first | decide | exact Nat.le_of_ble_eq_true rfl) (by first | decide | exact Nat.le_of_ble_eq_true rfl) (x_aAIO hts hKw hX.1 hX.2.1) hN (by decide) (by first | decide | exact Nat.le_of_ble_eq_true rfl) (by first | decide | exact Nat.le_of_ble_eq_true rfl) (by first | decide | exact Nat.le_of_ble_eq_true rfl) (Nat.le_of_ble_eq_true rfl) (Nat.le_of_ble_eq_true rfl) (Nat.le_of_ble_eq_true rfl) (Nat.le_of_ble_eq_true rfl) (fun T hT X => ⟨T.vm, xIdx i cell.slots.size, X, x_idx i (by omega), fun target h => X.ialoadOut hx (by rw [hT]; exact w1) w2 (by rw [w3]; exact x_outN (by omega) hi) rfl rfl (by rw [hb]; exact dX0_cellOf_32) target h⟩)
set_option maxHeartbeats 1000000 in
set_option maxRecDepth 100000 in
theorem sX0_sizeOf (l : Launch) (G : nG) (K : State → Prop) (hKo : nKo G K) (hK0 : ∀ U, K U → sK0 G U) (ad : Nat → Nat) (c0 : nPic) (ri q L : Nat) (f : AI) (hq : q < 3) (hL : L ≤ 60) (hE : c0 ri = some (rowE G q L f)) : Met l yX0_sizeOf (ws_ yX0_sizeOf cX0_sizeOf 2 (some .int)) (sR 0 0 0) (nPc G nCl K ad c0 [.ref (ad ri), .int (nI q)]) (nQh (.int (nI L))) 0 0 (fun _ => False) := by
  refine nMeth RX0 (by decide) rfl (Nat.le_of_ble_eq_true rfl) ?_
  intro p e s m below meth c ls SS hR hK hN hS hl
  obtain ⟨hx, hb, hml, hown, hts⟩ := id SS
  obtain ⟨hr, hlk, hnm⟩ := hR
  obtain ⟨hKv, hKw, hKf, hKz, hKm⟩ := hK0 s hK
  have hl : lv_has ls 2 [(0, .ref (ad ri)), (1, .int (nI q))] := hl
  rcases (show q = 0 ∨ q = 1 ∨ q = 2 by omega) with z | z | z
  · subst z
    have hE : c0 ri = some (.inl (G.1.1 101, L, .inl f)) := hE
    refine lv_iload_n hx hb dX0_sizeOf_0 rfl (lv_at hl 1 rfl) ?_
    refine lv_if_ne (tgt := 12) hx hb dX0_sizeOf_1 (by decide) (fun c1 => absurd c1 (fun z => z rfl)) (fun c1 => ?_)
    refine lv_aload_n hx hb dX0_sizeOf_4 rfl (lv_at hl 0 rfl) ?_
    refine va_castA hx hb hown (hts _ q615) (hN.P1 hE) 0 rfl (hKv.2 1 _ rfl).2 dX0_sizeOf_5 ?_
    refine n_alen hx hb hKv hN (ri) 1 hE rfl dX0_sizeOf_8 ?_
    refine lv_goto (tgt := 30) hx hb dX0_sizeOf_9 (by decide) ?_
    exact W.iret hx hb hr (fun t ht _ => ⟨rfl, ht⟩) (fun q h => by cases h) dX0_sizeOf_30
  · subst z
    have hE : c0 ri = some (.inl (G.1.1 102, L, .inl f)) := hE
    refine lv_iload_n hx hb dX0_sizeOf_0 rfl (lv_at hl 1 rfl) ?_
    refine lv_if_ne (tgt := 12) hx hb dX0_sizeOf_1 (by decide) (fun c1 => ?_) (fun c1 => absurd c1 (by decide))
    refine lv_iload_n hx hb dX0_sizeOf_12 rfl (lv_at hl 1 rfl) ?_
    refine lv_iconst (v := 1) hx hb dX0_sizeOf_13 (by decide) ?_
    refine lv_icmp_ne (tgt := 25) hx hb dX0_sizeOf_14 (by decide) (fun c14 => absurd c14 (fun z => z rfl)) (fun c14 => ?_)
    refine lv_aload_n hx hb dX0_sizeOf_17 rfl (lv_at hl 0 rfl) ?_
    refine va_castA hx hb hown (hts _ q616) (hN.P1 hE) 0 rfl (hKv.2 2 _ rfl).2 dX0_sizeOf_18 ?_
    refine n_alen hx hb hKv hN (ri) 2 hE rfl dX0_sizeOf_21 ?_
    refine lv_goto (tgt := 30) hx hb dX0_sizeOf_22 (by decide) ?_
    exact W.iret hx hb hr (fun t ht _ => ⟨rfl, ht⟩) (fun q h => by cases h) dX0_sizeOf_30
  · subst z
    have hE : c0 ri = some (.inl (G.1.1 100, L, .inl f)) := hE
    refine lv_iload_n hx hb dX0_sizeOf_0 rfl (lv_at hl 1 rfl) ?_
    refine lv_if_ne (tgt := 12) hx hb dX0_sizeOf_1 (by decide) (fun c1 => ?_) (fun c1 => absurd c1 (by decide))
    refine lv_iload_n hx hb dX0_sizeOf_12 rfl (lv_at hl 1 rfl) ?_
    refine lv_iconst (v := 1) hx hb dX0_sizeOf_13 (by decide) ?_
    refine lv_icmp_ne (tgt := 25) hx hb dX0_sizeOf_14 (by decide) (fun c14 => ?_) (fun c14 => absurd c14 (by decide))
    refine lv_aload_n hx hb dX0_sizeOf_25 rfl (lv_at hl 0 rfl) ?_
    refine va_castA hx hb hown (hts _ q617) (hN.P1 hE) 0 rfl (hKv.2 0 _ rfl).2 dX0_sizeOf_26 ?_
    refine n_alen hx hb hKv hN (ri) 0 hE rfl dX0_sizeOf_29 ?_
    exact W.iret hx hb hr (fun t ht _ => ⟨rfl, ht⟩) (fun q h => by cases h) dX0_sizeOf_30
set_option maxHeartbeats 1000000 in
set_option maxRecDepth 100000 in
theorem sX0_sizeOfN (l : Launch) (G : nG) (K : State → Prop) (hKo : nKo G K) (hK0 : ∀ U, K U → sK0 G U) (hKx : ∀ U, K U → xK G U) (hfl : l.stackTraces = false) (ad : Nat → Nat) (c0 : nPic) (q : Nat) (hq : q < 3) : MetT l yX0_sizeOf (ws_ yX0_sizeOf cX0_sizeOf 2 (some .int)) (sR 0 3 1910) (nPc G nCl K ad c0 [.null, .int (nI q)]) (xQ "java/lang/NullPointerException" G nCl ad c0) 3 1910 (fun q => G.2 ≤ q) := by
  refine nMetT RX0 (by decide) rfl (Nat.le_of_ble_eq_true rfl) ?_
  intro p e s m below meth c ls SS hR hxt hadm hK hN hS hl
  obtain ⟨hx, hb, hml, hown, hts⟩ := id SS
  obtain ⟨hr, hlk, hnm⟩ := hR
  have hX := hKx s hK
  obtain ⟨hKv, hKw, hKf, hKz, hKm⟩ := hK0 s hK
  have hl : lv_has ls 2 [(0, .null), (1, .int (nI q))] := hl
  rcases (show q = 0 ∨ q = 1 ∨ q = 2 by omega) with z | z | z
  · subst z
    refine lv_iload_n hx hb dX0_sizeOf_0 rfl (lv_at hl 1 rfl) ?_
    refine lv_if_ne (tgt := 12) hx hb dX0_sizeOf_1 (by decide) (fun c1 => absurd c1 (fun z => z rfl)) (fun c1 => ?_)
    refine lv_aload_nN hx hb dX0_sizeOf_4 rfl (lv_at hl 0 rfl) ?_
    refine x_castN hx hb dX0_sizeOf_5 ?_
    exact x_npe hx hfl hlk (hxt _) (hl.1.trans hml.symm) (x_aNPE hts hKw hX.1 hX.2.1) hN (by decide) (by decide) (by decide) (Nat.le_of_ble_eq_true rfl) (Nat.le_of_ble_eq_true rfl) (Nat.le_of_ble_eq_true rfl) (Nat.le_of_ble_eq_true rfl) (fun T hT X => ⟨T.vm, X, fun target h => X.arraylengthNull hx rfl rfl (by rw [hb]; exact dX0_sizeOf_8) target h⟩)
  · subst z
    refine lv_iload_n hx hb dX0_sizeOf_0 rfl (lv_at hl 1 rfl) ?_
    refine lv_if_ne (tgt := 12) hx hb dX0_sizeOf_1 (by decide) (fun c1 => ?_) (fun c1 => absurd c1 (by decide))
    refine lv_iload_n hx hb dX0_sizeOf_12 rfl (lv_at hl 1 rfl) ?_
    refine lv_iconst (v := 1) hx hb dX0_sizeOf_13 (by decide) ?_
    refine lv_icmp_ne (tgt := 25) hx hb dX0_sizeOf_14 (by decide) (fun c14 => absurd c14 (fun z => z rfl)) (fun c14 => ?_)
    refine lv_aload_nN hx hb dX0_sizeOf_17 rfl (lv_at hl 0 rfl) ?_
    refine x_castN hx hb dX0_sizeOf_18 ?_
    exact x_npe hx hfl hlk (hxt _) (hl.1.trans hml.symm) (x_aNPE hts hKw hX.1 hX.2.1) hN (by decide) (by decide) (by decide) (Nat.le_of_ble_eq_true rfl) (Nat.le_of_ble_eq_true rfl) (Nat.le_of_ble_eq_true rfl) (Nat.le_of_ble_eq_true rfl) (fun T hT X => ⟨T.vm, X, fun target h => X.arraylengthNull hx rfl rfl (by rw [hb]; exact dX0_sizeOf_21) target h⟩)
  · subst z
    refine lv_iload_n hx hb dX0_sizeOf_0 rfl (lv_at hl 1 rfl) ?_
    refine lv_if_ne (tgt := 12) hx hb dX0_sizeOf_1 (by decide) (fun c1 => ?_) (fun c1 => absurd c1 (by decide))
    refine lv_iload_n hx hb dX0_sizeOf_12 rfl (lv_at hl 1 rfl) ?_
    refine lv_iconst (v := 1) hx hb dX0_sizeOf_13 (by decide) ?_
    refine lv_icmp_ne (tgt := 25) hx hb dX0_sizeOf_14 (by decide) (fun c14 => ?_) (fun c14 => absurd c14 (by decide))
    refine lv_aload_nN hx hb dX0_sizeOf_25 rfl (lv_at hl 0 rfl) ?_
    refine x_castN hx hb dX0_sizeOf_26 ?_
    exact x_npe hx hfl hlk (hxt _) (hl.1.trans hml.symm) (x_aNPE hts hKw hX.1 hX.2.1) hN (by decide) (by decide) (by decide) (Nat.le_of_ble_eq_true rfl) (Nat.le_of_ble_eq_true rfl) (Nat.le_of_ble_eq_true rfl) (Nat.le_of_ble_eq_true rfl) (fun T hT X => ⟨T.vm, X, fun target h => X.arraylengthNull hx rfl rfl (by rw [hb]; exact dX0_sizeOf_29) target h⟩)
set_option maxHeartbeats 1000000 in
set_option maxRecDepth 100000 in
theorem sX0_sizeOfC (l : Launch) (G : nG) (K : State → Prop) (hKo : nKo G K) (hK0 : ∀ U, K U → sK0 G U) (hKx : ∀ U, K U → xK G U) (hfl : l.stackTraces = false) (ad : Nat → Nat) (c0 : nPic) (ri q q2 L : Nat) (f : AI) (hq : q < 3) (hq2 : q2 < 3) (hne : q2 ≠ q) (hE : c0 ri = some (rowE G q2 L f)) : MetT l yX0_sizeOf (ws_ yX0_sizeOf cX0_sizeOf 2 (some .int)) (sR 0 3 1910) (nPc G nCl K ad c0 [.ref (ad ri), .int (nI q)]) (xQ "java/lang/ClassCastException" G nCl ad c0) 3 1910 (fun q => G.2 ≤ q) := by
  refine nMetT RX0 (by decide) rfl (Nat.le_of_ble_eq_true rfl) ?_
  intro p e s m below meth c ls SS hR hxt hadm hK hN hS hl
  obtain ⟨hx, hb, hml, hown, hts⟩ := id SS
  obtain ⟨hr, hlk, hnm⟩ := hR
  have hX := hKx s hK
  obtain ⟨hKv, hKw, hKf, hKz, hKm⟩ := hK0 s hK
  have hl : lv_has ls 2 [(0, .ref (ad ri)), (1, .int (nI q))] := hl
  rcases (show q = 0 ∨ q = 1 ∨ q = 2 by omega) with z | z | z
  · subst z
    refine lv_iload_n hx hb dX0_sizeOf_0 rfl (lv_at hl 1 rfl) ?_
    refine lv_if_ne (tgt := 12) hx hb dX0_sizeOf_1 (by decide) (fun c1 => absurd c1 (fun z => z rfl)) (fun c1 => ?_)
    refine lv_aload_n hx hb dX0_sizeOf_4 rfl (lv_at hl 0 rfl) ?_
    exact x_msg (nm := "java/lang/ClassCastException") (names := ["java/lang/RuntimeException", "java/lang/Exception"]) hx hfl hlk (hxt _) (hl.1.trans hml.symm) (by decide +kernel) (by decide +kernel) (by first | decide | exact Nat.le_of_ble_eq_true rfl) (by first | decide | exact Nat.le_of_ble_eq_true rfl) (x_aCCE hts hKw hX.1 hX.2.1) hN (by decide) (by first | decide | exact Nat.le_of_ble_eq_true rfl) (by first | decide | exact Nat.le_of_ble_eq_true rfl) (by first | decide | exact Nat.le_of_ble_eq_true rfl) (Nat.le_of_ble_eq_true rfl) (Nat.le_of_ble_eq_true rfl) (Nat.le_of_ble_eq_true rfl) (Nat.le_of_ble_eq_true rfl) (fun T hT X => x_castS X hx hb hown (hts _ q615) hT (x_arr hKv hN hE (x_rowNm hKv hq2)) (x_ncB hX hq2 hne) hX.2.2.1 (x_shq hq2) x_shB dX0_sizeOf_5)
  · subst z
    refine lv_iload_n hx hb dX0_sizeOf_0 rfl (lv_at hl 1 rfl) ?_
    refine lv_if_ne (tgt := 12) hx hb dX0_sizeOf_1 (by decide) (fun c1 => ?_) (fun c1 => absurd c1 (by decide))
    refine lv_iload_n hx hb dX0_sizeOf_12 rfl (lv_at hl 1 rfl) ?_
    refine lv_iconst (v := 1) hx hb dX0_sizeOf_13 (by decide) ?_
    refine lv_icmp_ne (tgt := 25) hx hb dX0_sizeOf_14 (by decide) (fun c14 => absurd c14 (fun z => z rfl)) (fun c14 => ?_)
    refine lv_aload_n hx hb dX0_sizeOf_17 rfl (lv_at hl 0 rfl) ?_
    exact x_msg (nm := "java/lang/ClassCastException") (names := ["java/lang/RuntimeException", "java/lang/Exception"]) hx hfl hlk (hxt _) (hl.1.trans hml.symm) (by decide +kernel) (by decide +kernel) (by first | decide | exact Nat.le_of_ble_eq_true rfl) (by first | decide | exact Nat.le_of_ble_eq_true rfl) (x_aCCE hts hKw hX.1 hX.2.1) hN (by decide) (by first | decide | exact Nat.le_of_ble_eq_true rfl) (by first | decide | exact Nat.le_of_ble_eq_true rfl) (by first | decide | exact Nat.le_of_ble_eq_true rfl) (Nat.le_of_ble_eq_true rfl) (Nat.le_of_ble_eq_true rfl) (Nat.le_of_ble_eq_true rfl) (Nat.le_of_ble_eq_true rfl) (fun T hT X => x_castS X hx hb hown (hts _ q616) hT (x_arr hKv hN hE (x_rowNm hKv hq2)) (x_ncS hX hq2 hne) hX.2.2.1 (x_shq hq2) x_shS dX0_sizeOf_18)
  · subst z
    refine lv_iload_n hx hb dX0_sizeOf_0 rfl (lv_at hl 1 rfl) ?_
    refine lv_if_ne (tgt := 12) hx hb dX0_sizeOf_1 (by decide) (fun c1 => ?_) (fun c1 => absurd c1 (by decide))
    refine lv_iload_n hx hb dX0_sizeOf_12 rfl (lv_at hl 1 rfl) ?_
    refine lv_iconst (v := 1) hx hb dX0_sizeOf_13 (by decide) ?_
    refine lv_icmp_ne (tgt := 25) hx hb dX0_sizeOf_14 (by decide) (fun c14 => ?_) (fun c14 => absurd c14 (by decide))
    refine lv_aload_n hx hb dX0_sizeOf_25 rfl (lv_at hl 0 rfl) ?_
    exact x_msg (nm := "java/lang/ClassCastException") (names := ["java/lang/RuntimeException", "java/lang/Exception"]) hx hfl hlk (hxt _) (hl.1.trans hml.symm) (by decide +kernel) (by decide +kernel) (by first | decide | exact Nat.le_of_ble_eq_true rfl) (by first | decide | exact Nat.le_of_ble_eq_true rfl) (x_aCCE hts hKw hX.1 hX.2.1) hN (by decide) (by first | decide | exact Nat.le_of_ble_eq_true rfl) (by first | decide | exact Nat.le_of_ble_eq_true rfl) (by first | decide | exact Nat.le_of_ble_eq_true rfl) (Nat.le_of_ble_eq_true rfl) (Nat.le_of_ble_eq_true rfl) (Nat.le_of_ble_eq_true rfl) (Nat.le_of_ble_eq_true rfl) (fun T hT X => x_castS X hx hb hown (hts _ q617) hT (x_arr hKv hN hE (x_rowNm hKv hq2)) (x_ncI hX hq2 hne) hX.2.2.1 (x_shq hq2) x_shI dX0_sizeOf_26)
set_option maxHeartbeats 1000000 in
set_option maxRecDepth 100000 in
theorem sX0_rowOf (l : Launch) (G : nG) (K : State → Prop) (hKo : nKo G K) (hK0 : ∀ U, K U → sK0 G U) (ad : Nat → Nat) (c0 : nPic) (q L la : Nat) (hq : q < 3) (hL : L ≤ 60) : Met l yX0_rowOf (ws_ yX0_rowOf cX0_rowOf 2 (some (.object "java/lang/Object"))) (sR 0 1 60) (nPc G nCl K ad c0 [.int (nI q), .int (nI L)]) (nQ G nCl (fun rv ad' c' => ∃ p : Nat, rv = some (.ref p) ∧ va_up ad la p = ad' ∧ va_up c0 la (some (rowE G q L (fun _ => 0))) = c')) 1 60 (fun q => G.2 ≤ q) := by
  refine nMet RX0 (by decide) rfl (Nat.le_of_ble_eq_true rfl) ?_
  intro p e s m below meth c ls SS hR hK hN hS hl
  obtain ⟨hx, hb, hml, hown, hts⟩ := id SS
  obtain ⟨hr, hlk, hnm⟩ := hR
  obtain ⟨hKv, hKw, hKf, hKz, hKm⟩ := hK0 s hK
  generalize s.heap = H at hN hS ⊢
  generalize ([] : List Loc) = locs at hS ⊢
  have hl : lv_has ls 2 [(0, .int (nI q)), (1, .int (nI L))] := hl
  rcases (show q = 0 ∨ q = 1 ∨ q = 2 by omega) with z | z | z
  · subst z
    refine lv_iload_n hx hb dX0_rowOf_0 rfl (lv_at hl 0 rfl) ?_
    refine lv_if_ne (tgt := 10) hx hb dX0_rowOf_1 (by decide) (fun c1 => absurd c1 (fun z => z rfl)) (fun c1 => ?_)
    refine lv_iload_n hx hb dX0_rowOf_4 rfl (lv_at hl 1 rfl) ?_
    refine n_newa (atype := .byte) hx hb hts q528 hKv hN hS (la) 1 rfl (L) (fun _ => rfl) (rfl) (by omega) (Nat.le_of_ble_eq_true rfl) (by show 0 + L ≤ 60; omega) dX0_rowOf_5 (fun q5 H hN hS => ?_)
    refine lv_goto (tgt := 24) hx hb dX0_rowOf_7 (by decide) ?_
    refine W.widen (k := 1) (n := 60) (by first | omega | decide | (show 0 + L ≤ 60; omega)) (by first | omega | decide | (show 0 + L ≤ 60; omega)) ?_
    exact W.aret hx hb hr (Or.inl ⟨_, rfl⟩) (Or.inr ⟨_, rfl⟩) (nEnd hN hS ⟨q5, rfl, rfl, rfl⟩) hS.2 dX0_rowOf_24
  · subst z
    refine lv_iload_n hx hb dX0_rowOf_0 rfl (lv_at hl 0 rfl) ?_
    refine lv_if_ne (tgt := 10) hx hb dX0_rowOf_1 (by decide) (fun c1 => ?_) (fun c1 => absurd c1 (by decide))
    refine lv_iload_n hx hb dX0_rowOf_10 rfl (lv_at hl 0 rfl) ?_
    refine lv_iconst (v := 1) hx hb dX0_rowOf_11 (by decide) ?_
    refine lv_icmp_ne (tgt := 21) hx hb dX0_rowOf_12 (by decide) (fun c12 => absurd c12 (fun z => z rfl)) (fun c12 => ?_)
    refine lv_iload_n hx hb dX0_rowOf_15 rfl (lv_at hl 1 rfl) ?_
    refine n_newa (atype := .short) hx hb hts q555 hKv hN hS (la) 2 rfl (L) (fun _ => rfl) (rfl) (by omega) (Nat.le_of_ble_eq_true rfl) (by show 0 + L ≤ 60; omega) dX0_rowOf_16 (fun q16 H hN hS => ?_)
    refine lv_goto (tgt := 24) hx hb dX0_rowOf_18 (by decide) ?_
    refine W.widen (k := 1) (n := 60) (by first | omega | decide | (show 0 + L ≤ 60; omega)) (by first | omega | decide | (show 0 + L ≤ 60; omega)) ?_
    exact W.aret hx hb hr (Or.inl ⟨_, rfl⟩) (Or.inr ⟨_, rfl⟩) (nEnd hN hS ⟨q16, rfl, rfl, rfl⟩) hS.2 dX0_rowOf_24
  · subst z
    refine lv_iload_n hx hb dX0_rowOf_0 rfl (lv_at hl 0 rfl) ?_
    refine lv_if_ne (tgt := 10) hx hb dX0_rowOf_1 (by decide) (fun c1 => ?_) (fun c1 => absurd c1 (by decide))
    refine lv_iload_n hx hb dX0_rowOf_10 rfl (lv_at hl 0 rfl) ?_
    refine lv_iconst (v := 1) hx hb dX0_rowOf_11 (by decide) ?_
    refine lv_icmp_ne (tgt := 21) hx hb dX0_rowOf_12 (by decide) (fun c12 => ?_) (fun c12 => absurd c12 (by decide))
    refine lv_iload_n hx hb dX0_rowOf_21 rfl (lv_at hl 1 rfl) ?_
    refine n_newa (atype := .int) hx hb hts q124 hKv hN hS (la) 0 rfl (L) (fun _ => rfl) (rfl) (by omega) (Nat.le_of_ble_eq_true rfl) (by show 0 + L ≤ 60; omega) dX0_rowOf_22 (fun q22 H hN hS => ?_)
    refine W.widen (k := 1) (n := 60) (by first | omega | decide | (show 0 + L ≤ 60; omega)) (by first | omega | decide | (show 0 + L ≤ 60; omega)) ?_
    exact W.aret hx hb hr (Or.inl ⟨_, rfl⟩) (Or.inr ⟨_, rfl⟩) (nEnd hN hS ⟨q22, rfl, rfl, rfl⟩) hS.2 dX0_rowOf_24
set_option maxHeartbeats 1000000 in
set_option maxRecDepth 100000 in
theorem sX0_rowOfS (l : Launch) (G : nG) (K : State → Prop) (hKo : nKo G K) (hK0 : ∀ U, K U → sK0 G U) (hKx : ∀ U, K U → xK G U) (hfl : l.stackTraces = false) (ad : Nat → Nat) (c0 : nPic) (q : Nat) (hq : q < 3) (i : Int32) (hi : i < 0) : MetT l yX0_rowOf (ws_ yX0_rowOf cX0_rowOf 2 (some (.object "java/lang/Object"))) (sR 0 3 1910) (nPc G nCl K ad c0 [.int (nI q), .int i]) (xQ "java/lang/NegativeArraySizeException" G nCl ad c0) 3 1910 (fun q => G.2 ≤ q) := by
  refine nMetT RX0 (by decide) rfl (Nat.le_of_ble_eq_true rfl) ?_
  intro p e s m below meth c ls SS hR hxt hadm hK hN hS hl
  obtain ⟨hx, hb, hml, hown, hts⟩ := id SS
  obtain ⟨hr, hlk, hnm⟩ := hR
  have hX := hKx s hK
  obtain ⟨hKv, hKw, hKf, hKz, hKm⟩ := hK0 s hK
  have hl : lv_has ls 2 [(0, .int (nI q)), (1, .int i)] := hl
  rcases (show q = 0 ∨ q = 1 ∨ q = 2 by omega) with z | z | z
  · subst z
    refine lv_iload_n hx hb dX0_rowOf_0 rfl (lv_at hl 0 rfl) ?_
    refine lv_if_ne (tgt := 10) hx hb dX0_rowOf_1 (by decide) (fun c1 => absurd c1 (fun z => z rfl)) (fun c1 => ?_)
    refine lv_iload_n hx hb dX0_rowOf_4 rfl (lv_at hl 1 rfl) ?_
    exact x_msg (nm := "java/lang/NegativeArraySizeException") (names := ["java/lang/RuntimeException", "java/lang/Exception"]) hx hfl hlk (hxt _) (hl.1.trans hml.symm) (by decide +kernel) (by decide +kernel) (by first | decide | exact Nat.le_of_ble_eq_true rfl) (by first | decide | exact Nat.le_of_ble_eq_true rfl) (x_aNAS hts hKw hX.1 hX.2.1) hN (by decide) (by first | decide | exact Nat.le_of_ble_eq_true rfl) (by first | decide | exact Nat.le_of_ble_eq_true rfl) (by first | decide | exact Nat.le_of_ble_eq_true rfl) (Nat.le_of_ble_eq_true rfl) (Nat.le_of_ble_eq_true rfl) (Nat.le_of_ble_eq_true rfl) (Nat.le_of_ble_eq_true rfl) (fun T hT X => ⟨T.vm, toString i, X, x_neg hi, fun target h => X.newarrayNegative hx rfl hi rfl (by rw [hb]; exact dX0_rowOf_5) target h⟩)
  · subst z
    refine lv_iload_n hx hb dX0_rowOf_0 rfl (lv_at hl 0 rfl) ?_
    refine lv_if_ne (tgt := 10) hx hb dX0_rowOf_1 (by decide) (fun c1 => ?_) (fun c1 => absurd c1 (by decide))
    refine lv_iload_n hx hb dX0_rowOf_10 rfl (lv_at hl 0 rfl) ?_
    refine lv_iconst (v := 1) hx hb dX0_rowOf_11 (by decide) ?_
    refine lv_icmp_ne (tgt := 21) hx hb dX0_rowOf_12 (by decide) (fun c12 => absurd c12 (fun z => z rfl)) (fun c12 => ?_)
    refine lv_iload_n hx hb dX0_rowOf_15 rfl (lv_at hl 1 rfl) ?_
    exact x_msg (nm := "java/lang/NegativeArraySizeException") (names := ["java/lang/RuntimeException", "java/lang/Exception"]) hx hfl hlk (hxt _) (hl.1.trans hml.symm) (by decide +kernel) (by decide +kernel) (by first | decide | exact Nat.le_of_ble_eq_true rfl) (by first | decide | exact Nat.le_of_ble_eq_true rfl) (x_aNAS hts hKw hX.1 hX.2.1) hN (by decide) (by first | decide | exact Nat.le_of_ble_eq_true rfl) (by first | decide | exact Nat.le_of_ble_eq_true rfl) (by first | decide | exact Nat.le_of_ble_eq_true rfl) (Nat.le_of_ble_eq_true rfl) (Nat.le_of_ble_eq_true rfl) (Nat.le_of_ble_eq_true rfl) (Nat.le_of_ble_eq_true rfl) (fun T hT X => ⟨T.vm, toString i, X, x_neg hi, fun target h => X.newarrayNegative hx rfl hi rfl (by rw [hb]; exact dX0_rowOf_16) target h⟩)
  · subst z
    refine lv_iload_n hx hb dX0_rowOf_0 rfl (lv_at hl 0 rfl) ?_
    refine lv_if_ne (tgt := 10) hx hb dX0_rowOf_1 (by decide) (fun c1 => ?_) (fun c1 => absurd c1 (by decide))
    refine lv_iload_n hx hb dX0_rowOf_10 rfl (lv_at hl 0 rfl) ?_
    refine lv_iconst (v := 1) hx hb dX0_rowOf_11 (by decide) ?_
    refine lv_icmp_ne (tgt := 21) hx hb dX0_rowOf_12 (by decide) (fun c12 => ?_) (fun c12 => absurd c12 (by decide))
    refine lv_iload_n hx hb dX0_rowOf_21 rfl (lv_at hl 1 rfl) ?_
    exact x_msg (nm := "java/lang/NegativeArraySizeException") (names := ["java/lang/RuntimeException", "java/lang/Exception"]) hx hfl hlk (hxt _) (hl.1.trans hml.symm) (by decide +kernel) (by decide +kernel) (by first | decide | exact Nat.le_of_ble_eq_true rfl) (by first | decide | exact Nat.le_of_ble_eq_true rfl) (x_aNAS hts hKw hX.1 hX.2.1) hN (by decide) (by first | decide | exact Nat.le_of_ble_eq_true rfl) (by first | decide | exact Nat.le_of_ble_eq_true rfl) (by first | decide | exact Nat.le_of_ble_eq_true rfl) (Nat.le_of_ble_eq_true rfl) (Nat.le_of_ble_eq_true rfl) (Nat.le_of_ble_eq_true rfl) (Nat.le_of_ble_eq_true rfl) (fun T hT X => ⟨T.vm, toString i, X, x_neg hi, fun target h => X.newarrayNegative hx rfl hi rfl (by rw [hb]; exact dX0_rowOf_22) target h⟩)
set_option maxHeartbeats 1000000 in
set_option maxRecDepth 100000 in
theorem sX0_setIn (l : Launch) (G : nG) (K : State → Prop) (hKo : nKo G K) (hK0 : ∀ U, K U → sK0 G U) (hKx : ∀ U, K U → xK G U) (ad : Nat → Nat) (c0 : nPic) (ri q L : Nat) (f : AI) (hq : q < 3) (hL : L ≤ 60) (hE : c0 ri = some (rowE G q L f)) (i : Nat) (hi : i < L) (w : Int32) : Met l yX0_setIn (ws_ yX0_setIn cX0_setIn 3 none) (sR 0 0 0) (nPc G nCl K ad c0 [.ref (ad ri), .int (nI i), .int w]) (nQ G nCl (fun rv ad' c' => rv = none ∧ ad = ad' ∧ va_up c0 ri (some (rowE G q L (upd f i (sNar (nI q) w)))) = c')) 0 0 (fun q => G.2 ≤ q) := by
  refine nMet RX0 (by decide) rfl (Nat.le_of_ble_eq_true rfl) ?_
  intro p e s m below meth c ls SS hR hK hN hS hl
  obtain ⟨hx, hb, hml, hown, hts⟩ := id SS
  obtain ⟨hr, hlk, hnm⟩ := hR
  obtain ⟨hKv, hKw, hKf, hKz, hKm⟩ := hK0 s hK
  generalize s.heap = H at hN hS ⊢
  generalize ([] : List Loc) = locs at hS ⊢
  have hl : lv_has ls 3 [(0, .ref (ad ri)), (1, .int (nI i)), (2, .int w)] := hl
  have hX := hKx s hK
  rcases (show q = 0 ∨ q = 1 ∨ q = 2 by omega) with z | z | z
  · subst z
    have hE : c0 ri = some (.inl (G.1.1 101, L, .inl f)) := hE
    refine lv_aload_n hx hb dX0_setIn_0 rfl (lv_at hl 0 rfl) ?_
    refine va_instE hx hb hown (hts _ q615) (x_arr hKv hN hE (hKv.2 1 _ rfl).2) dX0_setIn_1 ?_
    refine lv_if_eq (tgt := 18) hx hb dX0_setIn_4 (by decide) (fun c4 => absurd c4 (by decide)) (fun c4 => ?_)
    refine lv_aload_n hx hb dX0_setIn_7 rfl (lv_at hl 0 rfl) ?_
    refine va_castA hx hb hown (hts _ q615) (hN.P1 hE) 0 rfl (hKv.2 1 _ rfl).2 dX0_setIn_8 ?_
    refine lv_iload_n hx hb dX0_setIn_11 rfl (lv_at hl 1 rfl) ?_
    refine lv_iload_n hx hb dX0_setIn_12 rfl (lv_at hl 2 rfl) ?_
    refine lv_i2b hx hb dX0_setIn_13 rfl ?_
    refine n_bast hx hb hKv hN hS ri 1 hE rfl i rfl hi (by omega) (x_narb w) dX0_setIn_14 (fun H locs hN hS => ?_)
    refine lv_goto (tgt := 43) hx hb dX0_setIn_15 (by decide) ?_
    exact W.vret hx hb hr (nEnd hN hS ⟨rfl, rfl, rfl⟩) hS.2 dX0_setIn_43
  · subst z
    have hE : c0 ri = some (.inl (G.1.1 102, L, .inl f)) := hE
    refine lv_aload_n hx hb dX0_setIn_0 rfl (lv_at hl 0 rfl) ?_
    refine va_instNo (C := sNm 1) hx hb hown (hts _ q615) (x_ncB hX (show 1 < 3 by decide) (by decide)) (x_arr hKv hN hE (x_rowNm hKv (show 1 < 3 by decide))) dX0_setIn_1 ?_
    refine lv_if_eq (tgt := 18) hx hb dX0_setIn_4 (by decide) (fun c4 => ?_) (fun c4 => absurd c4 (fun z => z rfl))
    refine lv_aload_n hx hb dX0_setIn_18 rfl (lv_at hl 0 rfl) ?_
    refine va_instE hx hb hown (hts _ q616) (x_arr hKv hN hE (hKv.2 2 _ rfl).2) dX0_setIn_19 ?_
    refine lv_if_eq (tgt := 36) hx hb dX0_setIn_22 (by decide) (fun c22 => absurd c22 (by decide)) (fun c22 => ?_)
    refine lv_aload_n hx hb dX0_setIn_25 rfl (lv_at hl 0 rfl) ?_
    refine va_castA hx hb hown (hts _ q616) (hN.P1 hE) 0 rfl (hKv.2 2 _ rfl).2 dX0_setIn_26 ?_
    refine lv_iload_n hx hb dX0_setIn_29 rfl (lv_at hl 1 rfl) ?_
    refine lv_iload_n hx hb dX0_setIn_30 rfl (lv_at hl 2 rfl) ?_
    refine lv_i2s hx hb dX0_setIn_31 rfl ?_
    refine n_sast hx hb hKv hN hS ri 2 hE rfl i rfl hi (by omega) (x_nars w) dX0_setIn_32 (fun H locs hN hS => ?_)
    refine lv_goto (tgt := 43) hx hb dX0_setIn_33 (by decide) ?_
    exact W.vret hx hb hr (nEnd hN hS ⟨rfl, rfl, rfl⟩) hS.2 dX0_setIn_43
  · subst z
    have hE : c0 ri = some (.inl (G.1.1 100, L, .inl f)) := hE
    refine lv_aload_n hx hb dX0_setIn_0 rfl (lv_at hl 0 rfl) ?_
    refine va_instNo (C := sNm 2) hx hb hown (hts _ q615) (x_ncB hX (show 2 < 3 by decide) (by decide)) (x_arr hKv hN hE (x_rowNm hKv (show 2 < 3 by decide))) dX0_setIn_1 ?_
    refine lv_if_eq (tgt := 18) hx hb dX0_setIn_4 (by decide) (fun c4 => ?_) (fun c4 => absurd c4 (fun z => z rfl))
    refine lv_aload_n hx hb dX0_setIn_18 rfl (lv_at hl 0 rfl) ?_
    refine va_instNo (C := sNm 2) hx hb hown (hts _ q616) (x_ncS hX (show 2 < 3 by decide) (by decide)) (x_arr hKv hN hE (x_rowNm hKv (show 2 < 3 by decide))) dX0_setIn_19 ?_
    refine lv_if_eq (tgt := 36) hx hb dX0_setIn_22 (by decide) (fun c22 => ?_) (fun c22 => absurd c22 (fun z => z rfl))
    refine lv_aload_n hx hb dX0_setIn_36 rfl (lv_at hl 0 rfl) ?_
    refine va_castA hx hb hown (hts _ q617) (hN.P1 hE) 0 rfl (hKv.2 0 _ rfl).2 dX0_setIn_37 ?_
    refine lv_iload_n hx hb dX0_setIn_40 rfl (lv_at hl 1 rfl) ?_
    refine lv_iload_n hx hb dX0_setIn_41 rfl (lv_at hl 2 rfl) ?_
    refine n_iast hx hb hKv hN hS (ri) 0 hE rfl (i) (rfl) (hi) (by omega) dX0_setIn_42 (fun H locs hN hS => ?_)
    exact W.vret hx hb hr (nEnd hN hS ⟨rfl, rfl, rfl⟩) hS.2 dX0_setIn_43
set_option maxHeartbeats 1000000 in
set_option maxRecDepth 100000 in
theorem sX0_setInX (l : Launch) (G : nG) (K : State → Prop) (hKo : nKo G K) (hK0 : ∀ U, K U → sK0 G U) (hKx : ∀ U, K U → xK G U) (hfl : l.stackTraces = false) (ad : Nat → Nat) (c0 : nPic) (ri q L : Nat) (f : AI) (hq : q < 3) (hL : L ≤ 60) (hE : c0 ri = some (rowE G q L f)) (i w : Int32) (hi : i < 0 ∨ nI L ≤ i) : MetT l yX0_setIn (ws_ yX0_setIn cX0_setIn 3 none) (sR 0 3 1910) (nPc G nCl K ad c0 [.ref (ad ri), .int i, .int w]) (xQ "java/lang/ArrayIndexOutOfBoundsException" G nCl ad c0) 3 1910 (fun q => G.2 ≤ q) := by
  refine nMetT RX0 (by decide) rfl (Nat.le_of_ble_eq_true rfl) ?_
  intro p e s m below meth c ls SS hR hxt hadm hK hN hS hl
  obtain ⟨hx, hb, hml, hown, hts⟩ := id SS
  obtain ⟨hr, hlk, hnm⟩ := hR
  have hX := hKx s hK
  obtain ⟨hKv, hKw, hKf, hKz, hKm⟩ := hK0 s hK
  have hl : lv_has ls 3 [(0, .ref (ad ri)), (1, .int i), (2, .int w)] := hl
  rcases (show q = 0 ∨ q = 1 ∨ q = 2 by omega) with z | z | z
  · subst z
    have hE : c0 ri = some (.inl (G.1.1 101, L, .inl f)) := hE
    refine lv_aload_n hx hb dX0_setIn_0 rfl (lv_at hl 0 rfl) ?_
    refine va_instE hx hb hown (hts _ q615) (x_arr hKv hN hE (hKv.2 1 _ rfl).2) dX0_setIn_1 ?_
    refine lv_if_eq (tgt := 18) hx hb dX0_setIn_4 (by decide) (fun c4 => absurd c4 (by decide)) (fun c4 => ?_)
    refine lv_aload_n hx hb dX0_setIn_7 rfl (lv_at hl 0 rfl) ?_
    refine va_castA hx hb hown (hts _ q615) (hN.P1 hE) 0 rfl (hKv.2 1 _ rfl).2 dX0_setIn_8 ?_
    refine lv_iload_n hx hb dX0_setIn_11 rfl (lv_at hl 1 rfl) ?_
    refine lv_iload_n hx hb dX0_setIn_12 rfl (lv_at hl 2 rfl) ?_
    refine lv_i2b hx hb dX0_setIn_13 rfl ?_
    obtain ⟨cell, w1, w2, w3⟩ := x_sz hKv hN hE (t0 := 1) rfl
    exact x_msg (nm := "java/lang/ArrayIndexOutOfBoundsException") (names := ["java/lang/IndexOutOfBoundsException", "java/lang/RuntimeException", "java/lang/Exception"]) hx hfl hlk (hxt _) (hl.1.trans hml.symm) (by decide +kernel) (by decide +kernel) (by first | decide | exact Nat.le_of_ble_eq_true rfl) (by first | decide | exact Nat.le_of_ble_eq_true rfl) (x_aAIO hts hKw hX.1 hX.2.1) hN (by decide) (by first | decide | exact Nat.le_of_ble_eq_true rfl) (by first | decide | exact Nat.le_of_ble_eq_true rfl) (by first | decide | exact Nat.le_of_ble_eq_true rfl) (Nat.le_of_ble_eq_true rfl) (Nat.le_of_ble_eq_true rfl) (Nat.le_of_ble_eq_true rfl) (Nat.le_of_ble_eq_true rfl) (fun T hT X => ⟨T.vm, xIdx i cell.slots.size, X, x_idx i (by omega), fun target h => X.bastoreOut hx (by rw [hT]; exact w1) w2 (by rw [w3]; exact x_outN (by omega) hi) rfl rfl (by rw [hb]; exact dX0_setIn_14) target h⟩)
  · subst z
    have hE : c0 ri = some (.inl (G.1.1 102, L, .inl f)) := hE
    refine lv_aload_n hx hb dX0_setIn_0 rfl (lv_at hl 0 rfl) ?_
    refine va_instNo (C := sNm 1) hx hb hown (hts _ q615) (x_ncB hX (show 1 < 3 by decide) (by decide)) (x_arr hKv hN hE (x_rowNm hKv (show 1 < 3 by decide))) dX0_setIn_1 ?_
    refine lv_if_eq (tgt := 18) hx hb dX0_setIn_4 (by decide) (fun c4 => ?_) (fun c4 => absurd c4 (fun z => z rfl))
    refine lv_aload_n hx hb dX0_setIn_18 rfl (lv_at hl 0 rfl) ?_
    refine va_instE hx hb hown (hts _ q616) (x_arr hKv hN hE (hKv.2 2 _ rfl).2) dX0_setIn_19 ?_
    refine lv_if_eq (tgt := 36) hx hb dX0_setIn_22 (by decide) (fun c22 => absurd c22 (by decide)) (fun c22 => ?_)
    refine lv_aload_n hx hb dX0_setIn_25 rfl (lv_at hl 0 rfl) ?_
    refine va_castA hx hb hown (hts _ q616) (hN.P1 hE) 0 rfl (hKv.2 2 _ rfl).2 dX0_setIn_26 ?_
    refine lv_iload_n hx hb dX0_setIn_29 rfl (lv_at hl 1 rfl) ?_
    refine lv_iload_n hx hb dX0_setIn_30 rfl (lv_at hl 2 rfl) ?_
    refine lv_i2s hx hb dX0_setIn_31 rfl ?_
    obtain ⟨cell, w1, w2, w3⟩ := x_sz hKv hN hE (t0 := 2) rfl
    exact x_msg (nm := "java/lang/ArrayIndexOutOfBoundsException") (names := ["java/lang/IndexOutOfBoundsException", "java/lang/RuntimeException", "java/lang/Exception"]) hx hfl hlk (hxt _) (hl.1.trans hml.symm) (by decide +kernel) (by decide +kernel) (by first | decide | exact Nat.le_of_ble_eq_true rfl) (by first | decide | exact Nat.le_of_ble_eq_true rfl) (x_aAIO hts hKw hX.1 hX.2.1) hN (by decide) (by first | decide | exact Nat.le_of_ble_eq_true rfl) (by first | decide | exact Nat.le_of_ble_eq_true rfl) (by first | decide | exact Nat.le_of_ble_eq_true rfl) (Nat.le_of_ble_eq_true rfl) (Nat.le_of_ble_eq_true rfl) (Nat.le_of_ble_eq_true rfl) (Nat.le_of_ble_eq_true rfl) (fun T hT X => ⟨T.vm, xIdx i cell.slots.size, X, x_idx i (by omega), fun target h => X.sastoreOut hx (by rw [hT]; exact w1) w2 (by rw [w3]; exact x_outN (by omega) hi) rfl rfl (by rw [hb]; exact dX0_setIn_32) target h⟩)
  · subst z
    have hE : c0 ri = some (.inl (G.1.1 100, L, .inl f)) := hE
    refine lv_aload_n hx hb dX0_setIn_0 rfl (lv_at hl 0 rfl) ?_
    refine va_instNo (C := sNm 2) hx hb hown (hts _ q615) (x_ncB hX (show 2 < 3 by decide) (by decide)) (x_arr hKv hN hE (x_rowNm hKv (show 2 < 3 by decide))) dX0_setIn_1 ?_
    refine lv_if_eq (tgt := 18) hx hb dX0_setIn_4 (by decide) (fun c4 => ?_) (fun c4 => absurd c4 (fun z => z rfl))
    refine lv_aload_n hx hb dX0_setIn_18 rfl (lv_at hl 0 rfl) ?_
    refine va_instNo (C := sNm 2) hx hb hown (hts _ q616) (x_ncS hX (show 2 < 3 by decide) (by decide)) (x_arr hKv hN hE (x_rowNm hKv (show 2 < 3 by decide))) dX0_setIn_19 ?_
    refine lv_if_eq (tgt := 36) hx hb dX0_setIn_22 (by decide) (fun c22 => ?_) (fun c22 => absurd c22 (fun z => z rfl))
    refine lv_aload_n hx hb dX0_setIn_36 rfl (lv_at hl 0 rfl) ?_
    refine va_castA hx hb hown (hts _ q617) (hN.P1 hE) 0 rfl (hKv.2 0 _ rfl).2 dX0_setIn_37 ?_
    refine lv_iload_n hx hb dX0_setIn_40 rfl (lv_at hl 1 rfl) ?_
    refine lv_iload_n hx hb dX0_setIn_41 rfl (lv_at hl 2 rfl) ?_
    obtain ⟨cell, w1, w2, w3⟩ := x_sz hKv hN hE (t0 := 0) rfl
    exact x_msg (nm := "java/lang/ArrayIndexOutOfBoundsException") (names := ["java/lang/IndexOutOfBoundsException", "java/lang/RuntimeException", "java/lang/Exception"]) hx hfl hlk (hxt _) (hl.1.trans hml.symm) (by decide +kernel) (by decide +kernel) (by first | decide | exact Nat.le_of_ble_eq_true rfl) (by first | decide | exact Nat.le_of_ble_eq_true rfl) (x_aAIO hts hKw hX.1 hX.2.1) hN (by decide) (by first | decide | exact Nat.le_of_ble_eq_true rfl) (by first | decide | exact Nat.le_of_ble_eq_true rfl) (by first | decide | exact Nat.le_of_ble_eq_true rfl) (Nat.le_of_ble_eq_true rfl) (Nat.le_of_ble_eq_true rfl) (Nat.le_of_ble_eq_true rfl) (Nat.le_of_ble_eq_true rfl) (fun T hT X => ⟨T.vm, xIdx i cell.slots.size, X, x_idx i (by omega), fun target h => X.iastoreOut hx (by rw [hT]; exact w1) w2 (by rw [w3]; exact x_outN (by omega) hi) rfl rfl (by rw [hb]; exact dX0_setIn_42) target h⟩)
set_option maxHeartbeats 1000000 in
set_option maxRecDepth 100000 in
theorem sX0_need (l : Launch) (G : nG) (K : State → Prop) (hKo : nKo G K) (hK0 : ∀ U, K U → sK0 G U) (ad : Nat → Nat) (c0 : nPic)  : Met l yX0_need (ws_ yX0_need cX0_need 1 none) (sR 0 0 0) (nPc G nCl K ad c0 [.int 1]) (nQ G nCl (fun rv ad' c' => rv = none ∧ ad = ad' ∧ c0 = c')) 0 0 (fun q => G.2 ≤ q) := by
  refine nMet RX0 (by decide) rfl (Nat.le_of_ble_eq_true rfl) ?_
  intro p e s m below meth c ls SS hR hK hN hS hl
  obtain ⟨hx, hb, hml, hown, hts⟩ := id SS
  obtain ⟨hr, hlk, hnm⟩ := hR
  obtain ⟨hKv, hKw, hKf, hKz, hKm⟩ := hK0 s hK
  generalize s.heap = H at hN hS ⊢
  generalize ([] : List Loc) = locs at hS ⊢
  have hl : lv_has ls 1 [(0, .int 1)] := hl
  refine lv_iload_n hx hb dX0_need_0 rfl (lv_at hl 0 rfl) ?_
  refine lv_if_ne (tgt := 15) hx hb dX0_need_1 (by decide) (fun c1 => ?_) (fun c1 => absurd c1 (by decide))
  exact W.vret hx hb hr (nEnd hN hS ⟨rfl, rfl, rfl⟩) hS.2 dX0_need_15
set_option maxHeartbeats 1000000 in
set_option maxRecDepth 100000 in
theorem sX0_needI (l : Launch) (G : nG) (K : State → Prop) (hKo : nKo G K) (hK0 : ∀ U, K U → sK0 G U) (hKx : ∀ U, K U → xK G U) (hfl : l.stackTraces = false) (ad : Nat → Nat) (c0 : nPic)  : MetT l yX0_need (ws_ yX0_need cX0_need 1 none) (sR 0 3 1910) (nPc G nCl K ad c0 [.int 0]) (xQ "java/lang/IndexOutOfBoundsException" G nCl ad c0) 3 1910 (fun q => G.2 ≤ q) := by
  refine nMetT RX0 (by decide) rfl (Nat.le_of_ble_eq_true rfl) ?_
  intro p e s m below meth c ls SS hR hxt hadm hK hN hS hl
  obtain ⟨hx, hb, hml, hown, hts⟩ := id SS
  obtain ⟨hr, hlk, hnm⟩ := hR
  have hX := hKx s hK
  obtain ⟨hKv, hKw, hKf, hKz, hKm⟩ := hK0 s hK
  have hl : lv_has ls 1 [(0, .int 0)] := hl
  refine lv_iload_n hx hb dX0_need_0 rfl (lv_at hl 0 rfl) ?_
  refine lv_if_ne (tgt := 15) hx hb dX0_need_1 (by decide) (fun c1 => absurd c1 (fun z => z rfl)) (fun c1 => ?_)
  obtain ⟨qs, hqs⟩ := hX.2.2.2.2.1
  refine x_new (C := "java/lang/IndexOutOfBoundsException") hx hb hown hts q593 q738 q73 dX0_need_4 (Nat.le_of_ble_eq_true rfl) (Nat.le_of_ble_eq_true rfl) (fun H cC kC k1 k2 k3 k4 k5 => ?_)
  refine lv_dup hx hb dX0_need_7 rfl ?_
  refine x_ldcS hx hb hown hqs dX0_need_8 ?_
  exact x_own (names := ["java/lang/RuntimeException", "java/lang/Exception"]) hx hb hfl hlk (hxt _) (hl.1.trans hml.symm) hown (by decide +kernel) (by decide +kernel) (x_aIOB hts hKw hX.1 hX.2.1) hN k1 k2 k3 dX0_need_11 dX0_need_14 (by decide) (by decide) (Nat.le_of_ble_eq_true rfl) (Nat.le_of_ble_eq_true rfl)
set_option maxHeartbeats 1000000 in
set_option maxRecDepth 100000 in
theorem sX0_rowIn (l : Launch) (G : nG) (K : State → Prop) (hKo : nKo G K) (hK0 : ∀ U, K U → sK0 G U) (ad : Nat → Nat) (x : nPic) (si : AI) (sa : Nat → AI) (rn : Value) (so sl ce : AI) (hSh : sShe G ad x so sl ce) (k : Nat) (hk : k < 4) : Met l yX0_rowIn (ws_ yX0_rowIn cX0_rowIn 2 (some (.object "java/lang/Object"))) (sR 0 0 0) (nPc G nCl K ad (sPic G x ad si sa rn) [.ref (ad 0), .int (nI k)]) (nQh (if so k = -9 then .null else .ref (ad (14 + k)))) 0 0 (fun _ => False) := by
  refine nMeth RX0 (by decide) rfl (Nat.le_of_ble_eq_true rfl) ?_
  intro p e s m below meth c ls SS hR hK hN hS hl
  obtain ⟨hx, hb, hml, hown, hts⟩ := id SS
  obtain ⟨hr, hlk, hnm⟩ := hR
  obtain ⟨hKv, hKw, hKf, hKz, hKm⟩ := hK0 s hK
  have hl : lv_has ls 2 [(0, .ref (ad 0)), (1, .int (nI k))] := hl
  by_cases h9 : so k = -9
  · have _u := h9
    refine lv_aload_n hx hb dX0_rowIn_0 rfl (lv_at hl 0 rfl) ?_
    refine n_get (ci := 0) (C := RX0) (T := TX0) (N := 12) hx hb hts in_X0 hown hKv hN (0) sPic_0 rfl 10 (by decide) q139 (fun z h => h) (rfl) dX0_rowIn_1 ?_
    refine lv_iload_n hx hb dX0_rowIn_4 rfl (lv_at hl 1 rfl) ?_
    refine n_aald hx hb hKv hN (8) 4 ((sPic_x (by decide)).trans hSh.1) rfl (k) (rfl) (by omega) (by decide) dX0_rowIn_5 ?_
    refine n_topv (y := .null) (by rw [if_pos (Or.inl h9)]; rfl) ?_
    refine lv_ifnonnullN hx hb dX0_rowIn_6 ?_
    refine lv_null hx hb dX0_rowIn_9 ?_
    refine lv_goto (tgt := 22) hx hb dX0_rowIn_10 (by decide) ?_
    exact W.aret hx hb hr (Or.inl ⟨_, rfl⟩) (Or.inl rfl) (fun t ht _ => ⟨by rw [if_pos h9], ht⟩) (fun q h => by cases h) dX0_rowIn_22
  · obtain ⟨qs, L, f, g1, g2, g3, g4, hS2, g6, g7⟩ := (hSh.2 k hk).resolve_left h9
    refine lv_aload_n hx hb dX0_rowIn_0 rfl (lv_at hl 0 rfl) ?_
    refine n_get (ci := 0) (C := RX0) (T := TX0) (N := 12) hx hb hts in_X0 hown hKv hN (0) sPic_0 rfl 10 (by decide) q139 (fun z h => h) (rfl) dX0_rowIn_1 ?_
    refine lv_iload_n hx hb dX0_rowIn_4 rfl (lv_at hl 1 rfl) ?_
    refine n_aald hx hb hKv hN (8) 4 ((sPic_x (by decide)).trans hSh.1) rfl (k) (rfl) (by omega) (by decide) dX0_rowIn_5 ?_
    refine n_topv (y := .ref (ad (10 + k))) (by rw [if_neg (fun z => z.elim h9 (by omega))]; rfl) ?_
    refine lv_ifnonnull (tgt := 13) hx hb dX0_rowIn_6 (by decide) ?_
    refine lv_aload_n hx hb dX0_rowIn_13 rfl (lv_at hl 0 rfl) ?_
    refine n_get (ci := 0) (C := RX0) (T := TX0) (N := 12) hx hb hts in_X0 hown hKv hN (0) sPic_0 rfl 10 (by decide) q139 (fun z h => h) (rfl) dX0_rowIn_14 ?_
    refine lv_iload_n hx hb dX0_rowIn_17 rfl (lv_at hl 1 rfl) ?_
    refine n_aald hx hb hKv hN (8) 4 ((sPic_x (by decide)).trans hSh.1) rfl (k) (rfl) (by omega) (by decide) dX0_rowIn_18 ?_
    refine n_topv (y := .ref (ad (10 + k))) (by rw [if_neg (fun z => z.elim h9 (by omega))]; rfl) ?_
    refine n_get (ci := 6) (C := RX10) (T := TX10) (N := 1) hx hb hts in_X10 hown hKv hN (10 + k) ((sPic_x ⟨by omega, by omega, by omega, by omega⟩).trans hS2) rfl 0 (by decide) q551 (fun z h => h) (rfl) dX0_rowIn_19 ?_
    exact W.aret hx hb hr (Or.inl ⟨_, rfl⟩) (Or.inr ⟨_, rfl⟩) (fun t ht _ => ⟨by rw [if_neg h9], ht⟩) (fun q h => by cases h) dX0_rowIn_22
