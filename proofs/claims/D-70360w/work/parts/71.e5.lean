/-! SYSTEM: taking one as of a kind: printed by wip/gen/e5.py -/
set_option maxHeartbeats 1000000 in
set_option maxRecDepth 100000 in
theorem sX12_done (l : Launch) (G : nG) (K : State → Prop) (hKo : nKo G K) (hK0 : ∀ U, K U → sK0 G U) (ad : Nat → Nat) (c0 : nPic) (j kq a : Nat) (hj : j < 4) (hkq : kq < 3) (b_ c_ : Int32) (hPe : c0 (20 + j) = some (pE ad kq (nI j) b_ c_)) (hAc : c0 40 = some (.inr (11, [.ref (ad 0), .ref (ad (20 + j)), .int (nI a), .ref (ad 0)]))) (ha : a ≤ kq) : Met l yX12_done (ws_ yX12_done cX12_done 2 (some .int)) (sR 1 0 0) (nPc G nCl K ad c0 [.ref (ad 40)]) (nQ G nCl (fun rv ad' c' => rv = some (.int 1) ∧ ad = ad' ∧ c0 = c')) 0 0 (fun q => G.2 ≤ q) := by
  refine nMet RX12 (by decide) rfl (Nat.le_of_ble_eq_true rfl) ?_
  intro p e s m below meth c ls SS hR hK hN hS hl
  obtain ⟨hx, hb, hml, hown, hts⟩ := id SS
  obtain ⟨hr, hlk, hnm⟩ := hR
  obtain ⟨hKv, hKw, hKf, hKz, hKm⟩ := hK0 s hK
  generalize s.heap = H at hN hS ⊢
  generalize ([] : List Loc) = locs at hS ⊢
  have hl : lv_has ls 2 [(0, .ref (ad 40))] := hl
  rcases (show (a = 0 ∧ kq = 0) ∨ (a = 0 ∧ kq = 1) ∨ (a = 0 ∧ kq = 2) ∨ (a = 1 ∧ kq = 1) ∨ (a = 1 ∧ kq = 2) ∨ (a = 2 ∧ kq = 2) by omega) with ⟨z, z2⟩ | ⟨z, z2⟩ | ⟨z, z2⟩ | ⟨z, z2⟩ | ⟨z, z2⟩ | ⟨z, z2⟩
  · subst z; subst z2
    have hE : c0 (20 + j) = some (.inr (2, [.int (nI j), .int b_, .int c_, .ref (ad 0)])) := hPe
    refine lv_aload_n hx hb dX12_done_0 rfl (lv_at hl 0 rfl) ?_
    refine n_get (ci := 11) (C := RX12) (T := TX12) (N := 4) hx hb hts in_X12 hown hKv hN (40) hAc rfl 2 (by decide) q1088 (fun z h => h) (rfl) dX12_done_1 ?_
    refine lv_if_ne (tgt := 17) hx hb dX12_done_4 (by decide) (fun c4 => absurd c4 (fun z => z rfl)) (fun c4 => ?_)
    refine lv_aload_n hx hb dX12_done_7 rfl (lv_at hl 0 rfl) ?_
    refine n_get (ci := 11) (C := RX12) (T := TX12) (N := 4) hx hb hts in_X12 hown hKv hN (40) hAc rfl 1 (by decide) q1087 (fun z h => h) (rfl) dX12_done_8 ?_
    refine n_get (ci := 2) (C := RX5) (T := TX5) (N := 4) hx hb hts in_X5 hown hKv hN (20 + j) hE rfl 0 (by decide) q784 (fun z h => h) (rfl) dX12_done_11 ?_
    refine lv_goto (tgt := 48) hx hb dX12_done_14 (by decide) ?_
    refine lv_istore_n (lv' := [(1, _), (0, _)]) hx hb dX12_done_48 rfl hl (by decide) rfl (fun ls hl => ?_)
    refine lv_iload_n hx hb dX12_done_49 rfl (lv_at hl 0 rfl) ?_
    refine lv_if_ge (tgt := 57) hx hb dX12_done_50 (by decide) (fun c50 => ?_) (fun c50 => absurd c50 (fun z => z (Int32.not_lt.mp (nI_pos (n := j) (by omega)))))
    refine lv_iconst (v := 1) hx hb dX12_done_57 (by decide) ?_
    exact W.iret hx hb hr (nEnd hN hS ⟨rfl, rfl, rfl⟩) hS.2 dX12_done_58
  · subst z; subst z2
    have hE : c0 (20 + j) = some (.inr (3, [.int (nI j), .int b_, .int c_, .ref (ad 0), .ref (ad 0)])) := hPe
    refine lv_aload_n hx hb dX12_done_0 rfl (lv_at hl 0 rfl) ?_
    refine n_get (ci := 11) (C := RX12) (T := TX12) (N := 4) hx hb hts in_X12 hown hKv hN (40) hAc rfl 2 (by decide) q1088 (fun z h => h) (rfl) dX12_done_1 ?_
    refine lv_if_ne (tgt := 17) hx hb dX12_done_4 (by decide) (fun c4 => absurd c4 (fun z => z rfl)) (fun c4 => ?_)
    refine lv_aload_n hx hb dX12_done_7 rfl (lv_at hl 0 rfl) ?_
    refine n_get (ci := 11) (C := RX12) (T := TX12) (N := 4) hx hb hts in_X12 hown hKv hN (40) hAc rfl 1 (by decide) q1087 (fun z h => h) (rfl) dX12_done_8 ?_
    refine n_get (ci := 3) (C := RX6) (T := TX6) (N := 5) hx hb hts in_X6 hown hKv hN (20 + j) hE rfl 0 (by decide) q784 (fun z h => h) (rfl) dX12_done_11 ?_
    refine lv_goto (tgt := 48) hx hb dX12_done_14 (by decide) ?_
    refine lv_istore_n (lv' := [(1, _), (0, _)]) hx hb dX12_done_48 rfl hl (by decide) rfl (fun ls hl => ?_)
    refine lv_iload_n hx hb dX12_done_49 rfl (lv_at hl 0 rfl) ?_
    refine lv_if_ge (tgt := 57) hx hb dX12_done_50 (by decide) (fun c50 => ?_) (fun c50 => absurd c50 (fun z => z (Int32.not_lt.mp (nI_pos (n := j) (by omega)))))
    refine lv_iconst (v := 1) hx hb dX12_done_57 (by decide) ?_
    exact W.iret hx hb hr (nEnd hN hS ⟨rfl, rfl, rfl⟩) hS.2 dX12_done_58
  · subst z; subst z2
    have hE : c0 (20 + j) = some (.inr (4, [.int (nI j), .int b_, .int c_, .ref (ad 0), .ref (ad 0), .ref (ad 0)])) := hPe
    refine lv_aload_n hx hb dX12_done_0 rfl (lv_at hl 0 rfl) ?_
    refine n_get (ci := 11) (C := RX12) (T := TX12) (N := 4) hx hb hts in_X12 hown hKv hN (40) hAc rfl 2 (by decide) q1088 (fun z h => h) (rfl) dX12_done_1 ?_
    refine lv_if_ne (tgt := 17) hx hb dX12_done_4 (by decide) (fun c4 => absurd c4 (fun z => z rfl)) (fun c4 => ?_)
    refine lv_aload_n hx hb dX12_done_7 rfl (lv_at hl 0 rfl) ?_
    refine n_get (ci := 11) (C := RX12) (T := TX12) (N := 4) hx hb hts in_X12 hown hKv hN (40) hAc rfl 1 (by decide) q1087 (fun z h => h) (rfl) dX12_done_8 ?_
    refine n_get (ci := 4) (C := RX7) (T := TX7) (N := 6) hx hb hts in_X7 hown hKv hN (20 + j) hE rfl 0 (by decide) q784 (fun z h => h) (rfl) dX12_done_11 ?_
    refine lv_goto (tgt := 48) hx hb dX12_done_14 (by decide) ?_
    refine lv_istore_n (lv' := [(1, _), (0, _)]) hx hb dX12_done_48 rfl hl (by decide) rfl (fun ls hl => ?_)
    refine lv_iload_n hx hb dX12_done_49 rfl (lv_at hl 0 rfl) ?_
    refine lv_if_ge (tgt := 57) hx hb dX12_done_50 (by decide) (fun c50 => ?_) (fun c50 => absurd c50 (fun z => z (Int32.not_lt.mp (nI_pos (n := j) (by omega)))))
    refine lv_iconst (v := 1) hx hb dX12_done_57 (by decide) ?_
    exact W.iret hx hb hr (nEnd hN hS ⟨rfl, rfl, rfl⟩) hS.2 dX12_done_58
  · subst z; subst z2
    have hE : c0 (20 + j) = some (.inr (3, [.int (nI j), .int b_, .int c_, .ref (ad 0), .ref (ad 0)])) := hPe
    refine lv_aload_n hx hb dX12_done_0 rfl (lv_at hl 0 rfl) ?_
    refine n_get (ci := 11) (C := RX12) (T := TX12) (N := 4) hx hb hts in_X12 hown hKv hN (40) hAc rfl 2 (by decide) q1088 (fun z h => h) (rfl) dX12_done_1 ?_
    refine lv_if_ne (tgt := 17) hx hb dX12_done_4 (by decide) (fun c4 => ?_) (fun c4 => absurd c4 (by decide))
    refine lv_aload_n hx hb dX12_done_17 rfl (lv_at hl 0 rfl) ?_
    refine n_get (ci := 11) (C := RX12) (T := TX12) (N := 4) hx hb hts in_X12 hown hKv hN (40) hAc rfl 2 (by decide) q1088 (fun z h => h) (rfl) dX12_done_18 ?_
    refine lv_iconst (v := 1) hx hb dX12_done_21 (by decide) ?_
    refine lv_icmp_ne (tgt := 38) hx hb dX12_done_22 (by decide) (fun c22 => absurd c22 (fun z => z rfl)) (fun c22 => ?_)
    refine lv_aload_n hx hb dX12_done_25 rfl (lv_at hl 0 rfl) ?_
    refine n_get (ci := 11) (C := RX12) (T := TX12) (N := 4) hx hb hts in_X12 hown hKv hN (40) hAc rfl 1 (by decide) q1087 (fun z h => h) (rfl) dX12_done_26 ?_
    refine va_castE hx hb hown (hts _ q870) (n_recv hKv hN hE rfl) dX12_done_29 ?_
    refine n_get (ci := 3) (C := RX6) (T := TX6) (N := 5) hx hb hts in_X6 hown hKv hN (20 + j) hE rfl 0 (by decide) q785 (fun z h => u_same (hts _ q786) z h) (rfl) dX12_done_32 ?_
    refine lv_goto (tgt := 48) hx hb dX12_done_35 (by decide) ?_
    refine lv_istore_n (lv' := [(1, _), (0, _)]) hx hb dX12_done_48 rfl hl (by decide) rfl (fun ls hl => ?_)
    refine lv_iload_n hx hb dX12_done_49 rfl (lv_at hl 0 rfl) ?_
    refine lv_if_ge (tgt := 57) hx hb dX12_done_50 (by decide) (fun c50 => ?_) (fun c50 => absurd c50 (fun z => z (Int32.not_lt.mp (nI_pos (n := j) (by omega)))))
    refine lv_iconst (v := 1) hx hb dX12_done_57 (by decide) ?_
    exact W.iret hx hb hr (nEnd hN hS ⟨rfl, rfl, rfl⟩) hS.2 dX12_done_58
  · subst z; subst z2
    have hE : c0 (20 + j) = some (.inr (4, [.int (nI j), .int b_, .int c_, .ref (ad 0), .ref (ad 0), .ref (ad 0)])) := hPe
    refine lv_aload_n hx hb dX12_done_0 rfl (lv_at hl 0 rfl) ?_
    refine n_get (ci := 11) (C := RX12) (T := TX12) (N := 4) hx hb hts in_X12 hown hKv hN (40) hAc rfl 2 (by decide) q1088 (fun z h => h) (rfl) dX12_done_1 ?_
    refine lv_if_ne (tgt := 17) hx hb dX12_done_4 (by decide) (fun c4 => ?_) (fun c4 => absurd c4 (by decide))
    refine lv_aload_n hx hb dX12_done_17 rfl (lv_at hl 0 rfl) ?_
    refine n_get (ci := 11) (C := RX12) (T := TX12) (N := 4) hx hb hts in_X12 hown hKv hN (40) hAc rfl 2 (by decide) q1088 (fun z h => h) (rfl) dX12_done_18 ?_
    refine lv_iconst (v := 1) hx hb dX12_done_21 (by decide) ?_
    refine lv_icmp_ne (tgt := 38) hx hb dX12_done_22 (by decide) (fun c22 => absurd c22 (fun z => z rfl)) (fun c22 => ?_)
    refine lv_aload_n hx hb dX12_done_25 rfl (lv_at hl 0 rfl) ?_
    refine n_get (ci := 11) (C := RX12) (T := TX12) (N := 4) hx hb hts in_X12 hown hKv hN (40) hAc rfl 1 (by decide) q1087 (fun z h => h) (rfl) dX12_done_26 ?_
    refine n_cast hx hb hts hown q870 ((hKw _ q1438 rfl)) hKv hN hE rfl dX12_done_29 ?_
    refine n_get (ci := 4) (C := RX7) (T := TX7) (N := 6) hx hb hts in_X7 hown hKv hN (20 + j) hE rfl 0 (by decide) q785 (fun z h => u_same (hts _ q786) z h) (rfl) dX12_done_32 ?_
    refine lv_goto (tgt := 48) hx hb dX12_done_35 (by decide) ?_
    refine lv_istore_n (lv' := [(1, _), (0, _)]) hx hb dX12_done_48 rfl hl (by decide) rfl (fun ls hl => ?_)
    refine lv_iload_n hx hb dX12_done_49 rfl (lv_at hl 0 rfl) ?_
    refine lv_if_ge (tgt := 57) hx hb dX12_done_50 (by decide) (fun c50 => ?_) (fun c50 => absurd c50 (fun z => z (Int32.not_lt.mp (nI_pos (n := j) (by omega)))))
    refine lv_iconst (v := 1) hx hb dX12_done_57 (by decide) ?_
    exact W.iret hx hb hr (nEnd hN hS ⟨rfl, rfl, rfl⟩) hS.2 dX12_done_58
  · subst z; subst z2
    have hE : c0 (20 + j) = some (.inr (4, [.int (nI j), .int b_, .int c_, .ref (ad 0), .ref (ad 0), .ref (ad 0)])) := hPe
    refine lv_aload_n hx hb dX12_done_0 rfl (lv_at hl 0 rfl) ?_
    refine n_get (ci := 11) (C := RX12) (T := TX12) (N := 4) hx hb hts in_X12 hown hKv hN (40) hAc rfl 2 (by decide) q1088 (fun z h => h) (rfl) dX12_done_1 ?_
    refine lv_if_ne (tgt := 17) hx hb dX12_done_4 (by decide) (fun c4 => ?_) (fun c4 => absurd c4 (by decide))
    refine lv_aload_n hx hb dX12_done_17 rfl (lv_at hl 0 rfl) ?_
    refine n_get (ci := 11) (C := RX12) (T := TX12) (N := 4) hx hb hts in_X12 hown hKv hN (40) hAc rfl 2 (by decide) q1088 (fun z h => h) (rfl) dX12_done_18 ?_
    refine lv_iconst (v := 1) hx hb dX12_done_21 (by decide) ?_
    refine lv_icmp_ne (tgt := 38) hx hb dX12_done_22 (by decide) (fun c22 => ?_) (fun c22 => absurd c22 (by decide))
    refine lv_aload_n hx hb dX12_done_38 rfl (lv_at hl 0 rfl) ?_
    refine n_get (ci := 11) (C := RX12) (T := TX12) (N := 4) hx hb hts in_X12 hown hKv hN (40) hAc rfl 1 (by decide) q1087 (fun z h => h) (rfl) dX12_done_39 ?_
    refine va_castE hx hb hown (hts _ q871) (n_recv hKv hN hE rfl) dX12_done_42 ?_
    refine n_get (ci := 4) (C := RX7) (T := TX7) (N := 6) hx hb hts in_X7 hown hKv hN (20 + j) hE rfl 0 (by decide) q787 (fun z h => u_same (hts _ q788) z h) (rfl) dX12_done_45 ?_
    refine lv_istore_n (lv' := [(1, _), (0, _)]) hx hb dX12_done_48 rfl hl (by decide) rfl (fun ls hl => ?_)
    refine lv_iload_n hx hb dX12_done_49 rfl (lv_at hl 0 rfl) ?_
    refine lv_if_ge (tgt := 57) hx hb dX12_done_50 (by decide) (fun c50 => ?_) (fun c50 => absurd c50 (fun z => z (Int32.not_lt.mp (nI_pos (n := j) (by omega)))))
    refine lv_iconst (v := 1) hx hb dX12_done_57 (by decide) ?_
    exact W.iret hx hb hr (nEnd hN hS ⟨rfl, rfl, rfl⟩) hS.2 dX12_done_58
set_option maxHeartbeats 1000000 in
set_option maxRecDepth 100000 in
theorem sX12_doneC (l : Launch) (G : nG) (K : State → Prop) (hKo : nKo G K) (hK0 : ∀ U, K U → sK0 G U) (hKx : ∀ U, K U → xK G U) (hfl : l.stackTraces = false) (ad : Nat → Nat) (c0 : nPic) (j kq a : Nat) (hj : j < 4) (hkq : kq < 3) (b_ c_ : Int32) (hPe : c0 (20 + j) = some (pE ad kq (nI j) b_ c_)) (hAc : c0 40 = some (.inr (11, [.ref (ad 0), .ref (ad (20 + j)), .int (nI a), .ref (ad 0)]))) (ha : kq < a) (ha3 : a < 3) : MetT l yX12_done (ws_ yX12_done cX12_done 2 (some .int)) (sR 1 3 1910) (nPc G nCl K ad c0 [.ref (ad 40)]) (xQ "java/lang/ClassCastException" G nCl ad c0) 3 1910 (fun q => G.2 ≤ q) := by
  refine nMetT RX12 (by decide) rfl (Nat.le_of_ble_eq_true rfl) ?_
  intro p e s m below meth c ls SS hR hxt hadm hK hN hS hl
  obtain ⟨hx, hb, hml, hown, hts⟩ := id SS
  obtain ⟨hr, hlk, hnm⟩ := hR
  have hX := hKx s hK
  obtain ⟨hKv, hKw, hKf, hKz, hKm⟩ := hK0 s hK
  have hl : lv_has ls 2 [(0, .ref (ad 40))] := hl
  rcases (show (a = 1 ∧ kq = 0) ∨ (a = 2 ∧ kq = 0) ∨ (a = 2 ∧ kq = 1) by omega) with ⟨z, z2⟩ | ⟨z, z2⟩ | ⟨z, z2⟩
  · subst z; subst z2
    have hE : c0 (20 + j) = some (.inr (2, [.int (nI j), .int b_, .int c_, .ref (ad 0)])) := hPe
    refine lv_aload_n hx hb dX12_done_0 rfl (lv_at hl 0 rfl) ?_
    refine n_get (ci := 11) (C := RX12) (T := TX12) (N := 4) hx hb hts in_X12 hown hKv hN (40) hAc rfl 2 (by decide) q1088 (fun z h => h) (rfl) dX12_done_1 ?_
    refine lv_if_ne (tgt := 17) hx hb dX12_done_4 (by decide) (fun c4 => ?_) (fun c4 => absurd c4 (by decide))
    refine lv_aload_n hx hb dX12_done_17 rfl (lv_at hl 0 rfl) ?_
    refine n_get (ci := 11) (C := RX12) (T := TX12) (N := 4) hx hb hts in_X12 hown hKv hN (40) hAc rfl 2 (by decide) q1088 (fun z h => h) (rfl) dX12_done_18 ?_
    refine lv_iconst (v := 1) hx hb dX12_done_21 (by decide) ?_
    refine lv_icmp_ne (tgt := 38) hx hb dX12_done_22 (by decide) (fun c22 => absurd c22 (fun z => z rfl)) (fun c22 => ?_)
    refine lv_aload_n hx hb dX12_done_25 rfl (lv_at hl 0 rfl) ?_
    refine n_get (ci := 11) (C := RX12) (T := TX12) (N := 4) hx hb hts in_X12 hown hKv hN (40) hAc rfl 1 (by decide) q1087 (fun z h => h) (rfl) dX12_done_26 ?_
    exact x_msg (nm := "java/lang/ClassCastException") (names := ["java/lang/RuntimeException", "java/lang/Exception"]) hx hfl hlk (hxt _) (hl.1.trans hml.symm) (by decide +kernel) (by decide +kernel) (by first | decide | exact Nat.le_of_ble_eq_true rfl) (by first | decide | exact Nat.le_of_ble_eq_true rfl) (x_aCCE hts hKw hX.1 hX.2.1) hN (by decide) (by first | decide | exact Nat.le_of_ble_eq_true rfl) (by first | decide | exact Nat.le_of_ble_eq_true rfl) (by first | decide | exact Nat.le_of_ble_eq_true rfl) (Nat.le_of_ble_eq_true rfl) (Nat.le_of_ble_eq_true rfl) (Nat.le_of_ble_eq_true rfl) (Nat.le_of_ble_eq_true rfl) (fun T hT X => x_castS X hx hb hown (hts _ q870) hT (n_recv hKv hN hE rfl) (hX.2.2.2.1 ("TowerTell$Person", "TowerTell$Proud") (List.mem_of_getElem? (i := 6) rfl)) hX.2.2.1 x_shP.1 x_shP.2.1 dX12_done_29)
  · subst z; subst z2
    have hE : c0 (20 + j) = some (.inr (2, [.int (nI j), .int b_, .int c_, .ref (ad 0)])) := hPe
    refine lv_aload_n hx hb dX12_done_0 rfl (lv_at hl 0 rfl) ?_
    refine n_get (ci := 11) (C := RX12) (T := TX12) (N := 4) hx hb hts in_X12 hown hKv hN (40) hAc rfl 2 (by decide) q1088 (fun z h => h) (rfl) dX12_done_1 ?_
    refine lv_if_ne (tgt := 17) hx hb dX12_done_4 (by decide) (fun c4 => ?_) (fun c4 => absurd c4 (by decide))
    refine lv_aload_n hx hb dX12_done_17 rfl (lv_at hl 0 rfl) ?_
    refine n_get (ci := 11) (C := RX12) (T := TX12) (N := 4) hx hb hts in_X12 hown hKv hN (40) hAc rfl 2 (by decide) q1088 (fun z h => h) (rfl) dX12_done_18 ?_
    refine lv_iconst (v := 1) hx hb dX12_done_21 (by decide) ?_
    refine lv_icmp_ne (tgt := 38) hx hb dX12_done_22 (by decide) (fun c22 => ?_) (fun c22 => absurd c22 (by decide))
    refine lv_aload_n hx hb dX12_done_38 rfl (lv_at hl 0 rfl) ?_
    refine n_get (ci := 11) (C := RX12) (T := TX12) (N := 4) hx hb hts in_X12 hown hKv hN (40) hAc rfl 1 (by decide) q1087 (fun z h => h) (rfl) dX12_done_39 ?_
    exact x_msg (nm := "java/lang/ClassCastException") (names := ["java/lang/RuntimeException", "java/lang/Exception"]) hx hfl hlk (hxt _) (hl.1.trans hml.symm) (by decide +kernel) (by decide +kernel) (by first | decide | exact Nat.le_of_ble_eq_true rfl) (by first | decide | exact Nat.le_of_ble_eq_true rfl) (x_aCCE hts hKw hX.1 hX.2.1) hN (by decide) (by first | decide | exact Nat.le_of_ble_eq_true rfl) (by first | decide | exact Nat.le_of_ble_eq_true rfl) (by first | decide | exact Nat.le_of_ble_eq_true rfl) (Nat.le_of_ble_eq_true rfl) (Nat.le_of_ble_eq_true rfl) (Nat.le_of_ble_eq_true rfl) (Nat.le_of_ble_eq_true rfl) (fun T hT X => x_castS X hx hb hown (hts _ q871) hT (n_recv hKv hN hE rfl) (hX.2.2.2.1 ("TowerTell$Person", "TowerTell$Abject") (List.mem_of_getElem? (i := 7) rfl)) hX.2.2.1 x_shP.1 x_shP.2.2 dX12_done_42)
  · subst z; subst z2
    have hE : c0 (20 + j) = some (.inr (3, [.int (nI j), .int b_, .int c_, .ref (ad 0), .ref (ad 0)])) := hPe
    refine lv_aload_n hx hb dX12_done_0 rfl (lv_at hl 0 rfl) ?_
    refine n_get (ci := 11) (C := RX12) (T := TX12) (N := 4) hx hb hts in_X12 hown hKv hN (40) hAc rfl 2 (by decide) q1088 (fun z h => h) (rfl) dX12_done_1 ?_
    refine lv_if_ne (tgt := 17) hx hb dX12_done_4 (by decide) (fun c4 => ?_) (fun c4 => absurd c4 (by decide))
    refine lv_aload_n hx hb dX12_done_17 rfl (lv_at hl 0 rfl) ?_
    refine n_get (ci := 11) (C := RX12) (T := TX12) (N := 4) hx hb hts in_X12 hown hKv hN (40) hAc rfl 2 (by decide) q1088 (fun z h => h) (rfl) dX12_done_18 ?_
    refine lv_iconst (v := 1) hx hb dX12_done_21 (by decide) ?_
    refine lv_icmp_ne (tgt := 38) hx hb dX12_done_22 (by decide) (fun c22 => ?_) (fun c22 => absurd c22 (by decide))
    refine lv_aload_n hx hb dX12_done_38 rfl (lv_at hl 0 rfl) ?_
    refine n_get (ci := 11) (C := RX12) (T := TX12) (N := 4) hx hb hts in_X12 hown hKv hN (40) hAc rfl 1 (by decide) q1087 (fun z h => h) (rfl) dX12_done_39 ?_
    exact x_msg (nm := "java/lang/ClassCastException") (names := ["java/lang/RuntimeException", "java/lang/Exception"]) hx hfl hlk (hxt _) (hl.1.trans hml.symm) (by decide +kernel) (by decide +kernel) (by first | decide | exact Nat.le_of_ble_eq_true rfl) (by first | decide | exact Nat.le_of_ble_eq_true rfl) (x_aCCE hts hKw hX.1 hX.2.1) hN (by decide) (by first | decide | exact Nat.le_of_ble_eq_true rfl) (by first | decide | exact Nat.le_of_ble_eq_true rfl) (by first | decide | exact Nat.le_of_ble_eq_true rfl) (Nat.le_of_ble_eq_true rfl) (Nat.le_of_ble_eq_true rfl) (Nat.le_of_ble_eq_true rfl) (Nat.le_of_ble_eq_true rfl) (fun T hT X => x_castS X hx hb hown (hts _ q871) hT (n_recv hKv hN hE rfl) (hX.2.2.2.1 ("TowerTell$Proud", "TowerTell$Abject") (List.mem_of_getElem? (i := 8) rfl)) hX.2.2.1 x_shP.2.1 x_shP.2.2 dX12_done_42)
