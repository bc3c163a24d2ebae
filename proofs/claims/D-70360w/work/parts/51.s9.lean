/-! JDK: bitCount: printed by wip/gen/s9.py -/
abbrev bc_u (x y : Int32) : Int32 := (x.toUInt32 >>> (y.toUInt32 &&& Int32.toUInt32 31)).toInt32
abbrev bc_1 (x : Int32) : Int32 := x - (bc_u x 1 &&& 1431655765)
abbrev bc_2 (x : Int32) : Int32 := (x &&& 858993459) + (bc_u x 2 &&& 858993459)
abbrev bc_3 (x : Int32) : Int32 := (x + bc_u x 4) &&& 252645135
abbrev bc_4 (x : Int32) : Int32 := x + bc_u x 8
abbrev bc_5 (x : Int32) : Int32 := x + bc_u x 16
theorem n_bc : ∀ k, k < 64 → bc_5 (bc_4 (bc_3 (bc_2 (bc_1 (nI k))))) &&& 63 = nI (sPc k) := by decide +kernel
set_option maxHeartbeats 1000000 in
set_option maxRecDepth 100000 in
theorem tJ18_bitCount (l : Launch) (G : nG) (K : State → Prop) (hKo : nKo G K) (hK0 : ∀ U, K U → sK0 G U) (ad : Nat → Nat) (c0 : nPic) (k : Nat) (hk : k < 64) : Met l yJ18_bitCount (ws_ yJ18_bitCount cJ18_bitCount 1 (some .int)) (sR 0 0 0) (nPc G nCl K ad c0 [.int (nI k)]) (nQ G nCl (fun rv ad' c' => rv = some (.int (nI (sPc k))) ∧ ad = ad' ∧ c0 = c')) 0 0 (fun q => G.2 ≤ q) := by
  refine nMet RJ18 (by decide) rfl (Nat.le_of_ble_eq_true rfl) ?_
  intro p e s m below meth c ls SS hR hK hN hS hl
  obtain ⟨hx, hb, hml, hown, hts⟩ := id SS
  obtain ⟨hr, hlk, hnm⟩ := hR
  obtain ⟨hKv, hKw, hKf, hKz, hKm⟩ := hK0 s hK
  generalize s.heap = H at hN hS ⊢
  generalize ([] : List Loc) = locs at hS ⊢
  have hl : lv_has ls 1 [(0, .int (nI k))] := hl
  refine lv_iload_n hx hb dJ18_bitCount_0 rfl (lv_at hl 0 rfl) ?_
  refine lv_iload_n hx hb dJ18_bitCount_1 rfl (lv_at hl 0 rfl) ?_
  refine lv_iconst (v := 1) hx hb dJ18_bitCount_2 (by decide) ?_
  refine lv_iushr hx hb dJ18_bitCount_3 rfl ?_
  refine lv_ldcw hx hb hown (hts _ q311) dJ18_bitCount_4 ?_
  refine lv_iand hx hb dJ18_bitCount_7 ?_
  refine lv_isub hx hb dJ18_bitCount_8 ?_
  refine n_top (y := bc_1 (nI k)) (rfl) ?_
  refine lv_istore_n (lv' := [(0, _)]) hx hb dJ18_bitCount_9 rfl hl (by decide) rfl (fun ls hl => ?_)
  refine lv_iload_n hx hb dJ18_bitCount_10 rfl (lv_at hl 0 rfl) ?_
  refine lv_ldcw hx hb hown (hts _ q312) dJ18_bitCount_11 ?_
  refine lv_iand hx hb dJ18_bitCount_14 ?_
  refine lv_iload_n hx hb dJ18_bitCount_15 rfl (lv_at hl 0 rfl) ?_
  refine lv_iconst (v := 2) hx hb dJ18_bitCount_16 (by decide) ?_
  refine lv_iushr hx hb dJ18_bitCount_17 rfl ?_
  refine lv_ldcw hx hb hown (hts _ q312) dJ18_bitCount_18 ?_
  refine lv_iand hx hb dJ18_bitCount_21 ?_
  refine lv_iadd hx hb dJ18_bitCount_22 ?_
  refine n_top (y := bc_2 (bc_1 (nI k))) (rfl) ?_
  refine lv_istore_n (lv' := [(0, _)]) hx hb dJ18_bitCount_23 rfl hl (by decide) rfl (fun ls hl => ?_)
  refine lv_iload_n hx hb dJ18_bitCount_24 rfl (lv_at hl 0 rfl) ?_
  refine lv_iload_n hx hb dJ18_bitCount_25 rfl (lv_at hl 0 rfl) ?_
  refine lv_iconst (v := 4) hx hb dJ18_bitCount_26 (by decide) ?_
  refine lv_iushr hx hb dJ18_bitCount_27 rfl ?_
  refine lv_iadd hx hb dJ18_bitCount_28 ?_
  refine lv_ldcw hx hb hown (hts _ q313) dJ18_bitCount_29 ?_
  refine lv_iand hx hb dJ18_bitCount_32 ?_
  refine n_top (y := bc_3 (bc_2 (bc_1 (nI k)))) (rfl) ?_
  refine lv_istore_n (lv' := [(0, _)]) hx hb dJ18_bitCount_33 rfl hl (by decide) rfl (fun ls hl => ?_)
  refine lv_iload_n hx hb dJ18_bitCount_34 rfl (lv_at hl 0 rfl) ?_
  refine lv_iload_n hx hb dJ18_bitCount_35 rfl (lv_at hl 0 rfl) ?_
  refine lv_bipush (v := 8) hx hb dJ18_bitCount_36 (by decide) ?_
  refine lv_iushr hx hb dJ18_bitCount_38 rfl ?_
  refine lv_iadd hx hb dJ18_bitCount_39 ?_
  refine n_top (y := bc_4 (bc_3 (bc_2 (bc_1 (nI k))))) (rfl) ?_
  refine lv_istore_n (lv' := [(0, _)]) hx hb dJ18_bitCount_40 rfl hl (by decide) rfl (fun ls hl => ?_)
  refine lv_iload_n hx hb dJ18_bitCount_41 rfl (lv_at hl 0 rfl) ?_
  refine lv_iload_n hx hb dJ18_bitCount_42 rfl (lv_at hl 0 rfl) ?_
  refine lv_bipush (v := 16) hx hb dJ18_bitCount_43 (by decide) ?_
  refine lv_iushr hx hb dJ18_bitCount_45 rfl ?_
  refine lv_iadd hx hb dJ18_bitCount_46 ?_
  refine n_top (y := bc_5 (bc_4 (bc_3 (bc_2 (bc_1 (nI k)))))) (rfl) ?_
  refine lv_istore_n (lv' := [(0, _)]) hx hb dJ18_bitCount_47 rfl hl (by decide) rfl (fun ls hl => ?_)
  refine lv_iload_n hx hb dJ18_bitCount_48 rfl (lv_at hl 0 rfl) ?_
  refine lv_bipush (v := 63) hx hb dJ18_bitCount_49 (by decide) ?_
  refine lv_iand hx hb dJ18_bitCount_51 ?_
  refine n_top (y := nI (sPc k)) (n_bc k hk) ?_
  exact W.iret hx hb hr (nEnd hN hS ⟨rfl, rfl, rfl⟩) hS.2 dJ18_bitCount_52
