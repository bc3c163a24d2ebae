/-! SYSTEM: acts and sheets made: printed by wip/gen/e3.py -/
section XN
variable {p : Program} {l : Launch} {e : Env} {R : Room} {s : State} {m : MethodId} {args : Array Value} {below : List Frame} {meth : Method} {c : Code} {H : Heap} {locs : List Loc} {cells slots : Nat} {Q : State → Prop}
variable {cc : ByteArray} {pc : Nat} {ls : Array Slot} {rest st0 : List Value} {G : nG} {cl : List vw_C} {ad : Nat → Nat} {c0 : nPic} {tys : List (ClassId × FieldType)} {K : State → Prop} {y : MethodName} {bytes : ByteArray} {maxL nL mc ms n index : Nat} {ret : Option FieldType} {rm : Room} {P : Option Value → (Nat → Nat) → nPic → Prop} {own host nm : String} {As : List Value}
/-- a static callee of a nest mate throws -/
theorem n_callSNT (S : CallFix p m c cc nL s args lw_all own) (hKo : nKo G K) (hK : K s) (hM : MetT l y (ws_ y bytes maxL ret) rm (nPc G cl K ad c0 As) (xQ nm G cl ad c0) mc ms (fun q => G.2 ≤ q)) (cw : va_CN R s args own index y host bytes maxL ret (ws_ y bytes maxL ret) rm mc ms n ∧ (Cond.static y).before args s = true ∧ True) (hN : nOk G cl ad c0 H) (hS : nS G s H locs) (hn : As.length = n) (hsize : ls.size = nL) (hstack : st0 = As.reverse ++ rest) (hW : (rest.map fun v => v.category).sum ≤ 8) (hdg : decode cc pc = .ok (.invokestatic index, 3)) (hf : cells + mc ≤ R.cells ∧ slots + ms ≤ R.slots)
    (kk : ∀ (a : Addr) (cell : Cell) (H' : Heap) (locs' : List Loc), H'[a]? = some cell → cell.vm.isStatics = false → s.vm.findClass nm = some cell.cls → nOk G cl ad c0 H' → nS G s H' locs' → WT p l e R s m args below meth c H' locs' (cells + mc) (slots + ms) Q (F0 m pc ls rest) a) : W p l e R s m args below meth c H locs cells slots Q (F0 m pc ls st0) := by
  obtain ⟨⟨⟨hrc, hrs, hfr, hlo, hws, hcw⟩, hcode, hini, hy, hlen, hl⟩, hstt, -⟩ := cw
  obtain ⟨hx, hb, hml, ho, -⟩ := S
  intro T hT X
  obtain ⟨mk, hnamed⟩ := Cond.code_named hcode
  obtain ⟨methM, cM, hmethM, -, -, -, -, -, -, hsigM⟩ := Cond.code_spec hnamed hcode
  have hstatic : methM.isStatic = true := Cond.static_spec hnamed hmethM hstt
  obtain ⟨kP, hkP, -⟩ := className_of_methodNamed hnamed
  have hinitP : kP.init = .initialized := Cond.initialized_spec (findClass_of_methodNamed hnamed) hkP hini
  obtain ⟨vm₁, X₁, hstep₁⟩ := X.invokestaticNest hx ho hl hnamed hmethM hstatic hkP hinitP hy (g := F0 m pc ls st0) rfl (argsL := As) (rest := rest) (hn.trans (hlen _ hsigM)) hstack (by rw [hb]; exact hdg)
  obtain ⟨x, t, T', L, X', hL, hh, hq, hst⟩ := xBack X₁ (g := F0 m pc ls rest) (maxL := maxL) (Wt := 8) hM (nPc.blind hKo) hrc hrs hfr hlo (fun w hw => hws w hw _ _ X₁.warmed) (fun w hw a' => hws w hw a' _ X₁.warmed) (fun mk hn => by
      obtain ⟨methY, cY, h1, h2, -, h3, -⟩ := Cond.code_spec hn (hws _ hcw args _ X₁.warmed)
      exact ⟨methY, cY, h1, h2, h3⟩) (x_ini hini X₁.warmed) rfl (hsize.trans hml.symm) (by rw [hb]; exact hdg) (lv_room hW) (X₁.named hnamed) hf.1 hf.2 (nPc.pre hKo hK hN hS As (T.setVm vm₁) hT X₁.warmed)
  obtain ⟨t2, a1, b1⟩ := nRetT (T₁ := T.setVm vm₁) hT rfl X₁.warmed hS X' hL hh hq kk
  exact ⟨t2, hstep₁ _ fun acts => by rw [doInvoke_state]; exact hst.trans a1, b1⟩
end XN
set_option maxHeartbeats 1000000 in
set_option maxRecDepth 100000 in
theorem tX10_init_X10 (l : Launch) (G : nG) (K : State → Prop) (hKo : nKo G K) (hK0 : ∀ U, K U → sK0 G U) (ad : Nat → Nat) (c0 : nPic) (i : Nat) (v0 : Value) (hP : c0 i = some (.inr (6, [v0]))) (r_ : Nat) : Met l yX10_init (ws_ yX10_init cX10_init 2 none) (sR 1 0 0) (nPc G nCl K ad c0 [.ref (ad i), .ref r_]) (nQ G nCl (fun rv ad' c' => rv = none ∧ ad = ad' ∧ va_up c0 i (some (.inr (6, [.ref r_]))) = c')) 0 0 (fun q => G.2 ≤ q) := by
  refine nMet RX10 (by decide) rfl (Nat.le_of_ble_eq_true rfl) ?_
  intro p e s m below meth c ls SS hR hK hN hS hl
  obtain ⟨hx, hb, hml, hown, hts⟩ := id SS
  obtain ⟨hr, hlk, hnm⟩ := hR
  obtain ⟨hKv, hKw, hKf, hKz, hKm⟩ := hK0 s hK
  generalize s.heap = H at hN hS ⊢
  generalize ([] : List Loc) = locs at hS ⊢
  have hl : lv_has ls 2 [(0, .ref (ad i)), (1, .ref r_)] := hl
  refine lv_aload_n hx hb dX10_init_0 rfl (lv_at hl 0 rfl) ?_
  refine W.objInit hx hb (g := F0 m 1 ls _) hown (hts _ q549) (hts _ q96) (hts _ q97) rfl (hl.1.trans hml.symm) rfl dX10_init_1 (Nat.le_of_ble_eq_true rfl) (Nat.le_of_ble_eq_true rfl) ?_
  refine lv_aload_n hx hb dX10_init_4 rfl (lv_at hl 0 rfl) ?_
  refine lv_aload_n hx hb dX10_init_5 rfl (lv_at hl 1 rfl) ?_
  refine n_putF (ci := 6) (C := RX10) (T := TX10) (N := 1) hx hb hts in_X10 tyX10 tyX10_ok (va_apart (own := RX10) hts in_X10 tyX10 tyX10_ok nmX10 hKv rfl) hown hKv hN hS (i) hP rfl 0 (by decide) q550 (fun z h => h) rfl hnm rfl rfl rfl (Nat.le_of_ble_eq_true rfl) dX10_init_6 (fun H locs hN hS => ?_)
  have hP : va_up c0 i (some (.inr (6, [.ref r_]))) i = _ := va_up_self _ _ _
  exact W.vret hx hb hr (nEnd hN hS ⟨rfl, rfl, rfl⟩) hS.2 dX10_init_9
set_option maxHeartbeats 1000000 in
set_option maxRecDepth 100000 in
theorem tX2_init_X4 (l : Launch) (G : nG) (K : State → Prop) (hKo : nKo G K) (hK0 : ∀ U, K U → sK0 G U) (ad : Nat → Nat) (c0 : nPic) (i : Nat) (v0 v1 v2 v3 v4 v5 v6 : Value) (hP : c0 i = some (.inr (8, [v0, v1, v2, v3, v4, v5, v6]))) (o : Nat) : Met l yX2_init (ws_ yX2_init cX2_init 2 none) (sR 1 0 0) (nPc G nCl K ad c0 [.ref (ad i), .ref o]) (nQ G nCl (fun rv ad' c' => rv = none ∧ ad = ad' ∧ va_up c0 i (some (.inr (8, [v0, v1, v2, v3, v4, .ref o, v6]))) = c')) 0 0 (fun q => G.2 ≤ q) := by
  refine nMet RX2 (by decide) rfl (Nat.le_of_ble_eq_true rfl) ?_
  intro p e s m below meth c ls SS hR hK hN hS hl
  obtain ⟨hx, hb, hml, hown, hts⟩ := id SS
  obtain ⟨hr, hlk, hnm⟩ := hR
  obtain ⟨hKv, hKw, hKf, hKz, hKm⟩ := hK0 s hK
  generalize s.heap = H at hN hS ⊢
  generalize ([] : List Loc) = locs at hS ⊢
  have hl : lv_has ls 2 [(0, .ref (ad i)), (1, .ref o)] := hl
  refine lv_aload_n hx hb dX2_init_0 rfl (lv_at hl 0 rfl) ?_
  refine lv_aload_n hx hb dX2_init_1 rfl (lv_at hl 1 rfl) ?_
  refine n_putF (ci := 8) (C := RX4) (T := TX4) (N := 7) hx hb hts in_X4 tyX4 tyX4_ok (n_apart hts in_X4 tyX4 tyX4_ok ndX4 hKv rfl) hown hKv hN hS (i) hP rfl 5 (by decide) q671 (fun z h => h) rfl hnm rfl rfl rfl (Nat.le_of_ble_eq_true rfl) dX2_init_2 (fun H locs hN hS => ?_)
  have hP : va_up c0 i (some (.inr (8, [v0, v1, v2, v3, v4, .ref o, v6]))) i = _ := va_up_self _ _ _
  refine lv_aload_n hx hb dX2_init_5 rfl (lv_at hl 0 rfl) ?_
  refine W.objInit hx hb (g := F0 m 6 ls _) hown (hts _ q662) (hts _ q96) (hts _ q97) rfl (hl.1.trans hml.symm) rfl dX2_init_6 (Nat.le_of_ble_eq_true rfl) (Nat.le_of_ble_eq_true rfl) ?_
  exact W.vret hx hb hr (nEnd hN hS ⟨rfl, rfl, rfl⟩) hS.2 dX2_init_9
set_option maxHeartbeats 1000000 in
set_option maxRecDepth 100000 in
theorem tX2_init_X8 (l : Launch) (G : nG) (K : State → Prop) (hKo : nKo G K) (hK0 : ∀ U, K U → sK0 G U) (ad : Nat → Nat) (c0 : nPic) (i : Nat) (v0 v1 v2 v3 v4 v5 v6 : Value) (hP : c0 i = some (.inr (9, [v0, v1, v2, v3, v4, v5, v6]))) (o : Nat) : Met l yX2_init (ws_ yX2_init cX2_init 2 none) (sR 1 0 0) (nPc G nCl K ad c0 [.ref (ad i), .ref o]) (nQ G nCl (fun rv ad' c' => rv = none ∧ ad = ad' ∧ va_up c0 i (some (.inr (9, [v0, v1, v2, v3, v4, .ref o, v6]))) = c')) 0 0 (fun q => G.2 ≤ q) := by
  refine nMet RX2 (by decide) rfl (Nat.le_of_ble_eq_true rfl) ?_
  intro p e s m below meth c ls SS hR hK hN hS hl
  obtain ⟨hx, hb, hml, hown, hts⟩ := id SS
  obtain ⟨hr, hlk, hnm⟩ := hR
  obtain ⟨hKv, hKw, hKf, hKz, hKm⟩ := hK0 s hK
  generalize s.heap = H at hN hS ⊢
  generalize ([] : List Loc) = locs at hS ⊢
  have hl : lv_has ls 2 [(0, .ref (ad i)), (1, .ref o)] := hl
  refine lv_aload_n hx hb dX2_init_0 rfl (lv_at hl 0 rfl) ?_
  refine lv_aload_n hx hb dX2_init_1 rfl (lv_at hl 1 rfl) ?_
  refine n_putF (ci := 9) (C := RX8) (T := TX8) (N := 7) hx hb hts in_X8 tyX8 tyX8_ok (n_apart hts in_X8 tyX8 tyX8_ok ndX8 hKv rfl) hown hKv hN hS (i) hP rfl 5 (by decide) q671 (fun z h => h) rfl hnm rfl rfl rfl (Nat.le_of_ble_eq_true rfl) dX2_init_2 (fun H locs hN hS => ?_)
  have hP : va_up c0 i (some (.inr (9, [v0, v1, v2, v3, v4, .ref o, v6]))) i = _ := va_up_self _ _ _
  refine lv_aload_n hx hb dX2_init_5 rfl (lv_at hl 0 rfl) ?_
  refine W.objInit hx hb (g := F0 m 6 ls _) hown (hts _ q662) (hts _ q96) (hts _ q97) rfl (hl.1.trans hml.symm) rfl dX2_init_6 (Nat.le_of_ble_eq_true rfl) (Nat.le_of_ble_eq_true rfl) ?_
  exact W.vret hx hb hr (nEnd hN hS ⟨rfl, rfl, rfl⟩) hS.2 dX2_init_9
set_option maxHeartbeats 1000000 in
set_option maxRecDepth 100000 in
theorem tX2_init_X11 (l : Launch) (G : nG) (K : State → Prop) (hKo : nKo G K) (hK0 : ∀ U, K U → sK0 G U) (ad : Nat → Nat) (c0 : nPic) (i : Nat) (v0 v1 v2 v3 v4 v5 v6 : Value) (hP : c0 i = some (.inr (10, [v0, v1, v2, v3, v4, v5, v6]))) (o : Nat) : Met l yX2_init (ws_ yX2_init cX2_init 2 none) (sR 1 0 0) (nPc G nCl K ad c0 [.ref (ad i), .ref o]) (nQ G nCl (fun rv ad' c' => rv = none ∧ ad = ad' ∧ va_up c0 i (some (.inr (10, [.ref o, v1, v2, v3, v4, v5, v6]))) = c')) 0 0 (fun q => G.2 ≤ q) := by
  refine nMet RX2 (by decide) rfl (Nat.le_of_ble_eq_true rfl) ?_
  intro p e s m below meth c ls SS hR hK hN hS hl
  obtain ⟨hx, hb, hml, hown, hts⟩ := id SS
  obtain ⟨hr, hlk, hnm⟩ := hR
  obtain ⟨hKv, hKw, hKf, hKz, hKm⟩ := hK0 s hK
  generalize s.heap = H at hN hS ⊢
  generalize ([] : List Loc) = locs at hS ⊢
  have hl : lv_has ls 2 [(0, .ref (ad i)), (1, .ref o)] := hl
  refine lv_aload_n hx hb dX2_init_0 rfl (lv_at hl 0 rfl) ?_
  refine lv_aload_n hx hb dX2_init_1 rfl (lv_at hl 1 rfl) ?_
  refine n_putF (ci := 10) (C := RX11) (T := TX11) (N := 7) hx hb hts in_X11 tyX11 tyX11_ok (n_apart hts in_X11 tyX11 tyX11_ok ndX11 hKv rfl) hown hKv hN hS (i) hP rfl 0 (by decide) q671 (fun z h => h) rfl hnm rfl rfl rfl (Nat.le_of_ble_eq_true rfl) dX2_init_2 (fun H locs hN hS => ?_)
  have hP : va_up c0 i (some (.inr (10, [.ref o, v1, v2, v3, v4, v5, v6]))) i = _ := va_up_self _ _ _
  refine lv_aload_n hx hb dX2_init_5 rfl (lv_at hl 0 rfl) ?_
  refine W.objInit hx hb (g := F0 m 6 ls _) hown (hts _ q662) (hts _ q96) (hts _ q97) rfl (hl.1.trans hml.symm) rfl dX2_init_6 (Nat.le_of_ble_eq_true rfl) (Nat.le_of_ble_eq_true rfl) ?_
  exact W.vret hx hb hr (nEnd hN hS ⟨rfl, rfl, rfl⟩) hS.2 dX2_init_9
set_option maxHeartbeats 1000000 in
set_option maxRecDepth 100000 in
theorem tX2_init_X12 (l : Launch) (G : nG) (K : State → Prop) (hKo : nKo G K) (hK0 : ∀ U, K U → sK0 G U) (ad : Nat → Nat) (c0 : nPic) (i : Nat) (v0 v1 v2 v3 : Value) (hP : c0 i = some (.inr (11, [v0, v1, v2, v3]))) (o : Nat) : Met l yX2_init (ws_ yX2_init cX2_init 2 none) (sR 1 0 0) (nPc G nCl K ad c0 [.ref (ad i), .ref o]) (nQ G nCl (fun rv ad' c' => rv = none ∧ ad = ad' ∧ va_up c0 i (some (.inr (11, [.ref o, v1, v2, v3]))) = c')) 0 0 (fun q => G.2 ≤ q) := by
  refine nMet RX2 (by decide) rfl (Nat.le_of_ble_eq_true rfl) ?_
  intro p e s m below meth c ls SS hR hK hN hS hl
  obtain ⟨hx, hb, hml, hown, hts⟩ := id SS
  obtain ⟨hr, hlk, hnm⟩ := hR
  obtain ⟨hKv, hKw, hKf, hKz, hKm⟩ := hK0 s hK
  generalize s.heap = H at hN hS ⊢
  generalize ([] : List Loc) = locs at hS ⊢
  have hl : lv_has ls 2 [(0, .ref (ad i)), (1, .ref o)] := hl
  refine lv_aload_n hx hb dX2_init_0 rfl (lv_at hl 0 rfl) ?_
  refine lv_aload_n hx hb dX2_init_1 rfl (lv_at hl 1 rfl) ?_
  refine n_putF (ci := 11) (C := RX12) (T := TX12) (N := 4) hx hb hts in_X12 tyX12 tyX12_ok (n_apart hts in_X12 tyX12 tyX12_ok ndX12 hKv rfl) hown hKv hN hS (i) hP rfl 0 (by decide) q671 (fun z h => h) rfl hnm rfl rfl rfl (Nat.le_of_ble_eq_true rfl) dX2_init_2 (fun H locs hN hS => ?_)
  have hP : va_up c0 i (some (.inr (11, [.ref o, v1, v2, v3]))) i = _ := va_up_self _ _ _
  refine lv_aload_n hx hb dX2_init_5 rfl (lv_at hl 0 rfl) ?_
  refine W.objInit hx hb (g := F0 m 6 ls _) hown (hts _ q662) (hts _ q96) (hts _ q97) rfl (hl.1.trans hml.symm) rfl dX2_init_6 (Nat.le_of_ble_eq_true rfl) (Nat.le_of_ble_eq_true rfl) ?_
  exact W.vret hx hb hr (nEnd hN hS ⟨rfl, rfl, rfl⟩) hS.2 dX2_init_9
set_option maxHeartbeats 1000000 in
set_option maxRecDepth 100000 in
theorem tX3_init_X4 (l : Launch) (G : nG) (K : State → Prop) (hKo : nKo G K) (hK0 : ∀ U, K U → sK0 G U) (ad : Nat → Nat) (c0 : nPic) (i : Nat) (v0 v1 v2 v3 v4 v5 v6 : Value) (hP : c0 i = some (.inr (8, [v0, v1, v2, v3, v4, v5, v6]))) (o : Nat) (k q ii n_ : Int32) : Met l yX3_init (ws_ yX3_init cX3_init 6 none) (sR 2 0 0) (nPc G nCl K ad c0 [.ref (ad i), .ref o, .int k, .int q, .int ii, .int n_]) (nQ G nCl (fun rv ad' c' => rv = none ∧ ad = ad' ∧ va_up c0 i (some (.inr (8, [.int k, .int q, .int ii, .int n_, .ref o, .ref o, v6]))) = c')) 0 0 (fun q => G.2 ≤ q) := by
  refine nMet RX3 (by decide) rfl (Nat.le_of_ble_eq_true rfl) ?_
  intro p e s m below meth c ls SS hR hK hN hS hl
  obtain ⟨hx, hb, hml, hown, hts⟩ := id SS
  obtain ⟨hr, hlk, hnm⟩ := hR
  obtain ⟨hKv, hKw, hKf, hKz, hKm⟩ := hK0 s hK
  generalize s.heap = H at hN hS ⊢
  generalize ([] : List Loc) = locs at hS ⊢
  have hl : lv_has ls 6 [(0, .ref (ad i)), (1, .ref o), (2, .int k), (3, .int q), (4, .int ii), (5, .int n_)] := hl
  refine lv_aload_n hx hb dX3_init_0 rfl (lv_at hl 0 rfl) ?_
  refine lv_aload_n hx hb dX3_init_1 rfl (lv_at hl 1 rfl) ?_
  refine n_putF (ci := 8) (C := RX4) (T := TX4) (N := 7) hx hb hts in_X4 tyX4 tyX4_ok (n_apart hts in_X4 tyX4 tyX4_ok ndX4 hKv rfl) hown hKv hN hS (i) hP rfl 4 (by decide) q670 (fun z h => h) rfl hnm rfl rfl rfl (Nat.le_of_ble_eq_true rfl) dX3_init_2 (fun H locs hN hS => ?_)
  have hP : va_up c0 i (some (.inr (8, [v0, v1, v2, v3, .ref o, v5, v6]))) i = _ := va_up_self _ _ _
  refine lv_aload_n hx hb dX3_init_5 rfl (lv_at hl 0 rfl) ?_
  refine lv_aload_n hx hb dX3_init_6 rfl (lv_at hl 1 rfl) ?_
  refine n_callIN (As := [_]) SS hKo hK (tX2_init_X4 l G K hKo hK0 ad _ i v0 v1 v2 v3 (.ref o) v5 v6 hP o) (⟨va_cnB 1 hts (lw_meth q661) rfl rfl rfl (hKw _ q659 rfl) (hts _ q62) (by decide +kernel) ⟨Nat.le_of_ble_eq_true rfl, Nat.le_of_ble_eq_true rfl⟩, rfl, hts _ q660⟩) hN hS rfl hl.1 rfl (Nat.le_of_ble_eq_true rfl) dX3_init_7 ⟨Nat.le_of_ble_eq_true rfl, Nat.le_of_ble_eq_true rfl⟩ (fun v ad' c' H locs hv hN hS => ?_)
  obtain ⟨rfl, rfl, rfl⟩ := hv
  have hN := hN.congr (va_up_up c0 i _ (some (.inr (8, [v0, v1, v2, v3, .ref o, .ref o, v6]))))
  have hP : va_up c0 i (some (.inr (8, [v0, v1, v2, v3, .ref o, .ref o, v6]))) i = _ := va_up_self _ _ _
  refine W.eq (g2 := F0 m 10 ls _) rfl ?_
  refine lv_aload_n hx hb dX3_init_10 rfl (lv_at hl 0 rfl) ?_
  refine lv_iload_n hx hb dX3_init_11 rfl (lv_at hl 2 rfl) ?_
  refine n_putF (ci := 8) (C := RX4) (T := TX4) (N := 7) hx hb hts in_X4 tyX4 tyX4_ok (n_apart hts in_X4 tyX4 tyX4_ok ndX4 hKv rfl) hown hKv hN hS (i) hP rfl 0 (by decide) q664 (fun z h => h) rfl hnm rfl rfl rfl (Nat.le_of_ble_eq_true rfl) dX3_init_12 (fun H locs hN hS => ?_)
  have hN := hN.congr (va_up_up c0 i _ (some (.inr (8, [.int k, v1, v2, v3, .ref o, .ref o, v6]))))
  have hP : va_up c0 i (some (.inr (8, [.int k, v1, v2, v3, .ref o, .ref o, v6]))) i = _ := va_up_self _ _ _
  refine lv_aload_n hx hb dX3_init_15 rfl (lv_at hl 0 rfl) ?_
  refine lv_iload_n hx hb dX3_init_16 rfl (lv_at hl 3 rfl) ?_
  refine n_putF (ci := 8) (C := RX4) (T := TX4) (N := 7) hx hb hts in_X4 tyX4 tyX4_ok (n_apart hts in_X4 tyX4 tyX4_ok ndX4 hKv rfl) hown hKv hN hS (i) hP rfl 1 (by decide) q666 (fun z h => h) rfl hnm rfl rfl rfl (Nat.le_of_ble_eq_true rfl) dX3_init_17 (fun H locs hN hS => ?_)
  have hN := hN.congr (va_up_up c0 i _ (some (.inr (8, [.int k, .int q, v2, v3, .ref o, .ref o, v6]))))
  have hP : va_up c0 i (some (.inr (8, [.int k, .int q, v2, v3, .ref o, .ref o, v6]))) i = _ := va_up_self _ _ _
  refine lv_aload_n hx hb dX3_init_20 rfl (lv_at hl 0 rfl) ?_
  refine lv_iload hx hb dX3_init_21 (lv_at hl 4 rfl) ?_
  refine n_putF (ci := 8) (C := RX4) (T := TX4) (N := 7) hx hb hts in_X4 tyX4 tyX4_ok (n_apart hts in_X4 tyX4 tyX4_ok ndX4 hKv rfl) hown hKv hN hS (i) hP rfl 2 (by decide) q668 (fun z h => h) rfl hnm rfl rfl rfl (Nat.le_of_ble_eq_true rfl) dX3_init_23 (fun H locs hN hS => ?_)
  have hN := hN.congr (va_up_up c0 i _ (some (.inr (8, [.int k, .int q, .int ii, v3, .ref o, .ref o, v6]))))
  have hP : va_up c0 i (some (.inr (8, [.int k, .int q, .int ii, v3, .ref o, .ref o, v6]))) i = _ := va_up_self _ _ _
  refine lv_aload_n hx hb dX3_init_26 rfl (lv_at hl 0 rfl) ?_
  refine lv_iload hx hb dX3_init_27 (lv_at hl 5 rfl) ?_
  refine n_putF (ci := 8) (C := RX4) (T := TX4) (N := 7) hx hb hts in_X4 tyX4 tyX4_ok (n_apart hts in_X4 tyX4 tyX4_ok ndX4 hKv rfl) hown hKv hN hS (i) hP rfl 3 (by decide) q669 (fun z h => h) rfl hnm rfl rfl rfl (Nat.le_of_ble_eq_true rfl) dX3_init_29 (fun H locs hN hS => ?_)
  have hN := hN.congr (va_up_up c0 i _ (some (.inr (8, [.int k, .int q, .int ii, .int n_, .ref o, .ref o, v6]))))
  have hP : va_up c0 i (some (.inr (8, [.int k, .int q, .int ii, .int n_, .ref o, .ref o, v6]))) i = _ := va_up_self _ _ _
  exact W.vret hx hb hr (nEnd hN hS ⟨rfl, rfl, rfl⟩) hS.2 dX3_init_32
set_option maxHeartbeats 1000000 in
set_option maxRecDepth 100000 in
theorem tX4_init_X4 (l : Launch) (G : nG) (K : State → Prop) (hKo : nKo G K) (hK0 : ∀ U, K U → sK0 G U) (ad : Nat → Nat) (c0 : nPic) (i : Nat) (v0 v1 v2 v3 v4 v5 v6 : Value) (hP : c0 i = some (.inr (8, [v0, v1, v2, v3, v4, v5, v6]))) (o : Nat) (k q ii n_ : Int32) : Met l yX4_init (ws_ yX4_init cX4_init 6 none) (sR 3 0 0) (nPc G nCl K ad c0 [.ref (ad i), .ref o, .int k, .int q, .int ii, .int n_]) (nQ G nCl (fun rv ad' c' => rv = none ∧ ad = ad' ∧ va_up c0 i (some (.inr (8, [.int k, .int q, .int ii, .int n_, .ref o, .ref o, .ref o]))) = c')) 0 0 (fun q => G.2 ≤ q) := by
  refine nMet RX4 (by decide) rfl (Nat.le_of_ble_eq_true rfl) ?_
  intro p e s m below meth c ls SS hR hK hN hS hl
  obtain ⟨hx, hb, hml, hown, hts⟩ := id SS
  obtain ⟨hr, hlk, hnm⟩ := hR
  obtain ⟨hKv, hKw, hKf, hKz, hKm⟩ := hK0 s hK
  generalize s.heap = H at hN hS ⊢
  generalize ([] : List Loc) = locs at hS ⊢
  have hl : lv_has ls 6 [(0, .ref (ad i)), (1, .ref o), (2, .int k), (3, .int q), (4, .int ii), (5, .int n_)] := hl
  refine lv_aload_n hx hb dX4_init_0 rfl (lv_at hl 0 rfl) ?_
  refine lv_aload_n hx hb dX4_init_1 rfl (lv_at hl 1 rfl) ?_
  refine n_putF (ci := 8) (C := RX4) (T := TX4) (N := 7) hx hb hts in_X4 tyX4 tyX4_ok (n_apart hts in_X4 tyX4 tyX4_ok ndX4 hKv rfl) hown hKv hN hS (i) hP rfl 6 (by decide) q663 (fun z h => h) rfl hnm rfl rfl rfl (Nat.le_of_ble_eq_true rfl) dX4_init_2 (fun H locs hN hS => ?_)
  have hP : va_up c0 i (some (.inr (8, [v0, v1, v2, v3, v4, v5, .ref o]))) i = _ := va_up_self _ _ _
  refine lv_aload_n hx hb dX4_init_5 rfl (lv_at hl 0 rfl) ?_
  refine lv_aload_n hx hb dX4_init_6 rfl (lv_at hl 1 rfl) ?_
  refine lv_iload_n hx hb dX4_init_7 rfl (lv_at hl 2 rfl) ?_
  refine lv_iload_n hx hb dX4_init_8 rfl (lv_at hl 3 rfl) ?_
  refine lv_iload hx hb dX4_init_9 (lv_at hl 4 rfl) ?_
  refine lv_iload hx hb dX4_init_11 (lv_at hl 5 rfl) ?_
  refine n_callI (As := [_, _, _, _, _]) SS hKo hK (tX3_init_X4 l G K hKo hK0 ad _ i v0 v1 v2 v3 v4 v5 (.ref o) hP o k q ii n_) (cwI 5 hts (lw_meth q658) rfl rfl rfl (hts _ q63) (hts _ q656) (hts _ q657) rfl (by decide +kernel) ⟨Nat.le_of_ble_eq_true rfl, Nat.le_of_ble_eq_true rfl⟩) hN hS rfl hl.1 rfl (Nat.le_of_ble_eq_true rfl) dX4_init_13 ⟨Nat.le_of_ble_eq_true rfl, Nat.le_of_ble_eq_true rfl⟩ (fun v ad' c' H locs hv hN hS => ?_)
  obtain ⟨rfl, rfl, rfl⟩ := hv
  have hN := hN.congr (va_up_up c0 i _ (some (.inr (8, [.int k, .int q, .int ii, .int n_, .ref o, .ref o, .ref o]))))
  have hP : va_up c0 i (some (.inr (8, [.int k, .int q, .int ii, .int n_, .ref o, .ref o, .ref o]))) i = _ := va_up_self _ _ _
  refine W.eq (g2 := F0 m 16 ls _) rfl ?_
  exact W.vret hx hb hr (nEnd hN hS ⟨rfl, rfl, rfl⟩) hS.2 dX4_init_16
set_option maxHeartbeats 1000000 in
set_option maxRecDepth 100000 in
theorem tX3_init_X8 (l : Launch) (G : nG) (K : State → Prop) (hKo : nKo G K) (hK0 : ∀ U, K U → sK0 G U) (ad : Nat → Nat) (c0 : nPic) (i : Nat) (v0 v1 v2 v3 v4 v5 v6 : Value) (hP : c0 i = some (.inr (9, [v0, v1, v2, v3, v4, v5, v6]))) (o : Nat) (k q ii n_ : Int32) : Met l yX3_init (ws_ yX3_init cX3_init 6 none) (sR 2 0 0) (nPc G nCl K ad c0 [.ref (ad i), .ref o, .int k, .int q, .int ii, .int n_]) (nQ G nCl (fun rv ad' c' => rv = none ∧ ad = ad' ∧ va_up c0 i (some (.inr (9, [.int k, .int q, .int ii, .int n_, .ref o, .ref o, v6]))) = c')) 0 0 (fun q => G.2 ≤ q) := by
  refine nMet RX3 (by decide) rfl (Nat.le_of_ble_eq_true rfl) ?_
  intro p e s m below meth c ls SS hR hK hN hS hl
  obtain ⟨hx, hb, hml, hown, hts⟩ := id SS
  obtain ⟨hr, hlk, hnm⟩ := hR
  obtain ⟨hKv, hKw, hKf, hKz, hKm⟩ := hK0 s hK
  generalize s.heap = H at hN hS ⊢
  generalize ([] : List Loc) = locs at hS ⊢
  have hl : lv_has ls 6 [(0, .ref (ad i)), (1, .ref o), (2, .int k), (3, .int q), (4, .int ii), (5, .int n_)] := hl
  refine lv_aload_n hx hb dX3_init_0 rfl (lv_at hl 0 rfl) ?_
  refine lv_aload_n hx hb dX3_init_1 rfl (lv_at hl 1 rfl) ?_
  refine n_putF (ci := 9) (C := RX8) (T := TX8) (N := 7) hx hb hts in_X8 tyX8 tyX8_ok (n_apart hts in_X8 tyX8 tyX8_ok ndX8 hKv rfl) hown hKv hN hS (i) hP rfl 4 (by decide) q670 (fun z h => h) rfl hnm rfl rfl rfl (Nat.le_of_ble_eq_true rfl) dX3_init_2 (fun H locs hN hS => ?_)
  have hP : va_up c0 i (some (.inr (9, [v0, v1, v2, v3, .ref o, v5, v6]))) i = _ := va_up_self _ _ _
  refine lv_aload_n hx hb dX3_init_5 rfl (lv_at hl 0 rfl) ?_
  refine lv_aload_n hx hb dX3_init_6 rfl (lv_at hl 1 rfl) ?_
  refine n_callIN (As := [_]) SS hKo hK (tX2_init_X8 l G K hKo hK0 ad _ i v0 v1 v2 v3 (.ref o) v5 v6 hP o) (⟨va_cnB 1 hts (lw_meth q661) rfl rfl rfl (hKw _ q659 rfl) (hts _ q62) (by decide +kernel) ⟨Nat.le_of_ble_eq_true rfl, Nat.le_of_ble_eq_true rfl⟩, rfl, hts _ q660⟩) hN hS rfl hl.1 rfl (Nat.le_of_ble_eq_true rfl) dX3_init_7 ⟨Nat.le_of_ble_eq_true rfl, Nat.le_of_ble_eq_true rfl⟩ (fun v ad' c' H locs hv hN hS => ?_)
  obtain ⟨rfl, rfl, rfl⟩ := hv
  have hN := hN.congr (va_up_up c0 i _ (some (.inr (9, [v0, v1, v2, v3, .ref o, .ref o, v6]))))
  have hP : va_up c0 i (some (.inr (9, [v0, v1, v2, v3, .ref o, .ref o, v6]))) i = _ := va_up_self _ _ _
  refine W.eq (g2 := F0 m 10 ls _) rfl ?_
  refine lv_aload_n hx hb dX3_init_10 rfl (lv_at hl 0 rfl) ?_
  refine lv_iload_n hx hb dX3_init_11 rfl (lv_at hl 2 rfl) ?_
  refine n_putF (ci := 9) (C := RX8) (T := TX8) (N := 7) hx hb hts in_X8 tyX8 tyX8_ok (n_apart hts in_X8 tyX8 tyX8_ok ndX8 hKv rfl) hown hKv hN hS (i) hP rfl 0 (by decide) q664 (fun z h => h) rfl hnm rfl rfl rfl (Nat.le_of_ble_eq_true rfl) dX3_init_12 (fun H locs hN hS => ?_)
  have hN := hN.congr (va_up_up c0 i _ (some (.inr (9, [.int k, v1, v2, v3, .ref o, .ref o, v6]))))
  have hP : va_up c0 i (some (.inr (9, [.int k, v1, v2, v3, .ref o, .ref o, v6]))) i = _ := va_up_self _ _ _
  refine lv_aload_n hx hb dX3_init_15 rfl (lv_at hl 0 rfl) ?_
  refine lv_iload_n hx hb dX3_init_16 rfl (lv_at hl 3 rfl) ?_
  refine n_putF (ci := 9) (C := RX8) (T := TX8) (N := 7) hx hb hts in_X8 tyX8 tyX8_ok (n_apart hts in_X8 tyX8 tyX8_ok ndX8 hKv rfl) hown hKv hN hS (i) hP rfl 1 (by decide) q666 (fun z h => h) rfl hnm rfl rfl rfl (Nat.le_of_ble_eq_true rfl) dX3_init_17 (fun H locs hN hS => ?_)
  have hN := hN.congr (va_up_up c0 i _ (some (.inr (9, [.int k, .int q, v2, v3, .ref o, .ref o, v6]))))
  have hP : va_up c0 i (some (.inr (9, [.int k, .int q, v2, v3, .ref o, .ref o, v6]))) i = _ := va_up_self _ _ _
  refine lv_aload_n hx hb dX3_init_20 rfl (lv_at hl 0 rfl) ?_
  refine lv_iload hx hb dX3_init_21 (lv_at hl 4 rfl) ?_
  refine n_putF (ci := 9) (C := RX8) (T := TX8) (N := 7) hx hb hts in_X8 tyX8 tyX8_ok (n_apart hts in_X8 tyX8 tyX8_ok ndX8 hKv rfl) hown hKv hN hS (i) hP rfl 2 (by decide) q668 (fun z h => h) rfl hnm rfl rfl rfl (Nat.le_of_ble_eq_true rfl) dX3_init_23 (fun H locs hN hS => ?_)
  have hN := hN.congr (va_up_up c0 i _ (some (.inr (9, [.int k, .int q, .int ii, v3, .ref o, .ref o, v6]))))
  have hP : va_up c0 i (some (.inr (9, [.int k, .int q, .int ii, v3, .ref o, .ref o, v6]))) i = _ := va_up_self _ _ _
  refine lv_aload_n hx hb dX3_init_26 rfl (lv_at hl 0 rfl) ?_
  refine lv_iload hx hb dX3_init_27 (lv_at hl 5 rfl) ?_
  refine n_putF (ci := 9) (C := RX8) (T := TX8) (N := 7) hx hb hts in_X8 tyX8 tyX8_ok (n_apart hts in_X8 tyX8 tyX8_ok ndX8 hKv rfl) hown hKv hN hS (i) hP rfl 3 (by decide) q669 (fun z h => h) rfl hnm rfl rfl rfl (Nat.le_of_ble_eq_true rfl) dX3_init_29 (fun H locs hN hS => ?_)
  have hN := hN.congr (va_up_up c0 i _ (some (.inr (9, [.int k, .int q, .int ii, .int n_, .ref o, .ref o, v6]))))
  have hP : va_up c0 i (some (.inr (9, [.int k, .int q, .int ii, .int n_, .ref o, .ref o, v6]))) i = _ := va_up_self _ _ _
  exact W.vret hx hb hr (nEnd hN hS ⟨rfl, rfl, rfl⟩) hS.2 dX3_init_32
set_option maxHeartbeats 1000000 in
set_option maxRecDepth 100000 in
theorem tX8_init_X8 (l : Launch) (G : nG) (K : State → Prop) (hKo : nKo G K) (hK0 : ∀ U, K U → sK0 G U) (ad : Nat → Nat) (c0 : nPic) (i : Nat) (v0 v1 v2 v3 v4 v5 v6 : Value) (hP : c0 i = some (.inr (9, [v0, v1, v2, v3, v4, v5, v6]))) (o : Nat) (k q ii n_ : Int32) : Met l yX8_init (ws_ yX8_init cX8_init 6 none) (sR 3 0 0) (nPc G nCl K ad c0 [.ref (ad i), .ref o, .int k, .int q, .int ii, .int n_]) (nQ G nCl (fun rv ad' c' => rv = none ∧ ad = ad' ∧ va_up c0 i (some (.inr (9, [.int k, .int q, .int ii, .int n_, .ref o, .ref o, .ref o]))) = c')) 0 0 (fun q => G.2 ≤ q) := by
  refine nMet RX8 (by decide) rfl (Nat.le_of_ble_eq_true rfl) ?_
  intro p e s m below meth c ls SS hR hK hN hS hl
  obtain ⟨hx, hb, hml, hown, hts⟩ := id SS
  obtain ⟨hr, hlk, hnm⟩ := hR
  obtain ⟨hKv, hKw, hKf, hKz, hKm⟩ := hK0 s hK
  generalize s.heap = H at hN hS ⊢
  generalize ([] : List Loc) = locs at hS ⊢
  have hl : lv_has ls 6 [(0, .ref (ad i)), (1, .ref o), (2, .int k), (3, .int q), (4, .int ii), (5, .int n_)] := hl
  refine lv_aload_n hx hb dX8_init_0 rfl (lv_at hl 0 rfl) ?_
  refine lv_aload_n hx hb dX8_init_1 rfl (lv_at hl 1 rfl) ?_
  refine n_putF (ci := 9) (C := RX8) (T := TX8) (N := 7) hx hb hts in_X8 tyX8 tyX8_ok (n_apart hts in_X8 tyX8 tyX8_ok ndX8 hKv rfl) hown hKv hN hS (i) hP rfl 6 (by decide) q891 (fun z h => h) rfl hnm rfl rfl rfl (Nat.le_of_ble_eq_true rfl) dX8_init_2 (fun H locs hN hS => ?_)
  have hP : va_up c0 i (some (.inr (9, [v0, v1, v2, v3, v4, v5, .ref o]))) i = _ := va_up_self _ _ _
  refine lv_aload_n hx hb dX8_init_5 rfl (lv_at hl 0 rfl) ?_
  refine lv_aload_n hx hb dX8_init_6 rfl (lv_at hl 1 rfl) ?_
  refine lv_iload_n hx hb dX8_init_7 rfl (lv_at hl 2 rfl) ?_
  refine lv_iload_n hx hb dX8_init_8 rfl (lv_at hl 3 rfl) ?_
  refine lv_iload hx hb dX8_init_9 (lv_at hl 4 rfl) ?_
  refine lv_iload hx hb dX8_init_11 (lv_at hl 5 rfl) ?_
  refine n_callI (As := [_, _, _, _, _]) SS hKo hK (tX3_init_X8 l G K hKo hK0 ad _ i v0 v1 v2 v3 v4 v5 (.ref o) hP o k q ii n_) (cwI 5 hts (lw_meth q658) rfl rfl rfl (hts _ q63) (hts _ q890) (hts _ q657) rfl (by decide +kernel) ⟨Nat.le_of_ble_eq_true rfl, Nat.le_of_ble_eq_true rfl⟩) hN hS rfl hl.1 rfl (Nat.le_of_ble_eq_true rfl) dX8_init_13 ⟨Nat.le_of_ble_eq_true rfl, Nat.le_of_ble_eq_true rfl⟩ (fun v ad' c' H locs hv hN hS => ?_)
  obtain ⟨rfl, rfl, rfl⟩ := hv
  have hN := hN.congr (va_up_up c0 i _ (some (.inr (9, [.int k, .int q, .int ii, .int n_, .ref o, .ref o, .ref o]))))
  have hP : va_up c0 i (some (.inr (9, [.int k, .int q, .int ii, .int n_, .ref o, .ref o, .ref o]))) i = _ := va_up_self _ _ _
  refine W.eq (g2 := F0 m 16 ls _) rfl ?_
  exact W.vret hx hb hr (nEnd hN hS ⟨rfl, rfl, rfl⟩) hS.2 dX8_init_16
set_option maxHeartbeats 1000000 in
set_option maxRecDepth 100000 in
theorem tX11_init_X11 (l : Launch) (G : nG) (K : State → Prop) (hKo : nKo G K) (hK0 : ∀ U, K U → sK0 G U) (ad : Nat → Nat) (c0 : nPic) (i : Nat) (v0 v1 v2 v3 v4 v5 v6 : Value) (hP : c0 i = some (.inr (10, [v0, v1, v2, v3, v4, v5, v6]))) (o : Nat) (k ii k2 jj n_ : Int32) : Met l yX11_init (ws_ yX11_init cX11_init 7 none) (sR 2 0 0) (nPc G nCl K ad c0 [.ref (ad i), .ref o, .int k, .int ii, .int k2, .int jj, .int n_]) (nQ G nCl (fun rv ad' c' => rv = none ∧ ad = ad' ∧ va_up c0 i (some (.inr (10, [.ref o, .int k, .int ii, .int k2, .int jj, .int n_, .ref o]))) = c')) 0 0 (fun q => G.2 ≤ q) := by
  refine nMet RX11 (by decide) rfl (Nat.le_of_ble_eq_true rfl) ?_
  intro p e s m below meth c ls SS hR hK hN hS hl
  obtain ⟨hx, hb, hml, hown, hts⟩ := id SS
  obtain ⟨hr, hlk, hnm⟩ := hR
  obtain ⟨hKv, hKw, hKf, hKz, hKm⟩ := hK0 s hK
  generalize s.heap = H at hN hS ⊢
  generalize ([] : List Loc) = locs at hS ⊢
  have hl : lv_has ls 7 [(0, .ref (ad i)), (1, .ref o), (2, .int k), (3, .int ii), (4, .int k2), (5, .int jj), (6, .int n_)] := hl
  refine lv_aload_n hx hb dX11_init_0 rfl (lv_at hl 0 rfl) ?_
  refine lv_aload_n hx hb dX11_init_1 rfl (lv_at hl 1 rfl) ?_
  refine n_putF (ci := 10) (C := RX11) (T := TX11) (N := 7) hx hb hts in_X11 tyX11 tyX11_ok (n_apart hts in_X11 tyX11 tyX11_ok ndX11 hKv rfl) hown hKv hN hS (i) hP rfl 6 (by decide) q979 (fun z h => h) rfl hnm rfl rfl rfl (Nat.le_of_ble_eq_true rfl) dX11_init_2 (fun H locs hN hS => ?_)
  have hP : va_up c0 i (some (.inr (10, [v0, v1, v2, v3, v4, v5, .ref o]))) i = _ := va_up_self _ _ _
  refine lv_aload_n hx hb dX11_init_5 rfl (lv_at hl 0 rfl) ?_
  refine lv_aload_n hx hb dX11_init_6 rfl (lv_at hl 1 rfl) ?_
  refine n_callIN (As := [_]) SS hKo hK (tX2_init_X11 l G K hKo hK0 ad _ i v0 v1 v2 v3 v4 v5 (.ref o) hP o) (⟨va_cnB 1 hts (lw_meth q661) rfl rfl rfl (hKw _ q973 rfl) (hts _ q62) (by decide +kernel) ⟨Nat.le_of_ble_eq_true rfl, Nat.le_of_ble_eq_true rfl⟩, rfl, hts _ q660⟩) hN hS rfl hl.1 rfl (Nat.le_of_ble_eq_true rfl) dX11_init_7 ⟨Nat.le_of_ble_eq_true rfl, Nat.le_of_ble_eq_true rfl⟩ (fun v ad' c' H locs hv hN hS => ?_)
  obtain ⟨rfl, rfl, rfl⟩ := hv
  have hN := hN.congr (va_up_up c0 i _ (some (.inr (10, [.ref o, v1, v2, v3, v4, v5, .ref o]))))
  have hP : va_up c0 i (some (.inr (10, [.ref o, v1, v2, v3, v4, v5, .ref o]))) i = _ := va_up_self _ _ _
  refine W.eq (g2 := F0 m 10 ls _) rfl ?_
  refine lv_aload_n hx hb dX11_init_10 rfl (lv_at hl 0 rfl) ?_
  refine lv_iload_n hx hb dX11_init_11 rfl (lv_at hl 2 rfl) ?_
  refine n_putF (ci := 10) (C := RX11) (T := TX11) (N := 7) hx hb hts in_X11 tyX11 tyX11_ok (n_apart hts in_X11 tyX11 tyX11_ok ndX11 hKv rfl) hown hKv hN hS (i) hP rfl 1 (by decide) q974 (fun z h => h) rfl hnm rfl rfl rfl (Nat.le_of_ble_eq_true rfl) dX11_init_12 (fun H locs hN hS => ?_)
  have hN := hN.congr (va_up_up c0 i _ (some (.inr (10, [.ref o, .int k, v2, v3, v4, v5, .ref o]))))
  have hP : va_up c0 i (some (.inr (10, [.ref o, .int k, v2, v3, v4, v5, .ref o]))) i = _ := va_up_self _ _ _
  refine lv_aload_n hx hb dX11_init_15 rfl (lv_at hl 0 rfl) ?_
  refine lv_iload_n hx hb dX11_init_16 rfl (lv_at hl 3 rfl) ?_
  refine n_putF (ci := 10) (C := RX11) (T := TX11) (N := 7) hx hb hts in_X11 tyX11 tyX11_ok (n_apart hts in_X11 tyX11 tyX11_ok ndX11 hKv rfl) hown hKv hN hS (i) hP rfl 2 (by decide) q975 (fun z h => h) rfl hnm rfl rfl rfl (Nat.le_of_ble_eq_true rfl) dX11_init_17 (fun H locs hN hS => ?_)
  have hN := hN.congr (va_up_up c0 i _ (some (.inr (10, [.ref o, .int k, .int ii, v3, v4, v5, .ref o]))))
  have hP : va_up c0 i (some (.inr (10, [.ref o, .int k, .int ii, v3, v4, v5, .ref o]))) i = _ := va_up_self _ _ _
  refine lv_aload_n hx hb dX11_init_20 rfl (lv_at hl 0 rfl) ?_
  refine lv_iload hx hb dX11_init_21 (lv_at hl 4 rfl) ?_
  refine n_putF (ci := 10) (C := RX11) (T := TX11) (N := 7) hx hb hts in_X11 tyX11 tyX11_ok (n_apart hts in_X11 tyX11 tyX11_ok ndX11 hKv rfl) hown hKv hN hS (i) hP rfl 3 (by decide) q976 (fun z h => h) rfl hnm rfl rfl rfl (Nat.le_of_ble_eq_true rfl) dX11_init_23 (fun H locs hN hS => ?_)
  have hN := hN.congr (va_up_up c0 i _ (some (.inr (10, [.ref o, .int k, .int ii, .int k2, v4, v5, .ref o]))))
  have hP : va_up c0 i (some (.inr (10, [.ref o, .int k, .int ii, .int k2, v4, v5, .ref o]))) i = _ := va_up_self _ _ _
  refine lv_aload_n hx hb dX11_init_26 rfl (lv_at hl 0 rfl) ?_
  refine lv_iload hx hb dX11_init_27 (lv_at hl 5 rfl) ?_
  refine n_putF (ci := 10) (C := RX11) (T := TX11) (N := 7) hx hb hts in_X11 tyX11 tyX11_ok (n_apart hts in_X11 tyX11 tyX11_ok ndX11 hKv rfl) hown hKv hN hS (i) hP rfl 4 (by decide) q977 (fun z h => h) rfl hnm rfl rfl rfl (Nat.le_of_ble_eq_true rfl) dX11_init_29 (fun H locs hN hS => ?_)
  have hN := hN.congr (va_up_up c0 i _ (some (.inr (10, [.ref o, .int k, .int ii, .int k2, .int jj, v5, .ref o]))))
  have hP : va_up c0 i (some (.inr (10, [.ref o, .int k, .int ii, .int k2, .int jj, v5, .ref o]))) i = _ := va_up_self _ _ _
  refine lv_aload_n hx hb dX11_init_32 rfl (lv_at hl 0 rfl) ?_
  refine lv_iload hx hb dX11_init_33 (lv_at hl 6 rfl) ?_
  refine n_putF (ci := 10) (C := RX11) (T := TX11) (N := 7) hx hb hts in_X11 tyX11 tyX11_ok (n_apart hts in_X11 tyX11 tyX11_ok ndX11 hKv rfl) hown hKv hN hS (i) hP rfl 5 (by decide) q978 (fun z h => h) rfl hnm rfl rfl rfl (Nat.le_of_ble_eq_true rfl) dX11_init_35 (fun H locs hN hS => ?_)
  have hN := hN.congr (va_up_up c0 i _ (some (.inr (10, [.ref o, .int k, .int ii, .int k2, .int jj, .int n_, .ref o]))))
  have hP : va_up c0 i (some (.inr (10, [.ref o, .int k, .int ii, .int k2, .int jj, .int n_, .ref o]))) i = _ := va_up_self _ _ _
  exact W.vret hx hb hr (nEnd hN hS ⟨rfl, rfl, rfl⟩) hS.2 dX11_init_38
set_option maxHeartbeats 1000000 in
set_option maxRecDepth 100000 in
theorem tX12_init_X12 (l : Launch) (G : nG) (K : State → Prop) (hKo : nKo G K) (hK0 : ∀ U, K U → sK0 G U) (ad : Nat → Nat) (c0 : nPic) (i : Nat) (v0 v1 v2 v3 : Value) (hP : c0 i = some (.inr (11, [v0, v1, v2, v3]))) (o r_ : Nat) (k : Int32) : Met l yX12_init (ws_ yX12_init cX12_init 4 none) (sR 2 0 0) (nPc G nCl K ad c0 [.ref (ad i), .ref o, .ref r_, .int k]) (nQ G nCl (fun rv ad' c' => rv = none ∧ ad = ad' ∧ va_up c0 i (some (.inr (11, [.ref o, .ref r_, .int k, .ref o]))) = c')) 0 0 (fun q => G.2 ≤ q) := by
  refine nMet RX12 (by decide) rfl (Nat.le_of_ble_eq_true rfl) ?_
  intro p e s m below meth c ls SS hR hK hN hS hl
  obtain ⟨hx, hb, hml, hown, hts⟩ := id SS
  obtain ⟨hr, hlk, hnm⟩ := hR
  obtain ⟨hKv, hKw, hKf, hKz, hKm⟩ := hK0 s hK
  generalize s.heap = H at hN hS ⊢
  generalize ([] : List Loc) = locs at hS ⊢
  have hl : lv_has ls 4 [(0, .ref (ad i)), (1, .ref o), (2, .ref r_), (3, .int k)] := hl
  refine lv_aload_n hx hb dX12_init_0 rfl (lv_at hl 0 rfl) ?_
  refine lv_aload_n hx hb dX12_init_1 rfl (lv_at hl 1 rfl) ?_
  refine n_putF (ci := 11) (C := RX12) (T := TX12) (N := 4) hx hb hts in_X12 tyX12 tyX12_ok (n_apart hts in_X12 tyX12 tyX12_ok ndX12 hKv rfl) hown hKv hN hS (i) hP rfl 3 (by decide) q1089 (fun z h => h) rfl hnm rfl rfl rfl (Nat.le_of_ble_eq_true rfl) dX12_init_2 (fun H locs hN hS => ?_)
  have hP : va_up c0 i (some (.inr (11, [v0, v1, v2, .ref o]))) i = _ := va_up_self _ _ _
  refine lv_aload_n hx hb dX12_init_5 rfl (lv_at hl 0 rfl) ?_
  refine lv_aload_n hx hb dX12_init_6 rfl (lv_at hl 1 rfl) ?_
  refine n_callIN (As := [_]) SS hKo hK (tX2_init_X12 l G K hKo hK0 ad _ i v0 v1 v2 (.ref o) hP o) (⟨va_cnB 1 hts (lw_meth q661) rfl rfl rfl (hKw _ q1086 rfl) (hts _ q62) (by decide +kernel) ⟨Nat.le_of_ble_eq_true rfl, Nat.le_of_ble_eq_true rfl⟩, rfl, hts _ q660⟩) hN hS rfl hl.1 rfl (Nat.le_of_ble_eq_true rfl) dX12_init_7 ⟨Nat.le_of_ble_eq_true rfl, Nat.le_of_ble_eq_true rfl⟩ (fun v ad' c' H locs hv hN hS => ?_)
  obtain ⟨rfl, rfl, rfl⟩ := hv
  have hN := hN.congr (va_up_up c0 i _ (some (.inr (11, [.ref o, v1, v2, .ref o]))))
  have hP : va_up c0 i (some (.inr (11, [.ref o, v1, v2, .ref o]))) i = _ := va_up_self _ _ _
  refine W.eq (g2 := F0 m 10 ls _) rfl ?_
  refine lv_aload_n hx hb dX12_init_10 rfl (lv_at hl 0 rfl) ?_
  refine lv_aload_n hx hb dX12_init_11 rfl (lv_at hl 2 rfl) ?_
  refine n_putF (ci := 11) (C := RX12) (T := TX12) (N := 4) hx hb hts in_X12 tyX12 tyX12_ok (n_apart hts in_X12 tyX12 tyX12_ok ndX12 hKv rfl) hown hKv hN hS (i) hP rfl 1 (by decide) q1087 (fun z h => h) rfl hnm rfl rfl rfl (Nat.le_of_ble_eq_true rfl) dX12_init_12 (fun H locs hN hS => ?_)
  have hN := hN.congr (va_up_up c0 i _ (some (.inr (11, [.ref o, .ref r_, v2, .ref o]))))
  have hP : va_up c0 i (some (.inr (11, [.ref o, .ref r_, v2, .ref o]))) i = _ := va_up_self _ _ _
  refine lv_aload_n hx hb dX12_init_15 rfl (lv_at hl 0 rfl) ?_
  refine lv_iload_n hx hb dX12_init_16 rfl (lv_at hl 3 rfl) ?_
  refine n_putF (ci := 11) (C := RX12) (T := TX12) (N := 4) hx hb hts in_X12 tyX12 tyX12_ok (n_apart hts in_X12 tyX12 tyX12_ok ndX12 hKv rfl) hown hKv hN hS (i) hP rfl 2 (by decide) q1088 (fun z h => h) rfl hnm rfl rfl rfl (Nat.le_of_ble_eq_true rfl) dX12_init_17 (fun H locs hN hS => ?_)
  have hN := hN.congr (va_up_up c0 i _ (some (.inr (11, [.ref o, .ref r_, .int k, .ref o]))))
  have hP : va_up c0 i (some (.inr (11, [.ref o, .ref r_, .int k, .ref o]))) i = _ := va_up_self _ _ _
  exact W.vret hx hb hr (nEnd hN hS ⟨rfl, rfl, rfl⟩) hS.2 dX12_init_20
