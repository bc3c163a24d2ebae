/-! SYSTEM: greet: printed by wip/gen/e10.py -/
section FD
variable {p : Program} {l : Launch} {e : Env} {R : Room} {s : State} {m : MethodId} {args : Array Value} {below : List Frame} {meth : Method} {c : Code} {H : Heap} {locs : List Loc} {cells slots : Nat} {Q : State → Prop}
variable {cc : ByteArray} {pc : Nat} {ls : Array Slot} {rest st0 : List Value} {G : nG} {cl : List vw_C} {ad : Nat → Nat} {c0 : nPic} {tys : List (ClassId × FieldType)} {K : State → Prop} {x y y2 : MethodName} {bytes : ByteArray} {maxL nL mc ms n index : Nat} {ret : Option FieldType} {rm : Room} {P : Option Value → (Nat → Nat) → nPic → Prop} {own C C2 : String} {As : List Value}
/-- what a method's body does, its class initialized or not -/
abbrev nBod (l : Launch) (y : MethodName) (bytes : ByteArray) (nL : Nat) (ret : Option FieldType) (rm : Room) (G : nG) (cl : List vw_C) (K : State → Prop) (ad : Nat → Nat) (c0 : nPic) (avs : List Value) (P : Option Value → (Nat → Nat) → nPic → Prop) (mc ms : Nat) : Prop :=
  ∀ (p : Program) (e : Env) (s : State) (m : MethodId) (below : List Frame) (meth : Method) (c : Code) (ls : Array Slot), CallFix p m c bytes nL s avs.toArray lw_all y.cls → (meth.sig.returnType = ret ∧ meth.locks = false ∧ meth.name = y.name) → K s → nOk G cl ad c0 s.heap → nS G s s.heap [] → lv_has ls nL (lv_args 0 avs) →
      W p l e rm s m avs.toArray below meth c s.heap [] 0 0 (MQ below (nQ G cl P) avs.toArray s mc ms (fun q => G.2 ≤ q)) (F0 m 0 ls [])
/-- a call through an interface that lands in the interface's own body -/
theorem n_callFD {count : Nat} (S : CallFix p m c cc nL s args lw_all own) (hKo : nKo G K) (hK : K s) (hKv : va_K G.1 cl tys s) {b : Nat} (hM : nBod l y bytes maxL ret rm G cl K ad c0 (.ref (ad b) :: As) P mc ms) (hy : plainName y.cls = true) (hsl : (lg_sl (.ref (ad b) :: As)).length ≤ maxL)
    (hLD : nLD C x y s) (hF : va_Fw C2 x y2 s) (hl : Cond.methodLink own index x ∈ lw_all) (hcast : va_Nw (.castable C x.cls) s) (hin : Cond.instanceMethod y ∈ lw_all) (hcw : Cond.code y bytes maxL ret ∈ lw_all) (hd : x.cls ≠ "java/lang/invoke/MethodHandle" ∧ x.cls ≠ "java/lang/invoke/VarHandle" ∧ (parseMethodDescriptor x.desc).map (fun d => d.parameters.length) = some n) (hrc : rm.cells = mc) (hrs : rm.slots = ms) (hR : rm.frames + 1 ≤ R.frames ∧ 8 + (maxL + 11) + rm.locals ≤ R.locals)
    (hN : nOk G cl ad c0 H) (hS : nS G s H locs) {ci : Nat} {fs : List Value} (he : c0 b = some (.inr (ci, fs))) {T : u_T} {N : Nat} (hc : cl[ci]? = some (C, T, N)) (hn : As.length = n) (hsize : ls.size = nL) (hstack : st0 = As.reverse ++ .ref (ad b) :: rest) (hW : (rest.map fun v => v.category).sum ≤ 8) (hdg : decode cc pc = .ok (.invokeinterface index count, 5)) (hf : cells + mc ≤ R.cells ∧ slots + ms ≤ R.slots)
    (kk : ∀ (v : Option Value) (ad' : Nat → Nat) (c' : nPic) (H' : Heap) (locs' : List Loc), P v ad' c' → nOk G cl ad' c' H' → nS G s H' locs' → W p l e R s m args below meth c H' locs' (cells + mc) (slots + ms) Q (F0 m (pc + 5) ls (v.toList ++ rest))) : W p l e R s m args below meth c H locs cells slots Q (F0 m pc ls st0) := by
  obtain ⟨hx, hb, hml, ho, hts⟩ := S
  obtain ⟨cellB, hcB, hoB, hclB⟩ := n_recv hKv hN he hc
  intro T hT X
  obtain ⟨mk, methM, hnamed, hmethM, -, habM⟩ := Cond.instanceMethod_spec (hts _ hin)
  obtain ⟨c9, r9, m9, rm9, g1, g2, g3, g4, g5, g6, mm9, g7, g8⟩ := hLD
  cases hclB.symm.trans g1
  obtain ⟨r0, r, hnn, hrm, hstR, hsigR⟩ := Cond.declares_spec hF.1
  cases g2.symm.trans hnn
  cases g4.symm.trans hrm
  obtain ⟨cL, kL, r1, hcL, hkL, hiL, hfoundL, hn1⟩ := Cond.interfaceMethod_spec hF.2.1
  have hr0cls : r9.cls = cL := Option.some.inj ((findClass_of_methodNamed hnn).symm.trans hcL)
  cases hnamed.symm.trans g3
  cases hmethM.symm.trans g7
  obtain ⟨methM', cM, hmethM', hcM, hbM, hlM, hretM, hlockM, -, hsigM⟩ := Cond.code_spec hnamed (hts _ hcw)
  cases hmethM.symm.trans hmethM'
  have hselP : selectMethod e.platform s.vm cellB.cls r9 = .method mk := by rw [Launch.admits_selectMethod X.admits]; exact g5
  obtain ⟨c3, t3, w1, w2, w3⟩ := Cond.castable_spec hcast
  cases hclB.symm.trans w1
  cases hcL.symm.trans w2
  obtain ⟨kB, hkB, -⟩ := Vm.findClass_spec hclB
  have hlen : As.length = rm9.sig.parameters.length := by
    have h2 := hd.2.2
    rw [hsigR] at h2
    exact hn.trans (Option.some.inj h2).symm
  obtain ⟨vm₁, X₁, hstep₁⟩ := X.invokeinterface hx ho (hts _ hl) hnn hrm hstR (by rw [hr0cls]; exact hkL) hiL ⟨hd.1, hd.2.1⟩ (a := ad b) (cell := cellB) (kcell := kB) (by rw [hT]; exact hcB)
    (fun z h => by rw [h] at hoB; cases hoB) hkB (by rw [hr0cls]; exact w3) hselP hmethM g6 g8 habM (g := F0 m pc ls st0) rfl (argsL := As) (rest := rest) hlen hstack (by rw [hb]; exact hdg)
  have hmk : (T.setVm vm₁).vm.method? mk = some methM := by rw [X₁.warmed.alike.method?]; exact hmethM
  have hroom := lv_room (m := m) (pc := pc) (ls := ls) (rest := rest) hW
  obtain ⟨Y, hdo⟩ := X₁.into (g := F0 m pc ls rest) rfl (hsize.trans hml.symm) (ig := .invokeinterface index count) (len := 5) (by rw [hb]; exact hdg) (Value.ref (ad b) :: As).toArray (R' := rm) hmk hcM hlockM (State.plainMethod.of_named (plainFor_of_name hy) (X₁.named hnamed) hmk) hR.1
    (by rw [hlM]; show 2 * (F0 m pc ls rest).monitorRoom + (rest.map fun v => v.category).sum + (maxL + 11) + rm.locals ≤ _; have := hR.2; omega) (by rw [hrc]; exact hf.1) (by rw [hrs]; exact hf.2)
  obtain ⟨-, hN2, hK2⟩ := nPc.blind hKo _ _ (F0 m pc ls rest) mk (nPc.pre hKo hK hN hS (.ref (ad b) :: As) (T.setVm vm₁) hT X₁.warmed)
  have hts2 : ∀ w ∈ lw_all, w.before (Value.ref (ad b) :: As).toArray ((T.setVm vm₁).calling (F0 m pc ls rest) mk (Value.ref (ad b) :: As).toArray) = true := fun w hw => (pay_in hts (lw_meth hcw)) w (List.mem_cons_of_mem _ hw) _ _ X₁.warmed
  have hown2 : ((T.setVm vm₁).calling (F0 m pc ls rest) mk (Value.ref (ad b) :: As).toArray).vm.findClass y.cls = some mk.cls := findClass_of_methodNamed (X₁.named hnamed)
  obtain ⟨t, a1, o, b1, b2, b3, L, b4, b5⟩ := hM p e _ mk (.java (F0 m pc ls rest) :: below) methM cM _ ⟨hx, hbM, hlM, hown2, hts2⟩ ⟨hretM, hlockM, (name_of_methodNamed hnamed hmethM).1⟩ hK2 hN2 nS.rf (lv_entry (.ref (ad b) :: As) hsl) (((T.setVm vm₁).setTop (F0 m pc ls rest)).pushFrame (.java (entryFrame mk (Value.ref (ad b) :: As).toArray cM.maxLocals))) rfl Y
  obtain ⟨v', ad', c', hv, hP, hN', hq⟩ := b3
  cases hv
  obtain ⟨T', X', hW', hsame, rfl⟩ := X₁.outOf (g := F0 m pc ls rest) rfl (ig := .invokeinterface index count) (len := 5) (by rw [hb]; exact hdg) b2 b4.2.1 b4.2.2
  have hh : (T'.setTop { F0 m pc ls rest with pc := (F0 m pc ls rest).pc + 5, stack := v'.toList ++ (F0 m pc ls rest).stack }).heap = T'.heap := rfl
  obtain ⟨t2, a2, c2⟩ := kk v' ad' c' T'.heap (locs ++ L) hP hN' ⟨fun q hq' => by
      have h1 := hq q hq'
      rw [hh] at h1
      rw [h1]
      show T.heap[q]? = _
      rw [hT]
      exact hS.1 q hq', fun q hq' => by
    rcases List.mem_append.mp hq' with h | h
    · exact hS.2 q h
    · exact b5 q h⟩ T' rfl X'
  refine ⟨t2, hstep₁ _ fun acts => ?_, c2⟩
  rw [hdo acts, hlM, lg_entry_eq]
  rw [hlM, lg_entry_eq] at a1
  obtain ⟨n1, hn1, w1⟩ := a1
  exact Steps.trans ⟨n1, hn1, fun k hk => Within.weaken (mid := [.java (F0 m pc ls rest)]) (w1 k hk)⟩ a2
end FD
set_option maxHeartbeats 1000000 in
set_option maxRecDepth 100000 in
theorem sX13_greeted_0 (l : Launch) (G : nG) (K : State → Prop) (hKo : nKo G K) (hK0 : ∀ U, K U → sK0 G U) (hKx : ∀ U, K U → xK G U) (hfl : l.stackTraces = false) (ad : Nat → Nat) (x : nPic) (si : AI) (sa : Nat → AI) (rn : Value) (i : Nat) (a b kk : Int32) (hi : i ≠ 0 ∧ i ≠ 1 ∧ i ≠ 4 ∧ i ≠ 5) (hXx : x i = some (.inr (2, [.int a, .int b, .int kk, .ref (ad 0)]))) : nBod l yX13_greeted cX13_greeted 1 (some .int) (sR 2 0 0) G nCl K ad (sPic G x ad si sa rn) [.ref (ad i)] (fun rv ad' c' => rv = some (.int a) ∧ ad = ad' ∧ sPic G x ad (upd si 0 (sTr (si 0) 4)) sa rn = c') 0 0 := by
  intro p e s m below meth c ls SS hR hK hN hS hl
  obtain ⟨hx, hb, hml, hown, hts⟩ := id SS
  obtain ⟨hr, hlk, hnm⟩ := hR
  obtain ⟨hKv, hKw, hKf, hKz, hKm⟩ := hK0 s hK
  generalize s.heap = H at hN hS ⊢
  generalize ([] : List Loc) = locs at hS ⊢
  have hl : lv_has ls 1 [(0, .ref (ad i))] := hl
  have hX := hKx s hK
  refine lv_aload_n hx hb dX13_greeted_0 rfl (lv_at hl 0 rfl) ?_
  refine lv_iconst (v := 4) hx hb dX13_greeted_1 (by decide) ?_
  refine n_callF (As := [_]) (C := RX5) (b := i) SS hKo hK hKv (sX5_tracedBy_0 l G K hKo hK0 ad x si sa rn i a b kk hi hXx 4) (va_cwF 1 hts (lw_F q1052 q1058 q1012 q77 q1013) rfl rfl rfl (hX.2.2.2.2.2.1 ("TowerTell$Person", mGr "tracedBy" "(I)I", ⟨"TowerTell$Person", "tracedBy", "(I)I"⟩) (List.mem_of_getElem? (i := 0) rfl)) (by decide +kernel) ⟨Nat.le_of_ble_eq_true rfl, Nat.le_of_ble_eq_true rfl⟩) hN hS ((sPic_x hi).trans hXx) rfl rfl hl.1 rfl (Nat.le_of_ble_eq_true rfl) dX13_greeted_2 ⟨Nat.le_of_ble_eq_true rfl, Nat.le_of_ble_eq_true rfl⟩ (fun v ad' c' H locs hv hN hS => ?_)
  obtain ⟨rfl, rfl, rfl⟩ := hv
  refine W.eq (g2 := F0 m 7 ls (_ :: _)) rfl ?_
  refine lv_aload_n hx hb dX13_greeted_7 rfl (lv_at hl 0 rfl) ?_
  refine n_callF (As := []) (C := RX5) (b := i) SS hKo hK hKv (tX5_number_0 l G K hKo hK0 ad _ i a b kk ((sPic_x hi).trans hXx)) (va_cwF 0 hts (lw_F q1064 q1072 q1069 q77 q1071) rfl rfl rfl (hX.2.2.2.2.2.1 ("TowerTell$Person", mGr "number" "()I", ⟨"TowerTell$Person", "number", "()I"⟩) (List.mem_of_getElem? (i := 1) rfl)) (by decide +kernel) ⟨Nat.le_of_ble_eq_true rfl, Nat.le_of_ble_eq_true rfl⟩) hN hS ((sPic_x hi).trans hXx) rfl rfl hl.1 rfl (Nat.le_of_ble_eq_true rfl) dX13_greeted_8 ⟨Nat.le_of_ble_eq_true rfl, Nat.le_of_ble_eq_true rfl⟩ (fun v ad' c' H locs hv hN hS => ?_)
  obtain ⟨rfl, rfl, rfl⟩ := hv
  refine W.eq (g2 := F0 m 13 ls (_ :: _)) rfl ?_
  refine lv_iadd hx hb dX13_greeted_13 ?_
  refine n_top (y := a) (Int32.zero_add _) ?_
  exact W.iret hx hb hr (nEnd hN hS ⟨rfl, rfl, rfl⟩) hS.2 dX13_greeted_14
set_option maxHeartbeats 1000000 in
set_option maxRecDepth 100000 in
theorem sX13_greeted_1 (l : Launch) (G : nG) (K : State → Prop) (hKo : nKo G K) (hK0 : ∀ U, K U → sK0 G U) (hKx : ∀ U, K U → xK G U) (hfl : l.stackTraces = false) (ad : Nat → Nat) (x : nPic) (si : AI) (sa : Nat → AI) (rn : Value) (i : Nat) (a b kk : Int32) (hi : i ≠ 0 ∧ i ≠ 1 ∧ i ≠ 4 ∧ i ≠ 5) (hXx : x i = some (.inr (3, [.int a, .int b, .int kk, .ref (ad 0), .ref (ad 0)]))) : nBod l yX13_greeted cX13_greeted 1 (some .int) (sR 2 0 0) G nCl K ad (sPic G x ad si sa rn) [.ref (ad i)] (fun rv ad' c' => rv = some (.int a) ∧ ad = ad' ∧ sPic G x ad (upd si 0 (sTr (si 0) 4)) sa rn = c') 0 0 := by
  intro p e s m below meth c ls SS hR hK hN hS hl
  obtain ⟨hx, hb, hml, hown, hts⟩ := id SS
  obtain ⟨hr, hlk, hnm⟩ := hR
  obtain ⟨hKv, hKw, hKf, hKz, hKm⟩ := hK0 s hK
  generalize s.heap = H at hN hS ⊢
  generalize ([] : List Loc) = locs at hS ⊢
  have hl : lv_has ls 1 [(0, .ref (ad i))] := hl
  have hX := hKx s hK
  refine lv_aload_n hx hb dX13_greeted_0 rfl (lv_at hl 0 rfl) ?_
  refine lv_iconst (v := 4) hx hb dX13_greeted_1 (by decide) ?_
  refine n_callF (As := [_]) (C := RX6) (b := i) SS hKo hK hKv (sX5_tracedBy_1 l G K hKo hK0 ad x si sa rn i a b kk hi hXx 4) (va_cwF 1 hts (lw_F q1052 q1061 q1012 q77 q1013) rfl rfl rfl (hX.2.2.2.2.2.1 ("TowerTell$Proud", mGr "tracedBy" "(I)I", ⟨"TowerTell$Person", "tracedBy", "(I)I"⟩) (List.mem_of_getElem? (i := 2) rfl)) (by decide +kernel) ⟨Nat.le_of_ble_eq_true rfl, Nat.le_of_ble_eq_true rfl⟩) hN hS ((sPic_x hi).trans hXx) rfl rfl hl.1 rfl (Nat.le_of_ble_eq_true rfl) dX13_greeted_2 ⟨Nat.le_of_ble_eq_true rfl, Nat.le_of_ble_eq_true rfl⟩ (fun v ad' c' H locs hv hN hS => ?_)
  obtain ⟨rfl, rfl, rfl⟩ := hv
  refine W.eq (g2 := F0 m 7 ls (_ :: _)) rfl ?_
  refine lv_aload_n hx hb dX13_greeted_7 rfl (lv_at hl 0 rfl) ?_
  refine n_callF (As := []) (C := RX6) (b := i) SS hKo hK hKv (tX5_number_1 l G K hKo hK0 ad _ i a b kk ((sPic_x hi).trans hXx)) (va_cwF 0 hts (lw_F q1064 q1074 q1069 q77 q1071) rfl rfl rfl (hX.2.2.2.2.2.1 ("TowerTell$Proud", mGr "number" "()I", ⟨"TowerTell$Person", "number", "()I"⟩) (List.mem_of_getElem? (i := 3) rfl)) (by decide +kernel) ⟨Nat.le_of_ble_eq_true rfl, Nat.le_of_ble_eq_true rfl⟩) hN hS ((sPic_x hi).trans hXx) rfl rfl hl.1 rfl (Nat.le_of_ble_eq_true rfl) dX13_greeted_8 ⟨Nat.le_of_ble_eq_true rfl, Nat.le_of_ble_eq_true rfl⟩ (fun v ad' c' H locs hv hN hS => ?_)
  obtain ⟨rfl, rfl, rfl⟩ := hv
  refine W.eq (g2 := F0 m 13 ls (_ :: _)) rfl ?_
  refine lv_iadd hx hb dX13_greeted_13 ?_
  refine n_top (y := a) (Int32.zero_add _) ?_
  exact W.iret hx hb hr (nEnd hN hS ⟨rfl, rfl, rfl⟩) hS.2 dX13_greeted_14
set_option maxHeartbeats 1000000 in
set_option maxRecDepth 100000 in
theorem sX0_greet (l : Launch) (G : nG) (K : State → Prop) (hKo : nKo G K) (hK0 : ∀ U, K U → sK0 G U) (hKx : ∀ U, K U → xK G U) (hfl : l.stackTraces = false) (ad : Nat → Nat) (x : nPic) (si : AI) (sa : Nat → AI) (rn : Value) (np : Nat) (kd dr kn : AI) (hP : sPeo G ad x np kd dr kn) (p_ : Int32) : Met l yX0_greet (ws_ yX0_greet cX0_greet 3 (some .int)) (sR 4 0 0) (nPc G nCl K ad (sPic G x ad si sa rn) [.ref (ad 0), .int p_]) (nQ G nCl (fun rv ad' c' => rv = some (.int (oGrt np kd (si 0) p_).1) ∧ ad = ad' ∧ sPic G x ad (upd si 0 (oGrt np kd (si 0) p_).2) sa rn = c')) 0 0 (fun q => G.2 ≤ q) := by
  refine nMet RX0 (by decide) rfl (Nat.le_of_ble_eq_true rfl) ?_
  intro p e s m below meth c ls SS hR hK hN hS hl
  obtain ⟨hx, hb, hml, hown, hts⟩ := id SS
  obtain ⟨hr, hlk, hnm⟩ := hR
  obtain ⟨hKv, hKw, hKf, hKz, hKm⟩ := hK0 s hK
  generalize s.heap = H at hN hS ⊢
  generalize ([] : List Loc) = locs at hS ⊢
  have hl : lv_has ls 3 [(0, .ref (ad 0)), (1, .int p_)] := hl
  have hnp4 := hP.1
  have hX := hKx s hK
  by_cases h1 : sIn p_ np = true
  · obtain ⟨j, hj, rfl, tj⟩ := sIn_t (by omega) h1
    refine lv_aload_n hx hb dX0_greet_0 rfl (lv_at hl 0 rfl) ?_
    refine lv_iload_n hx hb dX0_greet_1 rfl (lv_at hl 1 rfl) ?_
    refine n_callV (C := RX0) (As := [_]) (b := 0) SS hKo hK hKv (sX0_noPerson l G K hKo hK0 ad x si sa rn _ np kd dr kn hP) (cwV 1 hts (lw_V q171 q173 qs0 q57 q174) rfl rfl rfl (by decide +kernel) ⟨Nat.le_of_ble_eq_true rfl, Nat.le_of_ble_eq_true rfl⟩) hN hS sPic_0 rfl rfl hl.1 rfl (Nat.le_of_ble_eq_true rfl) dX0_greet_2 ⟨Nat.le_of_ble_eq_true rfl, Nat.le_of_ble_eq_true rfl⟩ (fun v ad' c' H locs hv hN hS => ?_)
    obtain ⟨rfl, rfl, rfl⟩ := hv
    refine W.eq (g2 := F0 m 5 ls (_ :: _)) rfl ?_
    refine n_top (y := 0) (by rw [h1]; rfl) ?_
    refine lv_if_eq (tgt := 10) hx hb dX0_greet_5 (by decide) (fun c5 => ?_) (fun c5 => absurd c5 (fun z => z rfl))
    refine lv_aload_n hx hb dX0_greet_10 rfl (lv_at hl 0 rfl) ?_
    obtain ⟨mc_, hL, hA⟩ := hP.own hj
    have hL : (sPic G x ad si sa rn) 2 = _ := hL
    have hA : (sPic G x ad si sa rn) 3 = _ := hA
    have hnp4 := hP.1
    refine n_get (ci := 0) (C := RX0) (T := TX0) (N := 12) hx hb hts in_X0 hown hKv hN (0) sPic_0 rfl 3 (by decide) q131 (fun z h => h) (rfl) dX0_greet_11 ?_
    refine lv_iload_n hx hb dX0_greet_14 rfl (lv_at hl 1 rfl) ?_
    refine n_callF (As := [_]) (C := RJ2) (b := 2) SS hKo hK hKv (tJ2_get l G K hKo hK0 ad _ 2 3 mc_ np 10 (sPl ad np) hL hA (by decide) j hj (by omega)) (va_cwF 1 hts (lw_F q189 q192 q194 q60 q196) rfl rfl rfl (hKf (RJ2, ⟨"java/util/List", "get", "(I)Ljava/lang/Object;"⟩, ⟨"java/util/ArrayList", "get", "(I)Ljava/lang/Object;"⟩) (List.mem_of_getElem? (i := 1) rfl)) (by decide +kernel) ⟨Nat.le_of_ble_eq_true rfl, Nat.le_of_ble_eq_true rfl⟩) hN hS hL rfl rfl hl.1 rfl (Nat.le_of_ble_eq_true rfl) dX0_greet_15 ⟨Nat.le_of_ble_eq_true rfl, Nat.le_of_ble_eq_true rfl⟩ (fun v ad' c' H locs hv hN hS => ?_)
    obtain ⟨rfl, rfl, rfl⟩ := hv
    refine W.eq (g2 := F0 m 20 ls (_ :: _)) rfl ?_
    refine n_topv (y := .ref (ad (20 + j))) (sPl_at hj) ?_
    obtain ⟨kq, hk3, hkd, hXp⟩ := hP.2.2 j hj
    rcases (show kq = 0 ∨ kq = 1 ∨ kq = 2 by omega) with z | z | z
    · subst z
      have hE : (sPic G x ad si sa rn) (20 + j) = some (.inr (2, [.int (nI j), .int (dr j), .int (kn j), .ref (ad 0)])) := (sPic_x ⟨by omega, by omega, by omega, by omega⟩).trans hXp
      refine n_cast hx hb hts hown q1035 (hKw _ q1046 rfl) hKv hN hE rfl dX0_greet_20 ?_
      refine lv_astore_n (lv' := [(2, _), (0, _), (1, _)]) hx hb dX0_greet_23 rfl hl (by decide) rfl (fun ls hl => ?_)
      refine lv_aload_n hx hb dX0_greet_24 rfl (lv_at hl 0 rfl) ?_
      refine n_callFD (C := RX5) (x := mGr "greeted" "()I") (y := yX13_greeted) (As := []) (b := 20 + j) (n := 0) SS hKo hK hKv (sX13_greeted_0 l G K hKo hK0 hKx hfl ad x si sa rn (20 + j) (nI j) (dr j) (kn j) ⟨by omega, by omega, by omega, by omega⟩ hXp) (by decide) (Nat.le_of_ble_eq_true rfl) hX.2.2.2.2.2.2.1 (hX.2.2.2.2.2.1 ("TowerTell$Abject", mGr "greeted" "()I", ⟨"TowerTell$Abject", "greeted", "()I"⟩) (List.mem_of_getElem? (i := 4) rfl)) q1037 (hKw _ q1046 rfl) q1048 q1050 (by decide +kernel) rfl rfl ⟨Nat.le_of_ble_eq_true rfl, Nat.le_of_ble_eq_true rfl⟩ hN hS hE rfl rfl hl.1 rfl (Nat.le_of_ble_eq_true rfl) dX0_greet_25 ⟨Nat.le_of_ble_eq_true rfl, Nat.le_of_ble_eq_true rfl⟩ (fun v ad' c' H locs hv hN hS => ?_)
      obtain ⟨rfl, rfl, rfl⟩ := hv
      refine W.eq (g2 := F0 m 30 ls (_ :: _)) rfl ?_
      exact W.iret hx hb hr (nEnd hN hS ⟨by unfold oGrt; rw [if_pos h1, tn, tj, hkd, if_neg (by decide)], rfl, by unfold oGrt; rw [if_pos h1, tn, tj, hkd, if_neg (by decide)]⟩) hS.2 dX0_greet_30
    · subst z
      have hE : (sPic G x ad si sa rn) (20 + j) = some (.inr (3, [.int (nI j), .int (dr j), .int (kn j), .ref (ad 0), .ref (ad 0)])) := (sPic_x ⟨by omega, by omega, by omega, by omega⟩).trans hXp
      refine n_cast hx hb hts hown q1035 (hKw _ q1060 rfl) hKv hN hE rfl dX0_greet_20 ?_
      refine lv_astore_n (lv' := [(2, _), (0, _), (1, _)]) hx hb dX0_greet_23 rfl hl (by decide) rfl (fun ls hl => ?_)
      refine lv_aload_n hx hb dX0_greet_24 rfl (lv_at hl 0 rfl) ?_
      refine n_callFD (C := RX6) (x := mGr "greeted" "()I") (y := yX13_greeted) (As := []) (b := 20 + j) (n := 0) SS hKo hK hKv (sX13_greeted_1 l G K hKo hK0 hKx hfl ad x si sa rn (20 + j) (nI j) (dr j) (kn j) ⟨by omega, by omega, by omega, by omega⟩ hXp) (by decide) (Nat.le_of_ble_eq_true rfl) hX.2.2.2.2.2.2.2 (hX.2.2.2.2.2.1 ("TowerTell$Abject", mGr "greeted" "()I", ⟨"TowerTell$Abject", "greeted", "()I"⟩) (List.mem_of_getElem? (i := 4) rfl)) q1037 (hKw _ q1060 rfl) q1048 q1050 (by decide +kernel) rfl rfl ⟨Nat.le_of_ble_eq_true rfl, Nat.le_of_ble_eq_true rfl⟩ hN hS hE rfl rfl hl.1 rfl (Nat.le_of_ble_eq_true rfl) dX0_greet_25 ⟨Nat.le_of_ble_eq_true rfl, Nat.le_of_ble_eq_true rfl⟩ (fun v ad' c' H locs hv hN hS => ?_)
      obtain ⟨rfl, rfl, rfl⟩ := hv
      refine W.eq (g2 := F0 m 30 ls (_ :: _)) rfl ?_
      exact W.iret hx hb hr (nEnd hN hS ⟨by unfold oGrt; rw [if_pos h1, tn, tj, hkd, if_neg (by decide)], rfl, by unfold oGrt; rw [if_pos h1, tn, tj, hkd, if_neg (by decide)]⟩) hS.2 dX0_greet_30
    · subst z
      have hE : (sPic G x ad si sa rn) (20 + j) = some (.inr (4, [.int (nI j), .int (dr j), .int (kn j), .ref (ad 0), .ref (ad 0), .ref (ad 0)])) := (sPic_x ⟨by omega, by omega, by omega, by omega⟩).trans hXp
      refine n_cast hx hb hts hown q1035 (hKw _ q1040 rfl) hKv hN hE rfl dX0_greet_20 ?_
      refine lv_astore_n (lv' := [(2, _), (0, _), (1, _)]) hx hb dX0_greet_23 rfl hl (by decide) rfl (fun ls hl => ?_)
      refine lv_aload_n hx hb dX0_greet_24 rfl (lv_at hl 0 rfl) ?_
      refine n_callF (As := []) (C := RX7) (b := 20 + j) SS hKo hK hKv (sX7_greeted l G K hKo hK0 ad x si sa rn (20 + j) (nI j) (dr j) (kn j) ⟨by omega, by omega, by omega, by omega⟩ hXp) (va_cwF 0 hts (lw_F q1037 q1041 q1043 q79 q1045) rfl rfl rfl (hX.2.2.2.2.2.1 ("TowerTell$Abject", mGr "greeted" "()I", ⟨"TowerTell$Abject", "greeted", "()I"⟩) (List.mem_of_getElem? (i := 4) rfl)) (by decide +kernel) ⟨Nat.le_of_ble_eq_true rfl, Nat.le_of_ble_eq_true rfl⟩) hN hS hE rfl rfl hl.1 rfl (Nat.le_of_ble_eq_true rfl) dX0_greet_25 ⟨Nat.le_of_ble_eq_true rfl, Nat.le_of_ble_eq_true rfl⟩ (fun v ad' c' H locs hv hN hS => ?_)
      obtain ⟨rfl, rfl, rfl⟩ := hv
      refine W.eq (g2 := F0 m 30 ls (_ :: _)) rfl ?_
      exact W.iret hx hb hr (nEnd hN hS ⟨by unfold oGrt; rw [if_pos h1, tn, tj, hkd, if_pos (by decide)], rfl, by unfold oGrt; rw [if_pos h1, tn, tj, hkd, if_pos (by decide)]⟩) hS.2 dX0_greet_30
  · have h1 : sIn p_ np = false := by simpa using h1
    refine lv_aload_n hx hb dX0_greet_0 rfl (lv_at hl 0 rfl) ?_
    refine lv_iload_n hx hb dX0_greet_1 rfl (lv_at hl 1 rfl) ?_
    refine n_callV (C := RX0) (As := [_]) (b := 0) SS hKo hK hKv (sX0_noPerson l G K hKo hK0 ad x si sa rn _ np kd dr kn hP) (cwV 1 hts (lw_V q171 q173 qs0 q57 q174) rfl rfl rfl (by decide +kernel) ⟨Nat.le_of_ble_eq_true rfl, Nat.le_of_ble_eq_true rfl⟩) hN hS sPic_0 rfl rfl hl.1 rfl (Nat.le_of_ble_eq_true rfl) dX0_greet_2 ⟨Nat.le_of_ble_eq_true rfl, Nat.le_of_ble_eq_true rfl⟩ (fun v ad' c' H locs hv hN hS => ?_)
    obtain ⟨rfl, rfl, rfl⟩ := hv
    refine W.eq (g2 := F0 m 5 ls (_ :: _)) rfl ?_
    refine n_top (y := 1) (by rw [h1]; rfl) ?_
    refine lv_if_eq (tgt := 10) hx hb dX0_greet_5 (by decide) (fun c5 => absurd c5 (by decide)) (fun c5 => ?_)
    refine lv_iconst (v := (-1)) hx hb dX0_greet_8 (by decide) ?_
    exact W.iret hx hb hr (nEnd hN hS ⟨by unfold oGrt; rw [h1]; rfl, rfl, by unfold oGrt; rw [h1]; exact congrArg (fun z => sPic G x ad z sa rn) (upd_self si 0 _ rfl)⟩) hS.2 dX0_greet_9
