/-! SYSTEM's CORE: rows by names for objects, references, interface and inherited calls -/
/-- words of the tables that are not steady, yet stay in a run -/
def nbW : Cond → Bool
  | .castable _ _ => true
  | .declares _ => true
  | .methodLinkNest _ _ _ _ => true
  | .fieldLinkNest _ _ _ _ _ _ => true
  | .arrayOver (.object _) => true
  | _ => false
theorem nbW_moved {w : Cond} (h : nbW w = true) {u U : State} (hW : u.WarmedH U.vm) (hw : va_Nw w u) : va_Nw w U := by
  unfold nbW at h
  split at h
  · exact va_Nw.warmC hW hw
  · exact va_Nw.warmD hW hw
  · exact va_Nw.warmM hW hw
  · exact va_Nw.warmF hW hw
  · exact va_AO.moved hW.alike hw
  · cases h
abbrev nFwT : Type := String × MethodName × MethodName
/-- the static array of an empty list -/
abbrev nDea (G : nG) : Nat := G.1.2 1000 0
def sZ (G : nG) (U : State) : Prop := va_Z "java/util/ArrayList" "DEFAULTCAPACITY_EMPTY_ELEMENTDATA" "[Ljava/lang/Object;" (.ref (nDea G)) (fun q => G.2 ≤ q) U U.heap ∧ U.heap[nDea G]? = some (vp_cell (G.1.1 103) (0, .inr (.inr (.inr (.inr (fun _ => none)))))) ∧ nDea G < G.2
abbrev mLi (n d : String) : MethodName := ⟨"java/util/List", n, d⟩
abbrev mAl (n d : String) : MethodName := ⟨"java/util/ArrayList", n, d⟩
def nFwL : List nFwT := [("java/util/ArrayList", mLi "size" "()I", mAl "size" "()I"), ("java/util/ArrayList", mLi "get" "(I)Ljava/lang/Object;", mAl "get" "(I)Ljava/lang/Object;"), ("java/util/ArrayList", mLi "isEmpty" "()Z", mAl "isEmpty" "()Z"),
  ("java/util/ArrayList", mLi "add" "(Ljava/lang/Object;)Z", mAl "add" "(Ljava/lang/Object;)Z"), ("java/util/ArrayList", mLi "addAll" "(Ljava/util/Collection;)Z", mAl "addAll" "(Ljava/util/Collection;)Z"), ("java/util/ArrayList", mLi "clear" "()V", mAl "clear" "()V"),
  ("java/util/ArrayList", mLi "remove" "(I)Ljava/lang/Object;", mAl "remove" "(I)Ljava/lang/Object;"), ("java/util/ArrayList", mLi "set" "(ILjava/lang/Object;)Ljava/lang/Object;", mAl "set" "(ILjava/lang/Object;)Ljava/lang/Object;"),
  ("java/util/ArrayList", ⟨"java/util/Collection", "toArray", "()[Ljava/lang/Object;"⟩, mAl "toArray" "()[Ljava/lang/Object;")]
def sK0 (G : nG) (U : State) : Prop := va_K G.1 nCl (nTy G) U ∧ (∀ w ∈ lw_tbl, nbW w = true → va_Nw w U) ∧ (∀ t ∈ nFwL, va_Fw t.1 t.2.1 t.2.2 U) ∧ sZ G U ∧ va_Mi "[Ljava/lang/Object;" (G.1.2 1000 1) U
theorem nFwL_ok : ∀ t ∈ nFwL, t.2.1.cls ≠ "java/lang/invoke/MethodHandle" ∧ t.2.1.cls ≠ "java/lang/invoke/VarHandle" := by
  decide +kernel
theorem sK0_o (G : nG) : nKo G (sK0 G) := by
  intro u U hW hH h
  obtain ⟨h1, h2, h3, ⟨h4, h5, h6⟩, h7⟩ := h
  refine ⟨va_K.moved hW.alike h1, fun w hw hb => nbW_moved hb hW (h2 w hw hb), fun t ht => va_Fw.moved (nFwL_ok t ht) hW.alike (h3 t ht), ⟨?_, by rw [hH _ h6]; exact h5, h6⟩, va_Mi.moved hW.alike h7⟩
  exact (va_Z.moved hW.alike h4).kept (fun q _ hq => hH q (by omega))
section NR5
variable {p : Program} {l : Launch} {e : Env} {R : Room} {s : State} {m : MethodId} {args : Array Value} {below : List Frame} {meth : Method} {c : Code} {H : Heap} {locs : List Loc} {cells slots : Nat} {Q : State → Prop}
variable {cc : ByteArray} {pc : Nat} {ls : Array Slot} {rest st0 : List Value} {G : nG} {cl : List vw_C} {ad : Nat → Nat} {c0 : nPic} {tys : List (ClassId × FieldType)} {K : State → Prop} {x y : MethodName} {bytes : ByteArray} {maxL nL mc ms n index : Nat} {ret : Option FieldType} {rm : Room} {P : Option Value → (Nat → Nat) → nPic → Prop} {own C : String} {As : List Value}
theorem nRet5 {a : Array Value} (hr : va_Run5 p l e R s m args below meth c H locs cells slots mc ms (F0 m pc ls st0) rest (nQ G cl P a) (fun q => G.2 ≤ q)) (hS : nS G s H locs)
    (kk : ∀ (v : Option Value) (ad' : Nat → Nat) (c' : nPic) (H' : Heap) (locs' : List Loc), P v ad' c' → nOk G cl ad' c' H' → nS G s H' locs' → W p l e R s m args below meth c H' locs' (cells + mc) (slots + ms) Q (F0 m (pc + 5) ls (v.toList ++ rest))) : W p l e R s m args below meth c H locs cells slots Q (F0 m pc ls st0) := by
  intro T hT X
  obtain ⟨v, st₀, t, T', L, h0, X', hL, e1, -, ⟨v', ad', c', hv, hP, hN, hq⟩, st⟩ := hr T hT X
  cases hv
  obtain ⟨t2, a1, b1⟩ := kk v ad' c' T'.heap (locs ++ L) hP (by rw [e1]; exact hN) ⟨fun q hq' => by rw [e1, hq q hq', h0]; exact hS.1 q hq', fun q hq' => by
    rcases List.mem_append.mp hq' with h | h
    · exact hS.2 q h
    · exact hL q h⟩ T' rfl X'
  exact ⟨t2, st t2 a1, b1⟩
/-- a virtual call that runs another class's method -/
theorem n_callU {owner : String} (S : CallFix p m c cc nL s args lw_all own) (hKo : nKo G K) (hK : K s) (hKv : va_K G.1 cl tys s) {b : Nat} (hM : Met l y (ws_ y bytes maxL ret) rm (nPc G cl K ad c0 (.ref (ad b) :: As)) (nQ G cl P) mc ms (fun q => G.2 ≤ q)) (cw : va_CU R s args own C owner index x y bytes maxL ret (ws_ y bytes maxL ret) rm mc ms n) (hN : nOk G cl ad c0 H) (hS : nS G s H locs) {ci : Nat} {fs : List Value} (he : c0 b = some (.inr (ci, fs))) {T : u_T} {N : Nat} (hc : cl[ci]? = some (C, T, N)) (hn : As.length = n) (hsize : ls.size = nL) (hstack : st0 = As.reverse ++ .ref (ad b) :: rest) (hW : (rest.map fun v => v.category).sum ≤ 8) (hdg : decode cc pc = .ok (.invokevirtual index, 3)) (hf : cells + mc ≤ R.cells ∧ slots + ms ≤ R.slots)
    (kk : ∀ (v : Option Value) (ad' : Nat → Nat) (c' : nPic) (H' : Heap) (locs' : List Loc), P v ad' c' → nOk G cl ad' c' H' → nS G s H' locs' → W p l e R s m args below meth c H' locs' (cells + mc) (slots + ms) Q (F0 m (pc + 3) ls (v.toList ++ rest))) : W p l e R s m args below meth c H locs cells slots Q (F0 m pc ls st0) :=
  nRet (va_runU (g := F0 m pc ls st0) S hM cw ⟨nPc.blind hKo, va_recv hKv (hN.P1 he) (q0 := 0) hc rfl, nPc.pre hKo hK hN hS _⟩ rfl hn hsize hstack (lv_room hW) hdg hf) hS kk
/-- super.m(..) -/
theorem n_callSU (S : CallFix p m c cc nL s args lw_all own) (hKo : nKo G K) (hK : K s) (hKv : va_K G.1 cl tys s) {b : Nat} (hM : Met l y (ws_ y bytes maxL ret) rm (nPc G cl K ad c0 (.ref (ad b) :: As)) (nQ G cl P) mc ms (fun q => G.2 ≤ q)) (cw : va_CS R s args own index y bytes maxL ret (ws_ y bytes maxL ret) rm mc ms n) (hN : nOk G cl ad c0 H) (hS : nS G s H locs) {ci : Nat} {fs : List Value} (he : c0 b = some (.inr (ci, fs))) {T : u_T} {N : Nat} (hc : cl[ci]? = some (C, T, N)) (hn : As.length = n) (hsize : ls.size = nL) (hstack : st0 = As.reverse ++ .ref (ad b) :: rest) (hW : (rest.map fun v => v.category).sum ≤ 8) (hdg : decode cc pc = .ok (.invokespecial index, 3)) (hf : cells + mc ≤ R.cells ∧ slots + ms ≤ R.slots)
    (kk : ∀ (v : Option Value) (ad' : Nat → Nat) (c' : nPic) (H' : Heap) (locs' : List Loc), P v ad' c' → nOk G cl ad' c' H' → nS G s H' locs' → W p l e R s m args below meth c H' locs' (cells + mc) (slots + ms) Q (F0 m (pc + 3) ls (v.toList ++ rest))) : W p l e R s m args below meth c H locs cells slots Q (F0 m pc ls st0) :=
  nRet (va_runSU (g := F0 m pc ls st0) (hKv.1 ci _ hc).2 S hM cw ⟨nPc.blind hKo, va_recv hKv (hN.P1 he) (q0 := 0) hc rfl, nPc.pre hKo hK hN hS _⟩ rfl hn hsize hstack (lv_room hW) hdg hf) hS kk
/-- a call through an interface -/
theorem n_callF {count : Nat} (S : CallFix p m c cc nL s args lw_all own) (hKo : nKo G K) (hK : K s) (hKv : va_K G.1 cl tys s) {b : Nat} (hM : Met l y (ws_ y bytes maxL ret) rm (nPc G cl K ad c0 (.ref (ad b) :: As)) (nQ G cl P) mc ms (fun q => G.2 ≤ q)) (cw : va_CI R s args own C index x y bytes maxL ret (ws_ y bytes maxL ret) rm mc ms n) (hN : nOk G cl ad c0 H) (hS : nS G s H locs) {ci : Nat} {fs : List Value} (he : c0 b = some (.inr (ci, fs))) {T : u_T} {N : Nat} (hc : cl[ci]? = some (C, T, N)) (hn : As.length = n) (hsize : ls.size = nL) (hstack : st0 = As.reverse ++ .ref (ad b) :: rest) (hW : (rest.map fun v => v.category).sum ≤ 8) (hdg : decode cc pc = .ok (.invokeinterface index count, 5)) (hf : cells + mc ≤ R.cells ∧ slots + ms ≤ R.slots)
    (kk : ∀ (v : Option Value) (ad' : Nat → Nat) (c' : nPic) (H' : Heap) (locs' : List Loc), P v ad' c' → nOk G cl ad' c' H' → nS G s H' locs' → W p l e R s m args below meth c H' locs' (cells + mc) (slots + ms) Q (F0 m (pc + 5) ls (v.toList ++ rest))) : W p l e R s m args below meth c H locs cells slots Q (F0 m pc ls st0) :=
  nRet5 (va_runF (g := F0 m pc ls st0) (hKv.1 ci _ hc).2 S hM cw ⟨nPc.blind hKo, va_recv hKv (hN.P1 he) (q0 := 0) hc rfl, nPc.pre hKo hK hN hS _⟩ rfl hn hsize hstack (lv_room hW) hdg hf) hS kk
/-- calls of nest mates' private methods -/
theorem n_callVN {host : String} (S : CallFix p m c cc nL s args lw_all own) (hKo : nKo G K) (hK : K s) (hKv : va_K G.1 cl tys s) {b : Nat} (hM : Met l y (ws_ y bytes maxL ret) rm (nPc G cl K ad c0 (.ref (ad b) :: As)) (nQ G cl P) mc ms (fun q => G.2 ≤ q)) (cw : va_CN R s args own index y host bytes maxL ret (ws_ y bytes maxL ret) rm mc ms n ∧ (Cond.instanceMethod y).before args s = true ∧ (Cond.selects C y y).before args s = true) (hN : nOk G cl ad c0 H) (hS : nS G s H locs) {ci : Nat} {fs : List Value} (he : c0 b = some (.inr (ci, fs))) {T : u_T} {N : Nat} (hc : cl[ci]? = some (C, T, N)) (hn : As.length = n) (hsize : ls.size = nL) (hstack : st0 = As.reverse ++ .ref (ad b) :: rest) (hW : (rest.map fun v => v.category).sum ≤ 8) (hdg : decode cc pc = .ok (.invokevirtual index, 3)) (hf : cells + mc ≤ R.cells ∧ slots + ms ≤ R.slots)
    (kk : ∀ (v : Option Value) (ad' : Nat → Nat) (c' : nPic) (H' : Heap) (locs' : List Loc), P v ad' c' → nOk G cl ad' c' H' → nS G s H' locs' → W p l e R s m args below meth c H' locs' (cells + mc) (slots + ms) Q (F0 m (pc + 3) ls (v.toList ++ rest))) : W p l e R s m args below meth c H locs cells slots Q (F0 m pc ls st0) :=
  nRet (va_runVN (g := F0 m pc ls st0) S hM cw ⟨nPc.blind hKo, va_recv hKv (hN.P1 he) (q0 := 0) hc rfl, nPc.pre hKo hK hN hS _⟩ rfl hn hsize hstack (lv_room hW) hdg hf) hS kk
end NR5
section NV
variable {p : Program} {l : Launch} {e : Env} {R : Room} {s : State} {m : MethodId} {args : Array Value} {below : List Frame} {meth : Method} {c : Code} {H : Heap} {locs : List Loc} {cells slots : Nat} {Q : State → Prop}
variable {cc : ByteArray} {pc : Nat} {ls : Array Slot} {rest : List Value} {G : nG} {cl : List vw_C} {ad : Nat → Nat} {c0 : nPic} {tys : List (ClassId × FieldType)}
theorem n_recv {i ci : Nat} {fs : List Value} {C : String} {T : u_T} {N : Nat} (hK : va_K G.1 cl tys s) (hN : nOk G cl ad c0 H) (he : c0 i = some (.inr (ci, fs))) (hc : cl[ci]? = some (C, T, N)) : ∃ cell : Cell, H[ad i]? = some cell ∧ cell.vm.isStatics = false ∧ s.vm.findClass C = some cell.cls := va_recv hK (hN.P1 he) (q0 := 0) hc rfl
theorem n_cast (hexec : p.tables.exec = Jvm.exec) (hb : c.code = cc) {own C nm : String} {index : Nat} (hts : ∀ w ∈ lw_all, w.before args s = true) (hown : s.vm.findClass own = some m.cls) (hlink : Cond.classLink own index nm ∈ lw_all) (hc : va_Nw (.castable C nm) s) (hK : va_K G.1 cl tys s) (hN : nOk G cl ad c0 H) {i ci : Nat} {fs : List Value} {T : u_T} {N : Nat} (he : c0 i = some (.inr (ci, fs))) (hcl : cl[ci]? = some (C, T, N)) (hdg : decode cc pc = .ok (.checkcast index, 3))
    (k : W p l e R s m args below meth c H locs cells slots Q (F0 m (pc + 3) ls (.ref (ad i) :: rest))) : W p l e R s m args below meth c H locs cells slots Q (F0 m pc ls (.ref (ad i) :: rest)) :=
  va_castY hexec hb hown (hts _ hlink) hc (n_recv hK hN he hcl) hdg k
theorem n_alen (hexec : p.tables.exec = Jvm.exec) (hb : c.code = cc) (hK : va_K G.1 cl tys s) (hN : nOk G cl ad c0 H) (q t0 : Nat) {cA : ClassId} {x : vp_A} (ha : c0 q = some (.inl (cA, x))) {ty : FieldType} (ht : tys[t0]? = some (cA, ty)) (hdg : decode cc pc = .ok (.arraylength, 1))
    (kk : W p l e R s m args below meth c H locs cells slots Q (F0 m (pc + 1) ls (.int (nI x.1) :: rest))) : W p l e R s m args below meth c H locs cells slots Q (F0 m pc ls (.ref (ad q) :: rest)) :=
  va_alen hexec hb hK (hN.P1 ha) 0 t0 rfl ht rfl hdg kk
theorem n_aald (hexec : p.tables.exec = Jvm.exec) (hb : c.code = cc) (hK : va_K G.1 cl tys s) (hN : nOk G cl ad c0 H) (q t0 : Nat) {cA : ClassId} {C : String} {n : Nat} {f : Nat → Option Nat} (ha : c0 q = some (.inl (cA, n, .inr (.inr (.inr (.inr f)))))) (ht : tys[t0]? = some (cA, .object C)) {i : Int32} (j : Nat) (hi : i = nI j) (hj : j < n) (hn : n < 2 ^ 31) (hdg : decode cc pc = .ok (.aaload, 1))
    (kk : W p l e R s m args below meth c H locs cells slots Q (F0 m (pc + 1) ls (va_rf (f j) :: rest))) : W p l e R s m args below meth c H locs cells slots Q (F0 m pc ls (.int i :: .ref (ad q) :: rest)) := by
  subst hi
  refine va_aldq hexec hb hK (hN.P1 ha) 0 t0 rfl ht (vp_in_nI hj hn) hdg ?_
  rw [nI_clamp (by omega)]
  exact kk
theorem n_bald (hexec : p.tables.exec = Jvm.exec) (hb : c.code = cc) (hK : va_K G.1 cl tys s) (hN : nOk G cl ad c0 H) (q t0 : Nat) {cA : ClassId} {n : Nat} {f : Nat → Int32} (ha : c0 q = some (.inl (cA, n, .inl f))) (ht : tys[t0]? = some (cA, .byte)) {i : Int32} (j : Nat) (hi : i = nI j) (hj : j < n) (hn : n < 2 ^ 31) (hdg : decode cc pc = .ok (.baload, 1))
    (kk : W p l e R s m args below meth c H locs cells slots Q (F0 m (pc + 1) ls (.int (f j) :: rest))) : W p l e R s m args below meth c H locs cells slots Q (F0 m pc ls (.int i :: .ref (ad q) :: rest)) := by
  subst hi
  refine va_bald hexec hb hK (hN.P1 ha) 0 t0 rfl ht (vp_in_nI hj hn) hdg ?_
  rw [nI_clamp (by omega)]
  exact kk
theorem n_sald (hexec : p.tables.exec = Jvm.exec) (hb : c.code = cc) (hK : va_K G.1 cl tys s) (hN : nOk G cl ad c0 H) (q t0 : Nat) {cA : ClassId} {n : Nat} {f : Nat → Int32} (ha : c0 q = some (.inl (cA, n, .inl f))) (ht : tys[t0]? = some (cA, .short)) {i : Int32} (j : Nat) (hi : i = nI j) (hj : j < n) (hn : n < 2 ^ 31) (hdg : decode cc pc = .ok (.saload, 1))
    (kk : W p l e R s m args below meth c H locs cells slots Q (F0 m (pc + 1) ls (.int (f j) :: rest))) : W p l e R s m args below meth c H locs cells slots Q (F0 m pc ls (.int i :: .ref (ad q) :: rest)) := by
  subst hi
  refine va_sald hexec hb hK (hN.P1 ha) 0 t0 rfl ht (vp_in_nI hj hn) hdg ?_
  rw [nI_clamp (by omega)]
  exact kk
theorem n_aast (hexec : p.tables.exec = Jvm.exec) (hb : c.code = cc) (hK : va_K G.1 cl tys s) (hN : nOk G cl ad c0 H) (hS : nS G s H locs) (q t0 : Nat) {E : String} {cA : ClassId} {n v : Nat} {f : Nat → Option Nat} (ha : c0 q = some (.inl (cA, n, .inr (.inr (.inr (.inr f)))))) (ht : tys[t0]? = some (cA, .object E)) (hr : va_Any E s H v) {i : Int32} (j : Nat) (hi : i = nI j) (hj : j < n) (hn : n < 2 ^ 31) (hdg : decode cc pc = .ok (.aastore, 1))
    (kk : ∀ (H1 : Heap) (locs1 : List Loc), nOk G cl ad (va_up c0 q (some (.inl (cA, n, .inr (.inr (.inr (.inr (va_up f j (some v))))))))) H1 → nS G s H1 locs1 → W p l e R s m args below meth c H1 locs1 cells slots Q (F0 m (pc + 1) ls rest)) : W p l e R s m args below meth c H locs cells slots Q (F0 m pc ls (.ref v :: .int i :: .ref (ad q) :: rest)) := by
  subst hi
  have hcl : (nI j).toNatClampNeg = j := nI_clamp (by omega)
  obtain ⟨hat, hge⟩ := hN.1 q _ ha
  obtain ⟨cellV, g1, g3, ⟨kC, hkC⟩, hasg⟩ := hr
  obtain ⟨kA, comp, k1, k2, k3, -⟩ := (hK.2 t0 _ ht).2
  obtain ⟨kE, hkE, -⟩ := Vm.findClass_spec k3
  refine W.aast hexec hb hat (fun q h => by cases h) (fun h => by cases h) k1 k2 rfl hkE ⟨nI_pos (by omega), by show _ < (arrV _ _ _).slots.size; rw [arrV_size, hcl]; exact hj⟩ g1 (fun q h => by rw [h] at g3; cases g3) hkC (hasg _ k3) rfl rfl hdg fun H1 e z oq => ?_
  rw [hcl] at e ⊢
  refine kk H1 _ (hN.set ha ?_ z oq) (hS.put oq hge)
  show H1[ad q]? = some (vp_cell _ _)
  rw [e]
  rw [vp_cell_q, vp_cell_q, arrV_store]
  congr 2
  funext q
  by_cases hq : q = j
  · subst hq
    simp [updV, va_up, va_rf]
  · simp [updV, va_up, hq]
theorem n_aastN (hexec : p.tables.exec = Jvm.exec) (hb : c.code = cc) (hK : va_K G.1 cl tys s) (hN : nOk G cl ad c0 H) (hS : nS G s H locs) (q t0 : Nat) {E : String} {cA : ClassId} {n : Nat} {f : Nat → Option Nat} (ha : c0 q = some (.inl (cA, n, .inr (.inr (.inr (.inr f)))))) (ht : tys[t0]? = some (cA, .object E)) {i : Int32} (j : Nat) (hi : i = nI j) (hj : j < n) (hn : n < 2 ^ 31) (hdg : decode cc pc = .ok (.aastore, 1))
    (kk : ∀ (H1 : Heap) (locs1 : List Loc), nOk G cl ad (va_up c0 q (some (.inl (cA, n, .inr (.inr (.inr (.inr (va_up f j none)))))))) H1 → nS G s H1 locs1 → W p l e R s m args below meth c H1 locs1 cells slots Q (F0 m (pc + 1) ls rest)) : W p l e R s m args below meth c H locs cells slots Q (F0 m pc ls (.null :: .int i :: .ref (ad q) :: rest)) := by
  subst hi
  have hcl : (nI j).toNatClampNeg = j := nI_clamp (by omega)
  obtain ⟨hat, hge⟩ := hN.1 q _ ha
  refine va_WaastN hexec hb hat ((hK.2 t0 _ ht).1 n (fun j => va_rf (f j))) (fun h => by cases h) (by show ¬ (nI j < 0 ∨ (arrV _ _ _).slots.size ≤ _); rw [arrV_size]; exact vp_in_nI hj hn) rfl rfl hdg fun H1 e z oq => ?_
  rw [hcl] at e ⊢
  refine kk H1 _ (hN.set ha ?_ z oq) (hS.put oq hge)
  show H1[ad q]? = some (vp_cell _ _)
  rw [e]
  rw [vp_cell_q, vp_cell_q, arrV_store]
  congr 2
  funext q
  by_cases hq : q = j
  · subst hq
    simp [updV, va_up, va_rf]
  · simp [updV, va_up, hq]
theorem n_gets (hexec : p.tables.exec = Jvm.exec) (hb : c.code = cc) {C n d own ref : String} {v : Value} {index : Nat} (hts : ∀ w ∈ lw_all, w.before args s = true) (hZ : va_Z C n d v (fun q => G.2 ≤ q) s s.heap) (hS : nS G s H locs) (hown : s.vm.findClass own = some m.cls) (hlink : Cond.fieldLink own index ref n d ∈ lw_all) (hsame : ∀ x, s.fieldFound? C n d = some x → s.fieldFound? ref n d = some x) (hdg : decode cc pc = .ok (.getstatic index, 3))
    (kk : W p l e R s m args below meth c H locs cells slots Q (F0 m (pc + 3) ls (v :: rest))) : W p l e R s m args below meth c H locs cells slots Q (F0 m pc ls rest) := by
  obtain ⟨cf, kf, fi, f, a, cell, h1, h2, h3, h4, h5, h6, h7, h8⟩ := hZ
  exact W.gets hexec hb hown (hts _ hlink) (hsame _ h1) h2 h3 h4 (by rw [hS.1 a (by omega)]; exact h5) (fun e => by rw [e] at h6; cases h6) h7 rfl hdg kk
end NV
