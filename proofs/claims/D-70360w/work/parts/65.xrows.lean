/-! ROWS for the sheets' methods: text constants, null casts, calls that keep the heap; the sheets' picture -/
/-- a contract that keeps the heap: its answer -/
def nQh (v : Value) : Array Value → State → Outcome → State → Prop := fun _ st o t => o = .returned (some v) ∧ t.heap = st.heap
theorem nMeth {l : Launch} {y : MethodName} {bytes : ByteArray} {nL : Nat} {ret : Option FieldType} {rm : Room} {G : nG} {cl : List vw_C} {K : State → Prop} {ad : Nat → Nat} {c0 : nPic} {v : Value} {avs : List Value} (own : String) (hy : plainName y.cls = true) (hcls : y.cls = own) (hlen : (lg_sl avs).length ≤ nL)
    (body : ∀ (p : Program) (e : Env) (s : State) (m : MethodId) (below : List Frame) (meth : Method) (c : Code) (ls : Array Slot), CallFix p m c bytes nL s avs.toArray lw_all own → (meth.sig.returnType = ret ∧ meth.locks = false ∧ meth.name = y.name) → K s → nOk G cl ad c0 s.heap → nS G s s.heap [] → lv_has ls nL (lv_args 0 avs) →
      W p l e rm s m avs.toArray below meth c s.heap [] 0 0 (MQ below (nQh v) avs.toArray s 0 0 (fun _ => False)) (F0 m 0 ls [])) :
    Met l y (ws_ y bytes nL ret) rm (nPc G cl K ad c0 avs) (nQh v) 0 0 (fun _ => False) := by
  refine Met.ofW (cc := bytes) (maxL := nL) (ret := ret) hy rfl ?_
  intro p e s m args below meth c s₁ B hml hv
  obtain ⟨rfl, hN, hK⟩ := hv
  have hts := atoms_spec (ws := ws_ y bytes nL ret) B.pre
  have hts : ∀ w ∈ lw_all, w.before avs.toArray s = true := fun w h => hts w (List.mem_cons_of_mem _ h)
  have hown : s.vm.findClass own = some m.cls := by rw [← hcls]; exact findClass_of_methodNamed B.named
  rw [lg_entry_eq]
  exact body p e s m below meth c _ ⟨B.exec, B.bytes, hml, hown, hts⟩ ⟨B.returns, B.notSynchronized, (name_of_methodNamed B.named B.method).1⟩ hK hN nS.rf (lv_entry avs hlen)
section XR
variable {p : Program} {l : Launch} {e : Env} {R : Room} {s : State} {m : MethodId} {args : Array Value} {below : List Frame} {meth : Method} {c : Code} {H : Heap} {locs : List Loc} {cells slots : Nat} {Q : State → Prop}
variable {cc : ByteArray} {pc : Nat} {ls : Array Slot} {rest st0 : List Value} {G : nG} {cl : List vw_C} {ad : Nat → Nat} {c0 : nPic} {tys : List (ClassId × FieldType)} {K : State → Prop} {x y : MethodName} {bytes : ByteArray} {maxL nL n index : Nat} {ret : Option FieldType} {rm : Room} {own C : String} {As : List Value}
theorem nRetH {a : Array Value} {v : Value} {st0 : List Value} (hr : va_Run p l e R s m args below meth c H locs cells slots 0 0 (F0 m pc ls st0) rest (nQh v a) (fun _ => False)) (kk : W p l e R s m args below meth c H locs cells slots Q (F0 m (pc + 3) ls (v :: rest))) : W p l e R s m args below meth c H locs cells slots Q (F0 m pc ls st0) := by
  intro T hT X
  obtain ⟨v', st₀, t, T', L, h0, X', hL, e1, -, ⟨hv, hh⟩, st⟩ := hr T hT X
  cases hv
  have hL0 : L = [] := by
    cases L with
    | nil => rfl
    | cons q r => exact (hL q List.mem_cons_self).elim
  subst hL0
  rw [List.append_nil] at X'
  obtain ⟨t2, a1, b1⟩ := kk T' (by rw [e1, hh, h0]) X'
  exact ⟨t2, st t2 a1, b1⟩
theorem n_callVh (S : CallFix p m c cc nL s args lw_all own) (hKo : nKo G K) (hK : K s) (hKv : va_K G.1 cl tys s) {b : Nat} {v : Value} (hM : Met l y (ws_ y bytes maxL ret) rm (nPc G cl K ad c0 (.ref (ad b) :: As)) (nQh v) 0 0 (fun _ => False)) (cw : CallW R s args own C index y bytes maxL ret (ws_ y bytes maxL ret) rm 0 0 n) (hN : nOk G cl ad c0 H) (hS : nS G s H locs) {ci : Nat} {fs : List Value} (he : c0 b = some (.inr (ci, fs))) {T : u_T} {N : Nat} (hc : cl[ci]? = some (C, T, N)) (hn : As.length = n) (hsize : ls.size = nL) (hstack : st0 = As.reverse ++ .ref (ad b) :: rest) (hW : (rest.map fun v => v.category).sum ≤ 8) (hdg : decode cc pc = .ok (.invokevirtual index, 3)) (hf : cells + 0 ≤ R.cells ∧ slots + 0 ≤ R.slots)
    (kk : W p l e R s m args below meth c H locs cells slots Q (F0 m (pc + 3) ls (v :: rest))) : W p l e R s m args below meth c H locs cells slots Q (F0 m pc ls st0) :=
  nRetH (va_runV (g := F0 m pc ls st0) S hM cw ⟨nPc.blind hKo, va_recv hKv (hN.P1 he) (q0 := 0) hc rfl, nPc.pre hKo hK hN hS _⟩ rfl hn hsize hstack (lv_room hW) hdg hf) kk
theorem n_callVNh {host : String} (S : CallFix p m c cc nL s args lw_all own) (hKo : nKo G K) (hK : K s) (hKv : va_K G.1 cl tys s) {b : Nat} {v : Value} (hM : Met l y (ws_ y bytes maxL ret) rm (nPc G cl K ad c0 (.ref (ad b) :: As)) (nQh v) 0 0 (fun _ => False)) (cw : va_CN R s args own index y host bytes maxL ret (ws_ y bytes maxL ret) rm 0 0 n ∧ (Cond.instanceMethod y).before args s = true ∧ (Cond.selects C y y).before args s = true) (hN : nOk G cl ad c0 H) (hS : nS G s H locs) {ci : Nat} {fs : List Value} (he : c0 b = some (.inr (ci, fs))) {T : u_T} {N : Nat} (hc : cl[ci]? = some (C, T, N)) (hn : As.length = n) (hsize : ls.size = nL) (hstack : st0 = As.reverse ++ .ref (ad b) :: rest) (hW : (rest.map fun v => v.category).sum ≤ 8) (hdg : decode cc pc = .ok (.invokevirtual index, 3)) (hf : cells + 0 ≤ R.cells ∧ slots + 0 ≤ R.slots)
    (kk : W p l e R s m args below meth c H locs cells slots Q (F0 m (pc + 3) ls (v :: rest))) : W p l e R s m args below meth c H locs cells slots Q (F0 m pc ls st0) :=
  nRetH (va_runVN (g := F0 m pc ls st0) S hM cw ⟨nPc.blind hKo, va_recv hKv (hN.P1 he) (q0 := 0) hc rfl, nPc.pre hKo hK hN hS _⟩ rfl hn hsize hstack (lv_room hW) hdg hf) kk
theorem n_callSh (S : CallFix p m c cc nL s args lw_all own) (hKo : nKo G K) (hK : K s) {v : Value} (hM : Met l y (ws_ y bytes maxL ret) rm (nPc G cl K ad c0 As) (nQh v) 0 0 (fun _ => False)) (cw : CallB R s args own index y bytes maxL ret (ws_ y bytes maxL ret) rm 0 0 n ∧ (Cond.static y).before args s = true) (hN : nOk G cl ad c0 H) (hS : nS G s H locs) (hn : As.length = n) (hsize : ls.size = nL) (hstack : st0 = As.reverse ++ rest) (hW : (rest.map fun v => v.category).sum ≤ 8) (hdg : decode cc pc = .ok (.invokestatic index, 3)) (hf : cells + 0 ≤ R.cells ∧ slots + 0 ≤ R.slots)
    (kk : W p l e R s m args below meth c H locs cells slots Q (F0 m (pc + 3) ls (v :: rest))) : W p l e R s m args below meth c H locs cells slots Q (F0 m pc ls st0) :=
  nRetH (va_runS (g := F0 m pc ls st0) S hM cw ⟨nPc.blind hKo, nPc.pre hKo hK hN hS _⟩ rfl hn hsize hstack (lv_room hW) hdg hf) kk
theorem x_ldcS (hexec : p.tables.exec = Jvm.exec) (hb : c.code = cc) {tx : String} {q : Nat} (hown : s.vm.findClass own = some m.cls) (hZ : vk_R own index tx q s) (hdg : decode cc pc = .ok (.ldc_w index, 3))
    (k : W p l e R s m args below meth c H locs cells slots Q (F0 m (pc + 3) ls (.ref q :: rest))) : W p l e R s m args below meth c H locs cells slots Q (F0 m pc ls rest) := by
  intro T hT X
  obtain ⟨t, a1, b1⟩ := k T hT X
  refine ⟨t, ?_, b1⟩
  obtain ⟨k, cf, i, a', hk, hcf, hcp, -, hr, hev'⟩ := Cond.stringRef_spec hown hZ.1
  cases hZ.2.symm.trans hev'
  obtain ⟨k', hk', he⟩ := X.warmed.alike.2.2 _ _ hk
  have hr' : k'.resolved[index]? = some (some (.string q)) := by
    rcases X.warmed.entry hk hk' index with h | ⟨h, -⟩
    · rw [h]; exact hr
    · rw [hr] at h; cases h
  have hdg : decode c.code (F0 m pc ls rest).pc = .ok (.ldc_w index, 3) := by rw [hb]; exact hdg
  jvm_step X.here [hexec, hdg, ldc_w.wp_string (e := e) (s := T) (f := F0 m pc ls rest) X.here.top hk' (by rw [he]; exact hcf) hcp hr']
  exact a1
theorem x_castN (hexec : p.tables.exec = Jvm.exec) (hb : c.code = cc) (hdg : decode cc pc = .ok (.checkcast index, 3)) (k : W p l e R s m args below meth c H locs cells slots Q (F0 m (pc + 3) ls (.null :: rest))) : W p l e R s m args below meth c H locs cells slots Q (F0 m pc ls (.null :: rest)) := by
  intro T hT X
  obtain ⟨t, a1, b1⟩ := k T hT X
  exact ⟨t, X.checkcastNull hexec (g := F0 m pc ls (.null :: rest)) rfl rfl (by rw [hb]; exact hdg) t a1, b1⟩
/-- an array's cell, by its class's name -/
theorem x_arr (hK : va_K G.1 cl tys s) (hN : nOk G cl ad c0 H) {i : Nat} {cA : ClassId} {x : vp_A} (he : c0 i = some (.inl (cA, x))) {nm : String} (hnm : s.vm.findClass nm = some cA) : ∃ cell : Cell, H[ad i]? = some cell ∧ cell.vm.isStatics = false ∧ s.vm.findClass nm = some cell.cls := by
  refine ⟨vp_cell cA x, (hN.1 i _ he).1, ?_, ?_⟩
  · obtain ⟨n, f | f | f | f | f⟩ := x <;> rfl
  · have hcl0 : (vp_cell cA x).cls = cA := by obtain ⟨n, f | f | f | f | f⟩ := x <;> rfl
    rw [hcl0]
    exact hnm
end XR
/-- a row of a sheet, by its sort -/
def sCl (q : Nat) : Nat := if q = 0 then 101 else if q = 1 then 102 else 100
def sTy (q : Nat) : FieldType := if q = 0 then .byte else if q = 1 then .short else .int
def sNm (q : Nat) : String := if q = 0 then "[B" else if q = 1 then "[S" else "[I"
abbrev rowE (G : nG) (q L : Nat) (f : AI) : va_E := .inl (G.1.1 (sCl q), L, .inl f)
def sShe (G : nG) (ad : Nat → Nat) (x : nPic) (so sl ce : AI) : Prop :=
  x 8 = some (qA (G.1.1 104) 4 (fun j => if so j = -9 ∨ 4 ≤ j then none else some (ad (10 + j)))) ∧
    ∀ k, k < 4 → so k = -9 ∨ ∃ (q L : Nat) (f : AI), q < 3 ∧ so k = nI q ∧ L ≤ 60 ∧ sl k = nI L ∧ x (10 + k) = some (.inr (6, [.ref (ad (14 + k))])) ∧ x (14 + k) = some (rowE G q L f) ∧ ∀ i, i < L → f i = ce (60 * k + i) ∧ fits (sTy q) (.int (f i)) = true
theorem x_rowNm {G : nG} {s : State} (hK : va_K G.1 nCl (nTy G) s) {q : Nat} (hq : q < 3) : s.vm.findClass (sNm q) = some (G.1.1 (sCl q)) := by
  rcases (show q = 0 ∨ q = 1 ∨ q = 2 by omega) with z | z | z <;> subst z
  · exact (hK.2 1 _ rfl).2
  · exact (hK.2 2 _ rfl).2
  · exact (hK.2 0 _ rfl).2
theorem x_rowNc {G : nG} {s : State} (hX : xK G s) {q q' : Nat} (hq : q < 3) (hq' : q' < 3) (hne : q ≠ q') : va_Nc (sNm q) (sNm q') s := by
  obtain ⟨-, -, -, h4, -⟩ := hX
  have key : (sNm q, sNm q') ∈ xNcL := by
    rcases (show q = 0 ∨ q = 1 ∨ q = 2 by omega) with z | z | z <;> subst z <;> rcases (show q' = 0 ∨ q' = 1 ∨ q' = 2 by omega) with z | z | z <;> subst z <;> first | exact absurd rfl hne | decide
  exact h4 _ key
