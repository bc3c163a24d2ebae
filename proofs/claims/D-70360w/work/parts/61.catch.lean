/-! A THROW IS CAUGHT: the search through a method's own handlers, their classes cold or warm; methods with handlers as callees -/
section XF
variable {e : Env} {f : JFrame} {a : Addr}
/-- one handler that covers the place and names a class: taken, or passed; the entry is resolved -/
theorem x_row {Q : Handler → Pre} {E : CtlPost} {d : Bool} {acts : List Action} {s : State} {x : ExceptionTableEntry} {t : List ExceptionTableEntry} {c : ClassId} {cell : Cell} (hx : covers x f.pc = true) (h0 : x.catchType ≠ 0)
    (hl : s.vm.ClassLinks e.platform f.method.cls x.catchType c) (hcell : s.heap[a]? = some cell) (hobj : ∀ k, cell.vm ≠ .statics k) (hk : ∃ k, s.vm.classes[cell.cls]? = some k) (hc : ∃ k, s.vm.classes[c]? = some k) {b : Bool} (hfit : s.vm.assignable cell.cls c = b) :
    wp (findHandler.go f a (x :: t)) Q E e d acts s ↔ if b = true then Q (.found x.handlerPc) d acts (s.setVm (s.vm.noted f.method.cls x.catchType (.cls c))) else wp (findHandler.go f a t) Q E e d acts (s.setVm (s.vm.noted f.method.cls x.catchType (.cls c))) := by
  simp only [covers] at hx
  obtain ⟨ha, ht⟩ := (resolveClass_links e.toSetting hl).op (op := VmOp.resolveClass f.method.cls x.catchType) rfl
  have hal : s.vm.Alike (s.vm.noted f.method.cls x.catchType (.cls c)) := (Vm.Alike.refl s.vm).noted _ _ _
  obtain ⟨k1, hk1⟩ := hk
  obtain ⟨k2, hk2⟩ := hc
  obtain ⟨k1', hk1', -⟩ := hal.2.2 _ _ hk1
  obtain ⟨k2', hk2', -⟩ := hal.2.2 _ _ hk2
  have hfit' : (s.vm.noted f.method.cls x.catchType (.cls c)).assignable cell.cls c = b := by rw [hal.assignable]; exact hfit
  cases b <;> simp [findHandler.go, hx, h0, ha, ht, hcell, hobj, hk1', hk2', hfit', VmOp.dirties, VmOp.acts]
/-- a handler is passed: it doesn't cover the place, or its class isn't the object's -/
def xPass (pl : Platform) (s : State) (d : ClassId) (pc : Nat) (thrown : ClassId) (y : ExceptionTableEntry) : Prop := covers y pc = false ∨ (y.catchType ≠ 0 ∧ ∃ c, s.vm.ClassLinks pl d y.catchType c ∧ s.vm.assignable thrown c = false)
theorem x_search {s : State} {cell : Cell} (hobj : ∀ k, cell.vm ≠ .statics k) (hk0 : ∃ k, s.vm.classes[cell.cls]? = some k) (x : ExceptionTableEntry) (rest : List ExceptionTableEntry) (hx : covers x f.pc = true) (h0 : x.catchType ≠ 0) {cT : ClassId} (hl : s.vm.ClassLinks e.platform f.method.cls x.catchType cT) (hfit : s.vm.assignable cell.cls cT = true) :
    ∀ (pre : List ExceptionTableEntry) (S : State), s.WarmedH S.vm → S.heap[a]? = some cell → (∀ y ∈ pre, xPass e.platform s f.method.cls f.pc cell.cls y) →
      ∃ vm', s.WarmedH vm' ∧ ∀ (Q : Handler → Pre) (E : CtlPost) (d : Bool) (acts : List Action), wp (findHandler.go f a (pre ++ x :: rest)) Q E e d acts S ↔ Q (.found x.handlerPc) d acts (S.setVm vm') := by
  obtain ⟨k0, hk0⟩ := hk0
  have at_ : ∀ (S : State) (y : ExceptionTableEntry) (c : ClassId), s.WarmedH S.vm → s.vm.ClassLinks e.platform f.method.cls y.catchType c → s.WarmedH (S.vm.noted f.method.cls y.catchType (.cls c)) ∧ (∃ k, S.vm.classes[cell.cls]? = some k) ∧ ∃ k, S.vm.classes[c]? = some k := by
    intro S y c hW hl
    obtain ⟨k0', hk0', -⟩ := hW.alike.2.2 _ _ hk0
    obtain ⟨dk, _, _, kt, hd, _, _, _, _, hkt, _, hopen⟩ := hl.here
    obtain ⟨kt', hkt', -⟩ := hW.alike.2.2 _ _ hkt
    exact ⟨hW.noted hd hopen (State.rightAt_cls hl), ⟨k0', hk0'⟩, ⟨kt', hkt'⟩⟩
  intro pre
  induction pre with
  | nil =>
    intro S hW hcell _
    obtain ⟨h1, h2, h3⟩ := at_ S x cT hW hl
    refine ⟨_, h1, fun Q E d acts => ?_⟩
    rw [List.nil_append, x_row hx h0 (hW.classLinks hl) hcell hobj h2 h3 (b := true) (by rw [hW.alike.assignable]; exact hfit), if_pos rfl]
  | cons y ys ih =>
    intro S hW hcell hpass
    have hys : ∀ z ∈ ys, xPass e.platform s f.method.cls f.pc cell.cls z := fun z hz => hpass z (List.mem_cons_of_mem _ hz)
    by_cases hcov : covers y f.pc = true
    · rcases hpass y (List.mem_cons_self ..) with h | ⟨g0, c, gl, gno⟩
      · rw [h] at hcov; cases hcov
      · obtain ⟨h1, h2, h3⟩ := at_ S y c hW gl
        obtain ⟨vm', hW', hq⟩ := ih (S.setVm (S.vm.noted f.method.cls y.catchType (.cls c))) h1 hcell hys
        refine ⟨vm', hW', fun Q E d acts => ?_⟩
        rw [List.cons_append, x_row hcov g0 (hW.classLinks gl) hcell hobj h2 h3 (b := false) (by rw [hW.alike.assignable]; exact gno), if_neg (by simp)]
        exact hq Q E d acts
    · obtain ⟨vm', hW', hq⟩ := ih S hW hcell hys
      refine ⟨vm', hW', fun Q E d acts => ?_⟩
      rw [List.cons_append, W.findHandler_go_skip (by simpa using hcov)]
      exact hq Q E d acts
/-- what the search gives, and the tables that it leaves -/
def xFinds (e : Env) (s : State) (f : JFrame) (a : Addr) (h : Handler) (vm' : Vm) : Prop := ∀ (Q : Handler → Pre) (E : CtlPost) (d : Bool) (acts : List Action), wp (findHandler f a) Q E e d acts s ↔ Q h d acts (s.setVm vm')
theorem x_step {s : State} {r : List Frame} {pc : Nat} {vm' : Vm} (hfind : xFinds e s f a (.found pc) vm') : (stepThrowing e s a (.java f :: r)).Is ((s.setVm vm').setFrames (.java { f with pc := pc, stack := [.ref a] } :: r)) [] := by
  simp only [stepThrowing, searchFrame, vmDo]
  generalize hr : Sem.go _ e false [] s = res
  obtain ⟨as, rfl, ha⟩ := Sem.eq_ok_of hr (a := Handler.found pc) (s' := s.setVm vm') (acts' := []) (by simp [hfind _ _ _ _])
  exact ⟨rfl, ha⟩
theorem x_caught {tb : Tables} {s target : State} {g : JFrame} {c : Code} {below : List Frame} (h : At s g.method c below) {pc : Nat} {vm' : Vm} (hfind : xFinds e ((s.setTop g).pushFrame (.throwing a)) g a (.found pc) vm') (hrest : Steps tb e below ((s.setVm vm').setTop { g with pc := pc, stack := [.ref a] }) target) :
    Steps tb e below ((s.setTop g).pushFrame (.throwing a)) target := by
  obtain ⟨hgo, hw⟩ := h.throwing a
  refine Steps.head hgo hw ?_
  rw [stepThread_throwing (frames_entered h.top _), (x_step (s := (s.setTop g).pushFrame (.throwing a)) hfind).1]
  obtain ⟨g₀, hg⟩ := Option.isSome_iff_exists.mp h.top
  obtain ⟨r, hr⟩ := State.topJava?_eq_some.mp hg
  have hr' : (s.setVm vm').frames = .java g₀ :: r := hr
  have key : ∀ F F' : List Frame, ((s.setFrames F).setVm vm').setFrames F' = (s.setVm vm').setFrames F' := by
    intro F F'
    have h1 : (s.setFrames F).setVm vm' = (s.setVm vm').setFrames F := rfl
    rw [h1, State.setFrames_setFrames]
  rw [State.setTop_of_frames _ hr'] at hrest
  rw [hr, List.tail_cons, State.setTop_of_frames _ hr, State.pushFrame, State.setFrames_setFrames, key]
  exact hrest
end XF
section XC
variable {p : Program} {l : Launch} {e : Env} {R : Room} {s : State} {m : MethodId} {args : Array Value} {below : List Frame} {meth : Method} {c : Code} {H : Heap} {locs : List Loc} {cells slots : Nat} {Q : State → Prop}
variable {cc : ByteArray} {pc : Nat} {ls : Array Slot} {rest st0 : List Value} {G : nG} {cl : List vw_C} {ad : Nat → Nat} {c0 : nPic} {tys : List (ClassId × FieldType)} {K : State → Prop} {x y : MethodName} {bytes : ByteArray} {maxL nL mc ms n index : Nat} {ret : Option FieldType} {rm : Room} {P : Option Value → (Nat → Nat) → nPic → Prop} {own C nm : String} {As : List Value} {hh : List (Nat × Nat × Nat × Nat)}
/-- the throw is caught by a handler of the method's own, behind others that are passed -/
theorem WT.catch {a : Addr} {cell : Cell} {pre post : List (Nat × Nat × Nat × Nat)} {s0 e0 h0 t0 : Nat} {nmT : String} (hown : s.vm.findClass own = some m.cls) (hxh : c.exceptionTable.toList.map (fun h => (h.startPc, h.endPc, h.handlerPc, h.catchType)) = pre ++ (s0, e0, h0, t0) :: post)
    (hpass : ∀ y ∈ pre, y.2.2.2 ≠ 0 ∧ ∃ nmy, (Cond.classLink own y.2.2.2 nmy).before args s = true ∧ va_Nc nm nmy s) (hcov : s0 ≤ pc ∧ pc < e0) (ht0 : t0 ≠ 0) (hlink : (Cond.classLink own t0 nmT).before args s = true) (hcast : va_Nw (.castable nm nmT) s)
    (h1 : H[a]? = some cell) (h2 : cell.vm.isStatics = false) (h3 : s.vm.findClass nm = some cell.cls) (kk : W p l e R s m args below meth c H locs cells slots Q (F0 m h0 ls [.ref a])) : WT p l e R s m args below meth c H locs cells slots Q (F0 m pc ls st0) a := by
  intro T hT X
  have hpl : e.platform.magicAccessors = ({} : Platform).magicAccessors := by rw [X.admits.platform]
  obtain ⟨l1, l2, hsplit, e1, e2⟩ := List.map_eq_append_iff.mp hxh
  obtain ⟨xx, l3, hl2, e3, e4⟩ := List.map_eq_cons_iff.mp e2
  subst hl2
  simp only [Prod.mk.injEq] at e3
  obtain ⟨g1, g2, g3, g4⟩ := e3
  obtain ⟨cT, hcT, hclT⟩ := Cond.classLink_spec (index := xx.catchType) hown (by rw [g4]; exact hlink) e.platform hpl
  obtain ⟨c1, c2, f1, f2, f3⟩ := Cond.castable_spec (va_Nw.use (A := args) rfl hcast)
  cases h3.symm.trans f1
  cases hcT.symm.trans f2
  have hk0 : ∃ k, s.vm.classes[cell.cls]? = some k := by
    obtain ⟨k, hk, -⟩ := Vm.findClass_spec h3
    exact ⟨k, hk⟩
  have hcv : covers xx pc = true := by
    simp only [covers, g1, g2, Bool.and_eq_true, decide_eq_true_eq]
    exact hcov
  obtain ⟨vm', hW', hq⟩ := x_search (e := e) (f := F0 m pc ls st0) (a := a) (VmData.ne_statics_of h2) hk0 xx l3 hcv (by rw [g4]; exact ht0) hclT f3 l1 ((T.setTop (F0 m pc ls st0)).pushFrame (.throwing a)) (by rw [Stand.throwing_vm]; exact X.warmed) (by rw [Stand.throwing_heap, hT]; exact h1) (fun y hy => by
      obtain ⟨k1, nmy, k2, c3, c4, k3, k4, k5⟩ := hpass _ (by rw [← e1]; exact List.mem_map.mpr ⟨y, hy, rfl⟩)
      cases h3.symm.trans k3
      obtain ⟨c5, hc5, hl5⟩ := Cond.classLink_spec (index := y.catchType) hown k2 e.platform hpl
      cases k4.symm.trans hc5
      exact Or.inr ⟨k1, _, hl5, k5⟩)
  obtain ⟨t, a1, b1⟩ := kk (T.setVm vm') hT (X.noted hW')
  refine ⟨t, x_caught X.here (g := F0 m pc ls st0) (pc := h0) (vm' := vm') (fun Q E d acts => ?_) a1, b1⟩
  rw [W.findHandler_eq (meth := meth) (code := c) (by rw [Stand.throwing_vm]; exact X.method') X.code, hsplit, ← g3]
  exact hq Q E d acts
/-- a contract of a method with handlers, by the walk of its body -/
theorem nMetW (own : String) (hy : plainName y.cls = true) (hcls : y.cls = own) {avs : List Value} (hlen : (lg_sl avs).length ≤ nL)
    (body : ∀ (p : Program) (e : Env) (s : State) (m : MethodId) (below : List Frame) (meth : Method) (c : Code) (ls : Array Slot), CallFix p m c bytes nL s avs.toArray lw_all own → (meth.sig.returnType = ret ∧ meth.locks = false ∧ meth.name = y.name) → (c.exceptionTable.toList.map (fun h => (h.startPc, h.endPc, h.handlerPc, h.catchType)) = hh) → l.admits e → K s → nOk G cl ad c0 s.heap → nS G s s.heap [] → lv_has ls nL (lv_args 0 avs) →
      W p l e rm s m avs.toArray below meth c s.heap [] 0 0 (MQ below (nQ G cl P) avs.toArray s mc ms (fun q => G.2 ≤ q)) (F0 m 0 ls [])) :
    Met l y (wsW_ y bytes nL ret hh) rm (nPc G cl K ad c0 avs) (nQ G cl P) mc ms (fun q => G.2 ≤ q) := by
  refine va_MetW (cc := bytes) (maxL := nL) (ret := ret) (hh := hh) hy rfl ?_
  intro p e s m args below meth c s₁ B hml hv
  obtain ⟨rfl, hN, hK⟩ := hv
  have hts0 := atoms_spec (ws := wsW_ y bytes nL ret hh) B.pre
  have hts : ∀ w ∈ lw_all, w.before avs.toArray s = true := fun w h => hts0 w (List.mem_cons_of_mem _ h)
  have hown : s.vm.findClass own = some m.cls := by rw [← hcls]; exact findClass_of_methodNamed B.named
  obtain ⟨m9, meth9, c9, k1, k2, k3, -, -, k6, -⟩ := Cond.codeWith_spec (hts0 _ List.mem_cons_self)
  cases k1.symm.trans B.named
  cases Option.some.inj (k2.symm.trans B.method)
  cases Option.some.inj (k3.symm.trans (Stand.of_body B).code)
  rw [lg_entry_eq]
  exact body p e s m below meth c _ ⟨B.exec, B.bytes, hml, hown, hts⟩ ⟨B.returns, B.notSynchronized, (name_of_methodNamed B.named B.method).1⟩ k6 B.admits hK hN nS.rf (lv_entry avs hlen)
/-- a virtual call of a method with handlers -/
theorem n_callVW (S : CallFix p m c cc nL s args lw_all own) (hKo : nKo G K) (hK : K s) (hKv : va_K G.1 cl tys s) {b : Nat} (hM : Met l y (wsW_ y bytes maxL ret hh) rm (nPc G cl K ad c0 (.ref (ad b) :: As)) (nQ G cl P) mc ms (fun q => G.2 ≤ q))
    (hl : Cond.methodLink own index y ∈ lw_all) (hin : Cond.instanceMethod y ∈ lw_all) (hse : Cond.selects C y y ∈ lw_all) (hini : Cond.initialized y.cls ∈ lw_all) (hcw : Cond.codeWith y bytes maxL ret hh ∈ lw_all) (hd : y.cls ≠ "java/lang/invoke/MethodHandle" ∧ y.cls ≠ "java/lang/invoke/VarHandle" ∧ (parseMethodDescriptor y.desc).map (fun d => d.parameters.length) = some n) (hrc : rm.cells = mc) (hrs : rm.slots = ms) (hR : rm.frames + 1 ≤ R.frames ∧ 8 + (maxL + 11) + rm.locals ≤ R.locals)
    (hN : nOk G cl ad c0 H) (hS : nS G s H locs) {ci : Nat} {fs : List Value} (he : c0 b = some (.inr (ci, fs))) {T : u_T} {N : Nat} (hc : cl[ci]? = some (C, T, N)) (hn : As.length = n) (hsize : ls.size = nL) (hstack : st0 = As.reverse ++ .ref (ad b) :: rest) (hW : (rest.map fun v => v.category).sum ≤ 8) (hdg : decode cc pc = .ok (.invokevirtual index, 3)) (hf : cells + mc ≤ R.cells ∧ slots + ms ≤ R.slots)
    (kk : ∀ (v : Option Value) (ad' : Nat → Nat) (c' : nPic) (H' : Heap) (locs' : List Loc), P v ad' c' → nOk G cl ad' c' H' → nS G s H' locs' → W p l e R s m args below meth c H' locs' (cells + mc) (slots + ms) Q (F0 m (pc + 3) ls (v.toList ++ rest))) : W p l e R s m args below meth c H locs cells slots Q (F0 m pc ls st0) := by
  obtain ⟨hx, hb, hml, ho, hts⟩ := S
  have hK2 : Back l R p e below s args y 3 8 (PreOf R mc ms (nPc G cl K ad c0 (.ref (ad b) :: As))) (PostOf (nQ G cl P) mc ms (fun q => G.2 ≤ q)) := va_backW (hh := hh) (bytes := bytes) (maxL := maxL) (ret := ret) hM (nPc.blind hKo) hrc hrs hR.1 hR.2 (pay_in hts (lw_methW hcw)) List.mem_cons_self (fun a' U hW => word_at hW (Or.inl (by first | rfl | simp [Cond.onTables, Cond.keeps, Cond.steady])) (hts _ hini))
  obtain ⟨cellB, hcB, hoB, hclB⟩ := n_recv hKv hN he hc
  refine nRet (mc := mc) (ms := ms) (st0 := st0) (a := (Value.ref (ad b) :: As).toArray) ?_ hS kk
  intro T hT X
  obtain ⟨mk, methM, hnamed, hmethM, hstM, habM⟩ := Cond.instanceMethod_spec (hts _ hin)
  obtain ⟨m9, methM', cM, hn9, hmethM', -, -, -, -, -, -, hsigM⟩ := Cond.codeWith_spec (hts _ hcw)
  cases hnamed.symm.trans hn9
  cases hmethM.symm.trans hmethM'
  obtain ⟨c2, r2, m2, q1, q2, q3, q4, kP, hkP, hkPi⟩ := Cond.selects_spec (hts _ hse)
  cases hclB.symm.trans q1
  cases (State.methodFound?_of_named hnamed ⟨hd.1, hd.2.1⟩).symm.trans q2
  cases hnamed.symm.trans q3
  have hselP : selectMethod e.platform s.vm cellB.cls mk = .method mk := by rw [Launch.admits_selectMethod X.admits]; exact q4
  have hlen : As.length = methM.sig.parameters.length := by
    have h2 := hd.2.2
    rw [hsigM] at h2
    exact hn.trans (Option.some.inj h2).symm
  obtain ⟨vm₁, X₁, hstep₁⟩ := X.invokevirtual hx ho (hts _ hl) hnamed hmethM hstM hkP hkPi ⟨hd.1, hd.2.1⟩ (a := ad b) (cell := cellB) (by rw [hT]; exact hcB)
    (fun z h => by rw [h] at hoB; cases hoB) hselP hmethM habM hkP hkPi (g := F0 m pc ls st0) rfl (argsL := As) (rest := rest) hlen hstack (by rw [hb]; exact hdg)
  obtain ⟨v, ⟨U', l2, cn2, s2⟩, X', ⟨g', mk', t, L, e1, e2, hq, h1, hL, h2, h3⟩, hsteps⟩ := hK2 m meth c ⟨T.setVm vm₁, locs, cells, slots⟩ (F0 m pc ls rest) (.invokevirtual index) mk (Value.ref (ad b) :: As).toArray X₁ rfl (hsize.trans hml.symm) (by rw [hb]; exact hdg) (lv_room hW) (X₁.named hnamed) ⟨hf.1, hf.2, nPc.pre hKo hK hN hS (.ref (ad b) :: As) (T.setVm vm₁) hT X₁.warmed⟩
  dsimp only [Pt.U, Pt.locs, Pt.cells, Pt.slots] at X' e1 e2 h1 h2 h3 hsteps
  subst h1; subst h2; subst h3
  exact ⟨v, (T.setVm vm₁).calling g' mk' (Value.ref (ad b) :: As).toArray, t, U', L, hT, X', hL, e1, e2, hq, fun target h => hstep₁ _ fun acts => by rw [doInvoke_state]; exact hsteps.trans h⟩
/-- a virtual call of an inherited method with handlers -/
theorem n_callUW {owner : String} (S : CallFix p m c cc nL s args lw_all own) (hKo : nKo G K) (hK : K s) (hKv : va_K G.1 cl tys s) {b : Nat} (hM : Met l y (wsW_ y bytes maxL ret hh) rm (nPc G cl K ad c0 (.ref (ad b) :: As)) (nQ G cl P) mc ms (fun q => G.2 ≤ q))
    (hl : Cond.methodLink own index x ∈ lw_all) (hsm : Cond.sameMethod x.cls owner x.name x.desc ∈ lw_all) (hdc : va_Nw (.declares ⟨owner, x.name, x.desc⟩) s) (hin : Cond.instanceMethod y ∈ lw_all) (hse : Cond.selects C x y ∈ lw_all) (hini : Cond.initialized y.cls ∈ lw_all) (hcw : Cond.codeWith y bytes maxL ret hh ∈ lw_all) (hd : owner ≠ "java/lang/invoke/MethodHandle" ∧ owner ≠ "java/lang/invoke/VarHandle" ∧ (parseMethodDescriptor x.desc).map (fun d => d.parameters.length) = some n) (hrc : rm.cells = mc) (hrs : rm.slots = ms) (hR : rm.frames + 1 ≤ R.frames ∧ 8 + (maxL + 11) + rm.locals ≤ R.locals)
    (hN : nOk G cl ad c0 H) (hS : nS G s H locs) {ci : Nat} {fs : List Value} (he : c0 b = some (.inr (ci, fs))) {T : u_T} {N : Nat} (hc : cl[ci]? = some (C, T, N)) (hn : As.length = n) (hsize : ls.size = nL) (hstack : st0 = As.reverse ++ .ref (ad b) :: rest) (hW : (rest.map fun v => v.category).sum ≤ 8) (hdg : decode cc pc = .ok (.invokevirtual index, 3)) (hf : cells + mc ≤ R.cells ∧ slots + ms ≤ R.slots)
    (kk : ∀ (v : Option Value) (ad' : Nat → Nat) (c' : nPic) (H' : Heap) (locs' : List Loc), P v ad' c' → nOk G cl ad' c' H' → nS G s H' locs' → W p l e R s m args below meth c H' locs' (cells + mc) (slots + ms) Q (F0 m (pc + 3) ls (v.toList ++ rest))) : W p l e R s m args below meth c H locs cells slots Q (F0 m pc ls st0) := by
  obtain ⟨hx, hb, hml, ho, hts⟩ := S
  have hK2 : Back l R p e below s args y 3 8 (PreOf R mc ms (nPc G cl K ad c0 (.ref (ad b) :: As))) (PostOf (nQ G cl P) mc ms (fun q => G.2 ≤ q)) := va_backW (hh := hh) (bytes := bytes) (maxL := maxL) (ret := ret) hM (nPc.blind hKo) hrc hrs hR.1 hR.2 (pay_in hts (lw_methW hcw)) List.mem_cons_self (fun a' U hW => word_at hW (Or.inl (by first | rfl | simp [Cond.onTables, Cond.keeps, Cond.steady])) (hts _ hini))
  obtain ⟨cellB, hcB, hoB, hclB⟩ := n_recv hKv hN he hc
  refine nRet (mc := mc) (ms := ms) (st0 := st0) (a := (Value.ref (ad b) :: As).toArray) ?_ hS kk
  intro T hT X
  obtain ⟨r0, r, hnn, hrm, hstR, hsigR⟩ := va_Decl.abs hdc
  obtain ⟨cn, ck, r1, hcn, hck, hni, hf1, hn1⟩ := Cond.sameMethod_found (hts _ hsm)
  cases hnn.symm.trans hn1
  obtain ⟨mk, methM, hnamed, hmethM, -, habM⟩ := Cond.instanceMethod_spec (hts _ hin)
  obtain ⟨c2, r2, m2, q1, q2, q3, q4, kP, hkP, hkPi⟩ := Cond.selects_spec (hts _ hse)
  cases hclB.symm.trans q1
  cases hf1.symm.trans q2
  cases hnamed.symm.trans q3
  have hselP : selectMethod e.platform s.vm cellB.cls r0 = .method mk := by rw [Launch.admits_selectMethod X.admits]; exact q4
  have hlen : As.length = r.sig.parameters.length := by
    have h2 := hd.2.2
    have h3 : parseMethodDescriptor x.desc = some r.sig := hsigR
    rw [h3] at h2
    exact hn.trans (Option.some.inj h2).symm
  obtain ⟨vm₁, X₁, hstep₁⟩ := X.invokevirtualUp hx ho (hts _ hl) (hts _ hsm) ⟨hd.1, hd.2.1⟩ hnn hrm hstR (a := ad b) (cell := cellB) (by rw [hT]; exact hcB)
    (fun z h => by rw [h] at hoB; cases hoB) hselP hmethM habM hkP hkPi (g := F0 m pc ls st0) rfl (argsL := As) (rest := rest) hlen hstack (by rw [hb]; exact hdg)
  obtain ⟨v, ⟨U', l2, cn2, s2⟩, X', ⟨g', mk', t, L, e1, e2, hq, h1, hL, h2, h3⟩, hsteps⟩ := hK2 m meth c ⟨T.setVm vm₁, locs, cells, slots⟩ (F0 m pc ls rest) (.invokevirtual index) mk (Value.ref (ad b) :: As).toArray X₁ rfl (hsize.trans hml.symm) (by rw [hb]; exact hdg) (lv_room hW) (X₁.named hnamed) ⟨hf.1, hf.2, nPc.pre hKo hK hN hS (.ref (ad b) :: As) (T.setVm vm₁) hT X₁.warmed⟩
  dsimp only [Pt.U, Pt.locs, Pt.cells, Pt.slots] at X' e1 e2 h1 h2 h3 hsteps
  subst h1; subst h2; subst h3
  exact ⟨v, (T.setVm vm₁).calling g' mk' (Value.ref (ad b) :: As).toArray, t, U', L, hT, X', hL, e1, e2, hq, fun target h => hstep₁ _ fun acts => by rw [doInvoke_state]; exact hsteps.trans h⟩
end XC
