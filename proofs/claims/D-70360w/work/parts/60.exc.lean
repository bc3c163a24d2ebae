/-! EXCEPTIONS: contracts that end by a throw (MetT); calls whose callee throws; a throw that leaves the method, a throw that is caught -/
def xEnd (st t : State) (L : List Loc) (k n : Nat) : Prop := st.WarmedH t.vm ∧ st.sameButNew ({ t with vm := st.vm } : State) L k n
/-- thrown: an object of the class nm; the picture stands as it stood -/
def xQ (nm : String) (G : nG) (cl : List vw_C) (ad : Nat → Nat) (c0 : nPic) (st : State) (a : Addr) (t : State) : Prop :=
  (∃ cell : Cell, t.heap[a]? = some cell ∧ cell.vm.isStatics = false ∧ st.vm.findClass nm = some cell.cls) ∧ nOk G cl ad c0 t.heap ∧ ∀ q : Nat, q < G.2 → t.heap[q]? = st.heap[q]?
def MetT (l : Launch) (y : MethodName) (ws : List Cond) (rm : Room) (Pc : Array Value → State → Prop) (Qt : State → Addr → State → Prop) (mc ms : Nat) (free : Addr → Prop) : Prop :=
  MetFree l y (headSpec ws rm) Pc (fun _ _ _ _ _ => True) (fun _ st o t => ∃ a, o = .threw a ∧ Qt st a t ∧ ∃ L, xEnd st t L mc ms ∧ ∀ q ∈ L, free q.base)
def MQT (below : List Frame) (Qt : State → Addr → State → Prop) (s : State) (mc ms : Nat) (free : Addr → Prop) : State → Prop := fun t =>
  ∃ a, t.status = .running ∧ Ended t below (.threw a) ∧ Qt s a t ∧ ∃ L, xEnd s t L mc ms ∧ ∀ q ∈ L, free q.base
theorem MetT.ofW {l : Launch} {y : MethodName} {ws ws' : List Cond} {rm : Room} {Pc : Array Value → State → Prop} {Qt : State → Addr → State → Prop} {mc ms : Nat} {free : Addr → Prop} {cc : ByteArray} {maxL : Nat} {ret : Option FieldType}
    (hy : plainName y.cls = true) (hw : ws = Cond.code y cc maxL ret :: ws')
    (body : ∀ p e s m args below meth c s₁, BodyLoose p l y (headSpec ws rm) cc maxL ret e s m args below meth c s₁ → c.maxLocals = maxL → Pc args s →
      W p l e (headSpec ws rm).room s m args below meth c s.heap [] 0 0 (MQT below Qt s mc ms free) (entryFrame m args maxL)) : MetT l y ws rm Pc Qt mc ms free := by
  unfold MetT
  refine MetFree.of_bodyS (code := cc) (maxLocals := maxL) (ret := ret) hy ?_ ?_
  · intro args s m h hn
    obtain ⟨meth, c, h1, h2, h3, h4, h5, h6, -, -⟩ := Cond.code_spec hn (atoms_spec (ws := ws) h _ (by rw [hw]; exact List.mem_cons_self))
    exact ⟨meth, c, h1, h2, h3, h4, h5, h6⟩
  · intro p e s m args below meth c s₁ B hml hP _
    have hh0 : s₁.heap = s.heap := by rw [B.state]; rfl
    obtain ⟨t, a1, a, b1, b2, b3⟩ := body p e s m args below meth c s₁ B hml hP s₁ hh0 (Stand.of_body B)
    exact ⟨t, .threw a, a1, b1, b2, a, rfl, b3⟩
/-- no handler in a method whose word is 'code' -/
theorem x_bare {l : Launch} {y : MethodName} {ws ws' : List Cond} {rm : Room} {cc : ByteArray} {maxL : Nat} {ret : Option FieldType} {p : Program} {e : Env} {s : State} {m : MethodId} {args : Array Value} {below : List Frame} {meth : Method} {c : Code} {s₁ : State}
    (hw : ws = Cond.code y cc maxL ret :: ws') (B : BodyLoose p l y (headSpec ws rm) cc maxL ret e s m args below meth c s₁) : ∀ pc : Nat, ∀ x ∈ c.exceptionTable.toList, covers x pc = false := by
  obtain ⟨meth', c', h1, h2, -, -, -, -, h7, -⟩ := Cond.code_spec B.named (atoms_spec (ws := ws) B.pre _ (by rw [hw]; exact List.mem_cons_self))
  cases Option.some.inj (h1.symm.trans B.method)
  cases Option.some.inj (h2.symm.trans (Stand.of_body B).code)
  intro pc x hx
  have : c.exceptionTable.toList = [] := by
    have h7 : c.exceptionTable.isEmpty = true := h7
    rw [Array.isEmpty_iff] at h7
    rw [h7]
  rw [this] at hx
  cases hx
/-- a contract that ends by a throw, by the walk of its body -/
theorem nMetT {l : Launch} {y : MethodName} {bytes : ByteArray} {nL : Nat} {ret : Option FieldType} {rm : Room} {G : nG} {cl : List vw_C} {K : State → Prop} {ad : Nat → Nat} {c0 : nPic} {nm : String} {mc ms : Nat} {avs : List Value} (own : String) (hy : plainName y.cls = true) (hcls : y.cls = own) (hlen : (lg_sl avs).length ≤ nL)
    (body : ∀ (p : Program) (e : Env) (s : State) (m : MethodId) (below : List Frame) (meth : Method) (c : Code) (ls : Array Slot), CallFix p m c bytes nL s avs.toArray lw_all own → (meth.sig.returnType = ret ∧ meth.locks = false ∧ meth.name = y.name) → (∀ pc : Nat, ∀ x ∈ c.exceptionTable.toList, covers x pc = false) → l.admits e → K s → nOk G cl ad c0 s.heap → nS G s s.heap [] → lv_has ls nL (lv_args 0 avs) →
      W p l e rm s m avs.toArray below meth c s.heap [] 0 0 (MQT below (xQ nm G cl ad c0) s mc ms (fun q => G.2 ≤ q)) (F0 m 0 ls [])) :
    MetT l y (ws_ y bytes nL ret) rm (nPc G cl K ad c0 avs) (xQ nm G cl ad c0) mc ms (fun q => G.2 ≤ q) := by
  refine MetT.ofW (cc := bytes) (maxL := nL) (ret := ret) hy rfl ?_
  intro p e s m args below meth c s₁ B hml hv
  obtain ⟨rfl, hN, hK⟩ := hv
  have hts := atoms_spec (ws := ws_ y bytes nL ret) B.pre
  have hts : ∀ w ∈ lw_all, w.before avs.toArray s = true := fun w h => hts w (List.mem_cons_of_mem _ h)
  have hown : s.vm.findClass own = some m.cls := by rw [← hcls]; exact findClass_of_methodNamed B.named
  rw [lg_entry_eq]
  exact body p e s m below meth c _ ⟨B.exec, B.bytes, hml, hown, hts⟩ ⟨B.returns, B.notSynchronized, (name_of_methodNamed B.named B.method).1⟩ (x_bare rfl B) B.admits hK hN nS.rf (lv_entry avs hlen)
/-- the machine with a throw under way over the frame g -/
def WT (p : Program) (l : Launch) (e : Env) (R : Room) (s : State) (m : MethodId) (args : Array Value) (below : List Frame) (meth : Method) (c : Code) (H : Heap) (locs : List Loc) (cells slots : Nat) (Q : State → Prop) (g : JFrame) (a : Addr) : Prop :=
  ∀ T : State, T.heap = H → Stand p l e R s m args below meth c T locs cells slots → ∃ t, Steps p.tables e below ((T.setTop g).pushFrame (.throwing a)) t ∧ Q t
section XB
variable {p : Program} {l : Launch} {e : Env} {R : Room} {s : State} {m : MethodId} {args : Array Value} {below : List Frame} {meth : Method} {c : Code} {H : Heap} {locs : List Loc} {cells slots : Nat} {Q : State → Prop}
theorem WT.widen {g : JFrame} {a : Addr} {k n : Nat} (h1 : cells ≤ k) (h2 : slots ≤ n) (kk : WT p l e R s m args below meth c H locs k n Q g a) : WT p l e R s m args below meth c H locs cells slots Q g a := fun T hT X => kk T hT (stand_widen X h1 h2)
/-- the callee throws: the walk stands again, the note over the caller's frame -/
theorem xBack {T : State} (X : Stand p l e R s m args below meth c T locs cells slots) {y : MethodName} {ws : List Cond} {rm : Room} {Pc : Array Value → State → Prop} {Qt : State → Addr → State → Prop} {mc ms : Nat} {free : Addr → Prop} {maxL Wt : Nat}
    (hM : MetT l y ws rm Pc Qt mc ms free) (hblind : FrameBlind Pc) (hrc : rm.cells = mc) (hrs : rm.slots = ms) (hframes : rm.frames + 1 ≤ R.frames) (hlocals : Wt + (maxL + 11) + rm.locals ≤ R.locals)
    (hws : ∀ w ∈ ws, w.before args T = true) (hws2 : ∀ w ∈ ws, ∀ a' : Array Value, w.before a' T = true) (hcode : ∀ mk, T.methodNamed? y = some mk → ∃ methY cY, T.vm.method? mk = some methY ∧ methY.code = some cY ∧ cY.maxLocals = maxL) (hinit : (Cond.initialized y.cls).before args T = true)
    {g : JFrame} (hg : g.method = m) (hsize : g.locals.size = c.maxLocals) {ig : Instr} {len : Nat} (hdg : decode c.code g.pc = .ok (ig, len)) (hW : 2 * g.monitorRoom + (g.stack.map fun v => v.category).sum ≤ Wt) {mk : MethodId} (hn : T.methodNamed? y = some mk) {a : Array Value}
    (hc : cells + mc ≤ R.cells) (hs : slots + ms ≤ R.slots) (hp : Pc a T) :
    ∃ (x : Addr) (t T' : State) (L : List Loc), Stand p l e R s m args below meth c T' (locs ++ L) (cells + mc) (slots + ms) ∧ (∀ q ∈ L, free q.base) ∧ T'.heap = t.heap ∧ Qt (T.calling g mk a) x t ∧
      Steps p.tables e below (doInvoke e (T.setTop g) [] mk a).1 ((T'.setTop g).pushFrame (.throwing x)) := by
  obtain ⟨methY, cY, hmY, hcY, hlY⟩ := hcode mk hn
  obtain ⟨kY, hkY, -⟩ := className_of_methodNamed hn
  have hinitY : kY.init = .initialized := Cond.initialized_spec (findClass_of_methodNamed hn) hkY hinit
  have h : At T g.method c below := by rw [hg]; exact X.here
  have h1 : (headSpec ws rm).pre.before a T = true := atoms_intro fun w hw => hws2 w hw a
  have happ : (headSpec ws rm).appliesLoose y e.platform (T.calling g mk a) = true :=
    Spec.appliesLoose_calling (g := g) h hdg hn hkY hinitY
      (X.room_calling (g := g) (R' := (headSpec ws rm).room) hsize hmY hcY hframes (by rw [hlY]; show _ + _ + rm.locals ≤ _; omega) (by show cells + rm.cells ≤ _; rw [hrc]; exact hc) (by show slots + rm.slots ≤ _; rw [hrs]; exact hs)) h1
  obtain ⟨mid, hmid⟩ := h.above
  have hfr : (T.setTop g).frames = (.java g :: mid) ++ below := by rw [State.frames_setTop' g h.top, hmid]; rfl
  obtain ⟨o, s₂, hsteps, -, hend, x, ho, hQ, L, hE, hL⟩ := Steps.callFree hM p X.admits X.cas X.clock (acts := []) hfr happ (hblind _ _ _ _ hp) trivial
  subst ho
  rw [State.frames_setTop' g h.top, X.tail] at hend
  obtain ⟨T', X', hW', hsame, rfl⟩ := X.outOfThrown hg hend hE.1 hE.2
  exact ⟨x, _, T', L, X', hL, (Stand.throwing_heap T' g x).symm, hQ, hsteps⟩
variable {cc : ByteArray} {pc : Nat} {ls : Array Slot} {rest st0 : List Value} {G : nG} {cl : List vw_C} {ad : Nat → Nat} {c0 : nPic} {tys : List (ClassId × FieldType)} {K : State → Prop} {x y : MethodName} {bytes : ByteArray} {maxL nL mc ms n index : Nat} {ret : Option FieldType} {rm : Room} {own C nm : String} {As : List Value}
theorem x_ini {y : MethodName} (h : (Cond.initialized y.cls).before args s = true) {U : State} (hW : s.WarmedH U.vm) : (Cond.initialized y.cls).before args U = true := word_at hW (Or.inl (by first | rfl | simp [Cond.onTables, Cond.keeps, Cond.steady])) h
/-- behind a call whose callee threw -/
theorem nRetT {T T₁ : State} (hT : T.heap = H) (hT₁ : T₁.heap = T.heap) (hW : s.WarmedH T₁.vm) (hS : nS G s H locs) {g : JFrame} {mk : MethodId} {a : Array Value} {x : Addr} {t T' : State} {L : List Loc} (X' : Stand p l e R s m args below meth c T' (locs ++ L) cells slots) (hL : ∀ q ∈ L, G.2 ≤ q.base) (hh : T'.heap = t.heap) (hq : xQ nm G cl ad c0 (T₁.calling g mk a) x t)
    (kk : ∀ (a : Addr) (cell : Cell) (H' : Heap) (locs' : List Loc), H'[a]? = some cell → cell.vm.isStatics = false → s.vm.findClass nm = some cell.cls → nOk G cl ad c0 H' → nS G s H' locs' → WT p l e R s m args below meth c H' locs' cells slots Q (F0 m pc ls rest) a) : ∃ t2, Steps p.tables e below ((T'.setTop (F0 m pc ls rest)).pushFrame (.throwing x)) t2 ∧ Q t2 := by
  obtain ⟨⟨cell, q1, q2, q3⟩, hN', hq⟩ := hq
  refine kk x cell T'.heap (locs ++ L) (by rw [hh]; exact q1) q2 ?_ (by rw [hh]; exact hN') ⟨fun q hq' => ?_, fun q hq' => ?_⟩ T' rfl X'
  · rw [← hW.alike.findClass]; exact q3
  · rw [hh, hq q hq']
    show T₁.heap[q]? = _
    rw [hT₁, hT]
    exact hS.1 q hq'
  · rcases List.mem_append.mp hq' with h | h
    · exact hS.2 q h
    · exact hL q h
theorem n_callST (S : CallFix p m c cc nL s args lw_all own) (hKo : nKo G K) (hK : K s) (hM : MetT l y (ws_ y bytes maxL ret) rm (nPc G cl K ad c0 As) (xQ nm G cl ad c0) mc ms (fun q => G.2 ≤ q)) (cw : CallB R s args own index y bytes maxL ret (ws_ y bytes maxL ret) rm mc ms n ∧ (Cond.static y).before args s = true) (hN : nOk G cl ad c0 H) (hS : nS G s H locs) (hn : As.length = n) (hsize : ls.size = nL) (hstack : st0 = As.reverse ++ rest) (hW : (rest.map fun v => v.category).sum ≤ 8) (hdg : decode cc pc = .ok (.invokestatic index, 3)) (hf : cells + mc ≤ R.cells ∧ slots + ms ≤ R.slots)
    (kk : ∀ (a : Addr) (cell : Cell) (H' : Heap) (locs' : List Loc), H'[a]? = some cell → cell.vm.isStatics = false → s.vm.findClass nm = some cell.cls → nOk G cl ad c0 H' → nS G s H' locs' → WT p l e R s m args below meth c H' locs' (cells + mc) (slots + ms) Q (F0 m pc ls rest) a) : W p l e R s m args below meth c H locs cells slots Q (F0 m pc ls st0) := by
  obtain ⟨⟨hrc, hrs, hfr, hlo, hws, hcw, hcode, hini, hy, hlen, hl⟩, hstt⟩ := cw
  obtain ⟨hx, hb, hml, ho, -⟩ := S
  intro T hT X
  obtain ⟨mk, hnamed⟩ := Cond.code_named hcode
  obtain ⟨methM, cM, hmethM, -, -, -, -, -, -, hsigM⟩ := Cond.code_spec hnamed hcode
  have hstatic : methM.isStatic = true := Cond.static_spec hnamed hmethM hstt
  obtain ⟨kP, hkP, -⟩ := className_of_methodNamed hnamed
  have hinitP : kP.init = .initialized := Cond.initialized_spec (findClass_of_methodNamed hnamed) hkP hini
  obtain ⟨vm₁, X₁, hstep₁⟩ := X.invokestatic hx ho hl hnamed hmethM hstatic hkP hinitP hy (g := F0 m pc ls st0) rfl (argsL := As) (rest := rest) (hn.trans (hlen _ hsigM)) hstack (by rw [hb]; exact hdg)
  obtain ⟨x, t, T', L, X', hL, hh, hq, hst⟩ := xBack X₁ (g := F0 m pc ls rest) (maxL := maxL) (Wt := 8) hM (nPc.blind hKo) hrc hrs hfr hlo (fun w hw => hws w hw _ _ X₁.warmed) (fun w hw a' => hws w hw a' _ X₁.warmed) (fun mk hn => by
      obtain ⟨methY, cY, h1, h2, -, h3, -⟩ := Cond.code_spec hn (hws _ hcw args _ X₁.warmed)
      exact ⟨methY, cY, h1, h2, h3⟩) (x_ini hini X₁.warmed) rfl (hsize.trans hml.symm) (by rw [hb]; exact hdg) (lv_room hW) (X₁.named hnamed) hf.1 hf.2 (nPc.pre hKo hK hN hS As (T.setVm vm₁) hT X₁.warmed)
  obtain ⟨t2, a1, b1⟩ := nRetT (T₁ := T.setVm vm₁) hT rfl X₁.warmed hS X' hL hh hq kk
  exact ⟨t2, hstep₁ _ fun acts => by rw [doInvoke_state]; exact hst.trans a1, b1⟩
theorem n_callUT {owner : String} (S : CallFix p m c cc nL s args lw_all own) (hKo : nKo G K) (hK : K s) (hKv : va_K G.1 cl tys s) {b : Nat} (hM : MetT l y (ws_ y bytes maxL ret) rm (nPc G cl K ad c0 (.ref (ad b) :: As)) (xQ nm G cl ad c0) mc ms (fun q => G.2 ≤ q)) (cw : va_CU R s args own C owner index x y bytes maxL ret (ws_ y bytes maxL ret) rm mc ms n) (hN : nOk G cl ad c0 H) (hS : nS G s H locs) {ci : Nat} {fs : List Value} (he : c0 b = some (.inr (ci, fs))) {T : u_T} {N : Nat} (hc : cl[ci]? = some (C, T, N)) (hn : As.length = n) (hsize : ls.size = nL) (hstack : st0 = As.reverse ++ .ref (ad b) :: rest) (hW : (rest.map fun v => v.category).sum ≤ 8) (hdg : decode cc pc = .ok (.invokevirtual index, 3)) (hf : cells + mc ≤ R.cells ∧ slots + ms ≤ R.slots)
    (kk : ∀ (a : Addr) (cell : Cell) (H' : Heap) (locs' : List Loc), H'[a]? = some cell → cell.vm.isStatics = false → s.vm.findClass nm = some cell.cls → nOk G cl ad c0 H' → nS G s H' locs' → WT p l e R s m args below meth c H' locs' (cells + mc) (slots + ms) Q (F0 m pc ls rest) a) : W p l e R s m args below meth c H locs cells slots Q (F0 m pc ls st0) := by
  obtain ⟨hrc, hrs, hfr, hlo, hws, hcw⟩ := cw.back
  obtain ⟨hx, hb, hml, ho, -⟩ := S
  obtain ⟨cellB, hcB, hoB, hclB⟩ := n_recv hKv hN he hc
  intro T hT X
  obtain ⟨r0, r, hnn, hrm, hstR, hsigR⟩ := cw.decl
  obtain ⟨cn, ck, r1, hcn, hck, hni, hf1, hn1⟩ := Cond.sameMethod_found cw.same
  cases hnn.symm.trans hn1
  obtain ⟨mk, methM, hnamed, hmethM, -, habM⟩ := Cond.instanceMethod_spec cw.inst
  obtain ⟨c2, r2, m2, q1, q2, q3, q4, kP, hkP, hkPi⟩ := Cond.selects_spec cw.sel
  cases hclB.symm.trans q1
  cases hf1.symm.trans q2
  cases hnamed.symm.trans q3
  have hselP : selectMethod e.platform s.vm cellB.cls r0 = .method mk := by rw [Launch.admits_selectMethod X.admits]; exact q4
  obtain ⟨vm₁, X₁, hstep₁⟩ := X.invokevirtualUp hx ho cw.link cw.same cw.notMH hnn hrm hstR (a := ad b) (cell := cellB) (by rw [hT]; exact hcB)
    (fun z h => by rw [h] at hoB; cases hoB) hselP hmethM habM hkP hkPi (g := F0 m pc ls st0) rfl (argsL := As) (rest := rest) (hn.trans (cw.len _ hsigR)) hstack (by rw [hb]; exact hdg)
  obtain ⟨x, t, T', L, X', hL, hh, hq, hst⟩ := xBack X₁ (g := F0 m pc ls rest) (maxL := maxL) (Wt := 8) hM (nPc.blind hKo) hrc hrs hfr hlo (fun w hw => hws w hw _ _ X₁.warmed) (fun w hw a' => hws w hw a' _ X₁.warmed) (fun mk hn => by
      obtain ⟨methY, cY, h1, h2, -, h3, -⟩ := Cond.code_spec hn (hws _ hcw args _ X₁.warmed)
      exact ⟨methY, cY, h1, h2, h3⟩) (x_ini cw.init X₁.warmed) rfl (hsize.trans hml.symm) (by rw [hb]; exact hdg) (lv_room hW) (X₁.named hnamed) hf.1 hf.2 (nPc.pre hKo hK hN hS (.ref (ad b) :: As) (T.setVm vm₁) hT X₁.warmed)
  obtain ⟨t2, a1, b1⟩ := nRetT (T₁ := T.setVm vm₁) hT rfl X₁.warmed hS X' hL hh hq kk
  exact ⟨t2, hstep₁ _ fun acts => by rw [doInvoke_state]; exact hst.trans a1, b1⟩
/-- the throw leaves the method -/
theorem WT.out {a : Addr} {cell : Cell} (hlk : meth.locks = false) (hxt : ∀ x ∈ c.exceptionTable.toList, covers x pc = false) (h1 : H[a]? = some cell) (h2 : cell.vm.isStatics = false) (h3 : s.vm.findClass nm = some cell.cls) (hN : nOk G cl ad c0 H) (hS : nS G s H locs) :
    WT p l e R s m args below meth c H locs cells slots (MQT below (xQ nm G cl ad c0) s cells slots (fun q => G.2 ≤ q)) (F0 m pc ls st0) a := by
  intro T hT X
  obtain ⟨w1, w2, w3, w4, w5⟩ := X.leaveThrown a (g := F0 m pc ls st0) rfl rfl rfl hxt hlk
  refine ⟨_, w1, a, w2, w3, ⟨⟨cell, by show T.heap[a]? = _; rw [hT]; exact h1, h2, h3⟩, by show nOk G cl ad c0 T.heap; rw [hT]; exact hN, fun q hq => by show T.heap[q]? = _; rw [hT]; exact hS.1 q hq⟩, locs, ⟨w4, w5⟩, hS.2⟩
end XB
