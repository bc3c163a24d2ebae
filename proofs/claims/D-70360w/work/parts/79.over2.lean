/-! EXCEPTIONS MADE OVER ANY FRAMES; printed by wip/gen/r79.py -/
section OW
variable {p : Program} {l : Launch} {e : Env} {R : Room} {s : State} {m : MethodId} {args : Array Value} {below : List Frame} {meth : Method} {c : Code} {T : State} {locs : List Loc} {cells slots : Nat}
def ovP (pre : List Frame) : Prop := pre = [] ∨ ∃ nf : NFrame, pre = [.native nf] ∧ nf.words = 0
theorem ovP.use {pre : List Frame} (h : ovP pre) (r : List Frame) : (stackUse (pre ++ r)).2 = (stackUse r).2 ∧ (pre ++ r).length ≤ r.length + 1 := by
  rcases h with h | ⟨nf, h, hw⟩
  · subst h; exact ⟨rfl, Nat.le_succ _⟩
  · subst h
    refine ⟨?_, Nat.le_refl _⟩
    show (stackUse (.native nf :: r)).2 = _
    rw [stackUse_light (.native nf) r (fun f hf => by cases hf) hw]
theorem ov_may (X : Stand p l e R s m args below meth c T locs cells slots) {g : JFrame} (hsize : g.locals.size = c.maxLocals) {pre : List Frame} (hp : ovP pre) (note : Frame) (hnote : ∀ f, note ≠ .java f) (hw : note.words = 0) (hK : 2 * g.monitorRoom + (g.stack.map fun v => v.category).sum + 10240 ≤ R.locals) :
    e.platform.stackBeyond ((((T.setFrames (note :: (pre ++ .java g :: below))).threads[T.cur]?).map (·.stackBytes)).getD 0) (T.setFrames (note :: (pre ++ .java g :: below))).frames = false ∧
      e.platform.vmThrowRoom ≤ e.platform.stackFree ((((T.setFrames (note :: (pre ++ .java g :: below))).threads[T.cur]?).map (·.stackBytes)).getD 0) (T.setFrames (note :: (pre ++ .java g :: below))).frames := by
  obtain ⟨g₀, hfr⟩ := X.frames_eq
  have hcur : T.cur < T.threads.size := State.cur_lt_of_frames hfr
  have hb : (((T.setFrames (note :: (pre ++ .java g :: below))).threads[T.cur]?).map (·.stackBytes)).getD 0 = T.me.stackBytes := by
    rw [← State.stackBytes_setFrames T (note :: (pre ++ .java g :: below))]
    exact State.stackBytes_me (T.setFrames (note :: (pre ++ .java g :: below)))
  have hA := X.stackAbove hsize hK
  rw [X.tail] at hA
  have hlimit : (e.platform.stackLimits T.me).2 = (e.platform.limitsFor T.me.stackBytes).2 := rfl
  rw [hb, State.frames_setFrames _ hcur, Launch.admits_vmThrowRoom X.admits]
  unfold Platform.stackBeyond Platform.stackFree
  rw [stackUse_light _ _ hnote hw]
  have hu := (hp.use (.java g :: below)).1
  refine ⟨decide_eq_false (by omega), by omega⟩
theorem ov_B (X : Stand p l e R s m args below meth c T locs cells slots) (pre : List Frame) (g : JFrame) : ovB T (pre ++ .java g :: below) below := by
  obtain ⟨g₀, hfr⟩ := X.frames_eq
  exact ⟨⟨X.here.running, X.here.runnable, X.here.alone⟩, State.cur_lt_of_frames hfr, pre ++ [.java g], by simp⟩
/-- the statics' cell of Throwable is not among what was written -/
theorem ov_aS {b0 : Nat} (z1 : xZ "java/lang/Throwable" "UNASSIGNED_STACK" "[Ljava/lang/StackTraceElement;" b0 s) (hlocs : ∀ x ∈ locs, b0 ≤ x.base) {cT : ClassId} {kT : Class} {aS : Nat} (hc : s.vm.findClass "java/lang/Throwable" = some cT) (hk : s.vm.classes[cT]? = some kT) (hs : kT.statics = some aS) : ∀ i, (⟨aS, i⟩ : Loc) ∉ locs := by
  obtain ⟨c, k, i, f, a, cell, v, h1, h2, h3, h4, h5, h6, h7, h8, h9, h10, h11, h12⟩ := z1
  cases h1.symm.trans hc
  have hk2 := (State.fieldFound?_spec h2).1
  cases hk2.symm.trans hk
  cases h4.symm.trans hs
  intro j hj
  have := hlocs _ hj
  dsimp only at this
  omega

set_option maxHeartbeats 2000000 in
theorem ov_npe (X : Stand p l e R s m args below meth c T locs cells slots) (hexec : p.tables.exec = Jvm.exec) (htr : e.platform.stackTraces = false) (h : ∀ a ∈ Bundle.npeArmAtoms 8, a.before args s = true) {b0 : Nat} (z1 : xZ "java/lang/Throwable" "UNASSIGNED_STACK" "[Ljava/lang/StackTraceElement;" b0 s) (hlocs : ∀ x ∈ locs, b0 ≤ x.base)
    {pre : List Frame} (hp : ovP pre) {g : JFrame} (hsize : g.locals.size = c.maxLocals) (hRframes : 8 < R.frames) (hRlocals : 2 * g.monitorRoom + (g.stack.map fun v => v.category).sum + 10240 ≤ R.locals) (hRcells : cells + 1 ≤ R.cells) (hRslots : slots + 8 ≤ R.slots) :
    ∃ (U : State) (cell : Cell) (L : List Loc), Stand p l e R s m args below meth c U (locs ++ L) (cells + 1) (slots + 8) ∧ (∀ y ∈ L, y.base = T.heap.size) ∧ U.heap[T.heap.size]? = some cell ∧ cell.vm.isStatics = false ∧ s.vm.findClass "java/lang/NullPointerException" = some cell.cls ∧ (∀ q : Nat, q < T.heap.size → U.heap[q]? = T.heap[q]?) ∧ U.heap.size = T.heap.size + 1 ∧
      ∀ target, Steps p.tables e below (U.setFrames (.throwing T.heap.size :: (pre ++ .java g :: below))) target → Steps p.tables e below (T.setFrames (.throwNew "java/lang/NullPointerException" none none :: (pre ++ .java g :: below))) target := by
  have howns : e.platform.frameOwnsMonitors = true := by rw [X.admits.platform]
  have hfin : e.platform.finalization = false := by rw [X.admits.platform]
  have hpl : e.platform.magicAccessors = ({} : Platform).magicAccessors := by rw [X.admits.platform]
  have hpl2 : e.platform.arrayCloneIsPublic = true := by rw [X.admits.platform]
  have a : ∀ x, x ∈ Bundle.npeArmAtoms 8 → x.holds args s none s [] = true := fun x hx => h x hx
  obtain ⟨Th, Z, L, LZ, Y⟩ := ThrowableC.of_atoms (args := args) howns hfin hpl (fun x hx => h x (by simp [Bundle.npeArmAtoms, hx]))
  obtain ⟨N, LN, hcN, hnNF, hordN, hffS⟩ := NpeC.of_atoms (args := args) hpl hpl2 L Y (fun x hx => h x (by simp [Bundle.npeArmAtoms, hx]))
  obtain ⟨P1, L1, hP1m, hP1s⟩ := PassC.of_atoms (args := args) (s := s) hpl (X := Bundle.nN) (Y := Bundle.rN) (by decide) (by decide) LibCode.NullPointerException.Init0.at_0 LibCode.NullPointerException.Init0.at_1 LibCode.NullPointerException.Init0.at_4 (fun x hx => h x (by simp [Bundle.npeArmAtoms, hx]))
  obtain ⟨PR, LR, hPRm, hPRs⟩ := PassC.of_atoms (args := args) (s := s) hpl (X := Bundle.rN) (Y := Bundle.eN) (by decide) (by decide) LibCode.RuntimeException.Init0.at_0 LibCode.RuntimeException.Init0.at_1 LibCode.RuntimeException.Init0.at_4 (fun x hx => h x (by simp [Bundle.npeArmAtoms, hx]))
  obtain ⟨PE, LEx, hPEm, hPEs⟩ := PassC.of_atoms (args := args) (s := s) hpl (X := Bundle.eN) (Y := Bundle.tN) (by decide) (by decide) LibCode.Exception.Init0.at_0 LibCode.Exception.Init0.at_1 LibCode.Exception.Init0.at_4 (fun x hx => h x (by simp [Bundle.npeArmAtoms, hx]))
  have hfound : s.vm.findClass Bundle.nN = some P1.m.cls := findClass_of_methodNamed hP1m
  have ecls : N.cN = P1.m.cls := Option.some.inj (hcN.symm.trans hfound)
  have hk : s.vm.classes[P1.m.cls]? = some N.kN := by rw [← ecls]; exact LN.cls
  have hinit := Cond.initialized_spec hfound hk (a (.initialized Bundle.nN) (by simp [Bundle.npeArmAtoms]))
  have hctor : N.kN.findMethod "<init>" "()V" = some P1.m.idx := findMethod_of_methodNamed hP1m hk
  obtain ⟨c1, k1, hc1, hk1, -, -, -, hn⟩ := Cond.instantiable_spec (a (.instantiable Bundle.nN 8) (by simp [Bundle.npeArmAtoms]))
  cases Option.some.inj (hc1.symm.trans hfound)
  cases Option.some.inj (hk1.symm.trans hk)
  have hlink1 : P1.sup = PR.m := Option.some.inj (hP1s.symm.trans hPRm)
  have hlinkR : PR.sup = PE.m := Option.some.inj (hPRs.symm.trans hPEm)
  have hlinkE : PE.sup = Z.m Th.toThrowableT := Option.some.inj (hPEs.symm.trans Y.init0)
  have hsel : ∀ {x y : MethodName} {r mm : MethodId}, (Cond.selects Bundle.nN x y) ∈ Bundle.npeArmAtoms 8 → s.methodFound? x.cls x.name x.desc = some r → s.methodNamed? y = some mm → selectMethod e.platform s.vm P1.m.cls r = .method mm := by
    intro x y r mm hm h1 h2
    obtain ⟨c2, r2, m2, q1, q2, q3, q4, -⟩ := Cond.selects_spec (a _ hm)
    cases Option.some.inj (q1.symm.trans hfound)
    cases Option.some.inj (q2.symm.trans h1)
    cases Option.some.inj (q3.symm.trans h2)
    rw [Launch.admits_selectMethod X.admits]; exact q4
  have hsel0 : selectMethod e.platform s.vm P1.m.cls Th.fill0 = .method Th.fill0 := hsel (x := Bundle.tFill0) (y := Bundle.tFill0) (by simp [Bundle.npeArmAtoms]) (State.methodFound?_of_named Y.fill0 (by decide)) Y.fill0
  have hselF : selectMethod e.platform s.vm P1.m.cls Th.fill = .method N.fill := hsel (x := Bundle.tFill) (y := Bundle.nFill) (by simp [Bundle.npeArmAtoms]) (State.methodFound?_of_named Y.fill (by decide)) hnNF
  obtain ⟨cellS0, hcS0, hiss⟩ := Y.statics
  obtain ⟨u0, hu0⟩ := Cond.staticRefV Y.unassigned L.unassignedStatic L.statics hcS0 hiss (a (.isRef (.static Bundle.tN "UNASSIGNED_STACK" Bundle.steD)) (by simp [Bundle.npeArmAtoms]))
  obtain ⟨sen, hsen⟩ := Cond.staticRefV Y.sentinel L.sentinelStatic L.statics hcS0 hiss (a (.isRef (.static Bundle.tN "SUPPRESSED_SENTINEL" Bundle.listD)) (by simp [Bundle.npeArmAtoms]))
  obtain ⟨ci198, i198, fB, hk198, hg198, ha198, hsB, -, hnB, htB, hffB⟩ := Cond.ownField (t := .object "java/lang/Object") Y.found L.cls (by decide +kernel) (a (.fieldLink Bundle.tN 198 Bundle.tN "backtrace" Bundle.objD) (by simp [Bundle.npeArmAtoms])) (a (.lays Bundle.tN Bundle.tN "backtrace" Bundle.objD) (by simp [Bundle.npeArmAtoms])) e.platform hpl
  obtain ⟨cellS, hcS', heS, -, hkeep⟩ := X.same.2.2.2.2.2 Th.aS cellS0 hcS0
  have hcellS : T.heap[Th.aS]? = some cellS := hcS'
  have hout' : ∀ i, (⟨Th.aS, i⟩ : Loc) ∉ locs := ov_aS z1 hlocs Y.found L.cls L.statics
  have hknownS : cellS.vm ≠ .unknown := by
    rw [heS]; intro hu
    rw [show cellS0.vm = .unknown from hu] at hiss
    cases hiss
  obtain ⟨tyC, dC, hdC, hdnC⟩ := Cond.laysAt hfound hk Y.cause (a (.lays Bundle.nN Bundle.tN "cause" "Ljava/lang/Throwable;") (by simp [Bundle.npeArmAtoms]))
  obtain ⟨tyS, dS, hdS, hdnS⟩ := Cond.laysAt hfound hk Y.stack (a (.lays Bundle.nN Bundle.tN "stackTrace" Bundle.steD) (by simp [Bundle.npeArmAtoms]))
  obtain ⟨tyP, dP, hdP, hdnP⟩ := Cond.laysAt hfound hk Y.supp (a (.lays Bundle.nN Bundle.tN "suppressedExceptions" Bundle.listD) (by simp [Bundle.npeArmAtoms]))
  obtain ⟨tyX, dX, hdX, hdnX⟩ := Cond.laysAt hfound hk hffS (a (.lays Bundle.nN Bundle.nN "extendedMessageState" "I") (by simp [Bundle.npeArmAtoms, Bundle.npeAtoms]))
  have hnX : N.fState.name = "extendedMessageState" := (State.fieldFound?_type hffS (t := .int) (by decide +kernel)).1
  obtain ⟨tyB, dB, hdB, hdnB⟩ := Cond.laysAt hfound hk hffB (a (.lays Bundle.nN Bundle.tN "backtrace" Bundle.objD) (by simp [Bundle.npeArmAtoms]))
  have bC := Cond.laysApart hdB hdC hdnB hdnC (by rw [hnB, Y.causeName]; decide)
  have bS := Cond.laysApart hdB hdS hdnB hdnS (by rw [hnB, Y.stackName]; decide)
  have bP := Cond.laysApart hdB hdP hdnB hdnP (by rw [hnB, Y.suppName]; decide)
  have bX := Cond.laysApart hdB hdX hdnB hdnX (by rw [hnB, hnX]; decide)
  have hskip : SkipFacts Th e.platform s (fun u => u) u0 ((npeCell N.toNpeT (preparedCellV Th.toThrowableT (freshCell P1.m.cls N.kN) T.heap.size u0 sen) T.cur).withEntry T.cur) :=
    ⟨{ ci198 := ci198, i198 := i198, fBack := fB }, ⟨hk198, hg198, ha198, hsB⟩, by
      have := fresh_default (c := P1.m.cls) tyB
      rw [htB] at this
      simpa [npeCell, preparedCellV, Cell.setSlot, Cell.withEntry, Array.getElem?_setIfInBounds, bC, bS, bP, bX, bC.symm, bS.symm, bP.symm, bX.symm, defaultValue] using this, fun _ _ => rfl⟩
  have hB := ov_B X pre g
  have hW := X.warmed
  obtain ⟨kX', hk', he'⟩ := hW.alike.2.2 _ _ hk
  have hty : kX'.instanceTypes = N.kN.instanceTypes := by rw [he']
  have hfresh : freshCell P1.m.cls kX' = freshCell P1.m.cls N.kN := by
    show ({ cls := P1.m.cls, slots := kX'.instanceTypes.map defaultValue, vm := .none } : Cell) = _
    rw [hty]
  have hltS : Th.aS < T.heap.size := (Array.getElem?_eq_some_iff.mp hcellS).1
  have w5 : (T.pushCell (freshCell P1.m.cls N.kN)).heap[Th.aS]? = some cellS := by
    rw [← hcellS]
    simp [State.pushCell, Array.getElem?_push, Nat.ne_of_lt hltS]
  obtain ⟨hu, hlb⟩ := hp.use (.java g :: below)
  have hfa := X.framesAbove hRframes
  obtain ⟨g₀, hfr⟩ := X.frames_eq
  rw [hfr, List.length_cons] at hfa
  rw [List.length_cons] at hlb
  have hst := X.stackAbove hsize hRlocals
  rw [X.tail] at hst
  have hBW : ovB (T.pushCell (freshCell P1.m.cls N.kN)) (pre ++ .java g :: below) below := hB
  have hlim : e.platform.stackLimits (T.pushCell (freshCell P1.m.cls N.kN)).me = e.platform.stackLimits T.me := rfl
  have hfN : ((T.pushCell (freshCell P1.m.cls N.kN)).setFrames (.thenThrow T.heap.size :: (pre ++ .java g :: below))).frames = .thenThrow T.heap.size :: (pre ++ .java g :: below) := State.frames_setFrames _ hBW.2.1
  have hroom := roomAbove (pl := e.platform) (u := (T.pushCell (freshCell P1.m.cls N.kN)).setFrames (.thenThrow T.heap.size :: (pre ++ .java g :: below))) (vars := 1) (pushed := [.thenThrow T.heap.size]) (base := pre ++ .java g :: below) (free := 100) (lim := e.platform.stackLimits T.me) hfN (by rw [State.stackLimits_setFrames]; exact hlim)
    (by simp only [List.length_cons, List.length_nil]; omega) (by omega) (by rw [stackUse_light _ _ (fun f hf => by cases hf) rfl, stackUse_nil]; show 0 + 1 + 11 ≤ _; omega)
  have hLs : ∀ P, P ∈ [PR, PE] → P.Links0 e.platform s := fun P hP => by
    simp only [List.mem_cons, List.not_mem_nil, or_false] at hP
    rcases hP with rfl | rfl
    · exact LR
    · exact LEx
  obtain ⟨vm', hW', st⟩ := ov_ctor0 (tb := p.tables) (e := e) (s₀ := s) hBW hexec (H := fun u => u.setCell T.heap.size ((((npeCell N.toNpeT (preparedCellV Th.toThrowableT (freshCell P1.m.cls N.kN) T.heap.size u0 sen) T.cur).withEntry T.cur).setSlot Th.fStack.slot u0.v).left.left)) (heapOnly_id.thenSetCell T.heap.size _) P1 L1 hW T.heap.size hroom (fun vm1 hW1 hI1 => by
    rw [hlink1]
    obtain ⟨-, hfI⟩ := ov_in (hBW.vm vm1) T.heap.size (pass0J P1.m T.heap.size 0 []) (hW1.methodAt L1.method) L1.code (hW1.plainAt (U := (T.pushCell (freshCell P1.m.cls N.kN)).setVm vm1) L1.plain)
    have hXvm : ∀ w, ((((T.pushCell (freshCell P1.m.cls N.kN)).setVm vm1).setFrames (.thenThrow T.heap.size :: (pre ++ .java g :: below))).pushFrame (.java (pass0J P1.m T.heap.size 0 []))).setVm w = ((((T.pushCell (freshCell P1.m.cls N.kN)).setVm w).setFrames (.thenThrow T.heap.size :: (pre ++ .java g :: below))).pushFrame (.java (pass0J P1.m T.heap.size 0 []))) := fun w => by rw [State.pushFrame_setVm, State.setFrames_setVm, State.setVm_twice]
    obtain ⟨vm2, hW2, st⟩ := Steps.initNpe0ColdByV p (V := ((((T.pushCell (freshCell P1.m.cls N.kN)).setVm vm1).setFrames (.thenThrow T.heap.size :: (pre ++ .java g :: below))).pushFrame (.java (pass0J P1.m T.heap.size 0 [])))) (g := pass0J P1.m T.heap.size 1 []) (c := P1.code) (self := T.heap.size) hI1 hexec Th L Z LZ N LN (s₀ := s) (show s.WarmedH vm1 from hW1) (t := T.cur) rfl
      (Nn := fun u => u) heapOnly_id (fun _ _ => rfl) (fun _ => rfl) (fun u x y => setCell_twice _ _ _ _) (fun _ => Nat.le_refl _) (u0 := u0) (sen := sen) (cell := freshCell P1.m.cls N.kN) (cellS := cellS) (cN := ((npeCell N.toNpeT (preparedCellV Th.toThrowableT (freshCell P1.m.cls N.kN) T.heap.size u0 sen) T.cur).withEntry T.cur)) (kcell := N.kN)
      (State.heap_pushCell_size T (freshCell P1.m.cls N.kN)) (by intro k hk'; cases hk') (by intro hk'; cases hk') rfl hk hsel0 w5 (Nat.ne_of_lt hltS) hknownS (by rw [hkeep _ (hout' _)]; exact hu0)
      (by rw [fresh_default tyX, LN.stateInt]; rfl) (Cond.laysApart hdC hdX hdnC hdnX (by rw [Y.causeName, hnX]; decide)) (Cond.laysApart hdS hdX hdnS hdnX (by rw [Y.stackName, hnX]; decide)) (Cond.laysApart hdP hdX hdnP hdnX (by rw [Y.suppName, hnX]; decide))
      (Takes.of_laid hk hordN tyS (by rw [Y.stackType]; exact fits_refV_array _ u0)) (Takes.of_laid hk hordN tyX (by rw [LN.stateInt]; rfl)) (fun _ hu => hu) (fun _ hu => hu) rfl rfl rfl (by simp [npeCell, preparedCellV, Cell.setSlot, Cell.withEntry]) hskip (fun _ _ hA hW _ hroom _ hrest => L.nativeOff p htr hA hW hroom hrest)
      hselF (by rw [hkeep _ (hout' _)]; exact hsen) (Takes.of_laid hk hordN tyC (by rw [Y.causeType]; rfl)) (Takes.of_laid hk hordN tyP (by rw [Y.suppType]; exact fits_refV_object _ sen)) Y.objLocals [PR, PE] hLs ⟨hlinkR, hlinkE, trivial⟩ (ig := .invokespecial P1.index) (len := 3) [] (lim := e.platform.stackLimits T.me)
      (by rw [State.stackLimits_pushFrame, State.stackLimits_setFrames]; rfl)
      (by rw [hfI]; simp only [List.length_cons, List.length_nil]; omega)
      (by rw [hfI, List.tail_cons, stackUse_java, stackUse_light _ _ (fun f hf => by cases hf) rfl]
          show (stackUse (pre ++ .java g :: below)).2 + (1 + 11 + 2 * 0 + operandWords []) + 13 * 2 + 55 ≤ _
          simp only [operandWords, List.foldl_nil]
          omega)
      L1.at1
    exact ⟨vm2, hW2, fun t' h' => st t' (by rw [hXvm]; exact h')⟩)
  rw [npeBareV_eq Th.toThrowableT N.toNpeT T.heap.size u0 sen T.cur rfl rfl] at st
  have hsz8 : (freshCell P1.m.cls N.kN).slots.size = 8 := by simp [hn]
  have X2 := (X.pushed (freshCell P1.m.cls N.kN)).noted hW'
  have hsz : ((T.pushCell (freshCell P1.m.cls N.kN)).setVm vm').heap.size = T.heap.size + 1 := State.heap_size_pushCell _ _
  have ha : T.heap.size < ((T.pushCell (freshCell P1.m.cls N.kN)).setVm vm').heap.size := by rw [hsz]; omega
  have hcell : ((T.pushCell (freshCell P1.m.cls N.kN)).setVm vm').heap[T.heap.size]? = some (freshCell P1.m.cls N.kN) := State.heap_pushCell_size T (freshCell P1.m.cls N.kN)
  have X3 := ((((X2.stored hcell Th.fCause.slot (.ref T.heap.size)).storedAgain ha Th.fStack.slot u0.v).storedAgain ha Th.fSupp.slot sen.v).storedAgain ha N.fState.slot (.int 1)).storedAgain ha Th.fStack.slot u0.v
  rw [hsz8] at X3
  obtain ⟨hbey, hfre⟩ := ov_may X hsize hp (.throwNew "java/lang/NullPointerException" none none) (fun f hf => by cases hf) rfl hRlocals
  refine ⟨_, _, [⟨T.heap.size, Th.fCause.slot⟩, ⟨T.heap.size, Th.fStack.slot⟩, ⟨T.heap.size, Th.fSupp.slot⟩, ⟨T.heap.size, N.fState.slot⟩, ⟨T.heap.size, Th.fStack.slot⟩], ?_, ?_, heapAt_setCell_self (s := (T.pushCell (freshCell P1.m.cls N.kN)).setVm vm') (npeBareV Th.toThrowableT N.toNpeT (freshCell P1.m.cls N.kN) T.heap.size u0 sen) ha, rfl, hfound, ?_, ?_, fun target ht => ?_⟩
  · simpa only [List.append_assoc, List.cons_append, List.nil_append] using X3
  · intro y hy
    simp only [List.mem_cons, List.not_mem_nil, or_false] at hy
    rcases hy with rfl | rfl | rfl | rfl | rfl <;> rfl
  · intro q hq
    show ((T.heap.push _).setIfInBounds T.heap.size _)[q]? = _
    rw [Array.getElem?_setIfInBounds, if_neg (by omega), Array.getElem?_push, if_neg (by omega)]
  · show ((T.heap.push _).setIfInBounds T.heap.size _).size = _
    simp
  · refine ov_start0 hB (cls := "java/lang/NullPointerException") (cX := P1.m.cls) (kX := kX') (i := P1.m.idx) (by decide) (by decide) (by rw [hW.alike.findClass]; exact hfound) hk' (by rw [he']; exact hinit) (by rw [he']; exact hordN) (Launch.admits_hotImplicitExceptions X.admits) hbey hfre (by rw [he']; exact hctor) (X.cellsAbove hRcells) (by rw [hty, hn]; exact X.slotsAbove hRslots) ?_
    rw [hfresh]
    exact st target ht

set_option maxHeartbeats 2000000 in
theorem ov_msg (X : Stand p l e R s m args below meth c T locs cells slots) (hexec : p.tables.exec = Jvm.exec) (htr : e.platform.stackTraces = false) {cls : String} {names : List String} {text : String} (hcls : Bundle.fit cls = true) (hnames : ∀ n ∈ names, Bundle.fit n = true) (hsoe : (cls == "java/lang/StackOverflowError") = false) (hoom : (cls == "java/lang/OutOfMemoryError") = false)
    (h : ∀ a ∈ Bundle.messageArmAtoms cls names, a.before args s = true) {b0 : Nat} (z1 : xZ "java/lang/Throwable" "UNASSIGNED_STACK" "[Ljava/lang/StackTraceElement;" b0 s) (hlocs : ∀ x ∈ locs, b0 ≤ x.base)
    (htext : (text == notModelled) = false) (hlimit : ¬ (stringBytes (stringToUtf16 text)).size > e.platform.arrayLengthLimit) (hheap : ¬ (stringBytes (stringToUtf16 text)).size * componentBytes .byte > e.platform.maxHeapBytes)
    {pre : List Frame} (hp : ovP pre) {g : JFrame} (hsize : g.locals.size = c.maxLocals) (hRframes : names.length + 6 < R.frames) (hRlocals : 2 * g.monitorRoom + (g.stack.map fun v => v.category).sum + 10240 ≤ R.locals) (hshort : 13 * names.length + 100 ≤ 10240) (hRcells : cells + 3 ≤ R.cells) (hRslots : slots + ((stringBytes (stringToUtf16 text)).size + 4 + 6) ≤ R.slots) :
    ∃ (U : State) (cell : Cell) (L : List Loc) (n : Nat), n ≤ slots + ((stringBytes (stringToUtf16 text)).size + 4 + 6) ∧ Stand p l e R s m args below meth c U (locs ++ L) (cells + 3) n ∧ (∀ y ∈ L, T.heap.size ≤ y.base) ∧ U.heap[T.heap.size + 2]? = some cell ∧ cell.vm.isStatics = false ∧ s.vm.findClass cls = some cell.cls ∧ (∀ q : Nat, q < T.heap.size → U.heap[q]? = T.heap[q]?) ∧ T.heap.size ≤ U.heap.size ∧
      ∀ target, Steps p.tables e below (U.setFrames (.throwing (T.heap.size + 2) :: (pre ++ .java g :: below))) target → Steps p.tables e below (T.setFrames (.throwNew cls (some text) none :: (pre ++ .java g :: below))) target := by
  have howns : e.platform.frameOwnsMonitors = true := by rw [X.admits.platform]
  have hfin : e.platform.finalization = false := by rw [X.admits.platform]
  have hpl : e.platform.magicAccessors = ({} : Platform).magicAccessors := by rw [X.admits.platform]
  have a : ∀ x, x ∈ Bundle.messageArmAtoms cls names → x.holds args s none s [] = true := fun x hx => h x hx
  obtain ⟨Th, Z0, L, -, Y⟩ := ThrowableC.of_atoms (args := args) howns hfin hpl (fun x hx => h x (by simp [Bundle.messageArmAtoms, hx]))
  obtain ⟨Z, M, LZ, LM, hnZ⟩ := Init0T.ofS_atoms (args := args) hpl L Y (fun x hx => h x (by simp [Bundle.messageArmAtoms, hx]))
  obtain ⟨P1, Ps, hlen, L1, hL, hP1m, hlink1, hlink⟩ := Bundle.chainS (args := args) hpl hnZ names cls hcls hnames (fun x hx => h x (by simp [Bundle.messageArmAtoms, hx]))
  obtain ⟨Zs, LZs, hn4, hfitv, hfitc⟩ := StringT.of_atoms (args := args) (fun x hx => h x (by simp [Bundle.messageArmAtoms, hx]))
  have hfound : s.vm.findClass cls = some P1.m.cls := findClass_of_methodNamed hP1m
  obtain ⟨c1, kX, hc1, hk, hord, -, -, hn6⟩ := Cond.instantiable_spec (a (.instantiable cls 6) (by simp [Bundle.messageArmAtoms]))
  cases Option.some.inj (hc1.symm.trans hfound)
  have hinit := Cond.initialized_spec hfound hk (a (.initialized cls) (by simp [Bundle.messageArmAtoms]))
  have hctor : kX.findMethod "<init>" "(Ljava/lang/String;)V" = some P1.m.idx := findMethod_of_methodNamed hP1m hk
  have hsel : ∀ {x y : MethodName} {r mm : MethodId}, (Cond.selects cls x y) ∈ Bundle.messageArmAtoms cls names → s.methodFound? x.cls x.name x.desc = some r → s.methodNamed? y = some mm → selectMethod e.platform s.vm P1.m.cls r = .method mm := by
    intro x y r mm hm h1 h2
    obtain ⟨c2, r2, m2, q1, q2, q3, q4, -⟩ := Cond.selects_spec (a _ hm)
    cases Option.some.inj (q1.symm.trans hfound)
    cases Option.some.inj (q2.symm.trans h1)
    cases Option.some.inj (q3.symm.trans h2)
    rw [Launch.admits_selectMethod X.admits]; exact q4
  have hsel0 : selectMethod e.platform s.vm P1.m.cls Th.fill0 = .method Th.fill0 := hsel (x := Bundle.tFill0) (y := Bundle.tFill0) (by simp [Bundle.messageArmAtoms]) (State.methodFound?_of_named Y.fill0 (by decide)) Y.fill0
  have hselF : selectMethod e.platform s.vm P1.m.cls Th.fill = .method Th.fill := hsel (x := Bundle.tFill) (y := Bundle.tFill) (by simp [Bundle.messageArmAtoms]) (State.methodFound?_of_named Y.fill (by decide)) Y.fill
  obtain ⟨cellS0, hcS0, hiss⟩ := Y.statics
  obtain ⟨u0, hu0⟩ := Cond.staticRefV Y.unassigned L.unassignedStatic L.statics hcS0 hiss (a (.isRef (.static Bundle.tN "UNASSIGNED_STACK" Bundle.steD)) (by simp [Bundle.messageArmAtoms]))
  obtain ⟨sen, hsen⟩ := Cond.staticRefV Y.sentinel L.sentinelStatic L.statics hcS0 hiss (a (.isRef (.static Bundle.tN "SUPPRESSED_SENTINEL" Bundle.listD)) (by simp [Bundle.messageArmAtoms]))
  obtain ⟨ci198, i198, fB, hk198, hg198, ha198, hsB, -, hnB, htB, hffB⟩ := Cond.ownField (t := .object "java/lang/Object") Y.found L.cls (by decide +kernel) (a (.fieldLink Bundle.tN 198 Bundle.tN "backtrace" "Ljava/lang/Object;") (by simp [Bundle.messageArmAtoms])) (a (.lays Bundle.tN Bundle.tN "backtrace" "Ljava/lang/Object;") (by simp [Bundle.messageArmAtoms])) e.platform hpl
  obtain ⟨cellS, hcS', heS, -, hkeep⟩ := X.same.2.2.2.2.2 Th.aS cellS0 hcS0
  have hcellS : T.heap[Th.aS]? = some cellS := hcS'
  have hout' : ∀ i, (⟨Th.aS, i⟩ : Loc) ∉ locs := ov_aS z1 hlocs Y.found L.cls L.statics
  have hknownS : cellS.vm ≠ .unknown := by
    rw [heS]; intro hu
    rw [show cellS0.vm = .unknown from hu] at hiss
    cases hiss
  obtain ⟨iM, hffM⟩ := Y.msg
  obtain ⟨tyC, dC, hdC, hdnC⟩ := Cond.laysAt hfound hk Y.cause (a (.lays cls Bundle.tN "cause" "Ljava/lang/Throwable;") (by simp [Bundle.messageArmAtoms]))
  obtain ⟨tyS, dS, hdS, hdnS⟩ := Cond.laysAt hfound hk Y.stack (a (.lays cls Bundle.tN "stackTrace" Bundle.steD) (by simp [Bundle.messageArmAtoms]))
  obtain ⟨tyP, dP, hdP, hdnP⟩ := Cond.laysAt hfound hk Y.supp (a (.lays cls Bundle.tN "suppressedExceptions" Bundle.listD) (by simp [Bundle.messageArmAtoms]))
  obtain ⟨tyM, dM, hdM, hdnM⟩ := Cond.laysAt hfound hk hffM (a (.lays cls Bundle.tN "detailMessage" "Ljava/lang/String;") (by simp [Bundle.messageArmAtoms]))
  obtain ⟨tyB, dB, hdB, hdnB⟩ := Cond.laysAt hfound hk hffB (a (.lays cls Bundle.tN "backtrace" "Ljava/lang/Object;") (by simp [Bundle.messageArmAtoms]))
  have bC := Cond.laysApart hdB hdC hdnB hdnC (by rw [hnB, Y.causeName]; decide)
  have bS := Cond.laysApart hdB hdS hdnB hdnS (by rw [hnB, Y.stackName]; decide)
  have bP := Cond.laysApart hdB hdP hdnB hdnP (by rw [hnB, Y.suppName]; decide)
  have hskip : SkipFacts Th e.platform s (fun u => u) u0 ((preparedCellV Th.toThrowableT (freshCell P1.m.cls kX) (T.heap.size + 2) u0 sen).withEntry T.cur) :=
    ⟨{ ci198 := ci198, i198 := i198, fBack := fB }, ⟨hk198, hg198, ha198, hsB⟩, by
      have := fresh_default (c := P1.m.cls) tyB
      rw [htB] at this
      simpa [preparedCellV, Cell.setSlot, Cell.withEntry, Array.getElem?_setIfInBounds, bC, bS, bP, bC.symm, bS.symm, bP.symm, defaultValue] using this, fun _ _ => rfl⟩
  have hB := ov_B X pre g
  have hW := X.warmed
  obtain ⟨kX', hk', he'⟩ := hW.alike.2.2 _ _ hk
  have hty : kX'.instanceTypes = kX.instanceTypes := by rw [he']
  have hfresh : freshCell P1.m.cls kX' = freshCell P1.m.cls kX := by
    show ({ cls := P1.m.cls, slots := kX'.instanceTypes.map defaultValue, vm := .none } : Cell) = _
    rw [hty]
  obtain ⟨kS', kB', LZ', htyS⟩ := LZs.warmer hW.alike
  have hsame : withThrown T { Zs with kS := kS', kB := kB' } text P1.m.cls kX' = withThrown T Zs text P1.m.cls kX := by
    rw [← withThrown_warmer T Zs (kB' := kB') htyS text P1.m.cls kX]
    show (withString T _ _ _ _ _ _).pushCell (freshCell P1.m.cls kX') = (withString T _ _ _ _ _ _).pushCell (freshCell P1.m.cls kX)
    rw [hfresh]
  have hfs : T.fitsSlot = s.fitsSlot := (show T.fitsSlot = (s.setVm T.vm).fitsSlot from rfl).trans (State.fitsSlot_setVm hW.alike)
  obtain ⟨w1, w2, w3, w4, w5, -, w7⟩ := withThrown_facts e.platform T Zs text P1.m.cls kX
  have hltS : Th.aS < T.heap.size := (Array.getElem?_eq_some_iff.mp hcellS).1
  obtain ⟨hu, hlb⟩ := hp.use (.java g :: below)
  have hfa := X.framesAbove hRframes
  obtain ⟨g₀, hfr⟩ := X.frames_eq
  rw [hfr, List.length_cons] at hfa
  rw [List.length_cons] at hlb
  have hst := X.stackAbove hsize hRlocals
  rw [X.tail] at hst
  have hgoW : (withThrown T Zs text P1.m.cls kX).goesOn := ⟨X.here.running, X.here.runnable, X.here.alone⟩
  have hcurW : (withThrown T Zs text P1.m.cls kX).cur < (withThrown T Zs text P1.m.cls kX).threads.size := hB.2.1
  have hBW : ovB (withThrown T Zs text P1.m.cls kX) (pre ++ .java g :: below) below := ⟨hgoW, hcurW, hB.2.2⟩
  have hfN : ((withThrown T Zs text P1.m.cls kX).setFrames (.thenThrow (T.heap.size + 2) :: (pre ++ .java g :: below))).frames = .thenThrow (T.heap.size + 2) :: (pre ++ .java g :: below) := State.frames_setFrames _ hBW.2.1
  have hroom := roomAbove (pl := e.platform) (u := (withThrown T Zs text P1.m.cls kX).setFrames (.thenThrow (T.heap.size + 2) :: (pre ++ .java g :: below))) (vars := 2) (pushed := [.thenThrow (T.heap.size + 2)]) (base := pre ++ .java g :: below) (free := 100) (lim := e.platform.stackLimits T.me) hfN (by rw [State.stackLimits_setFrames]; exact w7)
    (by simp only [List.length_cons, List.length_nil]; omega) (by omega) (by rw [stackUse_light _ _ (fun f hf => by cases hf) rfl, stackUse_nil]; show 0 + 2 + 11 ≤ _; omega)
  have hWw : s.WarmedH (withThrown T Zs text P1.m.cls kX).vm := by rw [w1]; exact hW
  obtain ⟨vm', hW', st⟩ := ov_ctorS (tb := p.tables) (e := e) (s₀ := s) hBW hexec (H := fun u => u.setCell (T.heap.size + 2) ((((preparedCellV Th.toThrowableT (freshCell P1.m.cls kX) (T.heap.size + 2) u0 sen).withEntry T.cur).setSlot Th.fStack.slot u0.v).left.setSlot Th.fMsg.slot (.ref (T.heap.size + 1)))) (heapOnly_id.thenSetCell (T.heap.size + 2) _) P1 L1 hWw (T.heap.size + 2) (T.heap.size + 1) hroom (fun vm1 hW1 hI1 => by
    rw [hlink1]
    obtain ⟨-, hfI⟩ := ov_in (hBW.vm vm1) (T.heap.size + 2) (passJ P1.m (T.heap.size + 2) (.ref (T.heap.size + 1)) 0 []) (hW1.methodAt L1.method) L1.code (hW1.plainAt (U := (withThrown T Zs text P1.m.cls kX).setVm vm1) L1.plain)
    have hXvm : ∀ w, ((((withThrown T Zs text P1.m.cls kX).setVm vm1).setFrames (.thenThrow (T.heap.size + 2) :: (pre ++ .java g :: below))).pushFrame (.java (passJ P1.m (T.heap.size + 2) (.ref (T.heap.size + 1)) 0 []))).setVm w = ((((withThrown T Zs text P1.m.cls kX).setVm w).setFrames (.thenThrow (T.heap.size + 2) :: (pre ++ .java g :: below))).pushFrame (.java (passJ P1.m (T.heap.size + 2) (.ref (T.heap.size + 1)) 0 []))) := fun w => by rw [State.pushFrame_setVm, State.setFrames_setVm, State.setVm_twice]
    obtain ⟨vm2, hW2, st⟩ := Steps.initThrowableSColdByV p (V := ((((withThrown T Zs text P1.m.cls kX).setVm vm1).setFrames (.thenThrow (T.heap.size + 2) :: (pre ++ .java g :: below))).pushFrame (.java (passJ P1.m (T.heap.size + 2) (.ref (T.heap.size + 1)) 0 [])))) (g := passJ P1.m (T.heap.size + 2) (.ref (T.heap.size + 1)) 2 []) (c := P1.code) (self := T.heap.size + 2) hI1 hexec Th L Z LZ M LM (s₀ := s) (show s.WarmedH vm1 from hW1) (t := T.cur) (show (withThrown T Zs text P1.m.cls kX).cur = T.cur by simp [withThrown, withString])
      (Nn := fun u => u) heapOnly_id (fun _ _ => rfl) (fun _ => rfl) (fun u x y => setCell_twice _ _ _ _) (fun _ => Nat.le_refl _) (u0 := u0) (sen := sen) (msg := .ref (T.heap.size + 1)) rfl (cell := freshCell P1.m.cls kX) (cellS := cellS) (cN := ((preparedCellV Th.toThrowableT (freshCell P1.m.cls kX) (T.heap.size + 2) u0 sen).withEntry T.cur))
      w4 (by intro k hk'; cases hk') (by intro hk'; cases hk') rfl hsel0 ((w5 _ hltS).trans hcellS) (Nat.ne_of_lt (Nat.lt_of_lt_of_le hltS (Nat.le_add_right _ 2))) hknownS (by rw [hkeep _ (hout' _)]; exact hu0)
      (Takes.of_laid hk hord tyS (by rw [Y.stackType]; exact fits_refV_array _ u0)) (fun _ hu => hu) (fun _ hu => hu) rfl rfl rfl (by simp [preparedCellV, Cell.setSlot, Cell.withEntry]) hskip (fun _ _ hA hW _ hroom _ hrest => L.nativeOff p htr hA hW hroom hrest)
      hselF (by rw [hkeep _ (hout' _)]; exact hsen) (Takes.of_laid hk hord tyC (by rw [Y.causeType]; rfl)) (Takes.of_laid hk hord tyP (by rw [Y.suppType]; exact fits_refV_object _ sen)) (Takes.of_laid hk hord tyM (by rw [Y.msgType]; rfl)) Y.objLocals Ps hL hlink (ig := .invokespecial P1.index) (len := 3) [] (lim := e.platform.stackLimits T.me)
      (by rw [State.stackLimits_pushFrame, State.stackLimits_setFrames]; exact w7)
      (by rw [hfI, hlen]; simp only [List.length_cons, List.length_nil]; omega)
      (by rw [hfI, hlen, List.tail_cons, stackUse_java, stackUse_light _ _ (fun f hf => by cases hf) rfl]
          show (stackUse (pre ++ .java g :: below)).2 + (2 + 11 + 2 * 0 + operandWords []) + 13 * names.length + 42 ≤ _
          simp only [operandWords, List.foldl_nil]
          omega)
      L1.at2
    exact ⟨vm2, hW2, fun t' h' => st t' (by rw [hXvm]; exact h')⟩)
  obtain ⟨hbey, hfre⟩ := ov_may X hsize hp (.throwNew cls (some text) none) (fun f hf => by cases hf) rfl hRlocals
  rw [plainBareV_eq Th.toThrowableT (T.heap.size + 2) u0 sen (.ref (T.heap.size + 1)) T.cur rfl rfl] at st
  have X3 := ((X.pushed (bytesOf Zs.cB (stringToUtf16 text))).pushed (stringAt Zs.cS Zs.kS Zs.fv Zs.fc (stringToUtf16 text) T.heap.size)).pushed (freshCell P1.m.cls kX)
  rw [← withString_eq] at X3
  have X4 := X3.noted hW'
  have ha : (T.heap.size + 2) < ((withThrown T Zs text P1.m.cls kX).setVm vm').heap.size := by show _ < (withThrown T Zs text P1.m.cls kX).heap.size; rw [w3]; omega
  have hcell : ((withThrown T Zs text P1.m.cls kX).setVm vm').heap[(T.heap.size + 2)]? = some (freshCell P1.m.cls kX) := w4
  have X5 := ((((X4.stored hcell Th.fCause.slot (.ref (T.heap.size + 2))).storedAgain ha Th.fStack.slot u0.v).storedAgain ha Th.fSupp.slot sen.v).storedAgain ha Th.fStack.slot u0.v).storedAgain ha Th.fMsg.slot (.ref (T.heap.size + 1))
  have b1 : (bytesOf Zs.cB (stringToUtf16 text)).slots.size = (stringBytes (stringToUtf16 text)).size := by
    rw [(Cell.writeAll_facts _ _).2.2]; simp [bytes0]
  have b2 : (stringAt Zs.cS Zs.kS Zs.fv Zs.fc (stringToUtf16 text) T.heap.size).slots.size = 4 := by simp [string0, Cell.setSlot, hn4]
  have b3 : (freshCell P1.m.cls kX).slots.size = 6 := by simp [hn6]
  rw [b1, b2, b3] at X5
  refine ⟨_, _, [⟨T.heap.size + 2, Th.fCause.slot⟩, ⟨T.heap.size + 2, Th.fStack.slot⟩, ⟨T.heap.size + 2, Th.fSupp.slot⟩, ⟨T.heap.size + 2, Th.fStack.slot⟩, ⟨T.heap.size + 2, Th.fMsg.slot⟩], slots + (stringBytes (stringToUtf16 text)).size + 4 + 6, by omega, ?_, ?_, heapAt_setCell_self (s := (withThrown T Zs text P1.m.cls kX).setVm vm') (plainBareV Th.toThrowableT (freshCell P1.m.cls kX) (T.heap.size + 2) u0 sen (.ref (T.heap.size + 1))) ha, rfl, hfound, ?_, ?_, fun target ht => ?_⟩
  · simpa only [List.append_assoc, List.cons_append, List.nil_append] using X5
  · intro y hy
    simp only [List.mem_cons, List.not_mem_nil, or_false] at hy
    rcases hy with rfl | rfl | rfl | rfl | rfl <;> exact Nat.le_add_right _ 2
  · intro q hq
    show ((withThrown T Zs text P1.m.cls kX).heap.setIfInBounds (T.heap.size + 2) _)[q]? = _
    rw [Array.getElem?_setIfInBounds, if_neg (by omega)]
    exact w5 q hq
  · show _ ≤ ((withThrown T Zs text P1.m.cls kX).heap.setIfInBounds (T.heap.size + 2) _).size
    rw [Array.size_setIfInBounds, w3]
    omega
  · refine ov_startS hB { Zs with kS := kS', kB := kB' } LZ' (cls := cls) (m := text) (cX := P1.m.cls) (kX := kX') (i := P1.m.idx) hsoe hoom (by rw [hW.alike.findClass]; exact hfound) hk' (by rw [he']; exact hinit) (by rw [he']; exact hord) (Launch.admits_hotImplicitExceptions X.admits) hbey hfre htext (by rw [he']; exact hctor) hlimit hheap (X.cellsAbove hRcells)
      (by show T.slotsUsed + _ + kS'.instanceTypes.size + kX'.instanceTypes.size ≤ _; rw [htyS, hty, hn4, hn6]; have := X.slotsAbove hRslots; omega) (by rw [hfs]; exact hfitv _) (by rw [hfs]; exact hfitc _) ?_
    rw [hsame]
    exact st target ht
end OW
