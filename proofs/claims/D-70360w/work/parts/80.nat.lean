/-! A NATIVE THAT THROWS: arraycopy's three refusals, as rows -/
section CP
variable {e : Env} {s : State}
theorem cp_null1 {Q : Option Value → Pre} {E : CtlPost} {d : Bool} {acts : List Action} (sp dp n : Int32) (v : Value) (hE : E (.throwNew "java/lang/NullPointerException" none) acts s) : wp (Native.java_lang_System.arraycopy.sem #[.null, .int sp, v, .int dp, .int n]) Q E e d acts s := by
  show wp (do Jvm.mark "nat.java_lang_System.arraycopy/null"; Jvm.throwNew "java/lang/NullPointerException") Q E e d acts s
  simp only [wp_bind', W.mark, W.throwNew]
  exact hE
theorem cp_null2 {Q : Option Value → Pre} {E : CtlPost} {d : Bool} {acts : List Action} (src : Addr) (sp dp n : Int32) (hE : E (.throwNew "java/lang/NullPointerException" none) acts s) : wp (Native.java_lang_System.arraycopy.sem #[.ref src, .int sp, .null, .int dp, .int n]) Q E e d acts s := by
  show wp (do Jvm.mark "nat.java_lang_System.arraycopy/null"; Jvm.throwNew "java/lang/NullPointerException") Q E e d acts s
  simp only [wp_bind', W.mark, W.throwNew]
  exact hE
variable {sp dp n : Int32} {sT dT : FieldType}
theorem cp_store (hty : ((refKind sT != refKind dT) || (!refKind sT && sT != dT)) = true) (hk1 : (Native.java_lang_System.arraycopy.kindName sT).toList.length ≤ 20) (hk2 : (Native.java_lang_System.arraycopy.kindName dT).toList.length ≤ 20) :
    ∃ t : String, (∃ u, t.toList = 'a' :: u) ∧ t.toList.length ≤ 300 ∧ ∀ (e : Env) (s : State) (src dst : Addr) (cs cd : Cell) (ks kd : Class) (sC dC : ClassId), s.heap[src]? = some cs → s.heap[dst]? = some cd → (∀ k, cs.vm ≠ .statics k) → (∀ k, cd.vm ≠ .statics k) → s.vm.classes[cs.cls]? = some ks → s.vm.classes[cd.cls]? = some kd → ks.kind = .array sC sT → kd.kind = .array dC dT → ∀ (Q : Option Value → Pre) (E : CtlPost) (d : Bool) (acts : List Action), E (.throwNew "java/lang/ArrayStoreException" (some t)) acts s → wp (Native.java_lang_System.arraycopy.sem #[.ref src, .int sp, .ref dst, .int dp, .int n]) Q E e d acts s := by
  refine ⟨toString "arraycopy: type mismatch: can not copy " ++ toString (Native.java_lang_System.arraycopy.kindName sT) ++ toString "[] into " ++ toString (Native.java_lang_System.arraycopy.kindName dT) ++ toString "[]", ?_, ?_, ?_⟩
  rotate_left 2
  · intro e s src dst cs cd ks kd sC dC hs hd h1 h2 hks hkd hsk hdk Q E d acts hE
    rw [Native.java_lang_System.arraycopy.sem_refs]
    unfold Native.java_lang_System.arraycopy.behind
    simp only [wp_bind', W.classOf, W.theClass, hs, hd, hks, hkd, Option.some.injEq, exists_eq_left', hsk, hdk]
    refine ⟨h1, h2, ?_⟩
    unfold refKind at hty
    simp only [hty, if_true, wp_bind', W.mark, W.throwNew]
    exact hE
  · refine ⟨"rraycopy: type mismatch: can not copy ".toList ++ (Native.java_lang_System.arraycopy.kindName sT).toList ++ "[] into ".toList ++ (Native.java_lang_System.arraycopy.kindName dT).toList ++ "[]".toList, ?_⟩
    simp only [String.toList_append, toString]
    rfl
  · have a1 : "arraycopy: type mismatch: can not copy ".toList.length = 39 := by decide
    have a2 : "[] into ".toList.length = 8 := by decide
    have a3 : "[]".toList.length = 2 := by decide
    simp only [String.toList_append, List.length_append, toString] at *
    omega
theorem cp_bounds (hty : ((refKind sT != refKind dT) || (!refKind sT && sT != dT)) = false) (hk1 : (Native.java_lang_System.arraycopy.kindName sT).toList.length ≤ 20) (hk2 : (Native.java_lang_System.arraycopy.kindName dT).toList.length ≤ 20) {l1 l2 : Nat} (z1 : l1 < 10 ^ 10) (z2 : l2 < 10 ^ 10)
    (ho : sp < 0 ∨ dp < 0 ∨ n < 0 ∨ sp.toInt + n.toInt > l1 ∨ dp.toInt + n.toInt > l2) :
    ∃ t : String, (∃ u, t.toList = 'a' :: u) ∧ t.toList.length ≤ 300 ∧ ∀ (e : Env) (s : State) (src dst : Addr) (cs cd : Cell) (ks kd : Class) (sC dC : ClassId), s.heap[src]? = some cs → s.heap[dst]? = some cd → (∀ k, cs.vm ≠ .statics k) → (∀ k, cd.vm ≠ .statics k) → s.vm.classes[cs.cls]? = some ks → s.vm.classes[cd.cls]? = some kd → ks.kind = .array sC sT → kd.kind = .array dC dT → cs.slots.size = l1 → cd.slots.size = l2 → ∀ (Q : Option Value → Pre) (E : CtlPost) (d : Bool) (acts : List Action), E (.throwNew "java/lang/ArrayIndexOutOfBoundsException" (some t)) acts s → wp (Native.java_lang_System.arraycopy.sem #[.ref src, .int sp, .ref dst, .int dp, .int n]) Q E e d acts s := by
  have p1 := nat_print z1
  have p2 := nat_print z2
  have b0 : "arraycopy: ".toList.length = 11 := by decide
  have b1 : "source index ".toList.length = 13 := by decide
  have b2 : " out of bounds for ".toList.length = 19 := by decide
  have b3 : "destination index ".toList.length = 18 := by decide
  have b4 : "length ".toList.length = 7 := by decide
  have b5 : " is negative".toList.length = 12 := by decide
  have b6 : "last source index ".toList.length = 18 := by decide
  have b7 : "last destination index ".toList.length = 23 := by decide
  have b8 : "[".toList.length = 1 := by decide
  have b9 : "]".toList.length = 1 := by decide
  have i1 := int32_print sp
  have i2 := int32_print dp
  have i3 := int32_print n
  have ip : ∀ x : Int, 0 ≤ x → x < 2 ^ 33 → (toString x).toList.length ≤ 10 := by
    intro x hx hy
    obtain ⟨k, rfl⟩ := Int.eq_ofNat_of_zero_le hx
    exact nat_print (n := k) (by omega)
  have key : ∀ what : String, what.toList.length ≤ 280 → (∀ (e : Env) (s : State) (src dst : Addr) (cs cd : Cell) (ks kd : Class) (sC dC : ClassId), s.heap[src]? = some cs → s.heap[dst]? = some cd → (∀ k, cs.vm ≠ .statics k) → (∀ k, cd.vm ≠ .statics k) → s.vm.classes[cs.cls]? = some ks → s.vm.classes[cd.cls]? = some kd → ks.kind = .array sC sT → kd.kind = .array dC dT → cs.slots.size = l1 → cd.slots.size = l2 → ∀ (Q : Option Value → Pre) (E : CtlPost) (d : Bool) (acts : List Action), E (.throwNew "java/lang/ArrayIndexOutOfBoundsException" (some ("arraycopy: " ++ what))) acts s → wp (Native.java_lang_System.arraycopy.sem #[.ref src, .int sp, .ref dst, .int dp, .int n]) Q E e d acts s) →
      ∃ t : String, (∃ u, t.toList = 'a' :: u) ∧ t.toList.length ≤ 300 ∧ ∀ (e : Env) (s : State) (src dst : Addr) (cs cd : Cell) (ks kd : Class) (sC dC : ClassId), s.heap[src]? = some cs → s.heap[dst]? = some cd → (∀ k, cs.vm ≠ .statics k) → (∀ k, cd.vm ≠ .statics k) → s.vm.classes[cs.cls]? = some ks → s.vm.classes[cd.cls]? = some kd → ks.kind = .array sC sT → kd.kind = .array dC dT → cs.slots.size = l1 → cd.slots.size = l2 → ∀ (Q : Option Value → Pre) (E : CtlPost) (d : Bool) (acts : List Action), E (.throwNew "java/lang/ArrayIndexOutOfBoundsException" (some t)) acts s → wp (Native.java_lang_System.arraycopy.sem #[.ref src, .int sp, .ref dst, .int dp, .int n]) Q E e d acts s := by
    intro what hl hw
    refine ⟨"arraycopy: " ++ what, ⟨"rraycopy: ".toList ++ what.toList, ?_⟩, ?_, hw⟩
    · rw [String.toList_append]; rfl
    · rw [String.toList_append, List.length_append, b0]; omega
  have go : ∀ (what : String), (if sp < 0 then some (toString "source index " ++ toString sp ++ toString " out of bounds for " ++ toString (toString (Native.java_lang_System.arraycopy.kindName sT) ++ toString "[" ++ toString l1 ++ toString "]"))
      else if dp < 0 then some (toString "destination index " ++ toString dp ++ toString " out of bounds for " ++ toString (toString (Native.java_lang_System.arraycopy.kindName dT) ++ toString "[" ++ toString l2 ++ toString "]"))
      else if n < 0 then some (toString "length " ++ toString n ++ toString " is negative")
      else if sp.toInt + n.toInt > l1 then some (toString "last source index " ++ toString (sp.toInt + n.toInt) ++ toString " out of bounds for " ++ toString (toString (Native.java_lang_System.arraycopy.kindName sT) ++ toString "[" ++ toString l1 ++ toString "]"))
      else if dp.toInt + n.toInt > l2 then some (toString "last destination index " ++ toString (dp.toInt + n.toInt) ++ toString " out of bounds for " ++ toString (toString (Native.java_lang_System.arraycopy.kindName dT) ++ toString "[" ++ toString l2 ++ toString "]"))
      else none) = some what → ∀ (e : Env) (s : State) (src dst : Addr) (cs cd : Cell) (ks kd : Class) (sC dC : ClassId), s.heap[src]? = some cs → s.heap[dst]? = some cd → (∀ k, cs.vm ≠ .statics k) → (∀ k, cd.vm ≠ .statics k) → s.vm.classes[cs.cls]? = some ks → s.vm.classes[cd.cls]? = some kd → ks.kind = .array sC sT → kd.kind = .array dC dT → cs.slots.size = l1 → cd.slots.size = l2 → ∀ (Q : Option Value → Pre) (E : CtlPost) (d : Bool) (acts : List Action), E (.throwNew "java/lang/ArrayIndexOutOfBoundsException" (some ("arraycopy: " ++ what))) acts s → wp (Native.java_lang_System.arraycopy.sem #[.ref src, .int sp, .ref dst, .int dp, .int n]) Q E e d acts s := by
    intro what hf e s src dst cs cd ks kd sC dC hs hd h1 h2 hks hkd hsk hdk e1 e2 Q E d acts hE
    subst e1; subst e2
    rw [Native.java_lang_System.arraycopy.sem_refs]
    unfold Native.java_lang_System.arraycopy.behind
    simp only [wp_bind', W.classOf, W.theClass, hs, hd, hks, hkd, Option.some.injEq, exists_eq_left', hsk, hdk]
    refine ⟨h1, h2, ?_⟩
    unfold refKind at hty
    simp only [hty, Bool.false_eq_true, if_false]
    simp only [wp_bind', W.sizeOf, hs, hd, Option.some.injEq, exists_eq_left']
    rw [hf]
    simp only [wp_bind', W.mark, W.throwNew]
    exact hE
  have u1 := Int32.lt_iff_toInt_lt (x := sp) (y := 0)
  have u2 := Int32.lt_iff_toInt_lt (x := dp) (y := 0)
  have u3 := Int32.lt_iff_toInt_lt (x := n) (y := 0)
  have e0 : (0 : Int32).toInt = 0 := rfl
  have v1 := sp.toInt_lt
  have v2 := dp.toInt_lt
  have v3 := n.toInt_lt
  by_cases q1 : sp < 0
  · refine key _ ?_ (go _ (if_pos q1))
    simp only [String.toList_append, List.length_append, toString] at *
    omega
  by_cases q2 : dp < 0
  · refine key _ ?_ (go _ (by rw [if_neg q1, if_pos q2]))
    simp only [String.toList_append, List.length_append, toString] at *
    omega
  by_cases q3 : n < 0
  · refine key _ ?_ (go _ (by rw [if_neg q1, if_neg q2, if_pos q3]))
    simp only [String.toList_append, List.length_append, toString] at *
    omega
  have w1 : 0 ≤ sp.toInt := by
    have := mt u1.mpr q1
    omega
  have w2 : 0 ≤ dp.toInt := by
    have := mt u2.mpr q2
    omega
  have w3 : 0 ≤ n.toInt := by
    have := mt u3.mpr q3
    omega
  by_cases q4 : sp.toInt + n.toInt > l1
  · refine key _ ?_ (go _ (by rw [if_neg q1, if_neg q2, if_neg q3, if_pos q4]))
    have i4 := ip (sp.toInt + n.toInt) (by omega) (by omega)
    simp only [String.toList_append, List.length_append, toString] at *
    omega
  by_cases q5 : dp.toInt + n.toInt > l2
  · refine key _ ?_ (go _ (by rw [if_neg q1, if_neg q2, if_neg q3, if_neg q4, if_pos q5]))
    have i4 := ip (dp.toInt + n.toInt) (by omega) (by omega)
    simp only [String.toList_append, List.length_append, toString] at *
    omega
  exfalso
  rcases ho with h | h | h | h | h
  · exact q1 h
  · exact q2 h
  · exact q3 h
  · exact q4 h
  · exact q5 h
end CP
/-- a native's note of a throw -/
theorem nt_note {tb : Tables} {e : Env} {below : List Frame} {s target : State} {g : JFrame} {c : Code} (h : At s g.method c below) {m : MethodId} {meth : Method} {k : Class} {row : NativeRow} {args : Array Value} (acts : List Action)
    (hk : s.vm.classes[m.cls]? = some k) (hx : k.methods[m.idx]? = some meth) (hboot : k.loader = none) (hnat : meth.isNative = true) (hc : meth.code = none) (hl : meth.locks = false) (hrow : NativeRow.find? tb.natives k.name meth.name meth.desc = some row)
    (hroom : e.platform.stackFull (((s.setTop g).threads[(s.setTop g).cur]?).getD { frames := [] }) (s.setTop g).frames (nativeFrameWords k.name meth.name (operandWords args.toList)) = false) {cls : String} {msg : Option String}
    (hw : ∀ E : CtlPost, (∀ acts', E (.throwNew cls msg) acts' ((s.setTop g).pushFrame (.native { method := m, args := seenByNative meth args, locked := none }))) → wp (row.sem (seenByNative meth args)) (fun _ _ _ _ => False) E e false [] ((s.setTop g).pushFrame (.native { method := m, args := seenByNative meth args, locked := none })))
    (hrest : Steps tb e below (((s.setTop g).pushFrame (.native { method := m, args := seenByNative meth args, locked := none })).pushFrame (.throwNew cls msg none)) target) : Steps tb e below (doInvoke e (s.setTop g) acts m args).1 target := by
  have hm : (s.setTop g).vm.method? m = some meth := by
    show s.vm.method? m = some meth
    simp [Vm.method?, hk, hx]
  have hroom' : e.platform.stackFull (((s.setTop g).threads[(s.setTop g).cur]?).getD { frames := [] }) (s.setTop g).frames (nativeFrameWords ((((s.setTop g).vm.classes[m.cls]?).map (·.name)).getD "") meth.name (operandWords args.toList)) = false := by
    have : (((s.setTop g).vm.classes[m.cls]?).map (·.name)).getD "" = k.name := by
      show ((s.vm.classes[m.cls]?).map (·.name)).getD "" = k.name
      simp [hk]
    rw [this]; exact hroom
  rw [(Fast.doInvoke_native (s := s.setTop g) (e := e) (acts := acts) (args := args) hm hnat hc hl hroom').1]
  have hfe := frames_entered (g := g) h.top (.native { method := m, args := seenByNative meth args, locked := none })
  obtain ⟨mid, hmid⟩ := h.above
  refine Steps.head ⟨h.running, by simpa using h.runnable, by simpa using h.alone⟩ ⟨.native { method := m, args := seenByNative meth args, locked := none } :: .java g :: mid, by rw [hfe, hmid]; rfl, by simp, by simp⟩ ?_
  rw [stepThread_native (f := { method := m, args := seenByNative meth args, locked := none }) (k := k) (x := meth) (row := row) hfe hk hx hboot hrow rfl]
  have hw1 : wpRun (row.sem (seenByNative meth args)) (fun _ _ _ => False) (fun x s₁ _ => x = .throwNew cls msg ∧ s₁ = (s.setTop g).pushFrame (.native { method := m, args := seenByNative meth args, locked := none })) e ((s.setTop g).pushFrame (.native { method := m, args := seenByNative meth args, locked := none })) := hw _ (fun _ => ⟨rfl, rfl⟩)
  have hw2 := (wpRun_iff_run _ _ _ _ _).mp hw1
  cases hr : (row.sem (seenByNative meth args)).run e ((s.setTop g).pushFrame (.native { method := m, args := seenByNative meth args, locked := none })) with
  | ok v s₁ acts₁ => rw [hr] at hw2; exact hw2.elim
  | ctl x s₁ acts₁ =>
    rw [hr] at hw2
    cases x
    case throwNew => obtain ⟨h1, h2⟩ := hw2; cases h1; subst h2; exact hrest
    all_goals first | exact hw2.elim | (obtain ⟨h1, -⟩ := hw2; cases h1)
section CR
variable {p : Program} {l : Launch} {e : Env} {R : Room} {s : State} {m : MethodId} {args : Array Value} {below : List Frame} {meth : Method} {c : Code} {H : Heap} {locs : List Loc} {cells slots : Nat} {Q : State → Prop}
variable {cc : ByteArray} {pc : Nat} {ls : Array Slot} {rest st0 : List Value} {G : nG} {cl : List vw_C} {ad : Nat → Nat} {c0 : nPic} {tys : List (ClassId × FieldType)} {own : String} {index : Nat}
theorem o_top {T : State} (X : Stand p l e R s m args below meth c T locs cells slots) (g : JFrame) (n : Frame) : (T.setTop g).pushFrame n = T.setFrames (n :: .java g :: below) := by
  obtain ⟨g₀, hfr⟩ := X.frames_eq
  rw [State.pushFrame, State.frames_setTop _ hfr, State.setTop_of_frames _ hfr, State.setFrames_setFrames]
/-- a NullPointerException of the machine's where the frame's own handlers may wait -/
theorem o_npe (hexec : p.tables.exec = Jvm.exec) (hfl : l.stackTraces = false) (hml : ls.size = c.maxLocals) (hat : ∀ a ∈ Bundle.npeArmAtoms 8, a.before args s = true) (z1 : xZ "java/lang/Throwable" "UNASSIGNED_STACK" "[Ljava/lang/StackTraceElement;" G.2 s) (hN : nOk G cl ad c0 H) (hS : nS G s H locs) (hfr : 8 < R.frames) (hlo : 8 + 10240 ≤ R.locals) (hW : (rest.map fun v => v.category).sum ≤ 8) (hc : cells + 1 ≤ R.cells) (hs : slots + 8 ≤ R.slots)
    (hstep : ∀ T : State, T.heap = H → Stand p l e R s m args below meth c T locs cells slots → ∃ vm', Stand p l e R s m args below meth c (T.setVm vm') locs cells slots ∧ ∀ target, Steps p.tables e below (((T.setVm vm').setTop (F0 m pc ls rest)).pushFrame (.throwNew "java/lang/NullPointerException" none none)) target → Steps p.tables e below (T.setTop (F0 m pc ls st0)) target)
    (kk : ∀ (a : Addr) (cell : Cell) (H' : Heap) (locs' : List Loc), H'[a]? = some cell → cell.vm.isStatics = false → s.vm.findClass "java/lang/NullPointerException" = some cell.cls → nOk G cl ad c0 H' → nS G s H' locs' → WT p l e R s m args below meth c H' locs' (cells + 1) (slots + 8) Q (F0 m pc ls rest) a) : W p l e R s m args below meth c H locs cells slots Q (F0 m pc ls st0) := by
  intro T hT X
  obtain ⟨vm', X1, st⟩ := hstep T hT X
  have htr : e.platform.stackTraces = false := by rw [X.admits.platform]; exact hfl
  have hroom := lv_room (m := m) (pc := pc) (ls := ls) (rest := rest) hW
  obtain ⟨U, cell, L, XU, hL, h1, h2, h3, h4, h5, st2⟩ := ov_npe X1 hexec htr hat z1 hS.2 (pre := []) (Or.inl rfl) (g := F0 m pc ls rest) hml hfr (by show 2 * (F0 m pc ls rest).monitorRoom + (rest.map fun v => v.category).sum + 10240 ≤ _; omega) hc hs
  have hTH : (T.setVm vm').heap = H := hT
  have hgz : G.2 ≤ T.heap.size := by rw [hT]; exact hN.2.2
  obtain ⟨t, a1, b1⟩ := kk _ cell U.heap (locs ++ L) h1 h2 h3 (x_nOk hN (by rw [h5]; show H.size ≤ T.heap.size + 1; rw [hT]; omega) (fun q hq => by rw [← hT] at hq ⊢; exact h4 q hq)) ⟨fun q hq => by rw [h4 q (show q < T.heap.size by omega)]; show T.heap[q]? = _; rw [hT]; exact hS.1 q hq, fun q hq => by
      rcases List.mem_append.mp hq with h | h
      · exact hS.2 q h
      · rw [hL q h]; exact hgz⟩ U rfl XU
  rw [o_top XU] at a1
  exact ⟨t, st t (by rw [o_top X1]; exact st2 t a1), b1⟩
/-- arraycopy throws; how the exception is made is told by harm -/
theorem o_copyC (hexec : p.tables.exec = Jvm.exec) (hb : c.code = cc) (hml : c.maxLocals = ls.size) (hts : ∀ w ∈ lw_all, w.before args s = true) (hown : s.vm.findClass own = some m.cls) (hlink : Cond.methodLink own index arraycopyName ∈ lw_all) (hnat : Cond.native arraycopyName ∈ lw_all) (hstat : Cond.static arraycopyName ∈ lw_all) (hini : Cond.initialized "java/lang/System" ∈ lw_all) {v1 v2 : Value} {sp dp n : Int32} (hv1 : v1.isRef = true) (hv2 : v2.isRef = true) (hfr : 1 ≤ R.frames) (hlo : 8 + 10240 ≤ R.locals) (hW : (rest.map fun v => v.category).sum ≤ 8) (hdg : decode cc pc = .ok (.invokestatic index, 3)) {cls : String} {msg : Option String}
    (hw : ∀ (U : State) (fs : List Frame), U.heap = H → s.vm.Alike U.vm → ∀ E : CtlPost, (∀ acts', E (.throwNew cls msg) acts' (U.setFrames fs)) → wp (Native.java_lang_System.arraycopy.sem #[v1, .int sp, v2, .int dp, .int n]) (fun _ _ _ _ => False) E e false [] (U.setFrames fs))
    (harm : ∀ (U : State) (nf : NFrame), U.heap = H → Stand p l e R s m args below meth c U locs cells slots → nf.words = 0 → ∃ (a : Addr) (U2 : State), U2.goesOn ∧ U2.cur < U2.threads.size ∧ (∃ t, Steps p.tables e below (U2.setFrames (.throwing a :: .java (F0 m pc ls rest) :: below)) t ∧ Q t) ∧ ∀ target, Steps p.tables e below (U2.setFrames (.throwing a :: ([.native nf] ++ .java (F0 m pc ls rest) :: below))) target → Steps p.tables e below (U.setFrames (.throwNew cls msg none :: ([.native nf] ++ .java (F0 m pc ls rest) :: below))) target) :
    W p l e R s m args below meth c H locs cells slots Q (F0 m pc ls (.int n :: .int dp :: v2 :: .int sp :: v1 :: rest)) := by
  intro T hT X
  obtain ⟨r, kS, methS, hnS, hmS, hkS, N⟩ := NativeOf.of_static (hts _ hnat) (hts _ hstat) (ps := [.object "java/lang/Object", .int, .object "java/lang/Object", .int, .int]) (ret := none) (by decide +kernel)
  have hinitS : kS.init = .initialized := Cond.initialized_spec (findClass_of_methodNamed hnS) hkS (hts _ hini)
  obtain ⟨vm', X', step⟩ := X.invokestatic hexec hown (hts _ hlink) hnS hmS N.static hkS hinitS (by decide) (g := F0 m pc ls (.int n :: .int dp :: v2 :: .int sp :: v1 :: rest)) rfl (argsL := [v1, .int sp, v2, .int dp, .int n]) (rest := rest) (by rw [N.sig]; rfl) rfl (by rw [hb]; exact hdg)
  obtain ⟨kS', N'⟩ := N.alike X'.warmed.alike
  have hseen : seenByNative methS #[v1, .int sp, v2, .int dp, .int n] = #[v1, .int sp, v2, .int dp, .int n] := by
    cases v1 <;> cases hv1 <;> cases v2 <;> cases hv2 <;> simp [seenByNative, N.static, N.sig, narrow]
  have hops : operandWords #[v1, .int sp, v2, .int dp, .int n].toList = 5 := by
    cases v1 <;> cases hv1 <;> cases v2 <;> cases hv2 <;> rfl
  have hroom := lv_room (m := m) (pc := pc) (ls := ls) (rest := rest) hW
  obtain ⟨a, U2, hgo, hcur, ⟨t, a1, b1⟩, st2⟩ := harm (T.setVm vm') { method := r, args := seenByNative methS #[v1, .int sp, v2, .int dp, .int n], locked := none } hT X' rfl
  refine ⟨t, step t fun acts => ?_, b1⟩
  have hfe : ((T.setVm vm').setTop (F0 m pc ls rest)).pushFrame (.native { method := r, args := seenByNative methS #[v1, .int sp, v2, .int dp, .int n], locked := none }) = (T.setVm vm').setFrames (.native { method := r, args := seenByNative methS #[v1, .int sp, v2, .int dp, .int n], locked := none } :: .java (F0 m pc ls rest) :: below) := o_top X' _ _
  refine nt_note (g := F0 m pc ls rest) X'.here acts N'.cls N'.meth N'.boot N'.native N'.noCode N'.noLock (row := arraycopyRow) (by rw [N'.className, N'.name, N'.desc]; exact arraycopy_row p)
    (by rw [N'.className, N'.name]; show e.platform.stackFull _ _ (nativeFrameWords "java/lang/System" "arraycopy" (operandWords #[v1, .int sp, v2, .int dp, .int n].toList)) = false; rw [hops]; exact X'.notFull (g := F0 m pc ls rest) hml.symm (vars := nativeFrameWords "java/lang/System" "arraycopy" 5) hfr (by
        have q : nativeFrameWords "java/lang/System" "arraycopy" 5 + 11 ≤ 10240 := by decide
        show 2 * (F0 m pc ls rest).monitorRoom + (rest.map fun v => v.category).sum + _ ≤ _
        omega)) (cls := cls) (msg := msg) ?_ ?_
  · intro E hE
    rw [hfe] at hE ⊢
    rw [hseen, arraycopyRow_sem]
    rw [hseen] at hE
    exact hw (T.setVm vm') _ hT X'.warmed.alike E hE
  · rw [hfe]
    have hf2 : ((T.setVm vm').setFrames (.native { method := r, args := seenByNative methS #[v1, .int sp, v2, .int dp, .int n], locked := none } :: .java (F0 m pc ls rest) :: below)).pushFrame (.throwNew cls msg none) = (T.setVm vm').setFrames (.throwNew cls msg none :: ([.native { method := r, args := seenByNative methS #[v1, .int sp, v2, .int dp, .int n], locked := none }] ++ .java (F0 m pc ls rest) :: below)) := by
      obtain ⟨g₀, hfr0⟩ := X'.frames_eq
      rw [State.pushFrame, State.frames_setFrames _ (State.cur_lt_of_frames hfr0), State.setFrames_setFrames]
      rfl
    rw [hf2]
    refine st2 t ?_
    exact ov_nat hgo hcur ⟨[.java (F0 m pc ls rest)], rfl⟩ rfl rfl a1
/-- arraycopy of null -/
theorem o_copyN (hexec : p.tables.exec = Jvm.exec) (hb : c.code = cc) (hfl : l.stackTraces = false) (hml : c.maxLocals = ls.size) (hts : ∀ w ∈ lw_all, w.before args s = true) (hown : s.vm.findClass own = some m.cls) (hlink : Cond.methodLink own index arraycopyName ∈ lw_all) (hnat : Cond.native arraycopyName ∈ lw_all) (hstat : Cond.static arraycopyName ∈ lw_all) (hini : Cond.initialized "java/lang/System" ∈ lw_all) {v1 v2 : Value} {sp dp n : Int32} (hv : (v1 = .null ∧ v2.isRef = true) ∨ ((∃ a, v1 = .ref a) ∧ v2 = .null)) (hat : ∀ a ∈ Bundle.npeArmAtoms 8, a.before args s = true) (z1 : xZ "java/lang/Throwable" "UNASSIGNED_STACK" "[Ljava/lang/StackTraceElement;" G.2 s) (hN : nOk G cl ad c0 H) (hS : nS G s H locs) (hfr : 8 < R.frames) (hlo : 8 + 10240 ≤ R.locals) (hW : (rest.map fun v => v.category).sum ≤ 8) (hc : cells + 1 ≤ R.cells) (hs : slots + 8 ≤ R.slots) (hdg : decode cc pc = .ok (.invokestatic index, 3))
    (kk : ∀ (a : Addr) (cell : Cell) (H' : Heap) (locs' : List Loc), H'[a]? = some cell → cell.vm.isStatics = false → s.vm.findClass "java/lang/NullPointerException" = some cell.cls → nOk G cl ad c0 H' → nS G s H' locs' → WT p l e R s m args below meth c H' locs' (cells + 1) (slots + 8) Q (F0 m pc ls rest) a) : W p l e R s m args below meth c H locs cells slots Q (F0 m pc ls (.int n :: .int dp :: v2 :: .int sp :: v1 :: rest)) := by
  refine o_copyC (cls := "java/lang/NullPointerException") (msg := none) hexec hb hml hts hown hlink hnat hstat hini (by rcases hv with ⟨h, -⟩ | ⟨⟨a, h⟩, -⟩ <;> rw [h] <;> rfl) (by rcases hv with ⟨-, h⟩ | ⟨-, h⟩; exact h; rw [h]; rfl) (by omega) hlo hW hdg (fun U fs hU hal E hE => ?_) (fun U nf hU X hnf => ?_)
  · rcases hv with ⟨h, -⟩ | ⟨⟨a, h⟩, h2⟩
    · rw [h]; exact cp_null1 sp dp n v2 (hE _)
    · rw [h, h2]; exact cp_null2 a sp dp n (hE _)
  · have htr : e.platform.stackTraces = false := by rw [X.admits.platform]; exact hfl
    have hroom := lv_room (m := m) (pc := pc) (ls := ls) (rest := rest) hW
    obtain ⟨U2, cell, L, XU, hL, h1, h2, h3, h4, h5, st2⟩ := ov_npe X hexec htr hat z1 hS.2 (pre := [.native nf]) (Or.inr ⟨nf, rfl, hnf⟩) (g := F0 m pc ls rest) hml.symm hfr (by show 2 * (F0 m pc ls rest).monitorRoom + (rest.map fun v => v.category).sum + 10240 ≤ _; omega) hc hs
    obtain ⟨g₀, hf0⟩ := XU.frames_eq
    have hgz : G.2 ≤ U.heap.size := by rw [hU]; exact hN.2.2
    obtain ⟨t, a1, b1⟩ := kk _ cell U2.heap (locs ++ L) h1 h2 h3 (x_nOk hN (by rw [h5, hU]; omega) (fun q hq => by rw [← hU] at hq ⊢; exact h4 q hq)) ⟨fun q hq => by rw [h4 q (show q < U.heap.size by omega), hU]; exact hS.1 q hq, fun q hq => by
        rcases List.mem_append.mp hq with h | h
        · exact hS.2 q h
        · rw [hL q h]; exact hgz⟩ U2 rfl XU
    rw [o_top XU] at a1
    exact ⟨_, U2, ⟨XU.here.running, XU.here.runnable, XU.here.alone⟩, State.cur_lt_of_frames hf0, ⟨t, a1, b1⟩, st2⟩
/-- arraycopy refuses with a text -/
theorem o_copyM {cls : String} {names : List String} (hexec : p.tables.exec = Jvm.exec) (hb : c.code = cc) (hfl : l.stackTraces = false) (hml : c.maxLocals = ls.size) (hts : ∀ w ∈ lw_all, w.before args s = true) (hown : s.vm.findClass own = some m.cls) (hlink : Cond.methodLink own index arraycopyName ∈ lw_all) (hnat : Cond.native arraycopyName ∈ lw_all) (hstat : Cond.static arraycopyName ∈ lw_all) (hini : Cond.initialized "java/lang/System" ∈ lw_all) {src dst : Addr} {sp dp n : Int32} {text : String} (hx : (∃ u, text.toList = 'a' :: u) ∧ text.toList.length ≤ 300) (hw : ∀ (U : State) (fs : List Frame), U.heap = H → s.vm.Alike U.vm → ∀ E : CtlPost, (∀ acts', E (.throwNew cls (some text)) acts' (U.setFrames fs)) → wp (Native.java_lang_System.arraycopy.sem #[.ref src, .int sp, .ref dst, .int dp, .int n]) (fun _ _ _ _ => False) E e false [] (U.setFrames fs))
    (hcls : Bundle.fit cls = true) (hnames : ∀ n ∈ names, Bundle.fit n = true) (hsoe : (cls == "java/lang/StackOverflowError") = false) (hoom : (cls == "java/lang/OutOfMemoryError") = false) (hat : ∀ a ∈ Bundle.messageArmAtoms cls names, a.before args s = true) (z1 : xZ "java/lang/Throwable" "UNASSIGNED_STACK" "[Ljava/lang/StackTraceElement;" G.2 s) (hN : nOk G cl ad c0 H) (hS : nS G s H locs) (hfr : names.length + 6 < R.frames) (hlo : 8 + 10240 ≤ R.locals) (hshort : 13 * names.length + 100 ≤ 10240) (hW : (rest.map fun v => v.category).sum ≤ 8) (hc : cells + 3 ≤ R.cells) (hs : slots + 1910 ≤ R.slots) (hdg : decode cc pc = .ok (.invokestatic index, 3))
    (kk : ∀ (a : Addr) (cell : Cell) (H' : Heap) (locs' : List Loc), H'[a]? = some cell → cell.vm.isStatics = false → s.vm.findClass cls = some cell.cls → nOk G cl ad c0 H' → nS G s H' locs' → WT p l e R s m args below meth c H' locs' (cells + 3) (slots + 1910) Q (F0 m pc ls rest) a) : W p l e R s m args below meth c H locs cells slots Q (F0 m pc ls (.int n :: .int dp :: .ref dst :: .int sp :: .ref src :: rest)) := by
  obtain ⟨⟨u, hu⟩, hlen⟩ := hx
  have hbytes := x_bytes hlen (by decide)
  refine o_copyC (cls := cls) (msg := some text) hexec hb hml hts hown hlink hnat hstat hini rfl rfl (by omega) hlo hW hdg hw (fun U nf hU X hnf => ?_)
  have htr : e.platform.stackTraces = false := by rw [X.admits.platform]; exact hfl
  have hroom := lv_room (m := m) (pc := pc) (ls := ls) (rest := rest) hW
  obtain ⟨U2, cell, L, nn, hnn, XU, hL, h1, h2, h3, h4, h5, st2⟩ := ov_msg X hexec htr hcls hnames hsoe hoom hat z1 hS.2 (text := text) (x_mod hu (by decide)) (by rw [X.admits.platform]; show ¬ _ > 2147483645; omega) (by rw [X.admits.platform]; show ¬ _ * 1 > 536870912; omega) (pre := [.native nf]) (Or.inr ⟨nf, rfl, hnf⟩) (g := F0 m pc ls rest) hml.symm hfr (by show 2 * (F0 m pc ls rest).monitorRoom + (rest.map fun v => v.category).sum + 10240 ≤ _; omega) hshort hc (by omega)
  obtain ⟨g₀, hf0⟩ := XU.frames_eq
  have hgz : G.2 ≤ U.heap.size := by rw [hU]; exact hN.2.2
  obtain ⟨t, a1, b1⟩ := WT.widen (Nat.le_refl _) (show nn ≤ slots + 1910 by omega) (kk _ cell U2.heap (locs ++ L) h1 h2 h3 (x_nOk hN (by rw [← hU]; exact h5) (fun q hq => by rw [← hU] at hq ⊢; exact h4 q hq)) ⟨fun q hq => by rw [h4 q (show q < U.heap.size by omega), hU]; exact hS.1 q hq, fun q hq => by
      rcases List.mem_append.mp hq with h | h
      · exact hS.2 q h
      · exact Nat.le_trans hgz (hL q h)⟩) U2 rfl XU
  rw [o_top XU] at a1
  exact ⟨_, U2, ⟨XU.here.running, XU.here.runnable, XU.here.alone⟩, State.cur_lt_of_frames hf0, ⟨t, a1, b1⟩, st2⟩
end CR
