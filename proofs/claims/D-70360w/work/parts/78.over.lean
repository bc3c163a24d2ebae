/-! A THROW OVER ANY FRAMES: the machine's own exceptions made above a native's frame, or above a frame whose handler waits; written by wip/gen/r78.py -/
section OV
variable {tb : Tables} {e : Env} {below base : List Frame} {s₀ W target : State}
def ovB (W : State) (base below : List Frame) : Prop := W.goesOn ∧ W.cur < W.threads.size ∧ ∃ mid, base = mid ++ below
theorem ovB.vm (h : ovB W base below) (vm : Vm) : ovB (W.setVm vm) base below := h
theorem ov_head (h : ovB W base below) {n : Frame} (hn : ∀ a, n ≠ .throwing a) {s' : State} (hs : (stepThread tb e (W.setFrames (n :: base))).1 = s') (hr : Steps tb e below s' target) : Steps tb e below (W.setFrames (n :: base)) target := by
  obtain ⟨hgo, hcur, mid, hmid⟩ := h
  have hf : (W.setFrames (n :: base)).frames = n :: base := State.frames_setFrames _ hcur
  refine Steps.head ⟨hgo.1, by simpa using hgo.2.1, by simpa using hgo.2.2⟩ ⟨n :: mid, by rw [hf, hmid]; rfl, by simp, fun a z => hn a (List.cons.inj z).1⟩ ?_
  rw [hs]
  exact hr
theorem ov_in (h : ovB W base below) (a : Addr) (f : JFrame) {m : MethodId} {meth : Method} {code : Code} (hm : W.vm.method? m = some meth) (hc : meth.code = some code) (hp : W.plainMethod m) :
    At ((W.setFrames (.thenThrow a :: base)).pushFrame (.java f)) m code below ∧ ((W.setFrames (.thenThrow a :: base)).pushFrame (.java f)).frames = .java f :: .thenThrow a :: base := by
  obtain ⟨hgo, hcur, mid, hmid⟩ := h
  have hf : (W.setFrames (.thenThrow a :: base)).frames = .thenThrow a :: base := State.frames_setFrames _ hcur
  have hc2 : (W.setFrames (.thenThrow a :: base)).cur < (W.setFrames (.thenThrow a :: base)).threads.size := State.cur_lt_of_frames hf
  refine ⟨At.pushOn f ⟨hgo.1, by simpa using hgo.2.1, by simpa using hgo.2.2⟩ hc2 ⟨.thenThrow a :: mid, by rw [hf, hmid]; rfl⟩ hm hc hp, ?_⟩
  rw [show ((W.setFrames (.thenThrow a :: base)).pushFrame (.java f)).frames = .java f :: (W.setFrames (.thenThrow a :: base)).frames from State.frames_setFrames _ hc2, hf]
theorem ov_ret [Ours tb] (h : ovB W base below) (hexec : tb.exec = Jvm.exec) {H : State → State} (hH : HeapOnly H) (a : Addr) (f : JFrame) {f5 : JFrame} {meth : Method} {code : Code} (hm : W.vm.method? f5.method = some meth) (hc : meth.code = some code) (hp : W.plainMethod f5.method) (hl : meth.locks = false) (h5 : decode code.code f5.pc = .ok (.return_, 1)) (hlk : f5.locked = none) (hen : f5.entered = [])
    (hrest : Steps tb e below ((H W).setFrames (.throwing a :: base)) target) : Steps tb e below ((H ((W.setFrames (.thenThrow a :: base)).pushFrame (.java f))).setTop f5) target := by
  obtain ⟨hI, hfI⟩ := ov_in h a f hm hc hp
  have hB : At (H ((W.setFrames (.thenThrow a :: base)).pushFrame (.java f))) f5.method code below := hH.at_ hI
  jvm_step hB [hexec, h5, return_.wp_sem]
  intro acts2
  have hfH : (H ((W.setFrames (.thenThrow a :: base)).pushFrame (.java f))).frames = .java f :: .thenThrow a :: base := by rw [hH.frames]; exact hfI
  rw [ret_to (t := H ((W.setFrames (.thenThrow a :: base)).pushFrame (.java f))) (f := f5) (f₀ := f) (below := .thenThrow a :: base) (fs := .thenThrow a :: base) (meth := meth) hfH (by rw [hH.vm]; exact hm) hl hlk hen rfl acts2]
  have hHI : ∀ F, (H ((W.setFrames (.thenThrow a :: base)).pushFrame (.java f))).setFrames F = (H W).setFrames F := by
    intro F
    rw [State.pushFrame, hH.setFrames, hH.setFrames, State.setFrames_setFrames, State.setFrames_setFrames]
  have hcH : (H ((W.setFrames (.thenThrow a :: base)).pushFrame (.java f))).cur < (H ((W.setFrames (.thenThrow a :: base)).pushFrame (.java f))).threads.size := State.cur_lt_of_frames hfH
  have hgH : ovB (H ((W.setFrames (.thenThrow a :: base)).pushFrame (.java f))) base below := ⟨⟨hB.running, hB.runnable, hB.alone⟩, hcH, h.2.2⟩
  refine ov_head hgH (fun a z => by cases z) (by rw [stepThread_thenThrow (State.frames_setFrames _ hcH)]) ?_
  rw [State.setFrames_setFrames, hHI]
  exact hrest
theorem ov_ctor0 [Ours tb] (hB : ovB W base below) (hexec : tb.exec = Jvm.exec) {H : State → State} (hH : HeapOnly H) (P1 : PassC) (L1 : P1.Links0 e.platform s₀) (hW : s₀.WarmedH W.vm) (a : Addr)
    (hroom : e.platform.stackFull (((W.setFrames (.thenThrow a :: base)).threads[(W.setFrames (.thenThrow a :: base)).cur]?).getD { frames := [] }) (W.setFrames (.thenThrow a :: base)).frames 1 = false)
    (hsup : ∀ vm1, s₀.WarmedH vm1 → At (((W.setVm vm1).setFrames (.thenThrow a :: base)).pushFrame (.java (pass0J P1.m a 0 []))) P1.m P1.code below → ∃ vm2, s₀.WarmedH vm2 ∧ ∀ t' : State, Steps tb e below ((H (((W.setVm vm2).setFrames (.thenThrow a :: base)).pushFrame (.java (pass0J P1.m a 0 [])))).setTop (pass0J P1.m a 4 [])) t' → Steps tb e below (doInvoke e ((((W.setVm vm1).setFrames (.thenThrow a :: base)).pushFrame (.java (pass0J P1.m a 0 []))).setTop (pass0J P1.m a 1 [])) [] P1.sup #[.ref a]).1 t') :
    ∃ vm', s₀.WarmedH vm' ∧ ∀ target, Steps tb e below ((H (W.setVm vm')).setFrames (.throwing a :: base)) target → Steps tb e below (doInvoke e (W.setFrames (.thenThrow a :: base)) [] P1.m #[.ref a]).1 target := by
  have hmW := hW.methodAt L1.method
  obtain ⟨hI, hfI⟩ := ov_in hB a (pass0J P1.m a 0 []) hmW L1.code (hW.plainAt L1.plain)
  obtain ⟨vm1, hW1, st1⟩ := Steps.invokeInitCold (tb := tb) (s₀ := s₀) (U := ((W.setFrames (.thenThrow a :: base)).pushFrame (.java (pass0J P1.m a 0 [])))) (f := pass0J P1.m a 1 [.ref a]) (args := []) (rest := []) (a := a) hI hexec L1.at1 hW L1.links L1.right L1.notHandle L1.cls L1.file L1.pool L1.supClass L1.supMethod L1.supName L1.supStatic L1.supAbstract L1.supFound L1.supParams.symm rfl
  obtain ⟨vm2, hW2, st2⟩ := hsup vm1 hW1 (hI.setVm (hW.alike.symm.trans hW1.alike))
  refine ⟨vm2, hW2, fun target hrest => ?_⟩
  rw [(doInvoke_java (s := W.setFrames (.thenThrow a :: base)) (e := e) (acts := []) (args := #[.ref a]) (meth := P1.meth) (code := P1.code) hmW L1.code L1.locks (by rw [L1.locals]; exact hroom)).1, L1.locals]
  show Steps tb e below ((W.setFrames (.thenThrow a :: base)).pushFrame (.java (pass0J P1.m a 0 []))) target
  rw [← State.setTop_self (s := ((W.setFrames (.thenThrow a :: base)).pushFrame (.java (pass0J P1.m a 0 [])))) (State.topJava?_of_frames hfI)]
  jvm_step hI [hexec, L1.at0, Value.isRef]
  refine st1 target (st2 target ?_)
  exact ov_ret (W := W.setVm vm2) (hB.vm vm2) hexec hH a (pass0J P1.m a 0 []) (f5 := pass0J P1.m a 4 []) (hW2.methodAt L1.method) L1.code (hW2.plainAt (U := W.setVm vm2) L1.plain) L1.locks L1.at4 rfl rfl hrest
theorem ov_ctorS [Ours tb] (hB : ovB W base below) (hexec : tb.exec = Jvm.exec) {H : State → State} (hH : HeapOnly H) (P1 : PassC) (L1 : P1.LinksS e.platform s₀) (hW : s₀.WarmedH W.vm) (a str : Addr)
    (hroom : e.platform.stackFull (((W.setFrames (.thenThrow a :: base)).threads[(W.setFrames (.thenThrow a :: base)).cur]?).getD { frames := [] }) (W.setFrames (.thenThrow a :: base)).frames 2 = false)
    (hsup : ∀ vm1, s₀.WarmedH vm1 → At (((W.setVm vm1).setFrames (.thenThrow a :: base)).pushFrame (.java (passJ P1.m a (.ref str) 0 []))) P1.m P1.code below → ∃ vm2, s₀.WarmedH vm2 ∧ ∀ t' : State, Steps tb e below ((H (((W.setVm vm2).setFrames (.thenThrow a :: base)).pushFrame (.java (passJ P1.m a (.ref str) 0 [])))).setTop (passJ P1.m a (.ref str) 5 [])) t' → Steps tb e below (doInvoke e ((((W.setVm vm1).setFrames (.thenThrow a :: base)).pushFrame (.java (passJ P1.m a (.ref str) 0 []))).setTop (passJ P1.m a (.ref str) 2 [])) [] P1.sup #[.ref a, .ref str]).1 t') :
    ∃ vm', s₀.WarmedH vm' ∧ ∀ target, Steps tb e below ((H (W.setVm vm')).setFrames (.throwing a :: base)) target → Steps tb e below (doInvoke e (W.setFrames (.thenThrow a :: base)) [] P1.m #[.ref a, .ref str]).1 target := by
  have hmW := hW.methodAt L1.method
  obtain ⟨hI, hfI⟩ := ov_in hB a (passJ P1.m a (.ref str) 0 []) hmW L1.code (hW.plainAt L1.plain)
  obtain ⟨vm1, hW1, st1⟩ := Steps.invokeInitCold (tb := tb) (s₀ := s₀) (U := ((W.setFrames (.thenThrow a :: base)).pushFrame (.java (passJ P1.m a (.ref str) 0 [])))) (f := passJ P1.m a (.ref str) 2 [.ref str, .ref a]) (args := [.ref str]) (rest := []) (a := a) hI hexec L1.at2 hW L1.links L1.right L1.notHandle L1.cls L1.file L1.pool L1.supClass L1.supMethod L1.supName L1.supStatic L1.supAbstract L1.supFound L1.supParams.symm rfl
  obtain ⟨vm2, hW2, st2⟩ := hsup vm1 hW1 (hI.setVm (hW.alike.symm.trans hW1.alike))
  refine ⟨vm2, hW2, fun target hrest => ?_⟩
  rw [(doInvoke_java (s := W.setFrames (.thenThrow a :: base)) (e := e) (acts := []) (args := #[.ref a, .ref str]) (meth := P1.meth) (code := P1.code) hmW L1.code L1.locks (by rw [L1.locals]; exact hroom)).1, L1.locals]
  show Steps tb e below ((W.setFrames (.thenThrow a :: base)).pushFrame (.java (passJ P1.m a (.ref str) 0 []))) target
  rw [← State.setTop_self (s := ((W.setFrames (.thenThrow a :: base)).pushFrame (.java (passJ P1.m a (.ref str) 0 [])))) (State.topJava?_of_frames hfI)]
  jvm_step hI [hexec, L1.at0, Value.isRef]
  jvm_step hI [hexec, L1.at1, Value.isRef]
  refine st1 target (st2 target ?_)
  exact ov_ret (W := W.setVm vm2) (hB.vm vm2) hexec hH a (passJ P1.m a (.ref str) 0 []) (f5 := passJ P1.m a (.ref str) 5 []) (hW2.methodAt L1.method) L1.code (hW2.plainAt (U := W.setVm vm2) L1.plain) L1.locks L1.at5 rfl rfl hrest
theorem ov_start0 (h : ovB W base below) {cls : String} {cX : ClassId} {kX : Class} {i : Nat} (hsoe : (cls == "java/lang/StackOverflowError") = false) (hoom : (cls == "java/lang/OutOfMemoryError") = false)
    (hfound : W.vm.findClass cls = some cX) (hk : W.vm.classes[cX]? = some kX) (hinit : kX.init = .initialized) (hord : kX.kind = .ordinary) (hhot : e.platform.hotImplicitExceptions = false)
    (hbeyond : e.platform.stackBeyond ((((W.setFrames (.throwNew cls none none :: base)).threads[W.cur]?).map (·.stackBytes)).getD 0) (W.setFrames (.throwNew cls none none :: base)).frames = false)
    (hfree : e.platform.vmThrowRoom ≤ e.platform.stackFree ((((W.setFrames (.throwNew cls none none :: base)).threads[W.cur]?).map (·.stackBytes)).getD 0) (W.setFrames (.throwNew cls none none :: base)).frames)
    (hctor : kX.findMethod "<init>" "()V" = some i) (hcells : W.heap.size + 1 ≤ e.platform.maxCells) (hslots : W.slotsUsed + kX.instanceTypes.size ≤ e.platform.maxSlots)
    (hrest : Steps tb e below (doInvoke e ((W.pushCell (freshCell cX kX)).setFrames (.thenThrow W.heap.size :: base)) [] ⟨cX, i⟩ #[.ref W.heap.size]).1 target) : Steps tb e below (W.setFrames (.throwNew cls none none :: base)) target := by
  refine ov_head h (fun a z => by cases z) (s' := (doInvoke e ((W.pushCell (freshCell cX kX)).setFrames (.thenThrow W.heap.size :: base)) [] ⟨cX, i⟩ #[.ref W.heap.size]).1) ?_ hrest
  rw [stepThread_throwNew (State.frames_setFrames _ h.2.1), stepThrowNew_plain (s := W.setFrames (.throwNew cls none none :: base)) (c := cX) (k := kX) (i := i) hsoe hoom hfound hk hinit hord hhot hbeyond hfree hctor hcells hslots]
  have hN : ((W.setFrames (.throwNew cls none none :: base)).pushCell (freshCell cX kX)).setFrames (.thenThrow ((W.setFrames (.throwNew cls none none :: base)).heap.size) :: base) = ((W.pushCell (freshCell cX kX)).setFrames (.thenThrow (W.heap.size) :: base)) := by
    rw [State.pushCell_setFrames, State.setFrames_setFrames]
    rfl
  rw [hN]
  rfl
theorem ov_startS (h : ovB W base below) (Z : StringT) (LZ : Z.Laid W.vm) {cls m : String} {cX : ClassId} {kX : Class} {i : Nat} (hsoe : (cls == "java/lang/StackOverflowError") = false) (hoom : (cls == "java/lang/OutOfMemoryError") = false)
    (hfound : W.vm.findClass cls = some cX) (hk : W.vm.classes[cX]? = some kX) (hinit : kX.init = .initialized) (hord : kX.kind = .ordinary) (hhot : e.platform.hotImplicitExceptions = false)
    (hbeyond : e.platform.stackBeyond ((((W.setFrames (.throwNew cls (some m) none :: base)).threads[W.cur]?).map (·.stackBytes)).getD 0) (W.setFrames (.throwNew cls (some m) none :: base)).frames = false)
    (hfree : e.platform.vmThrowRoom ≤ e.platform.stackFree ((((W.setFrames (.throwNew cls (some m) none :: base)).threads[W.cur]?).map (·.stackBytes)).getD 0) (W.setFrames (.throwNew cls (some m) none :: base)).frames)
    (hm : (m == notModelled) = false) (hctor : kX.findMethod "<init>" "(Ljava/lang/String;)V" = some i)
    (hlimit : ¬ (stringBytes (stringToUtf16 m)).size > e.platform.arrayLengthLimit) (hheap : ¬ (stringBytes (stringToUtf16 m)).size * componentBytes .byte > e.platform.maxHeapBytes)
    (hcells : W.heap.size + 3 ≤ e.platform.maxCells) (hslots : W.slotsUsed + (stringBytes (stringToUtf16 m)).size + Z.kS.instanceTypes.size + kX.instanceTypes.size ≤ e.platform.maxSlots)
    (hfitv : W.fitsSlot Z.cS .none Z.fv.slot (.ref W.heap.size) = true) (hfitc : W.fitsSlot Z.cS .none Z.fc.slot (.int (stringCoder (stringToUtf16 m))) = true)
    (hrest : Steps tb e below (doInvoke e ((withThrown W Z m cX kX).setFrames (.thenThrow (W.heap.size + 2) :: base)) [] ⟨cX, i⟩ #[.ref (W.heap.size + 2), .ref (W.heap.size + 1)]).1 target) : Steps tb e below (W.setFrames (.throwNew cls (some m) none :: base)) target := by
  refine ov_head h (fun a z => by cases z) (s' := (doInvoke e ((withThrown W Z m cX kX).setFrames (.thenThrow (W.heap.size + 2) :: base)) [] ⟨cX, i⟩ #[.ref (W.heap.size + 2), .ref (W.heap.size + 1)]).1) ?_ hrest
  rw [stepThread_throwNew (State.frames_setFrames _ h.2.1), stepThrowNew_message (s := W.setFrames (.throwNew cls (some m) none :: base)) (c := cX) (k := kX) (i := i) Z LZ hsoe hoom hfound hk hinit hord hhot hbeyond hfree hm hctor hlimit hheap hcells hslots hfitv hfitc]
  have hN : (withThrown (W.setFrames (.throwNew cls (some m) none :: base)) Z m cX kX).setFrames (.thenThrow ((W.setFrames (.throwNew cls (some m) none :: base)).heap.size + 2) :: base) = ((withThrown W Z m cX kX).setFrames (.thenThrow (W.heap.size + 2) :: base)) := by
    rw [withThrown_setFrames, State.setFrames_setFrames]
    rfl
  rw [hN]
  rfl
/-- a native's frame is left by a throw -/
theorem ov_nat {f : NFrame} {r : List Frame} {a : Addr} (hgo : W.goesOn) (hcur : W.cur < W.threads.size) (hr : ∃ mid, r = mid ++ below) (haw : f.awaiting = false) (hl : f.locked = none) (hrest : Steps tb e below (W.setFrames (.throwing a :: r)) target) : Steps tb e below (W.setFrames (.throwing a :: .native f :: r)) target := by
  obtain ⟨mid, hmid⟩ := hr
  have hf : (W.setFrames (.throwing a :: .native f :: r)).frames = .throwing a :: .native f :: r := State.frames_setFrames _ hcur
  refine Steps.head ⟨hgo.1, by simpa using hgo.2.1, by simpa using hgo.2.2⟩ ⟨.throwing a :: .native f :: mid, by rw [hf, hmid]; rfl, by simp, by simp⟩ ?_
  have hs : (stepThread tb e (W.setFrames (.throwing a :: .native f :: r))).1 = (W.setFrames (.throwing a :: .native f :: r)).setFrames (.throwing a :: r) := by
    rw [stepThread_throwing hf]
    unfold stepThrowing
    simp only [haw, Bool.false_eq_true, if_false, hl]
    unfold vmDo
    generalize hq : Sem.go _ e false _ (W.setFrames (.throwing a :: .native f :: r)) = res
    obtain ⟨as, rfl, -⟩ := Sem.eq_ok_of hq (a := true) (s' := W.setFrames (.throwing a :: .native f :: r)) (acts' := []) (by simp [leaveIfLocked, unmarked, Action.isMark])
    rfl
  rw [hs, State.setFrames_setFrames]
  exact hrest
end OV
