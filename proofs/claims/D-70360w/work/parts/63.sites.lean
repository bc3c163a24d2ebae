/-! WHERE THE MACHINE THROWS: texts and their lengths; a cast that fails; indices, sizes, null -/
theorem x_mod {t : String} {ch : Char} {u : List Char} (h : t.toList = ch :: u) (hc : ¬ ch = '\u0000') : (t == notModelled) = false := by
  rw [beq_eq_false_iff_ne]
  intro e
  have h2 := congrArg String.toList e
  have h4 : notModelled.toList = '\u0000' :: " a message that is not modelled".toList := by decide
  rw [h, h4] at h2
  exact hc (List.cons.inj h2).1
theorem x_bytes {t : String} {k : Nat} (h : t.toList.length ≤ k) (hk : k ≤ 475) : (stringBytes (stringToUtf16 t)).size ≤ 1900 := by
  have b1 := stringBytes_size_le (stringToUtf16 t)
  have b2 := utf16_size_le t
  omega
theorem x_neg {n : Int32} (h : n < 0) : (toString n == notModelled) = false ∧ (stringBytes (stringToUtf16 (toString n))).size ≤ 1900 := by
  refine ⟨?_, x_bytes (int32_print n) (by decide)⟩
  have h1 := Int32.lt_iff_toInt_lt.mp h
  have e0 : (0 : Int32).toInt = 0 := rfl
  cases e : n.toInt with
  | ofNat m => rw [e, e0] at h1; exact absurd h1 (by simp)
  | negSucc m =>
    have e2 : toString n = "-" ++ toString m.succ := by
      show Int.repr n.toInt = _
      rw [e]
      rfl
    refine x_mod (ch := '-') (u := (toString m.succ).toList) ?_ (by decide)
    rw [e2, String.toList_append]
    rfl
def xIdx (i : Int32) (n : Nat) : String := toString "Index " ++ toString i ++ toString " out of bounds for length " ++ toString n
theorem x_idx (i : Int32) {n : Nat} (h : n < 2 ^ 31) : (xIdx i n == notModelled) = false ∧ (stringBytes (stringToUtf16 (xIdx i n))).size ≤ 1900 :=
  ⟨index_text_modelled i n, x_bytes (index_text_length i h) (by decide)⟩
/-- a class of the start's tables -/
theorem x_fc {vm : Vm} {n : String} {c : ClassId} (h : vm.findClass n = some c) : ∃ k, vm.classes[c]? = some k ∧ k.name = n ∧ k.hidden = none ∧ k.loader = none := by
  obtain ⟨hlt, hp, _⟩ := Array.findIdx?_eq_some_iff_getElem.mp h
  refine ⟨vm.classes[c], by simp [hlt], ?_⟩
  simp only [Bool.and_eq_true, beq_iff_eq, Option.isNone_iff_eq_none] at hp
  exact ⟨hp.1.1.1, hp.1.1.2, hp.2⟩
def xMods (vm : Vm) : Prop := ∀ m ∈ vm.modules, m.loader.isSome = true ∨ m.name = "java.base" ∨ ∀ q ∈ ["", "java/lang", "java/util"], m.packages.contains q = false
theorem xMods.of {s : State} (h : modulesRight_1 s = true) : xMods s.vm := by
  intro m hm
  have h1 := List.all_eq_true.mp h m hm
  simp only [Bool.or_eq_true, beq_iff_eq, Bool.not_eq_true'] at h1
  rcases h1 with (h1 | h1) | h1
  · exact Or.inl h1
  · exact Or.inr (Or.inl h1)
  · refine Or.inr (Or.inr fun q hq => ?_)
    have h2 := List.any_eq_false.mp h1 q hq
    simpa using h2
theorem xMods.moved {vm vm' : Vm} (h : vm.Alike vm') (hM : xMods vm) : xMods vm' := by
  have e : vm'.modules = vm.modules := by rw [h.1]
  unfold xMods
  rw [e]
  exact hM
theorem x_dot (n : String) : (dotted n).toList.length = n.toList.length := by
  unfold dotted turned
  rw [String.toList_ofList, List.length_map]
theorem x_home {vm : Vm} (hM : xMods vm) {k : Class} (hl : k.loader = none) (hp : packageOf k.name ∈ ["", "java/lang", "java/util"]) : (vm.home k).toList.length ≤ 60 := by
  have key : ∀ m, vm.moduleOf k = some m → m.name = "java.base" := by
    intro m hm
    unfold Vm.moduleOf at hm
    split at hm
    · have := List.find?_some hm
      simpa using this
    · have h1 := List.find?_some hm
      have h2 := List.mem_of_find?_eq_some hm
      simp only [Bool.and_eq_true, beq_iff_eq, hl] at h1
      rcases hM m h2 with h3 | h3 | h3
      · rw [h1.1] at h3; cases h3
      · exact h3
      · rw [h3 _ hp] at h1; exact absurd h1.2 (by simp)
  unfold Vm.home Vm.loaderName
  rw [hl]
  have a2 : " of loader ".toList.length = 11 := by decide
  have a3 : "'bootstrap'".toList.length = 11 := by decide
  cases hm : vm.moduleOf k with
  | none =>
    have a1 : "unnamed module".toList.length = 14 := by decide
    simp only [String.toList_append, List.length_append]
    omega
  | some m =>
    have a1 : ("module " ++ m.name).toList.length = 16 := by rw [key m hm]; decide
    simp only [String.toList_append, List.length_append] at a1 ⊢
    omega
theorem x_shown {k : Class} (h : k.hidden = none) : k.shown = dotted k.name := by unfold Class.shown; rw [h]
theorem x_ccText {vm : Vm} (hM : xMods vm) {a b : Class} (ha : a.hidden = none ∧ a.loader = none ∧ packageOf a.name ∈ ["", "java/lang", "java/util"] ∧ a.name.toList.length ≤ 30) (hb : b.hidden = none ∧ b.loader = none ∧ packageOf b.name ∈ ["", "java/lang", "java/util"] ∧ b.name.toList.length ≤ 30) :
    (Op.checkcast.message vm a b == notModelled) = false ∧ (stringBytes (stringToUtf16 (Op.checkcast.message vm a b))).size ≤ 1900 := by
  have e : Op.checkcast.message vm a b = "class " ++ a.shown ++ " cannot be cast to class " ++ b.shown ++ " (" ++ vm.homes a b ++ ")" := rfl
  rw [e]
  have h1 := x_home hM ha.2.1 ha.2.2.1
  have h2 := x_home hM hb.2.1 hb.2.2.1
  have d1 := x_dot a.name
  have d2 := x_dot b.name
  have hh : (vm.homes a b).toList.length ≤ 220 := by
    unfold Vm.homes
    rw [x_shown ha.1, x_shown hb.1]
    split
    · show (dotted a.name ++ " and " ++ dotted b.name ++ " are in " ++ vm.home a).toList.length ≤ 220
      have a1 : " and ".toList.length = 5 := by decide
      have a2 : " are in ".toList.length = 8 := by decide
      simp only [String.toList_append, List.length_append]
      omega
    · show (dotted a.name ++ " is in " ++ vm.home a ++ "; " ++ dotted b.name ++ " is in " ++ vm.home b).toList.length ≤ 220
      have a1 : " is in ".toList.length = 7 := by decide
      have a2 : "; ".toList.length = 2 := by decide
      simp only [String.toList_append, List.length_append]
      omega
  refine ⟨?_, x_bytes (k := 400) ?_ (by decide)⟩
  · refine x_mod (ch := 'c') (u := "lass ".toList ++ a.shown.toList ++ " cannot be cast to class ".toList ++ b.shown.toList ++ " (".toList ++ (vm.homes a b).toList ++ ")".toList) ?_ (by decide)
    simp only [String.toList_append]
    rfl
  · rw [x_shown ha.1, x_shown hb.1]
    have a1 : "class ".toList.length = 6 := by decide
    have a2 : " cannot be cast to class ".toList.length = 25 := by decide
    have a3 : " (".toList.length = 2 := by decide
    have a4 : ")".toList.length = 1 := by decide
    simp only [String.toList_append, List.length_append]
    omega
section XS
variable {p : Program} {l : Launch} {e : Env} {R : Room} {s : State} {m : MethodId} {args : Array Value} {below : List Frame} {meth : Method} {c : Code} {cells slots : Nat} {locs : List Loc}
/-- a cast that fails -/
theorem x_castNo {T : State} (X : Stand p l e R s m args below meth c T locs cells slots) (hexec : p.tables.exec = Jvm.exec)
    {own name : String} {index : Nat} (hown : s.vm.findClass own = some m.cls) (hlink : (Cond.classLink own index name).before args s = true)
    {a : Addr} {cell : Cell} {cT : ClassId} {ks : Class} (hcell : T.heap[a]? = some cell) (hobj : cell.vm.isStatics = false) (hks : s.vm.classes[cell.cls]? = some ks) (hcT : s.vm.findClass name = some cT) (hasg : s.vm.assignable cell.cls cT = false)
    {g : JFrame} (hg : g.method = m) {rest : List Value} (hstack : g.stack = .ref a :: rest) (hdg : decode c.code g.pc = .ok (.checkcast index, 3)) :
    ∃ vm' ks' kt', s.WarmedH vm' ∧ Stand p l e R s m args below meth c (T.setVm vm') locs cells slots ∧ vm'.classes[cell.cls]? = some ks' ∧ vm'.classes[cT]? = some kt' ∧
      ∀ target, Steps p.tables e below (((T.setVm vm').setTop g).pushFrame (.throwNew "java/lang/ClassCastException" (some (Op.checkcast.message vm' ks' kt')) none)) target → Steps p.tables e below (T.setTop g) target := by
  have hpl : e.platform.magicAccessors = ({} : Platform).magicAccessors := by rw [X.admits.platform]
  obtain ⟨c', hc', hcl⟩ := Cond.classLink_spec hown hlink e.platform hpl
  cases hcT.symm.trans hc'
  obtain ⟨dk, _, _, kt, hd, _, _, _, _, hkt, _, hopen⟩ := hcl.here
  have hcl₀ := X.warmed.classLinks hcl
  have hW' : s.WarmedH (T.vm.noted m.cls index (.cls cT)) := X.warmed.noted hd hopen (State.rightAt_cls hcl)
  obtain ⟨ks', hks', -⟩ := hW'.alike.2.2 _ _ hks
  obtain ⟨kt', hkt', -⟩ := hW'.alike.2.2 _ _ hkt
  refine ⟨_, ks', kt', hW', X.noted hW', hks', hkt', fun target hrest => ?_⟩
  subst hg
  jvm_step X.here [hexec, hdg, checkcast.wp_cold (e := e) (s := T) (f := g) X.here.top hstack (resolveClass_links e.toSetting hcl₀) hcl₀.ready,
    checkcast.wp_ready (e := e) (s := T.setVm (T.vm.noted g.method.cls index (.cls cT))) (f := g) X.here.top hcl₀.ready hstack]
  refine ⟨cell, hcell, VmData.noStatics_of hobj, ks', hks', kt', hkt', ?_⟩
  have h1 : (T.vm.noted g.method.cls index (Resolved.cls cT)).assignable cell.cls cT = false := by rw [hW'.alike.assignable]; exact hasg
  simp only [h1]
  exact hrest
end XS
