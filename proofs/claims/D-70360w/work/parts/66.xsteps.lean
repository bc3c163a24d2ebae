/-! STEPS into the machine's throws, in the form of x_npe and x_msg; stores into rows; an own throw -/
section XT
variable {p : Program} {l : Launch} {e : Env} {R : Room} {s : State} {m : MethodId} {args : Array Value} {below : List Frame} {meth : Method} {c : Code} {H : Heap} {locs : List Loc} {cells slots : Nat} {Q : State → Prop}
variable {cc : ByteArray} {pc : Nat} {ls : Array Slot} {rest : List Value} {G : nG} {cl : List vw_C} {ad : Nat → Nat} {c0 : nPic} {tys : List (ClassId × FieldType)} {own : String} {index : Nat}
def xShort (n : String) : Prop := packageOf n ∈ ["", "java/lang", "java/util"] ∧ n.toList.length ≤ 30
theorem x_castS {T : State} (X : Stand p l e R s m args below meth c T locs cells slots) (hexec : p.tables.exec = Jvm.exec) (hb : c.code = cc) (hown : s.vm.findClass own = some m.cls) {nmO nmT : String} (hlink : (Cond.classLink own index nmT).before args s = true) (hT : T.heap = H) {a : Addr} (hcell : ∃ cell : Cell, H[a]? = some cell ∧ cell.vm.isStatics = false ∧ s.vm.findClass nmO = some cell.cls) (hnc : va_Nc nmO nmT s) (hM : xMods s.vm) (h1 : xShort nmO) (h2 : xShort nmT) (hdg : decode cc pc = .ok (.checkcast index, 3)) :
    ∃ (vm' : Vm) (text : String), Stand p l e R s m args below meth c (T.setVm vm') locs cells slots ∧ ((text == notModelled) = false ∧ (stringBytes (stringToUtf16 text)).size ≤ 1900) ∧ ∀ target, Steps p.tables e below (((T.setVm vm').setTop (F0 m pc ls (.ref a :: rest))).pushFrame (.throwNew "java/lang/ClassCastException" (some text) none)) target → Steps p.tables e below (T.setTop (F0 m pc ls (.ref a :: rest))) target := by
  obtain ⟨cell, g1, g2, g3⟩ := hcell
  obtain ⟨c1, t1, k1, k2, k3⟩ := hnc
  cases g3.symm.trans k1
  obtain ⟨ks, hks, e1, e2, e3⟩ := x_fc g3
  obtain ⟨kt, hkt, f1, f2, f3⟩ := x_fc k2
  obtain ⟨vm', ks', kt', hW, X', w1, w2, st⟩ := x_castNo X hexec hown hlink (by rw [hT]; exact g1) g2 hks k2 k3 (g := F0 m pc ls (.ref a :: rest)) rfl rfl (by rw [hb]; exact hdg)
  obtain ⟨ks2, q1, q2⟩ := hW.alike.2.2 _ _ hks
  obtain ⟨kt2, q3, q4⟩ := hW.alike.2.2 _ _ hkt
  cases w1.symm.trans q1
  cases w2.symm.trans q3
  refine ⟨vm', _, X', x_ccText (hM.moved hW.alike) ⟨?_, ?_, ?_, ?_⟩ ⟨?_, ?_, ?_, ?_⟩, st⟩
  · rw [q2]; exact e2
  · rw [q2]; exact e3
  · rw [q2]; show packageOf ks.name ∈ _; rw [e1]; exact h1.1
  · rw [q2]; show ks.name.toList.length ≤ _; rw [e1]; exact h1.2
  · rw [q4]; exact f2
  · rw [q4]; exact f3
  · rw [q4]; show packageOf kt.name ∈ _; rw [f1]; exact h2.1
  · rw [q4]; show kt.name.toList.length ≤ _; rw [f1]; exact h2.2
theorem x_outN {i : Int32} {L : Nat} (hL : L < 2 ^ 31) (h : i < 0 ∨ nI L ≤ i) : i < 0 ∨ L ≤ i.toNatClampNeg := by
  rcases h with h | h
  · exact Or.inl h
  · by_cases h0 : i < 0
    · exact Or.inl h0
    · obtain ⟨j, hj, e⟩ := nI_of h0
      subst e
      right
      rw [nI_clamp hj]
      exact (nI_leI hL hj).mp h
/-- which loads and stores of a sort -/
theorem x_sz (hK : va_K G.1 cl tys s) (hN : nOk G cl ad c0 H) {i : Nat} {cA : ClassId} {L : Nat} {f : Nat → Int32} (he : c0 i = some (.inl (cA, L, .inl f))) {t0 : Nat} {ty : FieldType} (ht : tys[t0]? = some (cA, ty)) : ∃ cell : Cell, H[ad i]? = some cell ∧ s.isArrayOf cell ty ∧ cell.slots.size = L :=
  ⟨_, (hN.1 i _ he).1, (hK.2 t0 _ ht).1 L (fun j => .int (f j)), by show (arrV cA L _).slots.size = L; rw [arrV_size]⟩
theorem n_bast (hexec : p.tables.exec = Jvm.exec) (hb : c.code = cc) (hK : va_K G.1 cl tys s) (hN : nOk G cl ad c0 H) (hS : nS G s H locs) (q t0 : Nat) {cA : ClassId} {n : Nat} {f : Nat → Int32} (ha : c0 q = some (.inl (cA, n, .inl f))) (ht : tys[t0]? = some (cA, .byte)) {i x y : Int32} (j : Nat) (hi : i = nI j) (hj : j < n) (hn : n < 2 ^ 31) (hy : narrow .byte (.int x) = .int y) (hdg : decode cc pc = .ok (.bastore, 1))
    (kk : ∀ (H1 : Heap) (locs1 : List Loc), nOk G cl ad (va_up c0 q (some (.inl (cA, n, .inl (upd f j y))))) H1 → nS G s H1 locs1 → W p l e R s m args below meth c H1 locs1 cells slots Q (F0 m (pc + 1) ls rest)) : W p l e R s m args below meth c H locs cells slots Q (F0 m pc ls (.int x :: .int i :: .ref (ad q) :: rest)) := by
  subst hi
  obtain ⟨hat, hge⟩ := hN.1 q _ ha
  refine W.bast hexec hb hat ((hK.2 t0 _ ht).1 n (fun j => .int (f j))) (fun q => by cases q) (by show ¬ (nI j < 0 ∨ (arrV _ _ _).slots.size ≤ _); rw [arrV_size]; exact vp_in_nI hj hn) rfl rfl hdg fun H1 e z oq => ?_
  rw [nI_clamp (by omega), hy] at e
  refine kk H1 _ (hN.set ha ?_ z oq) (hS.put oq hge)
  show H1[ad q]? = some (vp_cell _ _)
  rw [e]
  rw [vp_cell_i, vp_cell_i, arrV_store]
  congr 2
  funext q
  by_cases hq : q = j
  · subst hq
    simp [updV, upd]
  · simp [updV, upd, hq]
theorem n_sast (hexec : p.tables.exec = Jvm.exec) (hb : c.code = cc) (hK : va_K G.1 cl tys s) (hN : nOk G cl ad c0 H) (hS : nS G s H locs) (q t0 : Nat) {cA : ClassId} {n : Nat} {f : Nat → Int32} (ha : c0 q = some (.inl (cA, n, .inl f))) (ht : tys[t0]? = some (cA, .short)) {i x y : Int32} (j : Nat) (hi : i = nI j) (hj : j < n) (hn : n < 2 ^ 31) (hy : narrow .short (.int x) = .int y) (hdg : decode cc pc = .ok (.sastore, 1))
    (kk : ∀ (H1 : Heap) (locs1 : List Loc), nOk G cl ad (va_up c0 q (some (.inl (cA, n, .inl (upd f j y))))) H1 → nS G s H1 locs1 → W p l e R s m args below meth c H1 locs1 cells slots Q (F0 m (pc + 1) ls rest)) : W p l e R s m args below meth c H locs cells slots Q (F0 m pc ls (.int x :: .int i :: .ref (ad q) :: rest)) := by
  subst hi
  obtain ⟨hat, hge⟩ := hN.1 q _ ha
  refine W.sast hexec hb hat ((hK.2 t0 _ ht).1 n (fun j => .int (f j))) (fun q => by cases q) (by show ¬ (nI j < 0 ∨ (arrV _ _ _).slots.size ≤ _); rw [arrV_size]; exact vp_in_nI hj hn) rfl rfl hdg fun H1 e z oq => ?_
  rw [nI_clamp (by omega), hy] at e
  refine kk H1 _ (hN.set ha ?_ z oq) (hS.put oq hge)
  show H1[ad q]? = some (vp_cell _ _)
  rw [e]
  rw [vp_cell_i, vp_cell_i, arrV_store]
  congr 2
  funext q
  by_cases hq : q = j
  · subst hq
    simp [updV, upd]
  · simp [updV, upd, hq]
/-- throw new C(text), made here, in a method without handlers that has changed nothing: from the 'new' on -/
theorem x_new {C : String} (hexec : p.tables.exec = Jvm.exec) (hb : c.code = cc) (hown : s.vm.findClass own = some m.cls) (hts : ∀ w ∈ lw_all, w.before args s = true) (hcl : Cond.classLink own index C ∈ lw_all) (hins : Cond.instantiable C 6 ∈ lw_all) (hini : Cond.initialized C ∈ lw_all) (hdg : decode cc pc = .ok (.new index, 3)) (hcells : cells + 1 ≤ R.cells) (hslots : slots + 6 ≤ R.slots)
    (kk : ∀ (H' : Heap) (cC : ClassId) (kC : Class), s.vm.findClass C = some cC → s.vm.classes[cC]? = some kC → H'[H.size]? = some (freshCell cC kC) → H'.size = H.size + 1 → (∀ q, q < H.size → H'[q]? = H[q]?) → W p l e R s m args below meth c H' locs (cells + 1) (slots + 6) Q (F0 m (pc + 3) ls (.ref H.size :: rest))) : W p l e R s m args below meth c H locs cells slots Q (F0 m pc ls rest) := by
  obtain ⟨c1, k1, hc1, hk1, -⟩ := Cond.instantiable_spec (hts _ hins)
  exact W.newcK hexec hb hown (hts _ hcl) (hts _ hins) (hts _ hini) (g := F0 m pc ls rest) rfl hdg hcells hslots hc1 rfl fun H1 kC hkC e1 z1 o1 => kk H1 c1 kC hc1 hkC e1 z1 o1
theorem x_own {C : String} {names : List String} {ic : Nat} (hexec : p.tables.exec = Jvm.exec) (hb : c.code = cc) (hfl : l.stackTraces = false) (hlk : meth.locks = false) (hxt : ∀ x ∈ c.exceptionTable.toList, covers x (pc + 3) = false) (hml : ls.size = c.maxLocals) (hown : s.vm.findClass own = some m.cls) (hC : Bundle.fit C = true) (hnames : ∀ n ∈ names, Bundle.fit n = true) (hat : ∀ a ∈ Bundle.ownAtoms own ic C names, a.before args s = true)
    (hN : nOk G cl ad c0 s.heap) {cC : ClassId} {kC : Class} (h1 : s.vm.findClass C = some cC) (h2 : s.vm.classes[cC]? = some kC) (h3 : H[s.heap.size]? = some (freshCell cC kC)) {q : Nat} (hd6 : decode cc pc = .ok (.invokespecial ic, 3)) (hd9 : decode cc (pc + 3) = .ok (.athrow, 1)) (hfr : names.length + 3 < R.frames) (hlo : 8 + (13 * (names.length + 1) + 42) ≤ R.locals) {mc ms : Nat} (hmc : cells ≤ mc) (hms : slots ≤ ms) :
    W p l e R s m args below meth c H [] cells slots (MQT below (xQ C G cl ad c0) s mc ms (fun q => G.2 ≤ q)) (F0 m pc ls [.ref q, .ref s.heap.size, .ref s.heap.size]) := by
  intro T hT X
  have htr : e.platform.stackTraces = false := by rw [X.admits.platform]; exact hfl
  obtain ⟨U, w1, w2, w3, w4, w5, cell, w6, w7⟩ := X.ctorThrowS hexec htr hown hC hnames hat (fun x hx => by cases hx) h1 h2 (by rw [hT]; exact h3) (Nat.le_refl _) (msg := .ref q) rfl (g := F0 m pc ls [.ref q, .ref s.heap.size, .ref s.heap.size]) rfl hml rfl rfl (rest := []) rfl (by rw [hb]; exact hd6) (by rw [hb]; exact hd9) hxt hfr (by show 2 * 0 + 1 + _ ≤ _; omega) hlk
  exact ⟨U, w1, x_end hN w2 w3 w4 w5 hmc hms w6 (by rw [w7.vm]; rfl) w7.cls⟩
end XT
theorem x_shB : xShort "[B" := ⟨by decide +kernel, by decide +kernel⟩
theorem x_shS : xShort "[S" := ⟨by decide +kernel, by decide +kernel⟩
theorem x_shI : xShort "[I" := ⟨by decide +kernel, by decide +kernel⟩
theorem x_shq {q : Nat} (hq : q < 3) : xShort (sNm q) := by
  rcases (show q = 0 ∨ q = 1 ∨ q = 2 by omega) with z | z | z <;> subst z
  · exact x_shB
  · exact x_shS
  · exact x_shI
theorem x_shP : xShort "TowerTell$Person" ∧ xShort "TowerTell$Proud" ∧ xShort "TowerTell$Abject" := ⟨⟨by decide +kernel, by decide +kernel⟩, ⟨by decide +kernel, by decide +kernel⟩, ⟨by decide +kernel, by decide +kernel⟩⟩
