/-! CORE: one picture of the heap, by names: a name has an address (ad) and an entity (c). All cells lie from G.2 (the law's first free address) on. -/
abbrev nG : Type := va_G × Nat
abbrev nPic : Type := Nat → Option va_E
def nOk (G : nG) (cl : List vw_C) (ad : Nat → Nat) (c : nPic) (H : Heap) : Prop :=
  (∀ (i : Nat) (e : va_E), c i = some e → va_at G.1 cl (ad i, e) H ∧ G.2 ≤ ad i) ∧ (∀ i j : Nat, c i ≠ none → c j ≠ none → ad i = ad j → i = j) ∧ G.2 ≤ H.size
def nS (G : nG) (s : State) (H : Heap) (locs : List Loc) : Prop := (∀ q : Nat, q < G.2 → H[q]? = s.heap[q]?) ∧ ∀ q ∈ locs, G.2 ≤ q.base
theorem nS.rf {G : nG} {s : State} : nS G s s.heap [] := ⟨fun _ _ => rfl, fun _ h => by cases h⟩
theorem nS.put {G : nG} {s : State} {H H1 : Heap} {locs : List Loc} {a k : Nat} (h : nS G s H locs) (oq : ∀ q : Nat, q ≠ a → H1[q]? = H[q]?) (ha : G.2 ≤ a) : nS G s H1 (locs ++ [⟨a, k⟩]) :=
  ⟨fun q hq => by rw [oq q (by omega)]; exact h.1 q hq, fun q hq => by
    rcases List.mem_append.mp hq with h1 | h1
    · exact h.2 q h1
    · rw [List.mem_singleton.mp h1]; exact ha⟩
theorem nS.grow {G : nG} {s : State} {H H1 : Heap} {locs : List Loc} (h : nS G s H locs) (o1 : ∀ q : Nat, q < H.size → H1[q]? = H[q]?) (hz : G.2 ≤ H.size) : nS G s H1 locs :=
  ⟨fun q hq => by rw [o1 q (by omega)]; exact h.1 q hq, h.2⟩
theorem nOk.set {G : nG} {cl : List vw_C} {ad : Nat → Nat} {c : nPic} {H H1 : Heap} {i : Nat} {e0 e : va_E} (h : nOk G cl ad c H) (hp : c i = some e0) (he : va_at G.1 cl (ad i, e) H1) (z : H1.size = H.size) (oq : ∀ q : Nat, q ≠ ad i → H1[q]? = H[q]?) : nOk G cl ad (va_up c i (some e)) H1 := by
  have key : ∀ j, va_up c i (some e) j ≠ none → c j ≠ none := by
    intro j hj
    by_cases hji : j = i
    · subst hji; rw [hp]; exact fun q => by cases q
    · rw [va_up_ne c _ hji] at hj; exact hj
  refine ⟨fun j x hj => ?_, fun j k hj hk => h.2.1 j k (key j hj) (key k hk), by rw [z]; exact h.2.2⟩
  by_cases hji : j = i
  · subst hji
    rw [va_up_self] at hj
    cases hj
    exact ⟨he, (h.1 j e0 hp).2⟩
  · rw [va_up_ne c _ hji] at hj
    obtain ⟨h1, h2⟩ := h.1 j x hj
    exact ⟨h1.kept (oq (ad j) (fun q => hji (h.2.1 j i (by rw [hj]; simp) (by rw [hp]; simp) q))), h2⟩
theorem nOk.new {G : nG} {cl : List vw_C} {ad : Nat → Nat} {c : nPic} {H H1 : Heap} {e : va_E} (h : nOk G cl ad c H) (i : Nat) (he : va_at G.1 cl (H.size, e) H1) (z : H.size ≤ H1.size) (o1 : ∀ q : Nat, q < H.size → H1[q]? = H[q]?) : nOk G cl (va_up ad i H.size) (va_up c i (some e)) H1 := by
  refine ⟨fun j x hj => ?_, fun j k hj hk hjk => ?_, Nat.le_trans h.2.2 z⟩
  · by_cases hji : j = i
    · subst hji
      rw [va_up_self] at hj ⊢
      cases hj
      exact ⟨he, h.2.2⟩
    · rw [va_up_ne c _ hji] at hj
      rw [va_up_ne ad _ hji]
      obtain ⟨h1, h2⟩ := h.1 j x hj
      exact ⟨h1.kept (o1 (ad j) h1.lt), h2⟩
  · have lt : ∀ j, j ≠ i → va_up c i (some e) j ≠ none → ad j < H.size := by
      intro j hji hj
      rw [va_up_ne c _ hji] at hj
      cases hx : c j with
      | none => exact absurd hx hj
      | some x => exact (h.1 j x hx).1.lt
    by_cases hji : j = i <;> by_cases hki : k = i
    · rw [hji, hki]
    · subst hji
      rw [va_up_self, va_up_ne ad _ hki] at hjk
      have := lt k hki hk
      omega
    · subst hki
      rw [va_up_self, va_up_ne ad _ hji] at hjk
      have := lt j hji hj
      omega
    · rw [va_up_ne ad _ hji, va_up_ne ad _ hki] at hjk
      rw [va_up_ne c _ hji] at hj
      rw [va_up_ne c _ hki] at hk
      exact h.2.1 j k hj hk hjk
theorem nOk.P1 {G : nG} {cl : List vw_C} {ad : Nat → Nat} {c : nPic} {H : Heap} {i : Nat} {e : va_E} (h : nOk G cl ad c H) (hp : c i = some e) : va_P G.1 cl [(ad i, e)] H := by
  intro k q hk
  have hz : k < 1 := (List.getElem?_eq_some_iff.mp hk).1
  rw [show k = 0 by omega] at hk
  cases hk
  exact (h.1 i e hp).1
/-- fewer names, or the same entities said otherwise -/
theorem nOk.by {G : nG} {cl : List vw_C} {ad ad' : Nat → Nat} {c c' : nPic} {H : Heap} (h : nOk G cl ad c H) (hc : ∀ i e, c' i = some e → c i = some e ∧ ad' i = ad i) : nOk G cl ad' c' H := by
  have key : ∀ j, c' j ≠ none → c j ≠ none ∧ ad' j = ad j := by
    intro j hj
    cases hx : c' j with
    | none => exact absurd hx hj
    | some x => exact ⟨by rw [(hc j x hx).1]; simp, (hc j x hx).2⟩
  refine ⟨fun i e he => ?_, fun i j hi hj hij => ?_, h.2.2⟩
  · obtain ⟨h1, h2⟩ := hc i e he
    rw [h2]
    exact h.1 i e h1
  · rw [(key i hi).2, (key j hj).2] at hij
    exact h.2.1 i j (key i hi).1 (key j hj).1 hij
theorem nOk.congr {G : nG} {cl : List vw_C} {ad : Nat → Nat} {c c' : nPic} {H : Heap} (h : nOk G cl ad c H) (hc : c = c') : nOk G cl ad c' H := hc ▸ h
/-- a contract's start and end -/
def nPc (G : nG) (cl : List vw_C) (K : State → Prop) (ad : Nat → Nat) (c : nPic) (av : List Value) : Array Value → State → Prop := fun v U => v = av.toArray ∧ nOk G cl ad c U.heap ∧ K U
def nQ (G : nG) (cl : List vw_C) (P : Option Value → (Nat → Nat) → nPic → Prop) : Array Value → State → Outcome → State → Prop := fun _ st o t =>
  ∃ (v : Option Value) (ad' : Nat → Nat) (c' : nPic), o = .returned v ∧ P v ad' c' ∧ nOk G cl ad' c' t.heap ∧ ∀ q : Nat, q < G.2 → t.heap[q]? = st.heap[q]?
/-- a truth as an int -/
def zI (b : Bool) : Int32 := if b = true then 1 else 0
theorem zI_nar (b : Bool) : narrow .boolean (.int (zI b)) = .int (zI b) := by cases b <;> rfl
theorem zI_0 {b : Bool} : zI b = 0 ↔ b = false := by cases b <;> decide
theorem zI_1 {b : Bool} : zI b = 1 ↔ b = true := by cases b <;> decide
theorem zI_t {b : Bool} (h : b = true) : (1 : Int32) = zI b := by rw [h]; rfl
theorem zI_f {b : Bool} (h : b = false) : (0 : Int32) = zI b := by rw [h]; rfl
section NC
variable {p : Program} {l : Launch} {e : Env} {R : Room} {s : State} {m : MethodId} {args : Array Value} {below : List Frame} {meth : Method} {c : Code} {H : Heap} {locs : List Loc} {cells slots : Nat} {Q : State → Prop}
variable {cc : ByteArray} {pc : Nat} {ls : Array Slot} {rest : List Value} {G : nG} {cl : List vw_C} {ad : Nat → Nat} {c0 : nPic} {tys : List (ClassId × FieldType)}
theorem nEnd {P : Option Value → (Nat → Nat) → nPic → Prop} {v : Option Value} (hN : nOk G cl ad c0 H) (hS : nS G s H locs) (hP : P v ad c0) : ∀ t : State, t.heap = H → s.WarmedH t.vm → nQ G cl P args s (.returned v) t :=
  fun t ht _ => ⟨v, ad, c0, rfl, hP, by rw [ht]; exact hN, fun q hq => by rw [ht]; exact hS.1 q hq⟩
/-- behind a call -/
theorem nRet {P : Option Value → (Nat → Nat) → nPic → Prop} {a : Array Value} {st0 : List Value} {mc ms : Nat} (hr : va_Run p l e R s m args below meth c H locs cells slots mc ms (F0 m pc ls st0) rest (nQ G cl P a) (fun q => G.2 ≤ q)) (hS : nS G s H locs)
    (kk : ∀ (v : Option Value) (ad' : Nat → Nat) (c' : nPic) (H' : Heap) (locs' : List Loc), P v ad' c' → nOk G cl ad' c' H' → nS G s H' locs' → W p l e R s m args below meth c H' locs' (cells + mc) (slots + ms) Q (F0 m (pc + 3) ls (v.toList ++ rest))) : W p l e R s m args below meth c H locs cells slots Q (F0 m pc ls st0) := by
  intro T hT X
  obtain ⟨v, st₀, t, T', L, h0, X', hL, e1, -, ⟨v', ad', c', hv, hP, hN, hq⟩, st⟩ := hr T hT X
  cases hv
  obtain ⟨t2, a1, b1⟩ := kk v ad' c' T'.heap (locs ++ L) hP (by rw [e1]; exact hN) ⟨fun q hq' => by rw [e1, hq q hq', h0]; exact hS.1 q hq', fun q hq' => by
    rcases List.mem_append.mp hq' with h | h
    · exact hS.2 q h
    · exact hL q h⟩ T' rfl X'
  exact ⟨t2, st t2 a1, b1⟩
theorem n_get (hexec : p.tables.exec = Jvm.exec) (hb : c.code = cc) {own ref C : String} {T : u_T} {N ci index : Nat} (hts : ∀ w ∈ lw_all, w.before args s = true) (hin : ∀ w ∈ u_ws C T N, w ∈ lw_all) (hown : s.vm.findClass own = some m.cls) (hK : va_K G.1 cl tys s) (hN : nOk G cl ad c0 H) (i : Nat) {fs : List Value} (he : c0 i = some (.inr (ci, fs))) (hc : cl[ci]? = some (C, T, N)) (k : Nat) (hk : k < N) (hlink : Cond.fieldLink own index ref (T k).2.1 (T k).2.2.1 ∈ lw_all) (hsame : ∀ x, s.fieldFound? (T k).1 (T k).2.1 (T k).2.2.1 = some x → s.fieldFound? ref (T k).2.1 (T k).2.2.1 = some x) {v : Value} (hv : fs[k]? = some v) (hdg : decode cc pc = .ok (.getfield index, 3))
    (kk : W p l e R s m args below meth c H locs cells slots Q (F0 m (pc + 3) ls (v :: rest))) : W p l e R s m args below meth c H locs cells slots Q (F0 m pc ls (.ref (ad i) :: rest)) :=
  va_get hexec hb hts hin hown hK (hN.P1 he) 0 rfl hc k hk (hts _ hlink) hsame hv hdg kk
theorem n_put (hexec : p.tables.exec = Jvm.exec) (hb : c.code = cc) {own ref C : String} {T : u_T} {N ci index : Nat} (hts : ∀ w ∈ lw_all, w.before args s = true) (hin : ∀ w ∈ u_ws C T N, w ∈ lw_all) (ty0 : Nat → FieldType) (hty : ∀ k, k < N → parseFieldDescriptor (T k).2.2.1 = some (ty0 k)) (hap : ∀ x y, x < N → y < N → x ≠ y → (G.1.2 ci) x ≠ (G.1.2 ci) y) (hown : s.vm.findClass own = some m.cls) (hK : va_K G.1 cl tys s) (hN : nOk G cl ad c0 H) (hS0 : nS G s H locs) (i : Nat) {fs : List Value} (he : c0 i = some (.inr (ci, fs))) (hc : cl[ci]? = some (C, T, N)) (k : Nat) (hk : k < N) (hlink : Cond.fieldLink own index ref (T k).2.1 (T k).2.2.1 ∈ lw_all) (hsame : ∀ x, s.fieldFound? (T k).1 (T k).2.1 (T k).2.2.1 = some x → s.fieldFound? ref (T k).2.1 (T k).2.2.1 = some x) (hfin : (T k).2.2.2 = false) {v : Value} (hn : narrow (ty0 k) v = v) (hfit : fits (ty0 k) v = true) (hl : k < fs.length)
    (hdg : decode cc pc = .ok (.putfield index, 3)) (kk : ∀ (H1 : Heap) (locs1 : List Loc), nOk G cl ad (va_up c0 i (some (.inr (ci, fs.set k v)))) H1 → nS G s H1 locs1 → W p l e R s m args below meth c H1 locs1 cells slots Q (F0 m (pc + 3) ls rest)) : W p l e R s m args below meth c H locs cells slots Q (F0 m pc ls (v :: .ref (ad i) :: rest)) := by
  obtain ⟨⟨r, h1, cell, q1, q2, q3, q4⟩, hge⟩ := hN.1 i _ he
  have hr : r = (C, T, N) := Option.some.inj (h1.symm.trans hc)
  subst hr
  obtain ⟨hS, hfc, kC, hkC, hkind⟩ := hK.1 ci _ hc
  obtain ⟨cf, kf, fi, f, hi, hsl⟩ := hS k hk
  have hlay := hts _ (hin _ (u_in_lay hk))
  unfold u_lay at hlay
  rw [if_neg (by rw [hfin]; decide)] at hlay
  have hst := (u_facts hfc hkC (u_lays hts hin hk) hi).1
  have h6 := u_store hfc hkC hkind hlay hi (hty k hk) hn hfit
  refine W.putK hexec hb (f := f) ⟨hown, hts _ hlink, ⟨_, _, _, hsame _ hi⟩, hst⟩ (by rw [q2]; exact h6) q1 q3 (by rw [hsl]; exact k2_hasslot (q4 k hk)) rfl rfl hdg fun H' e1 e2 e3 => ?_
  rw [hsl] at e1 ⊢
  exact kk H' _ (hN.set he ⟨_, hc, t_OB.to (V := updV (vp_V fs) k v) ⟨_, e1, q2, q3, t_set q4 hap hk v⟩ (fun j _ => vp_updV_set hl v j)⟩ e2 e3) (hS0.put e3 hge)
theorem n_iald (hexec : p.tables.exec = Jvm.exec) (hb : c.code = cc) (hK : va_K G.1 cl tys s) (hN : nOk G cl ad c0 H) (q t0 : Nat) {cA : ClassId} {n : Nat} {f : Nat → Int32} (ha : c0 q = some (.inl (cA, n, .inl f))) (ht : tys[t0]? = some (cA, .int)) {i : Int32} (j : Nat) (hi : i = nI j) (hj : j < n) (hn : n < 2 ^ 31) (hdg : decode cc pc = .ok (.iaload, 1))
    (kk : W p l e R s m args below meth c H locs cells slots Q (F0 m (pc + 1) ls (.int (f j) :: rest))) : W p l e R s m args below meth c H locs cells slots Q (F0 m pc ls (.int i :: .ref (ad q) :: rest)) := by
  subst hi
  refine va_iald hexec hb hK (hN.P1 ha) 0 t0 rfl ht (vp_in_nI hj hn) hdg ?_
  rw [nI_clamp (by omega)]
  exact kk
theorem n_iast (hexec : p.tables.exec = Jvm.exec) (hb : c.code = cc) (hK : va_K G.1 cl tys s) (hN : nOk G cl ad c0 H) (hS : nS G s H locs) (q t0 : Nat) {cA : ClassId} {n : Nat} {f : Nat → Int32} (ha : c0 q = some (.inl (cA, n, .inl f))) (ht : tys[t0]? = some (cA, .int)) {i x : Int32} (j : Nat) (hi : i = nI j) (hj : j < n) (hn : n < 2 ^ 31) (hdg : decode cc pc = .ok (.iastore, 1))
    (kk : ∀ (H1 : Heap) (locs1 : List Loc), nOk G cl ad (va_up c0 q (some (.inl (cA, n, .inl (upd f j x))))) H1 → nS G s H1 locs1 → W p l e R s m args below meth c H1 locs1 cells slots Q (F0 m (pc + 1) ls rest)) : W p l e R s m args below meth c H locs cells slots Q (F0 m pc ls (.int x :: .int i :: .ref (ad q) :: rest)) := by
  subst hi
  obtain ⟨hat, hge⟩ := hN.1 q _ ha
  refine W.iast hexec hb hat ((hK.2 t0 _ ht).1 n (fun j => .int (f j))) (fun q => by cases q) (by show ¬ (nI j < 0 ∨ (arrV _ _ _).slots.size ≤ _); rw [arrV_size]; exact vp_in_nI hj hn) rfl rfl hdg fun H1 e z oq => ?_
  rw [nI_clamp (by omega)] at e ⊢
  refine kk H1 _ (hN.set ha ?_ z oq) (hS.put oq hge)
  show H1[ad q]? = some (vp_cell _ _)
  rw [e]
  rw [vp_cell_i, vp_cell_i, arrV_store]
  congr 2
  funext q
  by_cases hq : q = j
  · subst hq
    simp [updV, upd]
  · simp [updV, upd, hq]
end NC
/-- what a contract carries of the tables and of the cells below G.2: it stays -/
def nKo (G : nG) (K : State → Prop) : Prop := ∀ u U : State, u.WarmedH U.vm → (∀ q : Nat, q < G.2 → U.heap[q]? = u.heap[q]?) → K u → K U
theorem nPc.blind {G : nG} {cl : List vw_C} {K : State → Prop} {ad : Nat → Nat} {c : nPic} {av : List Value} (h : nKo G K) : FrameBlind (nPc G cl K ad c av) :=
  fun a U g mk q => ⟨q.1, q.2.1, h U (U.calling g mk a) (State.WarmedH.refl U) (fun _ _ => rfl) q.2.2⟩
section NK
variable {p : Program} {l : Launch} {e : Env} {R : Room} {s : State} {m : MethodId} {args : Array Value} {below : List Frame} {meth : Method} {c : Code} {H : Heap} {locs : List Loc} {cells slots : Nat} {Q : State → Prop}
variable {cc : ByteArray} {pc : Nat} {ls : Array Slot} {rest st0 : List Value} {G : nG} {cl : List vw_C} {ad : Nat → Nat} {c0 : nPic} {tys : List (ClassId × FieldType)} {K : State → Prop} {y : MethodName} {bytes : ByteArray} {maxL nL mc ms n index : Nat} {ret : Option FieldType} {rm : Room} {P : Option Value → (Nat → Nat) → nPic → Prop} {own C : String} {As : List Value}
theorem nPc.pre (hKo : nKo G K) (hK : K s) (hN : nOk G cl ad c0 H) (hS : nS G s H locs) (av : List Value) : ∀ U : State, U.heap = H → s.WarmedH U.vm → nPc G cl K ad c0 av av.toArray U :=
  fun U hU hW => ⟨rfl, by rw [hU]; exact hN, hKo s U hW (fun q hq => by rw [hU]; exact hS.1 q hq) hK⟩
theorem n_callV (S : CallFix p m c cc nL s args lw_all own) (hKo : nKo G K) (hK : K s) (hKv : va_K G.1 cl tys s) {b : Nat} (hM : Met l y (ws_ y bytes maxL ret) rm (nPc G cl K ad c0 (.ref (ad b) :: As)) (nQ G cl P) mc ms (fun q => G.2 ≤ q)) (cw : CallW R s args own C index y bytes maxL ret (ws_ y bytes maxL ret) rm mc ms n) (hN : nOk G cl ad c0 H) (hS : nS G s H locs) {ci : Nat} {fs : List Value} (he : c0 b = some (.inr (ci, fs))) {T : u_T} {N : Nat} (hc : cl[ci]? = some (C, T, N)) (hn : As.length = n) (hsize : ls.size = nL) (hstack : st0 = As.reverse ++ .ref (ad b) :: rest) (hW : (rest.map fun v => v.category).sum ≤ 8) (hdg : decode cc pc = .ok (.invokevirtual index, 3)) (hf : cells + mc ≤ R.cells ∧ slots + ms ≤ R.slots)
    (kk : ∀ (v : Option Value) (ad' : Nat → Nat) (c' : nPic) (H' : Heap) (locs' : List Loc), P v ad' c' → nOk G cl ad' c' H' → nS G s H' locs' → W p l e R s m args below meth c H' locs' (cells + mc) (slots + ms) Q (F0 m (pc + 3) ls (v.toList ++ rest))) : W p l e R s m args below meth c H locs cells slots Q (F0 m pc ls st0) :=
  nRet (va_runV (g := F0 m pc ls st0) S hM cw ⟨nPc.blind hKo, va_recv hKv (hN.P1 he) (q0 := 0) hc rfl, nPc.pre hKo hK hN hS _⟩ rfl hn hsize hstack (lv_room hW) hdg hf) hS kk
theorem n_callS (S : CallFix p m c cc nL s args lw_all own) (hKo : nKo G K) (hK : K s) (hM : Met l y (ws_ y bytes maxL ret) rm (nPc G cl K ad c0 As) (nQ G cl P) mc ms (fun q => G.2 ≤ q)) (cw : CallB R s args own index y bytes maxL ret (ws_ y bytes maxL ret) rm mc ms n ∧ (Cond.static y).before args s = true) (hN : nOk G cl ad c0 H) (hS : nS G s H locs) (hn : As.length = n) (hsize : ls.size = nL) (hstack : st0 = As.reverse ++ rest) (hW : (rest.map fun v => v.category).sum ≤ 8) (hdg : decode cc pc = .ok (.invokestatic index, 3)) (hf : cells + mc ≤ R.cells ∧ slots + ms ≤ R.slots)
    (kk : ∀ (v : Option Value) (ad' : Nat → Nat) (c' : nPic) (H' : Heap) (locs' : List Loc), P v ad' c' → nOk G cl ad' c' H' → nS G s H' locs' → W p l e R s m args below meth c H' locs' (cells + mc) (slots + ms) Q (F0 m (pc + 3) ls (v.toList ++ rest))) : W p l e R s m args below meth c H locs cells slots Q (F0 m pc ls st0) :=
  nRet (va_runS (g := F0 m pc ls st0) S hM cw ⟨nPc.blind hKo, nPc.pre hKo hK hN hS _⟩ rfl hn hsize hstack (lv_room hW) hdg hf) hS kk
theorem n_callI (S : CallFix p m c cc nL s args lw_all own) (hKo : nKo G K) (hK : K s) {b : Nat} (hM : Met l y (ws_ y bytes maxL none) rm (nPc G cl K ad c0 (.ref b :: As)) (nQ G cl P) mc ms (fun q => G.2 ≤ q)) (cw : CallB R s args own index y bytes maxL none (ws_ y bytes maxL none) rm mc ms n ∧ y.name = "<init>" ∧ (Cond.instanceMethod y).before args s = true) (hN : nOk G cl ad c0 H) (hS : nS G s H locs) (hn : As.length = n) (hsize : ls.size = nL) (hstack : st0 = As.reverse ++ .ref b :: rest) (hW : (rest.map fun v => v.category).sum ≤ 8) (hdg : decode cc pc = .ok (.invokespecial index, 3)) (hf : cells + mc ≤ R.cells ∧ slots + ms ≤ R.slots)
    (kk : ∀ (v : Option Value) (ad' : Nat → Nat) (c' : nPic) (H' : Heap) (locs' : List Loc), P v ad' c' → nOk G cl ad' c' H' → nS G s H' locs' → W p l e R s m args below meth c H' locs' (cells + mc) (slots + ms) Q (F0 m (pc + 3) ls (v.toList ++ rest))) : W p l e R s m args below meth c H locs cells slots Q (F0 m pc ls st0) :=
  nRet (va_runI (g := F0 m pc ls st0) S hM cw ⟨nPc.blind hKo, nPc.pre hKo hK hN hS _⟩ rfl hn hsize hstack (lv_room hW) hdg hf) hS kk
end NK
/-- a contract by the walk of its body -/
theorem nMet {l : Launch} {y : MethodName} {bytes : ByteArray} {nL : Nat} {ret : Option FieldType} {rm : Room} {G : nG} {cl : List vw_C} {K : State → Prop} {ad : Nat → Nat} {c0 : nPic} {P : Option Value → (Nat → Nat) → nPic → Prop} {mc ms : Nat} {avs : List Value} (own : String) (hy : plainName y.cls = true) (hcls : y.cls = own) (hlen : (lg_sl avs).length ≤ nL)
    (body : ∀ (p : Program) (e : Env) (s : State) (m : MethodId) (below : List Frame) (meth : Method) (c : Code) (ls : Array Slot), CallFix p m c bytes nL s avs.toArray lw_all own → (meth.sig.returnType = ret ∧ meth.locks = false ∧ meth.name = y.name) → K s → nOk G cl ad c0 s.heap → nS G s s.heap [] → lv_has ls nL (lv_args 0 avs) →
      W p l e rm s m avs.toArray below meth c s.heap [] 0 0 (MQ below (nQ G cl P) avs.toArray s mc ms (fun q => G.2 ≤ q)) (F0 m 0 ls [])) :
    Met l y (ws_ y bytes nL ret) rm (nPc G cl K ad c0 avs) (nQ G cl P) mc ms (fun q => G.2 ≤ q) := by
  refine Met.ofW (cc := bytes) (maxL := nL) (ret := ret) hy rfl ?_
  intro p e s m args below meth c s₁ B hml hv
  obtain ⟨rfl, hN, hK⟩ := hv
  have hts := atoms_spec (ws := ws_ y bytes nL ret) B.pre
  have hts : ∀ w ∈ lw_all, w.before avs.toArray s = true := fun w h => hts w (List.mem_cons_of_mem _ h)
  have hown : s.vm.findClass own = some m.cls := by rw [← hcls]; exact findClass_of_methodNamed B.named
  rw [lg_entry_eq]
  exact body p e s m below meth c _ ⟨B.exec, B.bytes, hml, hown, hts⟩ ⟨B.returns, B.notSynchronized, (name_of_methodNamed B.named B.method).1⟩ hK hN nS.rf (lv_entry avs hlen)
