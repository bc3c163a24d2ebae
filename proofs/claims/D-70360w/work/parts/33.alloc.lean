/-! ROWS THAT MAKE CELLS; nest mates' fields; arraycopy. Printed by wip/gen/r33.py -/
/-- two final fields of one name by two declarers lie apart -/
theorem n_apartO {args : Array Value} {s : State} {C O f d O' f' d' : String} (h : (Cond.laysFinal C O f d).before args s = true) (h' : (Cond.laysFinal C O' f' d').before args s = true)
    {cf kf fi fd cf' kf' fi' fd'} (hi : s.fieldFound? O f d = some (cf, kf, fi, fd)) (hi' : s.fieldFound? O' f' d' = some (cf', kf', fi', fd')) (hne : O ≠ O') : fd.slot ≠ fd'.slot := by
  obtain ⟨a, _, b, _, _, g, ha, _, hg, _, _, _, ho, _, dd, hd, hn, _⟩ := Cond.laysFinal_spec h
  obtain ⟨a', _, b', _, _, g', ha', _, hg', _, _, _, ho', _, dd', hd', hn', _⟩ := Cond.laysFinal_spec h'
  cases hi.symm.trans hg
  cases hi'.symm.trans hg'
  cases ha.symm.trans ha'
  intro hs
  rw [hs] at hd
  cases hd.symm.trans hd'
  obtain ⟨k1, e1, n1⟩ := Vm.findClass_spec ho
  obtain ⟨k2, e2, n2⟩ := Vm.findClass_spec ho'
  have f1 := (State.fieldFound?_spec hi).1
  have f2 := (State.fieldFound?_spec hi').1
  cases e1.symm.trans f1
  cases e2.symm.trans f2
  exact hne (n1.symm.trans (hn.symm.trans (hn'.trans n2)))
/-- two fields lie apart: other names, or both final and of two declarers -/
def n_diff (T : u_T) (N : Nat) : Prop := ∀ a, a < N → ∀ b, b < N → a ≠ b → (T a).2.1 ≠ (T b).2.1 ∨ ((T a).2.2.2 = true ∧ (T b).2.2.2 = true ∧ (T a).1 ≠ (T b).1)
theorem n_apart {args : Array Value} {s : State} {D : va_G} {cl : List vw_C} {tys : List (ClassId × FieldType)} {C : String} {T : u_T} {N ci : Nat} (hts : ∀ w ∈ lw_all, w.before args s = true) (hin : ∀ w ∈ u_ws C T N, w ∈ lw_all) (ty : Nat → FieldType) (hty : ∀ k, k < N → parseFieldDescriptor (T k).2.2.1 = some (ty k)) (hnm : n_diff T N) (hK : va_K D cl tys s) (hc : cl[ci]? = some (C, T, N)) : ∀ x y, x < N → y < N → x ≠ y → (D.2 ci) x ≠ (D.2 ci) y := by
  intro x y hx hy hne
  obtain ⟨hS, -⟩ := hK.1 ci _ hc
  obtain ⟨_, _, _, fa, hia, ea⟩ := hS x hx
  obtain ⟨_, _, _, fb, hib, eb⟩ := hS y hy
  rw [← ea, ← eb]
  rcases hnm x hx y hy hne with q | ⟨q1, q2, q3⟩
  · refine u_apart (u_lays hts hin hx) (u_lays hts hin hy) hia hib ?_
    rw [(State.fieldFound?_type hia (hty x hx)).1, (State.fieldFound?_type hib (hty y hy)).1]
    exact q
  · have l1 := hts _ (hin _ (u_in_lay hx))
    have l2 := hts _ (hin _ (u_in_lay hy))
    unfold u_lay at l1 l2
    rw [if_pos q1] at l1
    rw [if_pos q2] at l2
    exact n_apartO l1 l2 hia hib q3
theorem ndX0 : n_diff TX0 12 := by unfold n_diff; decide +kernel
theorem ndX4 : n_diff TX4 7 := by unfold n_diff; decide +kernel
theorem ndX5 : n_diff TX5 4 := by unfold n_diff; decide +kernel
theorem ndX6 : n_diff TX6 5 := by unfold n_diff; decide +kernel
theorem ndX7 : n_diff TX7 6 := by unfold n_diff; decide +kernel
theorem ndX8 : n_diff TX8 7 := by unfold n_diff; decide +kernel
theorem ndX9 : n_diff TX9 2 := by unfold n_diff; decide +kernel
theorem ndX10 : n_diff TX10 1 := by unfold n_diff; decide +kernel
theorem ndX11 : n_diff TX11 7 := by unfold n_diff; decide +kernel
theorem ndX12 : n_diff TX12 4 := by unfold n_diff; decide +kernel
theorem ndJ2 : n_diff TJ2 3 := by unfold n_diff; decide +kernel
section NA
variable {p : Program} {l : Launch} {e : Env} {R : Room} {s : State} {m : MethodId} {args : Array Value} {below : List Frame} {meth : Method} {c : Code} {H : Heap} {locs : List Loc} {cells slots : Nat} {Q : State → Prop}
variable {cc : ByteArray} {pc : Nat} {ls : Array Slot} {rest : List Value} {G : nG} {cl : List vw_C} {ad : Nat → Nat} {c0 : nPic} {tys : List (ClassId × FieldType)}
theorem n_getN (hexec : p.tables.exec = Jvm.exec) (hb : c.code = cc) {own ref C host : String} {T : u_T} {N ci index : Nat} (hts : ∀ w ∈ lw_all, w.before args s = true) (hin : ∀ w ∈ u_ws C T N, w ∈ lw_all) (hown : s.vm.findClass own = some m.cls) (hK : va_K G.1 cl tys s) (hN : nOk G cl ad c0 H) (i : Nat) {fs : List Value} (he : c0 i = some (.inr (ci, fs))) (hc : cl[ci]? = some (C, T, N)) (k : Nat) (hk : k < N) (hlink : va_Nw (Cond.fieldLinkNest own index ref (T k).2.1 (T k).2.2.1 host) s) (hsame : ∀ x, s.fieldFound? (T k).1 (T k).2.1 (T k).2.2.1 = some x → s.fieldFound? ref (T k).2.1 (T k).2.2.1 = some x) {v : Value} (hv : fs[k]? = some v) (hdg : decode cc pc = .ok (.getfield index, 3))
    (kk : W p l e R s m args below meth c H locs cells slots Q (F0 m (pc + 3) ls (v :: rest))) : W p l e R s m args below meth c H locs cells slots Q (F0 m pc ls (.ref (ad i) :: rest)) :=
  va_getN hexec hb hts hin hown hK (hN.P1 he) 0 rfl hc k hk (va_Nw.use rfl hlink) hsame hv hdg kk
theorem n_putN (hexec : p.tables.exec = Jvm.exec) (hb : c.code = cc) {own ref C host : String} {T : u_T} {N ci index : Nat} (hts : ∀ w ∈ lw_all, w.before args s = true) (hin : ∀ w ∈ u_ws C T N, w ∈ lw_all) (ty0 : Nat → FieldType) (hty : ∀ k, k < N → parseFieldDescriptor (T k).2.2.1 = some (ty0 k)) (hap : ∀ x y, x < N → y < N → x ≠ y → (G.1.2 ci) x ≠ (G.1.2 ci) y) (hown : s.vm.findClass own = some m.cls) (hK : va_K G.1 cl tys s) (hN : nOk G cl ad c0 H) (hS0 : nS G s H locs) (i : Nat) {fs : List Value} (he : c0 i = some (.inr (ci, fs))) (hc : cl[ci]? = some (C, T, N)) (k : Nat) (hk : k < N) (hlink : va_Nw (Cond.fieldLinkNest own index ref (T k).2.1 (T k).2.2.1 host) s) (hsame : ∀ x, s.fieldFound? (T k).1 (T k).2.1 (T k).2.2.1 = some x → s.fieldFound? ref (T k).2.1 (T k).2.2.1 = some x) (hfin : (T k).2.2.2 = false) {v : Value} (hn : narrow (ty0 k) v = v) (hfit : fits (ty0 k) v = true) (hl : k < fs.length)
    (hdg : decode cc pc = .ok (.putfield index, 3)) (kk : ∀ (H1 : Heap) (locs1 : List Loc), nOk G cl ad (va_up c0 i (some (.inr (ci, fs.set k v)))) H1 → nS G s H1 locs1 → W p l e R s m args below meth c H1 locs1 cells slots Q (F0 m (pc + 3) ls rest)) : W p l e R s m args below meth c H locs cells slots Q (F0 m pc ls (v :: .ref (ad i) :: rest)) := by
  obtain ⟨⟨r, h1, cell, q1, q2, q3, q4⟩, hge⟩ := hN.1 i _ he
  have hr : r = (C, T, N) := Option.some.inj (h1.symm.trans hc)
  subst hr
  obtain ⟨hS, hfc, kC, hkC, hkind⟩ := hK.1 ci _ hc
  obtain ⟨cf, kf, fi, f, hi, hsl⟩ := hS k hk
  have hlay := hts _ (hin _ (u_in_lay hk))
  unfold u_lay at hlay
  rw [if_neg (by rw [hfin]; decide)] at hlay
  have hst := (u_facts hfc hkC (u_lays hts hin hk) hi).1
  have h6 := u_store hfc hkC hkind hlay hi (hty k hk) hn hfit
  refine va_WputK hexec hb (f := f) hown (va_Nw.use rfl hlink) (hsame _ hi) hst (by rw [q2]; exact h6) q1 q3 (by rw [hsl]; exact k2_hasslot (q4 k hk)) rfl rfl hdg fun H' e1 e2 e3 => ?_
  rw [hsl] at e1 ⊢
  exact kk H' _ (hN.set he ⟨_, hc, t_OB.to (V := updV (vp_V fs) k v) ⟨_, e1, q2, q3, t_set q4 hap hk v⟩ (fun j _ => vp_updV_set hl v j)⟩ e2 e3) (hS0.put e3 hge)
theorem n_putF (hexec : p.tables.exec = Jvm.exec) (hb : c.code = cc) {own ref C : String} {T : u_T} {N ci index : Nat} (hts : ∀ w ∈ lw_all, w.before args s = true) (hin : ∀ w ∈ u_ws C T N, w ∈ lw_all) (ty0 : Nat → FieldType) (hty : ∀ k, k < N → parseFieldDescriptor (T k).2.2.1 = some (ty0 k)) (hap : ∀ x y, x < N → y < N → x ≠ y → (G.1.2 ci) x ≠ (G.1.2 ci) y) (hown : s.vm.findClass own = some m.cls) (hK : va_K G.1 cl tys s) (hN : nOk G cl ad c0 H) (hS0 : nS G s H locs) (i : Nat) {fs : List Value} (he : c0 i = some (.inr (ci, fs))) (hc : cl[ci]? = some (C, T, N)) (k : Nat) (hk : k < N) (hlink : Cond.fieldLink own index ref (T k).2.1 (T k).2.2.1 ∈ lw_all) (hsame : ∀ x, s.fieldFound? (T k).1 (T k).2.1 (T k).2.2.1 = some x → s.fieldFound? ref (T k).2.1 (T k).2.2.1 = some x) (hfin : (T k).2.2.2 = true) (hin2 : meth.name = "<init>") (hdecl : (T k).1 = own) {v : Value} (hn : narrow (ty0 k) v = v) (hfit : fits (ty0 k) v = true) (hl : k < fs.length)
    (hdg : decode cc pc = .ok (.putfield index, 3)) (kk : ∀ (H1 : Heap) (locs1 : List Loc), nOk G cl ad (va_up c0 i (some (.inr (ci, fs.set k v)))) H1 → nS G s H1 locs1 → W p l e R s m args below meth c H1 locs1 cells slots Q (F0 m (pc + 3) ls rest)) : W p l e R s m args below meth c H locs cells slots Q (F0 m pc ls (v :: .ref (ad i) :: rest)) := by
  obtain ⟨⟨r, h1, cell, q1, q2, q3, q4⟩, hge⟩ := hN.1 i _ he
  have hr : r = (C, T, N) := Option.some.inj (h1.symm.trans hc)
  subst hr
  obtain ⟨hS, hfc, kC, hkC, hkind⟩ := hK.1 ci _ hc
  obtain ⟨cf, kf, fi, f, hi, hsl⟩ := hS k hk
  have hlay := hts _ (hin _ (u_in_lay hk))
  unfold u_lay at hlay
  rw [if_pos hfin] at hlay
  have hst := (u_facts hfc hkC (u_lays hts hin hk) hi).1
  have hcf : m.cls = cf := by
    obtain ⟨_, _, c', _, _, _, -, -, hf', -, -, -, hown2, -⟩ := Cond.laysFinal_spec hlay
    have e1 : c' = cf := by have := hi.symm.trans hf'; simp at this; exact this.1.symm
    rw [hdecl] at hown2
    rw [← e1]; exact Option.some.inj (hown.symm.trans hown2)
  have h6 := u_fits hfc hkC hkind (Or.inr hlay) hi (hty k hk) hn hfit
  refine W.putFinK hexec hb hown (hts _ hlink) (hsame _ hi) hst hcf hin2 (by rw [q2]; exact h6) q1 q3 (by rw [hsl]; exact k2_hasslot (q4 k hk)) rfl rfl hdg fun H' e1 e2 e3 => ?_
  rw [hsl] at e1 ⊢
  exact kk H' _ (hN.set he ⟨_, hc, t_OB.to (V := updV (vp_V fs) k v) ⟨_, e1, q2, q3, t_set q4 hap hk v⟩ (fun j _ => vp_updV_set hl v j)⟩ e2 e3) (hS0.put e3 hge)
/-- new C: under the name i -/
theorem n_new (hexec : p.tables.exec = Jvm.exec) (hb : c.code = cc) {own C : String} {T : u_T} {N ci index : Nat} (hts : ∀ w ∈ lw_all, w.before args s = true) (hin : ∀ w ∈ u_ws C T N, w ∈ lw_all) (ty : Nat → FieldType) (hty : ∀ k, k < N → parseFieldDescriptor (T k).2.2.1 = some (ty k)) (hown : s.vm.findClass own = some m.cls) (hcl : Cond.classLink own index C ∈ lw_all) (hinst : Cond.instantiable C N ∈ lw_all) (hini : Cond.initialized C ∈ lw_all)
    (hK : va_K G.1 cl tys s) (hN : nOk G cl ad c0 H) (hS : nS G s H locs) (i : Nat) (hc : cl[ci]? = some (C, T, N)) {fs : List Value} (hfs : ∀ j, j < N → defaultValue (ty j) = vp_V fs j) (hcells : cells + 1 ≤ R.cells) (hslots : slots + N ≤ R.slots) (hdg : decode cc pc = .ok (.new index, 3))
    (kk : ∀ (q : Nat) (H1 : Heap), nOk G cl (va_up ad i q) (va_up c0 i (some (.inr (ci, fs)))) H1 → nS G s H1 locs →
      W p l e R s m args below meth c H1 locs (cells + 1) (slots + N) Q (F0 m (pc + 3) ls (.ref q :: rest))) : W p l e R s m args below meth c H locs cells slots Q (F0 m pc ls rest) := by
  have hKn := hK.1 ci _ hc
  refine W.newcK hexec hb hown (hts _ hcl) (hts _ hinst) (hts _ hini) rfl hdg hcells hslots hKn.2.1 rfl fun H1 kC hkC e1 z1 o1 => ?_
  exact kk H.size H1 (hN.new i ⟨_, hc, (u_born ty hts hin hKn hkC e1 hty).to hfs⟩ (by omega) o1) (hS.grow o1 hN.2.2)
/-- new t[n]: under the name i -/
theorem n_newa (hexec : p.tables.exec = Jvm.exec) (hb : c.code = cc) {atype : ArrayType} (hts : ∀ w ∈ lw_all, w.before args s = true) (harr : Cond.arrayClass (newarray.typeOf atype) ∈ lw_all) (hK : va_K G.1 cl tys s) (hN : nOk G cl ad c0 H) (hS : nS G s H locs) (i t0 : Nat) {cA : ClassId} (ht : tys[t0]? = some (cA, newarray.typeOf atype))
    {n : Int32} (N' : Nat) (hd : ∀ cA : ClassId, vp_cell cA (N', .inl (fun _ => 0)) = arrV cA N' (fun _ => defaultValue (newarray.typeOf atype))) (hn : n = nI N') (hN' : N' < 1000000) (hcells : cells + 1 ≤ R.cells) (hslots : slots + N' ≤ R.slots) (hdg : decode cc pc = .ok (.newarray atype, 2))
    (kk : ∀ (q : Nat) (H1 : Heap), nOk G cl (va_up ad i q) (va_up c0 i (some (.inl (cA, N', .inl (fun _ => 0))))) H1 → nS G s H1 locs →
      W p l e R s m args below meth c H1 locs (cells + 1) (slots + N') Q (F0 m (pc + 2) ls (.ref q :: rest))) : W p l e R s m args below meth c H locs cells slots Q (F0 m pc ls (.int n :: rest)) := by
  subst hn
  have hcb : componentBytes (newarray.typeOf atype) ≤ 8 := by cases atype <;> decide
  refine va_newaK hexec hb (hts _ harr) rfl hdg rfl (nI_pos (by omega)) (nI_clamp (by omega)) (Nat.le_trans (Nat.mul_le_mul (Nat.le_of_lt hN') hcb) (by decide)) hcells hslots rfl fun H1 cB e1 z1 o1 hAr hNm => ?_
  have hc : cB = cA := by
    have h := (hK.2 t0 _ ht).2
    have h2 : s.vm.findClass ("[" ++ (newarray.typeOf atype).toString) = some cA := by
      revert h
      cases atype <;> exact fun h => h
    exact Option.some.inj (hNm.symm.trans h2)
  subst hc
  refine kk H.size H1 (hN.new i ?_ (by omega) o1) (hS.grow o1 hN.2.2)
  show H1[H.size]? = some (vp_cell _ _)
  rw [hd]
  exact e1
/-- new C[n]: under the name i -/
theorem n_anew (hexec : p.tables.exec = Jvm.exec) (hb : c.code = cc) {own C : String} {index : Nat} (hts : ∀ w ∈ lw_all, w.before args s = true) (hown : s.vm.findClass own = some m.cls) (hclink : Cond.classLink own index C ∈ lw_all) (hover : va_Nw (Cond.arrayOver (.object C)) s) (hK : va_K G.1 cl tys s) (hN : nOk G cl ad c0 H) (hS : nS G s H locs) (i t0 : Nat) {cA : ClassId} (ht : tys[t0]? = some (cA, .object C))
    {n : Int32} (N' : Nat) (hn : n = nI N') (hN' : N' < 1000000) (hcells : cells + 1 ≤ R.cells) (hslots : slots + N' ≤ R.slots) (hdg : decode cc pc = .ok (.anewarray index, 3))
    (kk : ∀ (q : Nat) (H1 : Heap), nOk G cl (va_up ad i q) (va_up c0 i (some (.inl (cA, N', .inr (.inr (.inr (.inr (fun _ => none)))))))) H1 → nS G s H1 locs →
      W p l e R s m args below meth c H1 locs (cells + 1) (slots + N') Q (F0 m (pc + 3) ls (.ref q :: rest))) : W p l e R s m args below meth c H locs cells slots Q (F0 m pc ls (.int n :: rest)) := by
  subst hn
  have hcl : (nI N').toNatClampNeg = N' := nI_clamp (by omega)
  refine W.anew hexec hb hown (hts _ hclink) (va_AO.use hover) rfl hdg rfl (nI_pos (by omega)) (by rw [hcl]; omega) hcells (by rw [hcl]; exact hslots) fun cB kA comp f1 f2 f3 f4 => ?_
  rw [hcl]
  have hc : cB = cA := by
    obtain ⟨kA', comp', k1, k2, k3, k4⟩ := (hK.2 t0 _ ht).2
    exact Option.some.inj (f1.symm.trans k4)
  subst hc
  generalize hH1 : H.push ({ cls := cB, slots := Array.replicate N' .null, vm := .none } : Cell) = H1
  have z1 : H1.size = H.size + 1 := by rw [← hH1, Array.size_push]
  have e1 : H1[H.size]? = some (arrV cB N' (fun _ => .null)) := by rw [← hH1, Array.getElem?_push_size, ← arrV_new]
  have o1 : ∀ q : Nat, q < H.size → H1[q]? = H[q]? := fun q hq => by rw [← hH1, Array.getElem?_push, if_neg (Nat.ne_of_lt hq)]
  refine kk H.size H1 (hN.new i ?_ (by omega) o1) (hS.grow o1 hN.2.2)
  show H1[H.size]? = some (vp_cell _ _)
  rw [vp_cell_q]
  exact e1
theorem n_topv {x y : Value} (h : x = y) (k : W p l e R s m args below meth c H locs cells slots Q (F0 m pc ls (y :: rest))) : W p l e R s m args below meth c H locs cells slots Q (F0 m pc ls (x :: rest)) := by
  subst h
  exact k
theorem n_copyi (hexec : p.tables.exec = Jvm.exec) (hb : c.code = cc) (hml : c.maxLocals = ls.size) {own : String} {index : Nat} (hts : ∀ w ∈ lw_all, w.before args s = true) (hown : s.vm.findClass own = some m.cls) (hlink : Cond.methodLink own index arraycopyName ∈ lw_all) (hnat : Cond.native arraycopyName ∈ lw_all) (hstat : Cond.static arraycopyName ∈ lw_all) (hini : Cond.initialized "java/lang/System" ∈ lw_all)
    (hK : va_K G.1 cl tys s) (hN : nOk G cl ad c0 H) (hS : nS G s H locs) (q0 q1 t0 t1 : Nat) {C0 C1 : ClassId} {n0 n1 : Nat} {f g : Nat → Int32} {ty : FieldType} (ha0 : c0 q0 = some (.inl (C0, n0, .inl f))) (ha1 : c0 q1 = some (.inl (C1, n1, .inl g))) (ht0 : tys[t0]? = some (C0, ty)) (ht1 : tys[t1]? = some (C1, ty)) (hprim : refKind ty = false)
    {sp dp n : Int32} (a b k : Nat) (h1 : sp = nI a) (h2 : dp = nI b) (h3 : n = nI k) (h4 : a + k ≤ n0) (h5 : b + k ≤ n1) (h6 : n0 < 2 ^ 30) (h7 : n1 < 2 ^ 30) (hfit : ∀ i, i < k → fits ty (.int (f (a + i))) = true)
    (hframes : 1 ≤ R.frames) (hlocals : (rest.map fun v => v.category).sum + (nativeFrameWords "java/lang/System" "arraycopy" 5 + 11) ≤ R.locals) (hdg : decode cc pc = .ok (.invokestatic index, 3))
    (kk : ∀ (H1 : Heap) (locs1 : List Loc), nOk G cl ad (va_up c0 q1 (some (.inl (C1, n1, .inl (va_cpy f g a b k))))) H1 → nS G s H1 locs1 → W p l e R s m args below meth c H1 locs1 cells slots Q (F0 m (pc + 3) ls rest)) : W p l e R s m args below meth c H locs cells slots Q (F0 m pc ls (.int n :: .int dp :: .ref (ad q1) :: .int sp :: .ref (ad q0) :: rest)) := by
  have cs : sp.toNatClampNeg = a := by rw [h1]; exact nI_clamp (by omega)
  have cd : dp.toNatClampNeg = b := by rw [h2]; exact nI_clamp (by omega)
  have ck : n.toNatClampNeg = k := by rw [h3]; exact nI_clamp (by omega)
  have is : sp.toInt = (a : Int) := by rw [h1]; exact nI_toInt (by omega)
  have id_ : dp.toInt = (b : Int) := by rw [h2]; exact nI_toInt (by omega)
  have ik : n.toInt = (k : Int) := by rw [h3]; exact nI_toInt (by omega)
  have p1 : ¬ sp < 0 := by rw [h1]; exact nI_pos (by omega)
  have p2 : ¬ dp < 0 := by rw [h2]; exact nI_pos (by omega)
  have p3 : ¬ n < 0 := by rw [h3]; exact nI_pos (by omega)
  intro T hT X
  obtain ⟨hc0, -⟩ := hN.1 q0 _ ha0
  obtain ⟨hc1, hge⟩ := hN.1 q1 _ ha1
  have hc0 : H[ad q0]? = some (vp_cell C0 (n0, .inl f)) := hc0
  have hc1 : H[ad q1]? = some (vp_cell C1 (n1, .inl g)) := hc1
  obtain ⟨-, k0, hk0, cm0, hkk0⟩ := (hK.2 t0 _ ht0).1 n0 (fun j => .int (f j))
  obtain ⟨-, k1, hk1, cm1, hkk1⟩ := (hK.2 t1 _ ht1).1 n1 (fun j => .int (g j))
  obtain ⟨vm', X', step⟩ := X.arraycopy hexec hown (hts _ hlink) (hts _ hnat) (hts _ hstat) (hts _ hini) (src := ad q0) (dst := ad q1) (cs := vp_cell C0 (n0, .inl f)) (cd := vp_cell C1 (n1, .inl g)) (srcPos := sp) (destPos := dp) (n := n) (by rw [hT]; exact hc0) (by rw [hT]; exact hc1)
    (fun _ h => by cases h) (fun _ h => by cases h) (fun h => by cases h) (fun h => by cases h) hk0 hk1 hkk0 hkk1 (by simp [hprim]) p1 p2 p3
    (by rw [is, ik]; show ¬ _ > ((arrV C0 n0 (fun j => .int (f j))).slots.size : Int); rw [arrV_size]; omega)
    (by rw [id_, ik]; show ¬ _ > ((arrV C1 n1 (fun j => .int (g j))).slots.size : Int); rw [arrV_size]; omega)
    (fun vm₁ hal i hi => by
      rw [ck] at hi
      have e : (vp_cell C0 (n0, .inl f)).slots.getD (sp.toNatClampNeg + i) .null = .int (f (a + i)) := by
        rw [cs]
        show (arrV C0 n0 (fun j => .int (f j))).slots.getD _ _ = _
        rw [Array.getD_eq_getD_getElem?, arrV_read _ _ (by omega)]
        rfl
      refine ⟨?_, ?_⟩
      · rw [e]
        exact hfit i hi
      · rw [e]
        exact trivial)
    (g := F0 m pc ls (.int n :: .int dp :: .ref (ad q1) :: .int sp :: .ref (ad q0) :: rest)) rfl (by rw [hml]) (rest := rest) rfl (by rw [hb]; exact hdg) hframes (by show 2 * 0 + _ + _ ≤ _; omega)
  have e1 : copied (vp_cell C0 (n0, .inl f)) (vp_cell C1 (n1, .inl g)) sp dp n = vp_cell C1 (n1, .inl (va_cpy f g a b k)) := by
    have := va_copied (fun z => .int z) C0 C1 (n0 := n0) (n1 := n1) (sp := a) (dp := b) (n := k) f g h4
    unfold copied
    rw [cs, cd, ck]
    exact this
  rw [e1] at X' step
  have hl : ad q1 < H.size := (Array.getElem?_eq_some_iff.mp hc1).1
  have hheap : ((T.setVm vm').setCell (ad q1) (vp_cell C1 (n1, .inl (va_cpy f g a b k)))).heap = H.setIfInBounds (ad q1) (vp_cell C1 (n1, .inl (va_cpy f g a b k))) := by rw [← hT]; rfl
  have oq : ∀ q : Nat, q ≠ ad q1 → (H.setIfInBounds (ad q1) (vp_cell C1 (n1, .inl (va_cpy f g a b k))))[q]? = H[q]? := fun q hq => by simp [Array.getElem?_setIfInBounds, Ne.symm hq]
  obtain ⟨t, a1, b1⟩ := kk _ _ (hN.set ha1 (show (H.setIfInBounds (ad q1) _)[ad q1]? = some _ by simp [Array.getElem?_setIfInBounds, hl]) (by simp) oq) ⟨fun q hq => by
      rw [oq q (by omega)]
      exact hS.1 q hq, fun q hq => by
      rcases List.mem_append.mp hq with h | h
      · exact hS.2 q h
      · obtain ⟨z, -, hz⟩ := List.mem_map.mp h
        rw [← hz]
        exact hge⟩ _ hheap X'
  exact ⟨t, step t a1, b1⟩
theorem n_copyq (hexec : p.tables.exec = Jvm.exec) (hb : c.code = cc) (hml : c.maxLocals = ls.size) {own : String} {index : Nat} (hts : ∀ w ∈ lw_all, w.before args s = true) (hown : s.vm.findClass own = some m.cls) (hlink : Cond.methodLink own index arraycopyName ∈ lw_all) (hnat : Cond.native arraycopyName ∈ lw_all) (hstat : Cond.static arraycopyName ∈ lw_all) (hini : Cond.initialized "java/lang/System" ∈ lw_all)
    (hK : va_K G.1 cl tys s) (hN : nOk G cl ad c0 H) (hS : nS G s H locs) (q0 q1 t0 t1 : Nat) {C0 C1 : ClassId} {n0 n1 : Nat} {f g : Nat → Option Nat} {E0 E1 : String} (ha0 : c0 q0 = some (.inl (C0, n0, .inr (.inr (.inr (.inr f)))))) (ha1 : c0 q1 = some (.inl (C1, n1, .inr (.inr (.inr (.inr g)))))) (ht0 : tys[t0]? = some (C0, .object E0)) (ht1 : tys[t1]? = some (C1, .object E1)) 
    {sp dp n : Int32} (a b k : Nat) (h1 : sp = nI a) (h2 : dp = nI b) (h3 : n = nI k) (h4 : a + k ≤ n0) (h5 : b + k ≤ n1) (h6 : n0 < 2 ^ 30) (h7 : n1 < 2 ^ 30) (hel : ∀ i, i < k → ∀ y : Nat, f (a + i) = some y → va_Any E1 s H y)
    (hframes : 1 ≤ R.frames) (hlocals : (rest.map fun v => v.category).sum + (nativeFrameWords "java/lang/System" "arraycopy" 5 + 11) ≤ R.locals) (hdg : decode cc pc = .ok (.invokestatic index, 3))
    (kk : ∀ (H1 : Heap) (locs1 : List Loc), nOk G cl ad (va_up c0 q1 (some (.inl (C1, n1, .inr (.inr (.inr (.inr (va_cpy f g a b k)))))))) H1 → nS G s H1 locs1 → W p l e R s m args below meth c H1 locs1 cells slots Q (F0 m (pc + 3) ls rest)) : W p l e R s m args below meth c H locs cells slots Q (F0 m pc ls (.int n :: .int dp :: .ref (ad q1) :: .int sp :: .ref (ad q0) :: rest)) := by
  have cs : sp.toNatClampNeg = a := by rw [h1]; exact nI_clamp (by omega)
  have cd : dp.toNatClampNeg = b := by rw [h2]; exact nI_clamp (by omega)
  have ck : n.toNatClampNeg = k := by rw [h3]; exact nI_clamp (by omega)
  have is : sp.toInt = (a : Int) := by rw [h1]; exact nI_toInt (by omega)
  have id_ : dp.toInt = (b : Int) := by rw [h2]; exact nI_toInt (by omega)
  have ik : n.toInt = (k : Int) := by rw [h3]; exact nI_toInt (by omega)
  have p1 : ¬ sp < 0 := by rw [h1]; exact nI_pos (by omega)
  have p2 : ¬ dp < 0 := by rw [h2]; exact nI_pos (by omega)
  have p3 : ¬ n < 0 := by rw [h3]; exact nI_pos (by omega)
  intro T hT X
  obtain ⟨hc0, -⟩ := hN.1 q0 _ ha0
  obtain ⟨hc1, hge⟩ := hN.1 q1 _ ha1
  have hc0 : H[ad q0]? = some (vp_cell C0 (n0, .inr (.inr (.inr (.inr f))))) := hc0
  have hc1 : H[ad q1]? = some (vp_cell C1 (n1, .inr (.inr (.inr (.inr g))))) := hc1
  obtain ⟨-, k0, hk0, cm0, hkk0⟩ := (hK.2 t0 _ ht0).1 n0 (fun j => va_rf (f j))
  obtain ⟨-, k1, hk1, cm1, hkk1⟩ := (hK.2 t1 _ ht1).1 n1 (fun j => va_rf (g j))
  obtain ⟨vm', X', step⟩ := X.arraycopy hexec hown (hts _ hlink) (hts _ hnat) (hts _ hstat) (hts _ hini) (src := ad q0) (dst := ad q1) (cs := vp_cell C0 (n0, .inr (.inr (.inr (.inr f))))) (cd := vp_cell C1 (n1, .inr (.inr (.inr (.inr g))))) (srcPos := sp) (destPos := dp) (n := n) (by rw [hT]; exact hc0) (by rw [hT]; exact hc1)
    (fun _ h => by cases h) (fun _ h => by cases h) (fun h => by cases h) (fun h => by cases h) hk0 hk1 hkk0 hkk1 rfl p1 p2 p3
    (by rw [is, ik]; show ¬ _ > ((arrV C0 n0 (fun j => va_rf (f j))).slots.size : Int); rw [arrV_size]; omega)
    (by rw [id_, ik]; show ¬ _ > ((arrV C1 n1 (fun j => va_rf (g j))).slots.size : Int); rw [arrV_size]; omega)
    (fun vm₁ hal i hi => by
      rw [ck] at hi
      have e : (vp_cell C0 (n0, .inr (.inr (.inr (.inr f))))).slots.getD (sp.toNatClampNeg + i) .null = va_rf (f (a + i)) := by
        rw [cs]
        show (arrV C0 n0 (fun j => va_rf (f j))).slots.getD _ _ = _
        rw [Array.getD_eq_getD_getElem?, arrV_read _ _ (by omega)]
        rfl
      rw [e]
      cases hy : f (a + i) with
      | none => exact ⟨rfl, trivial⟩
      | some y =>
        obtain ⟨cellV, g1, g2, ⟨kC, hkC⟩, hasg⟩ := hel i hi y hy
        obtain ⟨kA, comp, r1, r2, r3, -⟩ := (hK.2 t1 _ ht1).2
        cases hk1.symm.trans r1
        cases hkk1.symm.trans r2
        obtain ⟨kE, hkE, -⟩ := Vm.findClass_spec r3
        obtain ⟨kC', hkC', -⟩ := hal.2.2 _ _ hkC
        obtain ⟨kE', hkE', -⟩ := hal.2.2 _ _ hkE
        refine ⟨rfl, cellV, (show T.heap[y]? = some cellV by rw [hT]; exact g1), (fun q h => by rw [h] at g2; cases g2), ⟨kC', hkC'⟩, ?_, ?_⟩
        · exact ⟨kE', hkE'⟩
        · show vm₁.assignable _ _ = true
          rw [hal.assignable]
          exact hasg _ r3)
    (g := F0 m pc ls (.int n :: .int dp :: .ref (ad q1) :: .int sp :: .ref (ad q0) :: rest)) rfl (by rw [hml]) (rest := rest) rfl (by rw [hb]; exact hdg) hframes (by show 2 * 0 + _ + _ ≤ _; omega)
  have e1 : copied (vp_cell C0 (n0, .inr (.inr (.inr (.inr f))))) (vp_cell C1 (n1, .inr (.inr (.inr (.inr g))))) sp dp n = vp_cell C1 (n1, .inr (.inr (.inr (.inr (va_cpy f g a b k))))) := by
    have := va_copied (fun z => va_rf z) C0 C1 (n0 := n0) (n1 := n1) (sp := a) (dp := b) (n := k) f g h4
    unfold copied
    rw [cs, cd, ck]
    exact this
  rw [e1] at X' step
  have hl : ad q1 < H.size := (Array.getElem?_eq_some_iff.mp hc1).1
  have hheap : ((T.setVm vm').setCell (ad q1) (vp_cell C1 (n1, .inr (.inr (.inr (.inr (va_cpy f g a b k))))))).heap = H.setIfInBounds (ad q1) (vp_cell C1 (n1, .inr (.inr (.inr (.inr (va_cpy f g a b k)))))) := by rw [← hT]; rfl
  have oq : ∀ q : Nat, q ≠ ad q1 → (H.setIfInBounds (ad q1) (vp_cell C1 (n1, .inr (.inr (.inr (.inr (va_cpy f g a b k)))))))[q]? = H[q]? := fun q hq => by simp [Array.getElem?_setIfInBounds, Ne.symm hq]
  obtain ⟨t, a1, b1⟩ := kk _ _ (hN.set ha1 (show (H.setIfInBounds (ad q1) _)[ad q1]? = some _ by simp [Array.getElem?_setIfInBounds, hl]) (by simp) oq) ⟨fun q hq => by
      rw [oq q (by omega)]
      exact hS.1 q hq, fun q hq => by
      rcases List.mem_append.mp hq with h | h
      · exact hS.2 q h
      · obtain ⟨z, -, hz⟩ := List.mem_map.mp h
        rw [← hz]
        exact hge⟩ _ hheap X'
  exact ⟨t, step t a1, b1⟩
end NA
