/-! LISTS: small rows -/
theorem va_up_up {α : Type} (f : Nat → α) (k : Nat) (u v : α) : va_up (va_up f k u) k v = va_up f k v := by
  funext j
  by_cases e : j = k
  · subst e; rw [va_up_self, va_up_self]
  · rw [va_up_ne _ _ e, va_up_ne _ _ e, va_up_ne _ _ e]
theorem va_up_cm {α : Type} (f : Nat → α) {k i : Nat} (h : k ≠ i) (u v : α) : va_up (va_up f k u) i v = va_up (va_up f i v) k u := by
  funext j
  by_cases e : j = k
  · subst e; rw [va_up_self, va_up_ne _ _ h, va_up_self]
  · rw [va_up_ne (va_up f i v) _ e]
    by_cases e2 : j = i
    · subst e2; rw [va_up_self, va_up_self]
    · rw [va_up_ne _ _ e2, va_up_ne _ _ e, va_up_ne _ _ e2]
theorem va_up_up2 {α : Type} (f : Nat → α) {k i : Nat} (h : k ≠ i) (u v w : α) : va_up (va_up (va_up f k u) i v) k w = va_up (va_up f k w) i v := by
  rw [va_up_cm (va_up f k u) (Ne.symm h), va_up_up]
theorem n_clr {α : Type} (f : Nat → Option α) (k : Nat) : va_up (fun j => if j < k then none else f j) k none = fun j => if j < k + 1 then none else f j := by
  funext j
  by_cases e : j = k
  · subst e; rw [va_up_self, if_pos (by omega)]
  · rw [va_up_ne _ _ e]
    by_cases h : j < k
    · rw [if_pos h, if_pos (by omega)]
    · rw [if_neg h, if_neg (by omega)]
/-- elements of lists: persons and readings -/
def nElC (ce : Nat) : Bool := ce == 2 || ce == 3 || ce == 4 || ce == 5
def nEl (c0 : nPic) (i : Nat) : Prop := ∃ (ce : Nat) (fs : List Value), c0 i = some (.inr (ce, fs)) ∧ nElC ce = true
theorem n_any {s : State} {G : nG} {ad : Nat → Nat} {c0 : nPic} {H : Heap} (hK : sK0 G s) (hN : nOk G nCl ad c0 H) {i : Nat} (h : nEl c0 i) : va_Any "java/lang/Object" s H (ad i) := by
  obtain ⟨ce, fs, he, hc⟩ := h
  obtain ⟨hKv, hKw, -⟩ := hK
  have key : ∀ (C : String) (T : u_T) (N : Nat), nCl[ce]? = some (C, T, N) → va_Nw (.castable C "java/lang/Object") s → va_Any "java/lang/Object" s H (ad i) := by
    intro C T N hcl hw
    obtain ⟨x, t, f1, f2, f3⟩ := Cond.castable_spec (va_Nw.use (A := #[]) rfl hw)
    refine va_rAny hKv (hN.P1 he) (q0 := 0) rfl hcl (fun comp x0 h1 h2 => ?_)
    cases f1.symm.trans h2
    cases f2.symm.trans h1
    exact f3
  have hce : ce = 2 ∨ ce = 3 ∨ ce = 4 ∨ ce = 5 := by
    unfold nElC at hc
    simp only [Bool.or_eq_true, beq_iff_eq] at hc
    omega
  rcases hce with e | e | e | e <;> subst e
  · exact key _ _ _ rfl (hKw _ q1450 rfl)
  · exact key _ _ _ rfl (hKw _ q1451 rfl)
  · exact key _ _ _ rfl (hKw _ q1452 rfl)
  · exact key _ _ _ rfl (hKw _ q1454 rfl)
theorem nEl_up {c0 : nPic} {i k : Nat} {x : Option va_E} (h : i ≠ k) (he : nEl c0 i) : nEl (va_up c0 k x) i := by
  obtain ⟨ce, fs, h1, h2⟩ := he
  exact ⟨ce, fs, (va_up_ne c0 x h).trans h1, h2⟩
theorem n_min {n cap : Nat} (h : n ≤ cap) (hc : cap < 2 ^ 31) : (if nI n < nI cap then nI n else nI cap) = nI n := by
  by_cases e : n = cap
  · subst e; split <;> rfl
  · rw [if_pos (nI_lt (by omega) hc)]
section NL
variable {p : Program} {l : Launch} {e : Env} {R : Room} {s : State} {m : MethodId} {args : Array Value} {below : List Frame} {meth : Method} {c : Code} {H : Heap} {locs : List Loc} {cells slots : Nat} {Q : State → Prop}
variable {cc : ByteArray} {pc : Nat} {ls : Array Slot} {rest st0 : List Value} {G : nG} {cl : List vw_C} {ad : Nat → Nat} {c0 : nPic} {tys : List (ClassId × FieldType)} {K : State → Prop} {x y : MethodName} {bytes : ByteArray} {maxL nL mc ms n index : Nat} {ret : Option FieldType} {rm : Room} {P : Option Value → (Nat → Nat) → nPic → Prop} {own C : String} {As : List Value}
/-- the static empty array's length -/
theorem n_alenZ (hexec : p.tables.exec = Jvm.exec) (hb : c.code = cc) (hKv : va_K G.1 nCl (nTy G) s) (hKz : sZ G s) (hS : nS G s H locs) (hdg : decode cc pc = .ok (.arraylength, 1))
    (kk : W p l e R s m args below meth c H locs cells slots Q (F0 m (pc + 1) ls (.int 0 :: rest))) : W p l e R s m args below meth c H locs cells slots Q (F0 m pc ls (.ref (nDea G) :: rest)) := by
  obtain ⟨-, h1, h2⟩ := hKz
  exact W.alen (n := 0) hexec hb (by rw [hS.1 _ h2]; exact h1) ((hKv.2 3 _ rfl).1 0 (fun _ => va_rf none)) (by show (arrV (G.1.1 103) 0 (fun _ => va_rf none)).slots.size.toInt32 = 0; rw [arrV_size]; rfl) rfl rfl hdg kk
theorem n_callIN {host : String} (S : CallFix p m c cc nL s args lw_all own) (hKo : nKo G K) (hK : K s) {b : Nat} (hM : Met l y (ws_ y bytes maxL none) rm (nPc G cl K ad c0 (.ref b :: As)) (nQ G cl P) mc ms (fun q => G.2 ≤ q)) (cw : va_CN R s args own index y host bytes maxL none (ws_ y bytes maxL none) rm mc ms n ∧ y.name = "<init>" ∧ (Cond.instanceMethod y).before args s = true) (hN : nOk G cl ad c0 H) (hS : nS G s H locs) (hn : As.length = n) (hsize : ls.size = nL) (hstack : st0 = As.reverse ++ .ref b :: rest) (hW : (rest.map fun v => v.category).sum ≤ 8) (hdg : decode cc pc = .ok (.invokespecial index, 3)) (hf : cells + mc ≤ R.cells ∧ slots + ms ≤ R.slots)
    (kk : ∀ (v : Option Value) (ad' : Nat → Nat) (c' : nPic) (H' : Heap) (locs' : List Loc), P v ad' c' → nOk G cl ad' c' H' → nS G s H' locs' → W p l e R s m args below meth c H' locs' (cells + mc) (slots + ms) Q (F0 m (pc + 3) ls (v.toList ++ rest))) : W p l e R s m args below meth c H locs cells slots Q (F0 m pc ls st0) :=
  nRet (va_runIN (g := F0 m pc ls st0) S hM cw ⟨nPc.blind hKo, nPc.pre hKo hK hN hS _⟩ rfl hn hsize hstack (lv_room hW) hdg hf) hS kk
theorem n_callSN {host : String} (S : CallFix p m c cc nL s args lw_all own) (hKo : nKo G K) (hK : K s) (hM : Met l y (ws_ y bytes maxL ret) rm (nPc G cl K ad c0 As) (nQ G cl P) mc ms (fun q => G.2 ≤ q)) (cw : va_CN R s args own index y host bytes maxL ret (ws_ y bytes maxL ret) rm mc ms n ∧ (Cond.static y).before args s = true ∧ True) (hN : nOk G cl ad c0 H) (hS : nS G s H locs) (hn : As.length = n) (hsize : ls.size = nL) (hstack : st0 = As.reverse ++ rest) (hW : (rest.map fun v => v.category).sum ≤ 8) (hdg : decode cc pc = .ok (.invokestatic index, 3)) (hf : cells + mc ≤ R.cells ∧ slots + ms ≤ R.slots)
    (kk : ∀ (v : Option Value) (ad' : Nat → Nat) (c' : nPic) (H' : Heap) (locs' : List Loc), P v ad' c' → nOk G cl ad' c' H' → nS G s H' locs' → W p l e R s m args below meth c H' locs' (cells + mc) (slots + ms) Q (F0 m (pc + 3) ls (v.toList ++ rest))) : W p l e R s m args below meth c H locs cells slots Q (F0 m pc ls st0) :=
  nRet (va_runSN (g := F0 m pc ls st0) S hM cw ⟨nPc.blind hKo, nPc.pre hKo hK hN hS _⟩ rfl hn hsize hstack (lv_room hW) hdg hf) hS kk
end NL
