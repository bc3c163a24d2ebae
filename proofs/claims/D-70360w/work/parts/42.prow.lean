/-! A PERSON of whatever kind; between, by longs. Printed by wip/gen/r42.py -/
theorem l_lt (a b : Int32) : lg_cmp a.toInt64 b.toInt64 < 0 ↔ a < b := by
  unfold lg_cmp
  have e1 : a.toInt64.toInt = a.toInt := by simp
  have e2 : b.toInt64.toInt = b.toInt := by simp
  by_cases h : a.toInt64 > b.toInt64
  · rw [if_pos h]
    have h1 := Int64.lt_iff_toInt_lt.mp h
    rw [e1, e2] at h1
    rw [Int32.lt_iff_toInt_lt (x := a)]
    exact ⟨fun z => absurd z (by decide), fun z => absurd z (by omega)⟩
  · rw [if_neg h]
    have h1 : ¬ b.toInt < a.toInt := fun z => h (Int64.lt_iff_toInt_lt.mpr (by rw [e1, e2]; exact z))
    rw [Int32.lt_iff_toInt_lt (x := a)]
    by_cases h2 : a.toInt64 = b.toInt64
    · rw [if_pos h2]
      have h3 : a.toInt = b.toInt := by rw [← e1, ← e2, h2]
      exact ⟨fun z => absurd z (by decide), fun z => absurd z (by omega)⟩
    · rw [if_neg h2]
      have h3 : a.toInt ≠ b.toInt := fun z => h2 (Int64.toInt_inj.mp (by rw [e1, e2]; exact z))
      exact ⟨fun _ => by omega, fun _ => by decide⟩
theorem l_gt (a b : Int32) : 0 < lg_cmp a.toInt64 b.toInt64 ↔ b < a := by
  unfold lg_cmp
  have e1 : a.toInt64.toInt = a.toInt := by simp
  have e2 : b.toInt64.toInt = b.toInt := by simp
  by_cases h : a.toInt64 > b.toInt64
  · rw [if_pos h]
    have h1 := Int64.lt_iff_toInt_lt.mp h
    rw [e1, e2] at h1
    exact ⟨fun _ => Int32.lt_iff_toInt_lt.mpr h1, fun _ => by decide⟩
  · rw [if_neg h]
    have h1 : ¬ b < a := fun z => h (Int64.lt_iff_toInt_lt.mpr (by rw [e1, e2]; exact Int32.lt_iff_toInt_lt.mp z))
    refine ⟨fun z => ?_, fun z => absurd z h1⟩
    split at z
    · exact absurd z (by decide)
    · exact absurd z (by decide)
def nPer (c0 : nPic) (ad : Nat → Nat) (i : Nat) (a b kk : Int32) : Prop := ∃ k, k < 3 ∧ c0 i = some (pE ad k a b kk)
section NP
variable {p : Program} {l : Launch} {e : Env} {R : Room} {s : State} {m : MethodId} {args : Array Value} {below : List Frame} {meth : Method} {c : Code} {H : Heap} {locs : List Loc} {cells slots : Nat} {Q : State → Prop}
variable {cc : ByteArray} {pc : Nat} {ls : Array Slot} {rest : List Value} {G : nG} {cl : List vw_C} {ad : Nat → Nat} {c0 : nPic} {tys : List (ClassId × FieldType)}
variable {a b kk : Int32}
theorem n_castP (hexec : p.tables.exec = Jvm.exec) (hb : c.code = cc) {own : String} {index : Nat} (hts : ∀ w ∈ lw_all, w.before args s = true) (hown : s.vm.findClass own = some m.cls) (hlink : Cond.classLink own index "TowerTell$Person" ∈ lw_all) (hK : sK0 G s) (hN : nOk G nCl ad c0 H) {i : Nat} (h : nPer c0 ad i a b kk) (hdg : decode cc pc = .ok (.checkcast index, 3))
    (k : W p l e R s m args below meth c H locs cells slots Q (F0 m (pc + 3) ls (.ref (ad i) :: rest))) : W p l e R s m args below meth c H locs cells slots Q (F0 m pc ls (.ref (ad i) :: rest)) := by
  obtain ⟨hKv, hKw, -⟩ := hK
  obtain ⟨j, hj, he⟩ := h
  rcases (show j = 0 ∨ j = 1 ∨ j = 2 by omega) with z | z | z <;> subst z
  · exact va_castE hexec hb hown (hts _ hlink) (n_recv hKv hN he (C := RX5) rfl) hdg k
  · exact n_cast hexec hb hts hown hlink (C := RX6) (hKw _ q1437 rfl) hKv hN he rfl hdg k
  · exact n_cast hexec hb hts hown hlink (C := RX7) (hKw _ q1436 rfl) hKv hN he rfl hdg k
theorem n_getP (hexec : p.tables.exec = Jvm.exec) (hb : c.code = cc) {own : String} {index : Nat} (hts : ∀ w ∈ lw_all, w.before args s = true) (hown : s.vm.findClass own = some m.cls) (hK : sK0 G s) (hN : nOk G nCl ad c0 H) (k : Nat) (hk : k < 3) (hlink : Cond.fieldLink own index RX5 (TX5 k).2.1 (TX5 k).2.2.1 ∈ lw_all) {i : Nat} {kn_ : Int32} (h : nPer c0 ad i a b kn_) {v : Int32} (hv : ([a, b, kn_] : List Int32)[k]? = some v) (hdg : decode cc pc = .ok (.getfield index, 3))
    (kk : W p l e R s m args below meth c H locs cells slots Q (F0 m (pc + 3) ls (.int v :: rest))) : W p l e R s m args below meth c H locs cells slots Q (F0 m pc ls (.ref (ad i) :: rest)) := by
  obtain ⟨hKv, hKw, -⟩ := hK
  obtain ⟨j, hj, he⟩ := h
  have e0 : (TX5 k).1 = RX5 := by rcases (show k = 0 ∨ k = 1 ∨ k = 2 by omega) with z | z | z <;> subst z <;> rfl
  have e6 : TX6 k = TX5 k := by rcases (show k = 0 ∨ k = 1 ∨ k = 2 by omega) with z | z | z <;> subst z <;> rfl
  have e7 : TX7 k = TX5 k := by rcases (show k = 0 ∨ k = 1 ∨ k = 2 by omega) with z | z | z <;> subst z <;> rfl
  have hv2 : ∀ (w : List Value), ((.int a :: .int b :: .int kn_ :: w) : List Value)[k]? = some (.int v) := by
    intro w
    rcases (show k = 0 ∨ k = 1 ∨ k = 2 by omega) with z | z | z <;> subst z <;> (cases hv; rfl)
  rcases (show j = 0 ∨ j = 1 ∨ j = 2 by omega) with z | z | z <;> subst z
  · exact n_get (ci := 2) (C := RX5) (T := TX5) (N := 4) hexec hb hts in_X5 hown hKv hN i he rfl k (by omega) hlink (fun z h => by rw [e0] at h; exact h) (hv2 _) hdg kk
  · exact n_get (ci := 3) (C := RX6) (T := TX6) (N := 5) hexec hb hts in_X6 hown hKv hN i he rfl k (by omega) (by rw [e6]; exact hlink) (fun z h => by rw [e6] at h ⊢; rw [e0] at h; exact h) (hv2 _) hdg kk
  · exact n_get (ci := 4) (C := RX7) (T := TX7) (N := 6) hexec hb hts in_X7 hown hKv hN i he rfl k (by omega) (by rw [e7]; exact hlink) (fun z h => by rw [e7] at h ⊢; rw [e0] at h; exact h) (hv2 _) hdg kk
end NP
theorem sPeo.per {G : nG} {ad : Nat → Nat} {x : nPic} {np : Nat} {kd dr kn si : AI} {sa : Nat → AI} {rn : Value} (h : sPeo G ad x np kd dr kn) {j : Nat} (hj : j < np) : nPer (sPic G x ad si sa rn) ad (20 + j) (nI j) (dr j) (kn j) := by
  obtain ⟨k, h1, -, h2⟩ := h.2.2 j hj
  exact ⟨k, h1, (sPic_x ⟨by omega, by omega, by omega, by omega⟩).trans h2⟩
