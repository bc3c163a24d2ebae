/-! THE MODEL's PICTURE: its object under the name 50, the array of field k under 50 + k; fi: its int fields, fa: its arrays -/
abbrev nCl : List vw_C := [(RX0, TX0, 12), (RX1, TX1, 25), (RX5, TX5, 4), (RX6, TX6, 5), (RX7, TX7, 6), (RX9, TX9, 2), (RX10, TX10, 1), (RJ2, TJ2, 3), (RX4, TX4, 7), (RX8, TX8, 7), (RX11, TX11, 7), (RX12, TX12, 4)]
abbrev nTy (G : nG) : List (ClassId × FieldType) := [(G.1.1 100, .int), (G.1.1 101, .byte), (G.1.1 102, .short), (G.1.1 103, .object "java/lang/Object"), (G.1.1 104, .object "TowerTell$Sheet")]
def nK (G : nG) (U : State) : Prop := va_K G.1 nCl (nTy G) U
theorem nK_o (G : nG) : nKo G (nK G) := fun u U hW _ h => va_K.moved hW.alike h
def mL (k : Nat) : Nat := match k with
  | 2 => 4 | 3 => 4 | 4 => 240 | 7 => 6 | 8 => 4 | 9 => 4 | 10 => 4 | 11 => 4 | 15 => 6 | 16 => 12 | 17 => 4 | 19 => 20 | 20 => 20 | 23 => 8 | 24 => 8 | _ => 0
def mA (k : Nat) : Bool := match k with
  | 2 => true | 3 => true | 4 => true | 7 => true | 8 => true | 9 => true | 10 => true | 11 => true | 15 => true | 16 => true | 17 => true | 19 => true | 20 => true | 23 => true | 24 => true | _ => false
theorem mL_lt (k : Nat) : mL k < 2 ^ 31 := by
  unfold mL
  split <;> decide
abbrev mF (ad : Nat → Nat) (fi : Nat → Int32) : List Value := [.int (fi 0), .int (fi 1), .ref (ad 52), .ref (ad 53), .ref (ad 54), .int (fi 5), .int (fi 6), .ref (ad 57), .ref (ad 58), .ref (ad 59), .ref (ad 60), .ref (ad 61), .int (fi 12), .int (fi 13), .int (fi 14), .ref (ad 65), .ref (ad 66), .ref (ad 67), .int (fi 18), .ref (ad 69), .ref (ad 70), .int (fi 21), .int (fi 22), .ref (ad 73), .ref (ad 74)]
def mPic (G : nG) (x : nPic) (ad : Nat → Nat) (fi : Nat → Int32) (fa : Nat → Nat → Int32) : nPic := fun i =>
  if i = 50 then some (.inr (1, mF ad fi)) else if mA (i - 50) = true then some (.inl (G.1.1 100, mL (i - 50), .inl (fa (i - 50)))) else x i
theorem mPic_o {G : nG} {x : nPic} {ad : Nat → Nat} {fi : Nat → Int32} {fa : Nat → Nat → Int32} : mPic G x ad fi fa 50 = some (.inr (1, mF ad fi)) := if_pos rfl
theorem mPic_a {G : nG} {x : nPic} {ad : Nat → Nat} {fi : Nat → Int32} {fa : Nat → Nat → Int32} {k : Nat} (hk : mA k = true) : mPic G x ad fi fa (50 + k) = some (.inl (G.1.1 100, mL k, .inl (fa k))) := by
  have h0 : k ≠ 0 := by intro h; subst h; cases hk
  unfold mPic
  rw [if_neg (by omega), Nat.add_sub_cancel_left, if_pos hk]
theorem mPic_put {G : nG} {x : nPic} {ad : Nat → Nat} {fi : Nat → Int32} {fa : Nat → Nat → Int32} {k : Nat} {v : Int32} (hk : (mF ad fi).set k (.int v) = mF ad (upd fi k v)) : va_up (mPic G x ad fi fa) 50 (some (.inr (1, (mF ad fi).set k (.int v)))) = mPic G x ad (upd fi k v) fa := by
  funext i
  by_cases hi : i = 50
  · subst hi
    rw [va_up_self, mPic_o, hk]
  · rw [va_up_ne _ _ hi]
    unfold mPic
    rw [if_neg hi, if_neg hi]
theorem mPic_st {G : nG} {x : nPic} {ad : Nat → Nat} {fi : Nat → Int32} {fa : Nat → Nat → Int32} {k : Nat} {f : Nat → Int32} (hk : mA k = true) : va_up (mPic G x ad fi fa) (50 + k) (some (.inl (G.1.1 100, mL k, .inl f))) = mPic G x ad fi (va_up fa k f) := by
  have h0 : k ≠ 0 := by intro h; subst h; cases hk
  funext i
  by_cases hi : i = 50 + k
  · subst hi
    rw [va_up_self, mPic_a hk, va_up_self]
  · rw [va_up_ne _ _ hi]
    unfold mPic
    by_cases h5 : i = 50
    · rw [if_pos h5, if_pos h5]
    · rw [if_neg h5, if_neg h5]
      by_cases ha : mA (i - 50) = true
      · have hne : i - 50 ≠ k := by
          intro q
          by_cases hl : 50 ≤ i
          · omega
          · rw [show i - 50 = 0 by omega] at q
            omega
        rw [if_pos ha, if_pos ha, va_up_ne _ _ hne]
      · rw [if_neg ha, if_neg ha]
def mP (G : nG) (ad : Nat → Nat) (x : nPic) (P : Option Value → (Nat → Int32) → (Nat → Nat → Int32) → Prop) : Option Value → (Nat → Nat) → nPic → Prop := fun v ad' c' => ∃ (fi' : Nat → Int32) (fa' : Nat → Nat → Int32), ad = ad' ∧ c' = mPic G x ad fi' fa' ∧ P v fi' fa'
/-- rooms by level -/
abbrev mR (n : Nat) : Room := { frames := n + 1, cells := 0, slots := 0, locals := 64 * (n + 1) }
section MR
variable {p : Program} {l : Launch} {e : Env} {R : Room} {s : State} {m : MethodId} {args : Array Value} {below : List Frame} {meth : Method} {c : Code} {H : Heap} {locs : List Loc} {cells slots : Nat} {Q : State → Prop}
variable {cc : ByteArray} {pc nL : Nat} {ls : Array Slot} {rest st0 : List Value} {G : nG} {ad : Nat → Nat} {x : nPic} {fi : Nat → Int32} {fa : Nat → Nat → Int32}
theorem m_get (S : CallFix p m c cc nL s args lw_all RX1) (hK : nK G s) (hN : nOk G nCl ad (mPic G x ad fi fa) H) (k : Nat) {index : Nat} {v : Value} (hk : k < 25) (hlink : Cond.fieldLink RX1 index RX1 (TX1 k).2.1 (TX1 k).2.2.1 ∈ lw_all) (ht : (TX1 k).1 = RX1) (hv : (mF ad fi)[k]? = some v) (hdg : decode cc pc = .ok (.getfield index, 3))
    (kk : W p l e R s m args below meth c H locs cells slots Q (F0 m (pc + 3) ls (v :: rest))) : W p l e R s m args below meth c H locs cells slots Q (F0 m pc ls (.ref (ad 50) :: rest)) :=
  n_get (ci := 1) (T := TX1) S.1 S.2.1 S.2.2.2.2 in_X1 S.2.2.2.1 hK hN 50 mPic_o rfl k hk hlink (fun z h => by rw [ht] at h; exact h) hv hdg kk
theorem m_put (S : CallFix p m c cc nL s args lw_all RX1) (hK : nK G s) (hN : nOk G nCl ad (mPic G x ad fi fa) H) (hS : nS G s H locs) (k : Nat) {index : Nat} {v : Int32} (hk : k < 25) (hlink : Cond.fieldLink RX1 index RX1 (TX1 k).2.1 (TX1 k).2.2.1 ∈ lw_all) (ht : (TX1 k).1 = RX1) (hfin : (TX1 k).2.2.2 = false) (hty : tyX1 k = .int) (hv : (mF ad fi).set k (.int v) = mF ad (upd fi k v)) (hdg : decode cc pc = .ok (.putfield index, 3))
    (kk : ∀ (H1 : Heap) (locs1 : List Loc), nOk G nCl ad (mPic G x ad (upd fi k v) fa) H1 → nS G s H1 locs1 → W p l e R s m args below meth c H1 locs1 cells slots Q (F0 m (pc + 3) ls rest)) : W p l e R s m args below meth c H locs cells slots Q (F0 m pc ls (.int v :: .ref (ad 50) :: rest)) := by
  refine n_put (ci := 1) (T := TX1) S.1 S.2.1 S.2.2.2.2 in_X1 tyX1 tyX1_ok (va_apart (own := RX1) S.2.2.2.2 in_X1 tyX1 tyX1_ok nmX1 hK rfl) S.2.2.2.1 hK hN hS 50 mPic_o rfl k hk hlink (fun z h => by rw [ht] at h; exact h) hfin (by rw [hty]; rfl) (by rw [hty]; rfl) (by show k < 25; exact hk) hdg ?_
  intro H1 locs1 hN1 hS1
  rw [mPic_put hv] at hN1
  exact kk H1 locs1 hN1 hS1
theorem m_ald (S : CallFix p m c cc nL s args lw_all RX1) (hK : nK G s) (hN : nOk G nCl ad (mPic G x ad fi fa) H) (k : Nat) (hA : mA k = true) {i : Int32} (j : Nat) (hi : i = nI j) (hj : j < mL k) (hdg : decode cc pc = .ok (.iaload, 1))
    (kk : W p l e R s m args below meth c H locs cells slots Q (F0 m (pc + 1) ls (.int (fa k j) :: rest))) : W p l e R s m args below meth c H locs cells slots Q (F0 m pc ls (.int i :: .ref (ad (50 + k)) :: rest)) :=
  n_iald S.1 S.2.1 hK hN (50 + k) 0 (mPic_a hA) rfl j hi hj (mL_lt k) hdg kk
theorem m_ast (S : CallFix p m c cc nL s args lw_all RX1) (hK : nK G s) (hN : nOk G nCl ad (mPic G x ad fi fa) H) (hS : nS G s H locs) (k : Nat) (hA : mA k = true) {i v : Int32} (j : Nat) (hi : i = nI j) (hj : j < mL k) (hdg : decode cc pc = .ok (.iastore, 1))
    (kk : ∀ (H1 : Heap) (locs1 : List Loc), nOk G nCl ad (mPic G x ad fi (va_up fa k (upd (fa k) j v))) H1 → nS G s H1 locs1 → W p l e R s m args below meth c H1 locs1 cells slots Q (F0 m (pc + 1) ls rest)) : W p l e R s m args below meth c H locs cells slots Q (F0 m pc ls (.int v :: .int i :: .ref (ad (50 + k)) :: rest)) := by
  refine n_iast S.1 S.2.1 hK hN hS (50 + k) 0 (mPic_a hA) rfl j hi hj (mL_lt k) hdg ?_
  intro H1 locs1 hN1 hS1
  rw [mPic_st hA] at hN1
  exact kk H1 locs1 hN1 hS1
end MR
section NT
variable {p : Program} {l : Launch} {e : Env} {R : Room} {s : State} {m : MethodId} {args : Array Value} {below : List Frame} {meth : Method} {c : Code} {H : Heap} {locs : List Loc} {cells slots : Nat} {Q : State → Prop}
variable {pc : Nat} {ls : Array Slot} {rest : List Value}
theorem n_top {x y : Int32} (h : x = y) (k : W p l e R s m args below meth c H locs cells slots Q (F0 m pc ls (.int y :: rest))) : W p l e R s m args below meth c H locs cells slots Q (F0 m pc ls (.int x :: rest)) := by
  subst h
  exact k
theorem n_topl {x y : Int64} (h : x = y) (k : W p l e R s m args below meth c H locs cells slots Q (F0 m pc ls (.long y :: rest))) : W p l e R s m args below meth c H locs cells slots Q (F0 m pc ls (.long x :: rest)) := by
  subst h
  exact k
end NT
/-- a number within 0 .. n - 1 -/
def sIn (d : Int32) (n : Nat) : Bool := !decide (d < 0) && !decide (nI n ≤ d)
theorem sIn_t {d : Int32} {n : Nat} (hn : n < 2 ^ 31) (h : sIn d n = true) : ∃ j : Nat, j < n ∧ d = nI j ∧ d.toNatClampNeg = j := by
  unfold sIn at h
  simp only [Bool.and_eq_true, Bool.not_eq_true', decide_eq_false_iff_not] at h
  obtain ⟨j, hj, e⟩ : ∃ j : Nat, j < n ∧ d = nI j := by
    rcases pk_ix d hn with q | q | q
    · exact absurd q h.1
    · exact absurd q h.2
    · exact q
  exact ⟨j, hj, e, by rw [e]; exact nI_clamp (by omega)⟩
theorem sIn_nI {j n : Nat} (hn : n < 2 ^ 31) (hj : j < n) : sIn (nI j) n = true := by
  unfold sIn
  simp only [Bool.and_eq_true, Bool.not_eq_true', decide_eq_false_iff_not]
  exact ⟨nI_pos (by omega), nI_ge hj hn⟩
theorem sIn_nI' {j n : Nat} (hj : j < 2 ^ 31) (h : n ≤ j) : sIn (nI j) n = false := by
  unfold sIn
  have := nI_le h hj
  simp [this]
/-- between two numbers -/
def sBt (v a b : Int32) : Bool := !decide (v < a) && !decide (b < v)
theorem nI_inc (d : Nat) : nI d + Int32.ofInt 1 = nI (d + 1) := nI_1 d
