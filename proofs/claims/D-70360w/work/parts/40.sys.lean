/-! THE SYSTEM's PICTURE: its object under the name 0, its int arrays under 1, 4, 5; the rest (lists, persons, readings, sheets, the Model) in x -/
abbrev sF (ad : Nat → Nat) (si : AI) (rn : Value) : List Value := [.int (si 0), .int (si 1), .ref (ad 1), .ref (ad 2), .ref (ad 4), .ref (ad 5), .int (si 6), .int (si 7), .ref (ad 6), .int (si 9), .ref (ad 8), rn]
def sPic (G : nG) (x : nPic) (ad : Nat → Nat) (si : AI) (sa : Nat → AI) (rn : Value) : nPic := fun i =>
  if i = 0 then some (.inr (0, sF ad si rn)) else if i = 1 then some (.inl (G.1.1 100, 6, .inl (sa 1))) else if i = 4 then some (.inl (G.1.1 100, 4, .inl (sa 4))) else if i = 5 then some (.inl (G.1.1 100, 4, .inl (sa 5))) else x i
section SP
variable {G : nG} {x : nPic} {ad : Nat → Nat} {si : AI} {sa : Nat → AI} {rn : Value}
theorem sPic_0 : sPic G x ad si sa rn 0 = some (.inr (0, sF ad si rn)) := rfl
theorem sPic_1 : sPic G x ad si sa rn 1 = some (.inl (G.1.1 100, 6, .inl (sa 1))) := rfl
theorem sPic_4 : sPic G x ad si sa rn 4 = some (.inl (G.1.1 100, 4, .inl (sa 4))) := rfl
theorem sPic_5 : sPic G x ad si sa rn 5 = some (.inl (G.1.1 100, 4, .inl (sa 5))) := rfl
theorem sPic_x {i : Nat} (h : i ≠ 0 ∧ i ≠ 1 ∧ i ≠ 4 ∧ i ≠ 5) : sPic G x ad si sa rn i = x i := by
  unfold sPic
  rw [if_neg h.1, if_neg h.2.1, if_neg h.2.2.1, if_neg h.2.2.2]
theorem sPic_put {k : Nat} {v : Int32} (hk : (sF ad si rn).set k (.int v) = sF ad (upd si k v) rn) : va_up (sPic G x ad si sa rn) 0 (some (.inr (0, (sF ad si rn).set k (.int v)))) = sPic G x ad (upd si k v) sa rn := by
  funext i
  by_cases hi : i = 0
  · subst hi
    rw [va_up_self, sPic_0, hk]
  · rw [va_up_ne _ _ hi]
    unfold sPic
    rw [if_neg hi, if_neg hi]
theorem sPic_rn {v : Value} : va_up (sPic G x ad si sa rn) 0 (some (.inr (0, (sF ad si rn).set 11 v))) = sPic G x ad si sa v := by
  funext i
  by_cases hi : i = 0
  · subst hi
    rw [va_up_self, sPic_0]
    rfl
  · rw [va_up_ne _ _ hi]
    unfold sPic
    rw [if_neg hi, if_neg hi]
theorem sPic_s1 {f : AI} : va_up (sPic G x ad si sa rn) 1 (some (.inl (G.1.1 100, 6, .inl f))) = sPic G x ad si (va_up sa 1 f) rn := by
  funext i
  by_cases h : i = 1
  · subst h; rw [va_up_self, sPic_1, va_up_self]
  · rw [va_up_ne _ _ h]
    unfold sPic
    rw [if_neg h, if_neg h, va_up_ne _ _ (by decide), va_up_ne _ _ (by decide)]
theorem sPic_s4 {f : AI} : va_up (sPic G x ad si sa rn) 4 (some (.inl (G.1.1 100, 4, .inl f))) = sPic G x ad si (va_up sa 4 f) rn := by
  funext i
  by_cases h : i = 4
  · subst h; rw [va_up_self, sPic_4, va_up_self]
  · rw [va_up_ne _ _ h]
    unfold sPic
    rw [if_neg h, if_neg h, va_up_ne _ _ (by decide), va_up_ne _ _ (by decide)]
theorem sPic_s5 {f : AI} : va_up (sPic G x ad si sa rn) 5 (some (.inl (G.1.1 100, 4, .inl f))) = sPic G x ad si (va_up sa 5 f) rn := by
  funext i
  by_cases h : i = 5
  · subst h; rw [va_up_self, sPic_5, va_up_self]
  · rw [va_up_ne _ _ h]
    unfold sPic
    rw [if_neg h, if_neg h, va_up_ne _ _ (by decide), va_up_ne _ _ (by decide)]
theorem sPic_up {i : Nat} {e : Option va_E} (h : i ≠ 0 ∧ i ≠ 1 ∧ i ≠ 4 ∧ i ≠ 5) : va_up (sPic G x ad si sa rn) i e = sPic G (va_up x i e) ad si sa rn := by
  funext j
  by_cases hj : j = i
  · subst hj; rw [va_up_self, sPic_x h, va_up_self]
  · rw [va_up_ne _ _ hj]
    unfold sPic
    rw [va_up_ne _ _ hj]
end SP
/-- a person of kind k -/
def pE (ad : Nat → Nat) (k : Nat) (a b c : Int32) : va_E := .inr (2 + k, .int a :: .int b :: .int c :: List.replicate (k + 1) (.ref (ad 0)))
def sPl (ad : Nat → Nat) (np : Nat) : Nat → Option Nat := fun j => if j < np then some (ad (20 + j)) else none
/-- the people: np of them; kd kinds, dr deeds as told of them, kn whom they know -/
def sPeo (G : nG) (ad : Nat → Nat) (x : nPic) (np : Nat) (kd dr kn : AI) : Prop :=
  np ≤ 4 ∧ (∃ (mc : Int32) (ea : Value), x 2 = some (.inr (7, [.int mc, ea, .int (nI np)])) ∧ ((np = 0 ∧ ea = .ref (nDea G)) ∨ (ea = .ref (ad 3) ∧ x 3 = some (qA (G.1.1 103) 10 (sPl ad np))))) ∧
    ∀ j, j < np → ∃ k, k < 3 ∧ kd j = nI k ∧ x (20 + j) = some (pE ad k (nI j) (dr j) (kn j))
theorem sPeo.list {G : nG} {ad : Nat → Nat} {x : nPic} {np : Nat} {kd dr kn : AI} (h : sPeo G ad x np kd dr kn) : ∃ (mc : Int32) (ea : Value), x 2 = some (.inr (7, [.int mc, ea, .int (nI np)])) := by
  obtain ⟨-, ⟨mc, ea, h1, -⟩, -⟩ := h
  exact ⟨mc, ea, h1⟩
theorem sPeo.own {G : nG} {ad : Nat → Nat} {x : nPic} {np : Nat} {kd dr kn : AI} (h : sPeo G ad x np kd dr kn) {j : Nat} (hj : j < np) : ∃ mc : Int32, x 2 = some (.inr (7, [.int mc, .ref (ad 3), .int (nI np)])) ∧ x 3 = some (qA (G.1.1 103) 10 (sPl ad np)) := by
  obtain ⟨-, ⟨mc, ea, h1, h2⟩, -⟩ := h
  rcases h2 with ⟨e, -⟩ | ⟨e, h3⟩
  · omega
  · subst e
    exact ⟨mc, h1, h3⟩
theorem sPl_at {ad : Nat → Nat} {np j : Nat} (hj : j < np) : va_rf (sPl ad np j) = .ref (ad (20 + j)) := by
  unfold sPl
  rw [if_pos hj]
  rfl
