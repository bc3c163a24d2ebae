theorem pk_sub1 {n : Nat} (h : 0 < n) : nI n - 1 = nI (n - 1) := by
  obtain ⟨k, rfl⟩ : ∃ k, n = k + 1 := ⟨n - 1, by omega⟩
  exact nI_pred k
theorem n_lk2 {x : Int} (h1 : ¬ x = (1 : Int32).toInt) (h2 : ¬ x = (2 : Int32).toInt) {a b d : Int} : Op.lookupswitch.offset [(1, a), (2, b)] d x = d := by
  have e1 : ¬ x = 1 := h1
  have e2 : ¬ x = 2 := h2
  simp [Op.lookupswitch.offset, e1, e2, Ne.symm e1, Ne.symm e2]
  try (intro h; exact absurd h.symm e1)
theorem va_id3 (fa : Nat → AI) : va_up (va_up (va_up fa 2 (fa 2)) 3 (fa 3)) 4 (fa 4) = fa := by
  rw [va_up_id fa 2 _ rfl, va_up_id fa 3 _ rfl, va_up_id fa 4 _ rfl]
