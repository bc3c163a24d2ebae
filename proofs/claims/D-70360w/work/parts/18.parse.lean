/-! THE TEXT OF A TOWER: cd: its codes, n of them -/
def pd (cd : AI) (n p : Nat) (lo hi : Int32) : Bool := decide (p < n) && sBt (cd p) (48 + lo) (48 + hi)
def pSg (cd : AI) (n p : Nat) (c : Int32) : Bool := decide (p < n) && decide (cd p = c)
def pK (c : Int32) : Int32 := if c = 112 then 0 else if c = 114 then 1 else if c = 97 then 2 else -9
/-- a person's text from p on: whether it stands, where it ends or is wrong -/
def pOnes (cd : AI) (p : Nat) : Int32 := if cd (p + 1) - 48 = 6 then 3 else 9
def pPer (cd : AI) (n p : Nat) : Bool × Nat :=
  if p < n ∧ ¬ pK (cd p) = -9 then (if pd cd n (p + 1) 0 6 = true then (if pd cd n (p + 2) 0 (pOnes cd p) = true then (if pd cd n (p + 3) 0 4 = true then (true, p + 4) else (false, p + 3)) else (false, p + 2)) else (false, p + 1)) else (false, p)
def pD (cd : AI) (n : Nat) : Nat → Nat → Nat → AI → Bool × Nat × Nat × AI
  | 0, p, m, wr => (false, p, m, wr)
  | f + 1, p, m, wr => if m < 6 ∧ pSg cd n p 45 = true then (if pd cd n (p + 1) 1 9 = true then pD cd n f (p + 2) (m + 1) (upd wr m (cd (p + 1) - 48)) else (false, p + 1, m, wr)) else (decide (¬ m = 0), p, m, wr)
def pP (cd : AI) (n : Nat) : Nat → Nat → Nat → AI → AI → AI → Bool × Nat × Nat × AI × AI × AI
  | 0, p, k, kr, dr, nr => (false, p, k, kr, dr, nr)
  | f + 1, p, k, kr, dr, nr =>
    if k = 0 ∨ (k < 4 ∧ p < n) then
      (if pSg cd n p 44 = true then (if (pPer cd n (p + 1)).1 = true then pP cd n f (p + 5) (k + 1) (upd kr k (pK (cd (p + 1)))) (upd dr k (10 * (cd (p + 2) - 48) + (cd (p + 3) - 48))) (upd nr k (cd (p + 4) - 48)) else (false, (pPer cd n (p + 1)).2, k, kr, dr, nr)) else (false, p, k, kr, dr, nr))
    else (decide (p = n), p, k, kr, dr, nr)
abbrev pZ : AI := fun _ => 0
/-- whether it stands, where it is wrong, deeds and their weights, people and their kinds, deeds, whom they know -/
def pT (cd : AI) (n : Nat) : Bool × Nat × (Nat × AI) × (Nat × AI × AI × AI) :=
  if pSg cd n 0 117 = true then
    (if (pD cd n 8 1 0 pZ).1 = true then
      ((pP cd n 6 (pD cd n 8 1 0 pZ).2.1 0 pZ pZ pZ).1, (pP cd n 6 (pD cd n 8 1 0 pZ).2.1 0 pZ pZ pZ).2.1, (pD cd n 8 1 0 pZ).2.2, (pP cd n 6 (pD cd n 8 1 0 pZ).2.1 0 pZ pZ pZ).2.2)
    else (false, (pD cd n 8 1 0 pZ).2.1, (0, pZ), (0, pZ, pZ, pZ)))
  else (false, 0, (0, pZ), (0, pZ, pZ, pZ))
theorem pSg_lt {cd : AI} {n p : Nat} {c : Int32} (h : pSg cd n p c = true) : p < n ∧ cd p = c := by
  unfold pSg at h
  simpa using h
theorem pd_lt {cd : AI} {n p : Nat} {lo hi : Int32} (h : pd cd n p lo hi = true) : p < n := by
  unfold pd at h
  simp only [Bool.and_eq_true, decide_eq_true_eq] at h
  exact h.1
theorem sBt_sub {x : Int32} {a b : Nat} (ha : a < 2 ^ 20) (hb : b < 2 ^ 20) (h : sBt x (nI (48 + a)) (nI (48 + b)) = true) : ∃ j : Nat, a ≤ j ∧ j ≤ b ∧ x - 48 = nI j ∧ x = nI (48 + j) := by
  unfold sBt at h
  simp only [Bool.and_eq_true, Bool.not_eq_true', decide_eq_false_iff_not] at h
  have hx2 := Int32.lt_iff_toInt_lt (x := nI (48 + b)) (y := x)
  have hx1 := Int32.lt_iff_toInt_lt (x := x) (y := nI (48 + a))
  rw [nI_toInt (by omega)] at hx1 hx2
  have g1 : ¬ x.toInt < ((48 + a : Nat) : Int) := fun z => h.1 (hx1.mpr z)
  have g2 : ¬ ((48 + b : Nat) : Int) < x.toInt := fun z => h.2 (hx2.mpr z)
  have hn : ¬ x < 0 := by
    intro z
    have := Int32.lt_iff_toInt_lt.mp z
    have e0 : (0 : Int32).toInt = 0 := rfl
    omega
  obtain ⟨j, hj, e⟩ := nI_of hn
  subst e
  rw [nI_toInt hj] at g1 g2
  refine ⟨j - 48, by omega, by omega, pk_sub (b := 48) (by omega), ?_⟩
  rw [show 48 + (j - 48) = j by omega]
/-- a figure's value -/
theorem pd_v {cd : AI} {n p : Nat} (lo hi : Nat) (hlo : lo < 2 ^ 20 := by decide) (hhi : hi < 2 ^ 20 := by decide) (h : pd cd n p (nI lo) (nI hi) = true) : p < n ∧ ∃ j : Nat, lo ≤ j ∧ j ≤ hi ∧ cd p - 48 = nI j := by
  unfold pd at h
  simp only [Bool.and_eq_true, decide_eq_true_eq] at h
  obtain ⟨j, h1, h2, h3, -⟩ := sBt_sub hlo hhi (by have := h.2; rwa [show (48 + nI lo : Int32) = nI (48 + lo) from nI_add 48 lo, show (48 + nI hi : Int32) = nI (48 + hi) from nI_add 48 hi] at this)
  exact ⟨h.1, j, h1, h2, h3⟩
theorem pOnes_in (cd : AI) (p : Nat) : pOnes cd p = nI 3 ∨ pOnes cd p = nI 9 := by
  unfold pOnes
  split
  · exact Or.inl rfl
  · exact Or.inr rfl
theorem pd_nn {cd : AI} {n p : Nat} {lo hi : Int32} (hl : lo = nI 0 ∨ lo = nI 1) (hh : hi = nI 3 ∨ hi = nI 4 ∨ hi = nI 6 ∨ hi = nI 9) (h : pd cd n p lo hi = true) : ¬ cd p - 48 = -9 := by
  have key : ∀ a b : Nat, a < 2 ^ 20 → b < 2 ^ 20 → pd cd n p (nI a) (nI b) = true → ¬ cd p - 48 = -9 := by
    intro a b ha hb q
    obtain ⟨-, j, h1, h2, h3⟩ := pd_v a b ha hb q
    rw [h3]
    intro z
    have e := congrArg Int32.toInt z
    rw [nI_toInt (by omega)] at e
    have e9 : (-9 : Int32).toInt = -9 := by decide
    omega
  rcases hl with rfl | rfl <;> rcases hh with rfl | rfl | rfl | rfl
  all_goals exact key _ _ (by decide) (by decide) h
/-- new: taken from f below n, else as it was -/
def pTk (n : Nat) (f g : AI) : AI := fun j => if j < n then f j else g j
theorem pTk_s (f g : AI) (d : Nat) : upd (pTk d f g) d (f d) = pTk (d + 1) f g := upd_lt f g d
theorem pTk_0 (f g : AI) : pTk 0 f g = g := by
  funext j
  unfold pTk
  rw [if_neg (by omega)]
theorem up4 (F : Nat → AI) (p8 p9 p10 p11 q8 q9 q10 q11 : AI) : va_up (va_up (va_up (va_up (va_up (va_up (va_up (va_up F 8 p8) 9 p9) 10 p10) 11 p11) 8 q8) 9 q9) 10 q10) 11 q11 = va_up (va_up (va_up (va_up F 8 q8) 9 q9) 10 q10) 11 q11 := by
  funext k
  by_cases h11 : k = 11
  · subst h11; rw [va_up_self, va_up_self]
  by_cases h10 : k = 10
  · subst h10; simp [va_up]
  by_cases h9 : k = 9
  · subst h9; simp [va_up]
  by_cases h8 : k = 8
  · subst h8; simp [va_up]
  simp [va_up, h11, h10, h9, h8]
/-- the tower: answer, fault, whether taken -/
def oTwr (so sl ce : AI) (k sort i n : Int32) : Int32 × Int32 × Bool :=
  if sBt k 0 3 = true then
    (if sBt sort 0 2 = true then
      (if sAgn so sl (tn k) sort i n = 0 then
        (if (pT (fun p => ce (60 * tn k + tn i + p)) (tn n)).1 = true then (nI (pT (fun p => ce (60 * tn k + tn i + p)) (tn n)).2.2.2.1, 0, true) else (-100 - nI (pT (fun p => ce (60 * tn k + tn i + p)) (tn n)).2.1, 0, false))
      else (-10 - sAgn so sl (tn k) sort i n, sAgn so sl (tn k) sort i n, false)) else (-2, 0, false)) else (-1, 0, false)
theorem pPer_t {cd : AI} {n p : Nat} (h : (pPer cd n p).1 = true) : (pPer cd n p).2 = p + 4 ∧ p + 4 ≤ n := by
  unfold pPer at h ⊢
  split at h
  · rename_i h1
    rw [if_pos h1]
    split at h
    · rename_i h2
      rw [if_pos h2]
      split at h
      · rename_i h3
        rw [if_pos h3]
        split at h
        · rename_i h4
          rw [if_pos h4]
          have := pd_lt h4
          exact ⟨rfl, by omega⟩
        · exact absurd h (by simp)
      · exact absurd h (by simp)
    · exact absurd h (by simp)
  · exact absurd h (by simp)
theorem pD_s {cd : AI} {n f p m : Nat} {wr : AI} (h1 : m < 6) (h2 : pSg cd n p 45 = true) (h3 : pd cd n (p + 1) 1 9 = true) : pD cd n (f + 1) p m wr = pD cd n f (p + 2) (m + 1) (upd wr m (cd (p + 1) - 48)) := by
  rw [pD, if_pos ⟨h1, h2⟩, if_pos h3]
theorem sAgn_00 {so sl : AI} {k L : Nat} {sort i n : Int32} (hL : sl k = nI L) (hL6 : L ≤ 60) (h : sAgn so sl k sort i n = 0) : so k = sort ∧ ¬ so k = -9 ∧ ∃ ii m : Nat, i = nI ii ∧ tn i = ii ∧ n = nI m ∧ tn n = m ∧ ii + m ≤ L := by
  unfold sAgn at h
  by_cases h1 : ¬ so k = -9 ∧ ¬ so k = sort
  · rw [if_pos h1] at h; exact absurd h (by decide)
  rw [if_neg h1] at h
  by_cases h2 : so k = -9
  · rw [if_pos h2] at h; exact absurd h (by decide)
  rw [if_neg h2] at h
  by_cases hn : n < 0
  · rw [if_pos hn] at h; exact absurd h (by decide)
  rw [if_neg hn] at h
  by_cases h4 : i < 0 ∨ sl k < i ∨ sl k - i < n
  · rw [if_pos h4] at h; exact absurd h (by decide)
  obtain ⟨m, hm, e⟩ := nI_of hn
  subst e
  have g1 : ¬ i < 0 := fun z => h4 (Or.inl z)
  have g2 : ¬ sl k < i := fun z => h4 (Or.inr (Or.inl z))
  have g3 : ¬ sl k - i < nI m := fun z => h4 (Or.inr (Or.inr z))
  obtain ⟨ii, hii, e⟩ := nI_of g1
  subst e
  rw [hL] at g2 g3
  have g2 : ii ≤ L := by
    rcases Nat.lt_or_ge L ii with q | q
    · exact absurd (nI_lt q hii) g2
    · exact q
  rw [pk_sub g2] at g3
  have g3 : m ≤ L - ii := by
    rcases Nat.lt_or_ge (L - ii) m with q | q
    · exact absurd (nI_lt q hm) g3
    · exact q
  refine ⟨?_, h2, ii, m, rfl, tn_nI hii, rfl, tn_nI hm, by omega⟩
  by_cases e : so k = sort
  · exact e
  · exact absurd ⟨h2, e⟩ h1
/-- the arrays behind a tower that is taken -/
def oTwN (fa : Nat → AI) (T : Bool × Nat × (Nat × AI) × (Nat × AI × AI × AI)) : Nat → AI :=
  va_up (va_up (va_up (va_up (va_up fa 7 (pTk T.2.2.1.1 T.2.2.1.2 (fa 7))) 8 (pTk T.2.2.2.1 T.2.2.2.2.1 (fa 8))) 9 (pTk T.2.2.2.1 (fun j => T.2.2.2.2.2.1 j &&& sMsk T.2.2.1.1) (fa 9))) 10 (pTk T.2.2.2.1 T.2.2.2.2.2.2 (fa 10))) 11 (pTk T.2.2.2.1 pZ (fa 11))
theorem pTk_c {n : Nat} {f f' g g' : AI} (h : ∀ j, j < n → f j = f' j) (hg : g = g') : pTk n f g = pTk n f' g' := by
  funext j
  unfold pTk
  by_cases hj : j < n
  · rw [if_pos hj, if_pos hj, h j hj]
  · rw [if_neg hj, if_neg hj, hg]
theorem twTake {fi fi2 : AI} {fa fa2 : Nat → AI} {v : Int32} {T : Bool × Nat × (Nat × AI) × (Nat × AI × AI × AI)} (rE : mEq (upd (upd fi 0 0) 12 v) fa fi2 fa2) (h15 : ∀ j, j < T.2.2.1.1 → fa2 15 j = T.2.2.1.2 j) (h16 : ∀ j, j < T.2.2.2.1 → fa2 16 (3 * j) = T.2.2.2.2.1 j ∧ fa2 16 (3 * j + 1) = T.2.2.2.2.2.1 j ∧ fa2 16 (3 * j + 2) = T.2.2.2.2.2.2 j) :
    mEq (upd (upd (upd (upd fi 0 0) 5 (nI T.2.2.1.1)) 6 (nI T.2.2.2.1)) 22 0) (oTwN fa T) (upd (upd (upd fi2 5 (nI T.2.2.1.1)) 6 (nI T.2.2.2.1)) 22 0)
      (va_up (va_up (va_up (va_up (va_up fa2 7 (pTk T.2.2.1.1 (fa2 15) (fa2 7))) 8 (pTk T.2.2.2.1 (fun j => fa2 16 (3 * j)) (fa2 8))) 9 (pTk T.2.2.2.1 (fun j => fa2 16 (3 * j + 1) &&& sMsk T.2.2.1.1) (fa2 9))) 10 (pTk T.2.2.2.1 (fun j => fa2 16 (3 * j + 2)) (fa2 10))) 11 (pTk T.2.2.2.1 pZ (fa2 11))) := by
  obtain ⟨⟨a0, a1, a5, a6, a22⟩, b2, b3, b4, b7, b8, b9, b10, b11, b23, b24⟩ := rE
  exact ⟨⟨a0, a1, rfl, rfl, rfl⟩, b2, b3, b4, pTk_c h15 b7, pTk_c (fun j hj => (h16 j hj).1) b8, pTk_c (fun j hj => by rw [(h16 j hj).2.1]) b9, pTk_c (fun j hj => (h16 j hj).2.2) b10, pTk_c (fun _ _ => rfl) b11, b23, b24⟩
