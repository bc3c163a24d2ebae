/-! THE OPERATIONS by the spec: answer, and what changes -/
def oWgt (nd : Nat) (w : AI) (d : Int32) : Int32 := if sIn d nd = true then w (tn d) else -1
def oWgh (nd : Nat) (w : AI) (d v : Int32) : Int32 × AI := if sIn d nd = true then (if sBt v 1 9 = true then (w (tn d), upd w (tn d) v) else (-2, w)) else (-1, w)
def oSto (nd np : Nat) (w kd : AI) (p d : Int32) : Int32 := if sIn p np = true ∧ sIn d nd = true then sStor w kd (tn p) (tn d) else -1
def oOfP (nd np : Nat) (w kd dn kn td : AI) (p a : Int32) : Int32 :=
  if sIn p np = true then (if a = 0 then kd (tn p) else if a = 1 then dn (tn p) else if a = 2 then kn (tn p) else if a = 3 then td (tn p) else if a = 4 then sFl w kd (tn p) (td (tn p)) nd else -2) else -1
def oSay (nd np : Nat) (w kd dn kn td : AI) (p d : Int32) : Int32 × AI :=
  if sIn p np = true ∧ sIn d nd = true then (if sBit (td (tn p)) (tn d) = 1 then (-3, td) else (sFl w kd (tn p) (sTel w kd dn kn nd np td (tn p) (tn d) (tn p)) nd, sTel w kd dn kn nd np td (tn p) (tn d))) else (-1, td)
def oHsh (nd np : Nat) (w kd td : AI) (p : Int32) : Int32 × AI := if sIn p np = true then (sFl w kd (tn p) (td (tn p)) nd, upd td (tn p) 0) else (-1, td)
def oLnd (nd np : Nat) (w kd td : AI) (f : Int32) : Int32 := if np = 0 then -3 else if f < 0 then -2 else sLand w kd td nd f np
def sAsk (ask : Int32) : Bool := sBt ask 0 2 || sBt ask 10 13 || sBt ask 20 23
/-- answer, fault -/
def oDys (nd np : Nat) (w kd dn kn td so sl ce : AI) (k sort i n ask : Int32) : Int32 × Int32 :=
  if sBt k 0 3 = true then
    (if sBt sort 0 2 = true ∧ sBt n 0 20 = true ∧ sAsk ask = true then
      (if (sLay so sl ce nd np (tn k) sort i (tn n)).1 = 0 then (sGoA (sGo w kd dn kn nd np (sWh ce (60 * tn k + tn i)) (sWt ce (60 * tn k + tn i)) (tn n) 0 td 0) w kd nd np ask, 0) else sLay so sl ce nd np (tn k) sort i (tn n)) else (-2, 0)) else (-1, 0)
def oWay (nd np : Nat) (w kd dn : AI) (p f : Int32) : Int32 := if sIn p np = true then (if f < 0 then -2 else sWay w kd dn nd (tn p) f (2 ^ nd)) else -1
def oKpt (nd np : Nat) (w kd dn : AI) (p f : Int32) : Int32 := if sIn p np = true then (if f < 0 then -2 else sKept w kd dn nd (tn p) f (2 ^ nd)) else -1
def oRof (nd np : Nat) (w kd dn : AI) (p : Int32) : Int32 := if sIn p np = true then sFl w kd (tn p) (dn (tn p)) nd else -1
def sMsk (nd : Nat) : Int32 := sPw nd - 1
def oSfe (nd np : Nat) (w kd dn kn td : AI) (p : Int32) : Int32 :=
  if sIn p np = true then (if sSeen w kd kn td nd (tn p) np = true then (sMsk nd &&& (td (tn p) ^^^ (-1))) &&& dn (tn p) else sMsk nd &&& (td (tn p) ^^^ (-1))) else -1
/-- answer, how many readings, who, floor -/
def oRdg (np nr : Nat) (rw_ rf : AI) (p f : Int32) : Int32 × Nat × AI × AI :=
  if sIn p np = true then (if sBt f 0 99 = true then (if nr = 8 then (-4, nr, rw_, rf) else (nI nr, nr + 1, upd rw_ nr p, upd rf nr f)) else (-2, nr, rw_, rf)) else (-1, nr, rw_, rf)
def oBck (nr : Nat) (k : Int32) : Int32 × Nat := if sBt k 0 (nI nr) = true then (nI (nr - tn k), nr - tn k) else (-2, nr)
/-- the row of what-if questions: f: does v hold; v from v0 on, c of them -/
def oLayB (nd np : Nat) (so sl ce : AI) (there : Bool) (k sort i n : Int32) : Int32 × Int32 :=
  if there = true ∧ sBt k 0 3 = true then (if sBt sort 0 2 = true ∧ sBt n 0 20 = true then sLay so sl ce nd np (tn k) sort i (tn n) else (-2, 0)) else (-1, 0)
def oWif (nd np : Nat) (so sl ce : AI) (there : Bool) (k sort i n : Int32) (f : (Nat → Nat) → (Nat → Nat) → Nat → Int32 → Bool) (v0 c : Nat) : Int32 × Int32 :=
  if (oLayB nd np so sl ce there k sort i n).1 = 0 then (sSet (f (sWh ce (60 * tn k + tn i)) (sWt ce (60 * tn k + tn i)) (tn n)) v0 c, 0) else oLayB nd np so sl ce there k sort i n
def oWts (nd np nr : Nat) (w kd dn kn td so sl ce rw_ rf : AI) (d k sort i n : Int32) : Int32 × Int32 := oWif nd np so sl ce (sIn d nd) k sort i n (fun wh wt m v => sSo (upd w (tn d) v) kd dn kn td nd np nr wh wt m rw_ rf) 1 9
def oKds (nd np nr : Nat) (w kd dn kn td so sl ce rw_ rf : AI) (p k sort i n : Int32) : Int32 × Int32 := oWif nd np so sl ce (sIn p np) k sort i n (fun wh wt m v => sSo w (upd kd (tn p) v) dn kn td nd np nr wh wt m rw_ rf) 0 3
def oKnw (nd np nr : Nat) (w kd dn kn td so sl ce rw_ rf : AI) (p k sort i n : Int32) : Int32 × Int32 := oWif nd np so sl ce (sIn p np) k sort i n (fun wh wt m v => sSo w kd dn (upd kn (tn p) v) td nd np nr wh wt m rw_ rf) 0 5
def LOST : Int64 := -9223372036854775808
def oOds (nd np : Nat) (w kd dn : AI) (p f a : Int32) : Int64 :=
  if sIn p np = true ∧ ¬ f < 0 ∧ sBt a 0 1 = true then
    (if a = 0 then lN (sMany w kd dn nd (tn p) f (2 ^ nd) / Nat.gcd (sMany w kd dn nd (tn p) f (2 ^ nd)) (sAll dn (tn p) (2 ^ nd))) else lN (sAll dn (tn p) (2 ^ nd) / Nat.gcd (sMany w kd dn nd (tn p) f (2 ^ nd)) (sAll dn (tn p) (2 ^ nd)))) else LOST
/-- answer, fault, sorts, lengths, cells -/
def sZer (ce : AI) (k : Nat) : AI := fun q => if 60 * k ≤ q ∧ q < 60 * k + 60 then 0 else ce q
def oSht (so sl ce : AI) (k sort n : Int32) : Int32 × Int32 × AI × AI × AI :=
  if sBt k 0 3 = true then (if sBt sort 0 2 = true ∧ ¬ 60 < n then (if n < 0 then (-14, 4, so, sl, ce) else (1, 0, upd so (tn k) sort, upd sl (tn k) n, sZer ce (tn k))) else (-2, 0, so, sl, ce)) else (-1, 0, so, sl, ce)
def oLse (so : AI) (k : Int32) : Int32 × AI := if sBt k 0 3 = true then ((if so (tn k) = -9 then 0 else 1), upd so (tn k) (-9)) else (-1, so)
def sNar (sort v : Int32) : Int32 := if sort = 0 then v.toInt8.toInt32 else if sort = 1 then v.toInt16.toInt32 else v
/-- answer, fault, cells -/
def oPut (so sl ce : AI) (k i v : Int32) : Int32 × Int32 × AI :=
  if sBt k 0 3 = true then (if so (tn k) = -9 then (-11, 1, ce) else if sBt i 0 (sl (tn k) - 1) = true then (1, 0, upd ce (60 * tn k + tn i) (sNar (so (tn k)) v)) else (-13, 3, ce)) else (-1, 0, ce)
def oCel (so sl ce : AI) (k i sort : Int32) : Int64 × Int32 :=
  if sBt k 0 3 = true ∧ sBt sort 0 2 = true then (if ¬ so (tn k) = -9 ∧ ¬ so (tn k) = sort then (LOST, 2) else if so (tn k) = -9 then (LOST, 1) else if sBt i 0 (sl (tn k) - 1) = true then ((ce (60 * tn k + tn i)).toInt64, 0) else (LOST, 3)) else (LOST, 0)
def sCpy (ce : AI) (a b n : Nat) : AI := fun q => if b ≤ q ∧ q < b + n then ce (a + (q - b)) else ce q
def sThr (sl : AI) (k o : Nat) (i j n : Int32) : Bool := !decide (i < 0) && !decide (j < 0) && !decide (n < 0) && !decide (sl k < i) && !decide (sl o < j) && !decide (sl k - i < n) && !decide (sl o - j < n)
def oCpy (so sl ce : AI) (k i o j n : Int32) : Int32 × Int32 × AI :=
  if sBt k 0 3 = true ∧ sBt o 0 3 = true then
    (if so (tn k) = -9 ∨ so (tn o) = -9 then (-11, 1, ce) else if ¬ so (tn k) = so (tn o) then (-12, 2, ce) else if sThr sl (tn k) (tn o) i j n = true then (n, 0, sCpy ce (60 * tn k + tn i) (60 * tn o + tn j) (tn n)) else (-13, 3, ce)) else (-1, 0, ce)
def sTr (t b : Int32) : Int32 := 31 * t + b
def oTel (np : Nat) (kd kn : AI) (tr p : Int32) : Int32 × Int32 :=
  if sIn p np = true then (if kd (tn p) = 1 then (kn (tn p) + 100, sTr (sTr tr 2) 1) else if kd (tn p) = 2 then (2 * kn (tn p) + 100, sTr (sTr (sTr (sTr tr 3) 2) 1) 1) else (kn (tn p), sTr tr 1)) else (-1, tr)
def oGrt (np : Nat) (kd : AI) (tr p : Int32) : Int32 × Int32 := if sIn p np = true then (if kd (tn p) = 2 then (80, sTr tr 5) else (p, sTr tr 4)) else (-1, tr)
def oAs (np : Nat) (kd : AI) (p a : Int32) : Int32 × Int32 := if sIn p np = true then (if sBt a 0 2 = true then (if kd (tn p) < a then (-12, 2) else (1, 0)) else (-2, 0)) else (-1, 0)
def oMny (nd np nr : Nat) (a : Int32) : Int32 := if a = 0 then nI np else if a = 1 then nI nd else if a = 2 then nI nr else -2
theorem n_swOut {x : Int32} (n : Nat) (hn : n < 2 ^ 30) (h : ∀ k, k ≤ n → ¬ x = nI k) : x.toInt < 0 ∨ (n : Int) < x.toInt := by
  rcases pk_ix x (n := n + 1) (by omega) with q | q | ⟨j, hj, q⟩
  · exact Or.inl (Int32.lt_iff_toInt_lt.mp q)
  · right
    have := Int32.le_iff_toInt_le.mp q
    rw [nI_toInt (by omega)] at this
    omega
  · exact absurd q (h j (by omega))
/-- the Model's clean part -/
def mEq (fi : AI) (fa : Nat → AI) (fi' : AI) (fa' : Nat → AI) : Prop := (fi' 0 = fi 0 ∧ fi' 1 = fi 1 ∧ fi' 5 = fi 5 ∧ fi' 6 = fi 6 ∧ fi' 22 = fi 22) ∧ fa' 2 = fa 2 ∧ fa' 3 = fa 3 ∧ fa' 4 = fa 4 ∧ fa' 7 = fa 7 ∧ fa' 8 = fa 8 ∧ fa' 9 = fa 9 ∧ fa' 10 = fa 10 ∧ fa' 11 = fa 11 ∧ fa' 23 = fa 23 ∧ fa' 24 = fa 24
theorem mEq.rf {fi : AI} {fa : Nat → AI} : mEq fi fa fi fa := ⟨⟨rfl, rfl, rfl, rfl, rfl⟩, rfl, rfl, rfl, rfl, rfl, rfl, rfl, rfl, rfl, rfl⟩
theorem mEq.tr {fi fi1 fi2 : AI} {fa fa1 fa2 : Nat → AI} (h1 : mEq fi fa fi1 fa1) (h2 : mEq fi1 fa1 fi2 fa2) : mEq fi fa fi2 fa2 := by
  obtain ⟨⟨a0, a1, a5, a6, a22⟩, b2, b3, b4, b7, b8, b9, b10, b11, b23, b24⟩ := h1
  obtain ⟨⟨c0, c1, c5, c6, c22⟩, d2, d3, d4, d7, d8, d9, d10, d11, d23, d24⟩ := h2
  exact ⟨⟨c0.trans a0, c1.trans a1, c5.trans a5, c6.trans a6, c22.trans a22⟩, d2.trans b2, d3.trans b3, d4.trans b4, d7.trans b7, d8.trans b8, d9.trans b9, d10.trans b10, d11.trans b11, d23.trans b23, d24.trans b24⟩
/-- junk arrays: 15 16 17 19 20; junk fields: 12 13 14 18 21 -/
def mJa (k : Nat) : Bool := k == 15 || k == 16 || k == 17 || k == 19 || k == 20
def mJi (k : Nat) : Bool := k == 12 || k == 13 || k == 14 || k == 18 || k == 21
theorem mEq.ja {fi fi' : AI} {fa fa' : Nat → AI} (h : mEq fi fa fi' fa') (k : Nat) (hk : mJa k = true) (f : AI) : mEq fi fa fi' (va_up fa' k f) := by
  obtain ⟨a, b2, b3, b4, b7, b8, b9, b10, b11, b23, b24⟩ := h
  have n : ∀ z, mJa z = false → va_up fa' k f z = fa' z := fun z hz => va_up_ne _ _ (fun q => by rw [q, hk] at hz; cases hz)
  exact ⟨a, by rw [n 2 rfl]; exact b2, by rw [n 3 rfl]; exact b3, by rw [n 4 rfl]; exact b4, by rw [n 7 rfl]; exact b7, by rw [n 8 rfl]; exact b8, by rw [n 9 rfl]; exact b9, by rw [n 10 rfl]; exact b10, by rw [n 11 rfl]; exact b11, by rw [n 23 rfl]; exact b23, by rw [n 24 rfl]; exact b24⟩
theorem mEq.ji {fi fi' : AI} {fa fa' : Nat → AI} (h : mEq fi fa fi' fa') (k : Nat) (hk : mJi k = true) (v : Int32) : mEq fi fa (upd fi' k v) fa' := by
  obtain ⟨⟨a0, a1, a5, a6, a22⟩, b⟩ := h
  have n : ∀ z, mJi z = false → upd fi' k v z = fi' z := fun z hz => pk_un (fun q => by rw [q, hk] at hz; cases hz)
  exact ⟨⟨by rw [n 0 rfl]; exact a0, by rw [n 1 rfl]; exact a1, by rw [n 5 rfl]; exact a5, by rw [n 6 rfl]; exact a6, by rw [n 22 rfl]; exact a22⟩, b⟩
theorem upd_upd (f : AI) (k : Nat) (v u : Int32) : upd (upd f k v) k u = upd f k u := by
  funext j
  by_cases e : j = k
  · subst e; rw [pk_us, pk_us]
  · rw [pk_un e, pk_un e, pk_un e]
theorem upd_self (f : AI) (k : Nat) (v : Int32) (h : f k = v) : upd f k v = f := by
  funext j
  by_cases e : j = k
  · subst e; rw [pk_us, h]
  · rw [pk_un e]
theorem va_up_id {α : Type} (f : Nat → α) (k : Nat) (v : α) (h : f k = v) : va_up f k v = f := by
  funext j
  by_cases e : j = k
  · subst e; rw [va_up_self, h]
  · rw [va_up_ne _ _ e]
theorem sBt_t {x : Int32} (n : Nat) (hn : n < 2 ^ 31) (h : sBt x 0 (nI n) = true) : ∃ j : Nat, j ≤ n ∧ x = nI j ∧ tn x = j := by
  unfold sBt at h
  simp only [Bool.and_eq_true, Bool.not_eq_true', decide_eq_false_iff_not] at h
  obtain ⟨j, hj, e⟩ := nI_of2 (nI_toInt hn) h.1 (by have := h.2; simpa using this)
  exact ⟨j, hj, e, by rw [e]; exact tn_nI (by omega)⟩
theorem sBt_in {x : Int32} {n : Nat} (hn : n < 2 ^ 30) : sBt x 0 (nI n - 1) = sIn x n := by
  cases n with
  | zero =>
    have e : (nI 0 - 1 : Int32) = -1 := by decide
    rw [e]
    unfold sBt sIn
    by_cases h : x < 0
    · simp [h]
    · have h2 : (-1 : Int32) < x := by
        have h3 : ¬ x.toInt < (0 : Int32).toInt := fun z => h (Int32.lt_iff_toInt_lt.mpr z)
        rw [Int32.lt_iff_toInt_lt]
        have e0 : (0 : Int32).toInt = 0 := rfl
        have e1 : (-1 : Int32).toInt = -1 := by decide
        omega
      have h4 : nI 0 ≤ x := by rw [nI_0]; simpa using h
      simp [h2, h4]
  | succ n =>
    rw [nI_pred]
    unfold sBt sIn
    by_cases h : x < 0
    · simp [h]
    · obtain ⟨j, hj, e⟩ := nI_of h
      subst e
      have a1 := nI_ltI (a := n) (b := j) (by omega) hj
      have a2 := nI_leI (a := n + 1) (b := j) (by omega) hj
      have a3 : (nI n < nI j) ↔ (nI (n + 1) ≤ nI j) := by rw [a1, a2]; omega
      simp [h, a3]
theorem sPw_nI {d : Nat} (h : d < 31) : sPw d = nI (2 ^ d) := by
  have key : ∀ d : Fin 31, sPw d.val = nI (2 ^ d.val) := by decide +kernel
  exact key ⟨d, h⟩
theorem p2_64 {nd : Nat} (h : nd ≤ 6) : 2 ^ nd ≤ 64 := Nat.pow_le_pow_right (by omega) h
theorem sAgn_0 {so sl : AI} {k L m : Nat} {sort i : Int32} (hL : sl k = nI L) (hL6 : L ≤ 60) (hm : m < 2 ^ 30) (h : sAgn so sl k sort i (nI m) = 0) : so k = sort ∧ ¬ so k = -9 ∧ ∃ ii : Nat, i = nI ii ∧ tn i = ii ∧ ii + m ≤ L := by
  unfold sAgn at h
  split at h
  · exact absurd h (by decide)
  · rename_i h1
    split at h
    · exact absurd h (by decide)
    · rename_i h2
      split at h
      · exact absurd h (by decide)
      · split at h
        · exact absurd h (by decide)
        · rename_i h4
          have g1 : ¬ i < 0 := fun z => h4 (Or.inl z)
          have g2 : ¬ sl k < i := fun z => h4 (Or.inr (Or.inl z))
          have g3 : ¬ sl k - i < nI m := fun z => h4 (Or.inr (Or.inr z))
          obtain ⟨ii, hii, e⟩ := nI_of g1
          subst e
          rw [hL] at g2 g3
          have g2 : ii ≤ L := by
            rcases Nat.lt_or_ge L ii with q | q
            · exact absurd (nI_lt q hii) g2
            · exact q
          rw [pk_sub g2] at g3
          have g3 : m ≤ L - ii := by
            rcases Nat.lt_or_ge (L - ii) m with q | q
            · exact absurd (nI_lt q (by omega)) g3
            · exact q
          refine ⟨?_, h2, ii, rfl, tn_nI hii, by omega⟩
          by_cases e : so k = sort
          · exact e
          · exact absurd ⟨h2, e⟩ h1
theorem sPop_0 (f : Nat) : sPop f 0 = 0 := by cases f <;> rfl
theorem lg_cmp0 (x : Int64) : lg_cmp x 0 = 0 ↔ x = 0 := by
  unfold lg_cmp
  constructor
  · intro h
    split at h
    · exact absurd h (by decide)
    · split at h
      · assumption
      · exact absurd h (by decide)
  · intro h
    subst h
    rfl
theorem sAgn_ge (so sl : AI) (k : Nat) (sort i n : Int32) : ¬ (-10 - sAgn so sl k sort i n : Int32) = 0 := by
  unfold sAgn
  repeat' split
  all_goals decide
theorem sLay_0 {so sl ce : AI} {nd np k m : Nat} {sort i : Int32} (h : (sLay so sl ce nd np k sort i m).1 = 0) : sRow ce nd np (60 * k + tn i) m = true ∧ ¬ np = 0 ∧ (sLay so sl ce nd np k sort i m).2 = 0 := by
  unfold sLay at h ⊢
  split at h
  · exact absurd h (sAgn_ge _ _ _ _ _ _)
  · rename_i h1
    rw [if_neg h1]
    split at h
    · exact absurd h (by decide)
    · rename_i h2
      rw [if_neg h2]
      split at h
      · rename_i h3
        rw [if_pos h3]
        exact ⟨h3, h2, rfl⟩
      · exact absurd h (by decide)
theorem row_w {ce : AI} {nd np a m : Nat} (h : sRow ce nd np a m = true) (hnd : nd < 2 ^ 31) (hnp : np < 2 ^ 31) : ∀ j, j < m → ce (a + 2 * j) = nI (sWh ce a j) ∧ sWh ce a j < np ∧ ce (a + 2 * j + 1) = nI (sWt ce a j) ∧ sWt ce a j < nd := by
  intro j hj
  obtain ⟨h1, h2⟩ := sRow_at m h j hj
  obtain ⟨p, hp, ep, tp⟩ := sIn_t hnp h1
  obtain ⟨d, hd, ed, td⟩ := sIn_t hnd h2
  have e1 : sWh ce a j = p := tp
  have e2 : sWt ce a j = d := td
  rw [e1, e2]
  exact ⟨ep, hp, ed, hd⟩
theorem sPop_s {f n : Nat} (h : 0 < n) : sPop (f + 1) n = n % 2 + sPop f (n / 2) := by rw [sPop, if_neg (by omega)]
def sCpyD (ce : AI) (a b n q : Nat) : AI := fun z => if b + (n - q) ≤ z ∧ z < b + n then ce (a + (z - b)) else ce z
theorem sCpy_0 (ce : AI) (a b : Nat) : sCpy ce a b 0 = ce := by funext z; unfold sCpy; rw [if_neg (by omega)]
theorem sCpyD_0 (ce : AI) (a b n : Nat) : sCpyD ce a b n 0 = ce := by funext z; unfold sCpyD; rw [if_neg (by omega)]
theorem sCpyD_n (ce : AI) (a b n : Nat) : sCpyD ce a b n n = sCpy ce a b n := by
  funext z
  unfold sCpyD sCpy
  rw [Nat.sub_self, Nat.add_zero]
theorem sCpy_s {ce : AI} {a b q : Nat} (h : ¬ (b ≤ a + q ∧ a + q < b + q)) : upd (sCpy ce a b q) (b + q) (sCpy ce a b q (a + q)) = sCpy ce a b (q + 1) := by
  have e : sCpy ce a b q (a + q) = ce (a + q) := by unfold sCpy; rw [if_neg h]
  rw [e]
  funext z
  by_cases hz : z = b + q
  · subst hz
    rw [pk_us]
    unfold sCpy
    rw [if_pos (by omega), Nat.add_sub_cancel_left]
  · rw [pk_un hz]
    unfold sCpy
    by_cases h1 : b ≤ z ∧ z < b + q
    · rw [if_pos h1, if_pos (by omega)]
    · rw [if_neg h1, if_neg (by omega)]
theorem sCpyD_s {ce : AI} {a b n q : Nat} (hq : q < n) (h : ¬ (b + (n - q) ≤ a + (n - 1 - q) ∧ a + (n - 1 - q) < b + n)) : upd (sCpyD ce a b n q) (b + (n - 1 - q)) (sCpyD ce a b n q (a + (n - 1 - q))) = sCpyD ce a b n (q + 1) := by
  have e : sCpyD ce a b n q (a + (n - 1 - q)) = ce (a + (n - 1 - q)) := by unfold sCpyD; rw [if_neg h]
  rw [e]
  funext z
  by_cases hz : z = b + (n - 1 - q)
  · subst hz
    rw [pk_us]
    unfold sCpyD
    rw [if_pos (by omega), Nat.add_sub_cancel_left]
  · rw [pk_un hz]
    unfold sCpyD
    by_cases h1 : b + (n - q) ≤ z ∧ z < b + n
    · rw [if_pos h1, if_pos (by omega)]
    · rw [if_neg h1, if_neg (by omega)]
def sZr (ce : AI) (k j : Nat) : AI := fun q => if 60 * k ≤ q ∧ q < 60 * k + j then 0 else ce q
theorem sZr_s (ce : AI) (k j : Nat) : upd (sZr ce k j) (60 * k + j) 0 = sZr ce k (j + 1) := by
  funext z
  by_cases hz : z = 60 * k + j
  · subst hz
    rw [pk_us]
    unfold sZr
    rw [if_pos (by omega)]
  · rw [pk_un hz]
    unfold sZr
    by_cases h1 : 60 * k ≤ z ∧ z < 60 * k + j
    · rw [if_pos h1, if_pos (by omega)]
    · rw [if_neg h1, if_neg (by omega)]
/-- for sets of six deeds: the truths' subsets are counted by the size -/
theorem sAll_pc : ∀ nd, nd < 7 → ∀ n, n < 64 → n < 2 ^ nd → sAll (fun _ => nI n) 0 (2 ^ nd) = 2 ^ sPc n := by decide +kernel
theorem sAll_fn (dn : AI) (p : Nat) (c : Nat) : sAll dn p c = sAll (fun _ => dn p) 0 c := by
  induction c with
  | zero => rfl
  | succ c ih => rw [sAll, sAll, ih]; rfl
theorem sPc_lt : ∀ n, n < 64 → sPc n ≤ 6 := by decide +kernel
theorem lsh_pc : ∀ n, n < 7 → (1 : Int64) <<< ((nI n).toInt64 &&& 63) = lN (2 ^ n) := by decide +kernel
theorem sMany_le (w kd dn : AI) (nd p : Nat) (f : Int32) : ∀ c, sMany w kd dn nd p f c ≤ c := by
  intro c
  induction c with
  | zero => exact Nat.le_refl _
  | succ c ih =>
    rw [sMany]
    split <;> omega
theorem sBt_lt {j n : Nat} (h : j ≤ n) (hn : n < 2 ^ 31 := by decide) : sBt (nI j) 0 (nI n) = true := by
  unfold sBt
  have h1 := nI_pos (n := j) (by omega)
  have h2 := nI_nlt h hn
  simp only [h1, h2, decide_false, Bool.not_false, Bool.and_true]
/-- the clean part but for one array of a what-if -/
def mWi (k : Nat) : Bool := k == 7 || k == 8 || k == 10
theorem mEq_at {fi fi' : AI} {fa fa' : Nat → AI} {f g : AI} (k : Nat) (hk : mWi k = true) (h : mEq fi (va_up fa k f) fi' fa') : mEq fi (va_up fa k g) fi' (va_up fa' k g) := by
  obtain ⟨a, b2, b3, b4, b7, b8, b9, b10, b11, b23, b24⟩ := h
  have key : ∀ z, fa' z = va_up fa k f z → va_up fa' k g z = va_up fa k g z := by
    intro z hz
    by_cases e : z = k
    · subst e; rw [va_up_self, va_up_self]
    · rw [va_up_ne _ _ e] at hz; rw [va_up_ne _ _ e, va_up_ne _ _ e]; exact hz
  exact ⟨a, key 2 b2, key 3 b3, key 4 b4, key 7 b7, key 8 b8, key 9 b9, key 10 b10, key 11 b11, key 23 b23, key 24 b24⟩
theorem mEq_back {fi fj : AI} {fa fb : Nat → AI} {d : Nat} (k : Nat) (hk : mWi k = true) (h : mEq fi fa fj (va_up fb k (fa k))) (ho : ∀ z, ¬ z = d → fb k z = fa k z) : mEq fi fa fj (va_up fb k (upd (fb k) d (fa k d))) := by
  have e : upd (fb k) d (fa k d) = fa k := by
    funext z
    by_cases hz : z = d
    · subst hz; rw [pk_us]
    · rw [pk_un hz, ho z hz]
  rw [e]
  exact h
theorem zI_n0 {b : Bool} (h : ¬ zI b = 0) : b = true := by
  cases b
  · exact absurd rfl h
  · rfl
