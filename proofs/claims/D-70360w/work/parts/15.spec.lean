/-! THE SPEC: what both sides compute, in plain Lean. Arrays: w weights, kd kinds, dn truths, kn whom one knows, td told; so, sl, ce: sheets' sorts, lengths, cells (60 a sheet); rw, rf: readings. -/
abbrev AI : Type := Nat → Int32
abbrev tn (x : Int32) : Nat := x.toNatClampNeg
theorem tn_nI {j : Nat} (h : j < 2 ^ 31) : tn (nI j) = j := nI_clamp h
def sStor (w kd : AI) (p d : Nat) : Int32 := if kd p = 0 then w d else if kd p = 1 then w d - 1 else 2 * w d
def sBit (set : Int32) (d : Nat) : Int32 := (set >>> (nI d &&& 31)) &&& 1
def sPw (d : Nat) : Int32 := (1 : Int32) <<< (nI d &&& 31)
theorem sBit_01 (set : Int32) (d : Nat) : sBit set d = 0 ∨ sBit set d = 1 := by
  unfold sBit
  generalize set >>> (nI d &&& 31) = y
  have h : y &&& 1 = nI (y.toBitVec.toNat % 2 ^ 1) := pk_and y 1 rfl
  rw [h]
  rcases Nat.mod_two_eq_zero_or_one y.toBitVec.toNat with q | q
  · exact Or.inl (by rw [show (2 : Nat) ^ 1 = 2 from rfl, q]; rfl)
  · exact Or.inr (by rw [show (2 : Nat) ^ 1 = 2 from rfl, q]; rfl)
/-- storeys of a set together, by deeds below nd -/
def sFl (w kd : AI) (p : Nat) (set : Int32) : Nat → Int32
  | 0 => 0
  | d + 1 => sFl w kd p set d + (if sBit set d = 1 then sStor w kd p d else 0)
theorem sFl_0 (w kd : AI) (p nd : Nat) : sFl w kd p 0 nd = 0 := by
  induction nd with
  | zero => rfl
  | succ d ih =>
    have h : sBit 0 d = 0 := by
      unfold sBit
      have : (0 : Int32) >>> (nI d &&& 31) = 0 := by
        apply Int32.toBitVec_inj.mp
        simp
      rw [this]
      rfl
    rw [sFl, ih, h]
    rfl
/-- whether somebody below q who knows p is on p's floor -/
def sSeen (w kd kn t : AI) (nd p : Nat) : Nat → Bool
  | 0 => false
  | q + 1 => sSeen w kd kn t nd p q || (!decide (q = p) && decide (kn q = nI p) && decide (sFl w kd q (t q) nd = sFl w kd p (t p) nd))
theorem sSeen_mono {w kd kn t : AI} {nd p : Nat} {a : Nat} (h : sSeen w kd kn t nd p a = true) : ∀ b, a ≤ b → sSeen w kd kn t nd p b = true := by
  intro b hb
  induction b with
  | zero => rw [show a = 0 by omega] at h; exact h
  | succ b ih =>
    by_cases e : a = b + 1
    · rw [← e]; exact h
    · rw [sSeen, ih (by omega)]; rfl
theorem sSeen_congr {w kd kn t t' : AI} {nd p np : Nat} (hp : p < np) (h : ∀ j, j < np → t j = t' j) : ∀ q, q ≤ np → sSeen w kd kn t nd p q = sSeen w kd kn t' nd p q := by
  intro q hq
  induction q with
  | zero => rfl
  | succ q ih => rw [sSeen, sSeen, ih (by omega), h q (by omega), h p hp]
/-- one tells: whether caught, what all have told then -/
def sCgt (w kd dn kn : AI) (nd np : Nat) (t : AI) (p d : Nat) : Bool := decide (sBit (dn p) d = 0) && sSeen w kd kn t nd p np
def sTel (w kd dn kn : AI) (nd np : Nat) (t : AI) (p d : Nat) : AI := upd t p (if sCgt w kd dn kn nd np t p d = true then 0 else t p ||| sPw d)
theorem sCgt_congr {w kd dn kn t t' : AI} {nd np p d : Nat} (hp : p < np) (h : ∀ j, j < np → t j = t' j) : sCgt w kd dn kn nd np t p d = sCgt w kd dn kn nd np t' p d := by
  unfold sCgt
  rw [sSeen_congr hp h np (Nat.le_refl _)]
theorem sTel_congr {w kd dn kn t t' : AI} {nd np p d : Nat} (hp : p < np) (h : ∀ j, j < np → t j = t' j) : ∀ j, j < np → sTel w kd dn kn nd np t p d j = sTel w kd dn kn nd np t' p d j := by
  intro j hj
  unfold sTel
  rw [sCgt_congr hp h, h p hp]
  by_cases e : j = p
  · subst e; rw [pk_us, pk_us]
  · rw [pk_un e, pk_un e]; exact h j hj
/-- days: r pairs from the k-th on: the first wrong one or -9, what all have told, how many were caught -/
def sGo (w kd dn kn : AI) (nd np : Nat) (wh wt : Nat → Nat) : Nat → Nat → AI → Int32 → Int32 × AI × Int32
  | 0, _, t, cg => (-9, t, cg)
  | r + 1, k, t, cg => if sBit (t (wh k)) (wt k) = 1 then (nI k, t, cg) else sGo w kd dn kn nd np wh wt r (k + 1) (sTel w kd dn kn nd np t (wh k) (wt k)) (cg + zI (sCgt w kd dn kn nd np t (wh k) (wt k)))
theorem sGo_congr {w kd dn kn : AI} {nd np : Nat} {wh wt : Nat → Nat} : ∀ (r k : Nat) (t t' : AI) (cg : Int32), (∀ j, k ≤ j → j < k + r → wh j < np) → (∀ j, j < np → t j = t' j) →
    (sGo w kd dn kn nd np wh wt r k t cg).1 = (sGo w kd dn kn nd np wh wt r k t' cg).1 ∧ (sGo w kd dn kn nd np wh wt r k t cg).2.2 = (sGo w kd dn kn nd np wh wt r k t' cg).2.2 ∧ ∀ j, j < np → (sGo w kd dn kn nd np wh wt r k t cg).2.1 j = (sGo w kd dn kn nd np wh wt r k t' cg).2.1 j := by
  intro r
  induction r with
  | zero => intro k t t' cg _ h; exact ⟨rfl, rfl, h⟩
  | succ r ih =>
    intro k t t' cg hw h
    have hk := hw k (by omega) (by omega)
    rw [sGo, sGo, h _ hk]
    by_cases e : sBit (t' (wh k)) (wt k) = 1
    · rw [if_pos e, if_pos e]; exact ⟨rfl, rfl, h⟩
    · rw [if_neg e, if_neg e, sCgt_congr hk h]
      exact ih (k + 1) _ _ _ (fun j h1 h2 => hw j (by omega) (by omega)) (sTel_congr hk h)
theorem sGo_1 {w kd dn kn : AI} {nd np : Nat} {wh wt : Nat → Nat} : ∀ (r k : Nat) (t : AI) (cg : Int32), (sGo w kd dn kn nd np wh wt r k t cg).1 = -9 ∨ ∃ j, j < k + r ∧ (sGo w kd dn kn nd np wh wt r k t cg).1 = nI j := by
  intro r
  induction r with
  | zero => intro k t cg; exact Or.inl rfl
  | succ r ih =>
    intro k t cg
    rw [sGo]
    by_cases e : sBit (t (wh k)) (wt k) = 1
    · rw [if_pos e]; exact Or.inr ⟨k, by omega, rfl⟩
    · rw [if_neg e]
      rcases ih (k + 1) (sTel w kd dn kn nd np t (wh k) (wt k)) (cg + zI (sCgt w kd dn kn nd np t (wh k) (wt k))) with q | ⟨j, hj, q⟩
      · exact Or.inl q
      · exact Or.inr ⟨j, by omega, q⟩
def sTop (w kd t : AI) (nd : Nat) : Nat → Int32
  | 0 => 0
  | p + 1 => if sTop w kd t nd p < sFl w kd p (t p) nd then sFl w kd p (t p) nd else sTop w kd t nd p
theorem sTop_congr {w kd t t' : AI} {nd np : Nat} (h : ∀ j, j < np → t j = t' j) : ∀ q, q ≤ np → sTop w kd t nd q = sTop w kd t' nd q := by
  intro q hq
  induction q with
  | zero => rfl
  | succ q ih => rw [sTop, sTop, ih (by omega), h q (by omega)]
/-- what days are asked for -/
def sTd (w kd t : AI) (nd np : Nat) (cg ask : Int32) : Int32 :=
  if ask = 0 then cg else if ask = 2 then sTop w kd t nd np else if sIn (ask - ask / 10 * 10) np = true then (if ask < 20 then sFl w kd (tn (ask - ask / 10 * 10)) (t (tn (ask - ask / 10 * 10))) nd else t (tn (ask - ask / 10 * 10))) else -9
theorem sTd_congr {w kd t t' : AI} {nd np : Nat} (h4 : np < 2 ^ 31) (h : ∀ j, j < np → t j = t' j) (cg ask : Int32) : sTd w kd t nd np cg ask = sTd w kd t' nd np cg ask := by
  unfold sTd
  rw [sTop_congr h np (Nat.le_refl _)]
  by_cases e : sIn (ask - ask / 10 * 10) np = true
  · obtain ⟨j, hj, -, q⟩ := sIn_t h4 e
    rw [if_pos e, if_pos e, tn, q, h j hj]
  · rw [if_neg e, if_neg e]
def sGoA (g : Int32 × AI × Int32) (w kd : AI) (nd np : Nat) (ask : Int32) : Int32 := if ask = 1 then g.1 else if g.1 = -9 then sTd w kd g.2.1 nd np g.2.2 ask else -100 - g.1
/-- what the machine has against taking n cells from i on of a sheet as of a sort -/
def sAgn (so sl : AI) (k : Nat) (sort i n : Int32) : Int32 :=
  if ¬ so k = -9 ∧ ¬ so k = sort then 2 else if so k = -9 then 1 else if n < 0 then 4 else if i < 0 ∨ sl k < i ∨ sl k - i < n then 3 else 0
/-- pairs from a place on: are they persons and deeds -/
def sRow (ce : AI) (nd np at_ : Nat) : Nat → Bool
  | 0 => true
  | k + 1 => sRow ce nd np at_ k && sIn (ce (at_ + 2 * k)) np && sIn (ce (at_ + 2 * k + 1)) nd
theorem sRow_at {ce : AI} {nd np at_ : Nat} : ∀ (n : Nat), sRow ce nd np at_ n = true → ∀ k, k < n → sIn (ce (at_ + 2 * k)) np = true ∧ sIn (ce (at_ + 2 * k + 1)) nd = true := by
  intro n
  induction n with
  | zero => intro _ k hk; omega
  | succ n ih =>
    intro h k hk
    rw [sRow, Bool.and_eq_true, Bool.and_eq_true] at h
    by_cases e : k = n
    · subst e; exact ⟨h.1.2, h.2⟩
    · exact ih h.1.1 k (by omega)
theorem sRow_no {ce : AI} {nd np at_ : Nat} {k : Nat} (h : (sIn (ce (at_ + 2 * k)) np && sIn (ce (at_ + 2 * k + 1)) nd) = false) : ∀ n, k < n → sRow ce nd np at_ n = false := by
  intro n
  induction n with
  | zero => intro hk; omega
  | succ n ih =>
    intro hk
    rw [sRow]
    by_cases e : k = n
    · subst e; rw [Bool.and_assoc, h, Bool.and_false]
    · rw [ih (by omega)]; rfl
/-- the days' row is laid: answer and fault; n pairs -/
def sLay (so sl ce : AI) (nd np : Nat) (k : Nat) (sort i : Int32) (n : Nat) : Int32 × Int32 :=
  if ¬ sAgn so sl k sort i (nI (2 * n)) = 0 then (-10 - sAgn so sl k sort i (nI (2 * n)), sAgn so sl k sort i (nI (2 * n))) else if np = 0 then (-3, 0) else if sRow ce nd np (60 * k + tn i) n = true then (0, 0) else (-1, 0)
def sWh (ce : AI) (at_ : Nat) : Nat → Nat := fun k => tn (ce (at_ + 2 * k))
def sWt (ce : AI) (at_ : Nat) : Nat → Nat := fun k => tn (ce (at_ + 2 * k + 1))
/-- readings hold -/
def sRds (w kd t : AI) (nd : Nat) (rw_ rf : AI) : Nat → Bool
  | 0 => true
  | k + 1 => sRds w kd t nd rw_ rf k && decide (sFl w kd (tn (rw_ k)) (t (tn (rw_ k))) nd = rf k)
theorem sRds_congr {w kd t t' : AI} {nd np : Nat} {rw_ rf : AI} (h : ∀ j, j < np → t j = t' j) : ∀ n, (∀ k, k < n → tn (rw_ k) < np) → sRds w kd t nd rw_ rf n = sRds w kd t' nd rw_ rf n := by
  intro n
  induction n with
  | zero => intro _; rfl
  | succ n ih => intro hr; rw [sRds, sRds, ih (fun k hk => hr k (by omega)), h _ (hr n (by omega))]
theorem sRds_no {w kd t : AI} {nd : Nat} {rw_ rf : AI} {k : Nat} (h : ¬ sFl w kd (tn (rw_ k)) (t (tn (rw_ k))) nd = rf k) : ∀ n, k < n → sRds w kd t nd rw_ rf n = false := by
  intro n
  induction n with
  | zero => intro hk; omega
  | succ n ih =>
    intro hk
    rw [sRds]
    by_cases e : k = n
    · subst e; rw [decide_eq_false h, Bool.and_false]
    · rw [ih (by omega)]; rfl
def sSo (w kd dn kn td : AI) (nd np nr : Nat) (wh wt : Nat → Nat) (n : Nat) (rw_ rf : AI) : Bool :=
  decide ((sGo w kd dn kn nd np wh wt n 0 td 0).1 = -9) && sRds w kd (sGo w kd dn kn nd np wh wt n 0 td 0).2.1 nd rw_ rf nr
theorem sSo_congr {w kd dn kn td td' : AI} {nd np nr : Nat} {wh wt : Nat → Nat} {n : Nat} {rw_ rf : AI} (hw : ∀ k, k < n → wh k < np) (hr : ∀ k, k < nr → tn (rw_ k) < np) (h : ∀ j, j < np → td j = td' j) : sSo w kd dn kn td nd np nr wh wt n rw_ rf = sSo w kd dn kn td' nd np nr wh wt n rw_ rf := by
  obtain ⟨h1, h2, h3⟩ := sGo_congr (w := w) (kd := kd) (dn := dn) (kn := kn) (nd := nd) (np := np) (wh := wh) (wt := wt) n 0 td td' 0 (fun j _ hj => hw j (by omega)) h
  unfold sSo
  rw [h1, sRds_congr h3 nr hr]
/-- sets over a way of holding: v from 1 .. or 0 .. -/
def sSet (f : Int32 → Bool) (v0 : Nat) : Nat → Int32
  | 0 => 0
  | j + 1 => sSet f v0 j ||| (if f (nI (v0 + j)) = true then sPw (v0 + j) else 0)
def sLand (w kd td : AI) (nd : Nat) (f : Int32) : Nat → Int32
  | 0 => 0
  | p + 1 => sLand w kd td nd f p ||| (if sFl w kd p (td p) nd = f then sPw p else 0)
/-- a set of truths: nothing outside of dn -/
def sTru (dn : AI) (p s : Nat) : Bool := decide (nI s &&& (dn p ^^^ (-1)) = 0)
def sPop : Nat → Nat → Nat
  | 0, _ => 0
  | f + 1, n => if n = 0 then 0 else n % 2 + sPop f (n / 2)
abbrev sPc (n : Nat) : Nat := sPop 32 n
def sWay (w kd dn : AI) (nd p : Nat) (f : Int32) : Nat → Int32
  | 0 => -9
  | s + 1 => if (sTru dn p s && decide (sFl w kd p (nI s) nd = f)) = true ∧ (sWay w kd dn nd p f s = -9 ∨ sPc s < sPc (tn (sWay w kd dn nd p f s))) then nI s else sWay w kd dn nd p f s
def sKept (w kd dn : AI) (nd p : Nat) (f : Int32) : Nat → Int32
  | 0 => -9
  | s + 1 => if (sTru dn p s && decide (sFl w kd p (nI s) nd = f)) = true then (if sKept w kd dn nd p f s = -9 then nI s else sKept w kd dn nd p f s &&& nI s) else sKept w kd dn nd p f s
def sMany (w kd dn : AI) (nd p : Nat) (f : Int32) : Nat → Nat
  | 0 => 0
  | s + 1 => sMany w kd dn nd p f s + (if sTru dn p s = true ∧ ¬ sFl w kd p (nI s) nd < f then 1 else 0)
def sAll (dn : AI) (p : Nat) : Nat → Nat
  | 0 => 0
  | s + 1 => sAll dn p s + (if sTru dn p s = true then 1 else 0)
theorem sWay_in (w kd dn : AI) (nd p : Nat) (f : Int32) : ∀ s, sWay w kd dn nd p f s = -9 ∨ ∃ j, j < s ∧ sWay w kd dn nd p f s = nI j := by
  intro s
  induction s with
  | zero => exact Or.inl rfl
  | succ s ih =>
    rw [sWay]
    split
    · exact Or.inr ⟨s, by omega, rfl⟩
    · rcases ih with q | ⟨j, hj, q⟩
      · exact Or.inl q
      · exact Or.inr ⟨j, by omega, q⟩
theorem upd_lt (f g : AI) (d : Nat) : upd (fun j => if j < d then f j else g j) d (f d) = fun j => if j < d + 1 then f j else g j := by
  funext j
  by_cases h1 : j = d
  · subst h1
    rw [pk_us, if_pos (by omega)]
  · rw [pk_un h1]
    by_cases h2 : j < d
    · rw [if_pos h2, if_pos (by omega)]
    · rw [if_neg h2, if_neg (by omega)]
theorem sTel_upd {w kd dn kn t0 td : AI} {nd np p d : Nat} (hp : p < np) (h : ∀ j, j < np → t0 j = td j) : upd td p (sTel w kd dn kn nd np t0 p d p) = sTel w kd dn kn nd np td p d := by
  rw [sTel_congr hp h p hp]
  funext j
  unfold sTel
  by_cases e : j = p
  · subst e
    rw [pk_us, pk_us]
  · rw [pk_un e, pk_un e]
