/-! SYSTEM: a tower read: printed by wip/gen/s15.py -/
def pcd (cd : AI) (n p : Nat) : Int32 := if p < n then cd p else -9
theorem pcd_sg {cd : AI} {n p : Nat} {c : Int32} (hc : ¬ c = -9) : pcd cd n p = c ↔ pSg cd n p c = true := by
  unfold pcd pSg
  by_cases h : p < n
  · simp [h]
  · simp [h, Ne.symm hc]
theorem pcd_sgf {cd : AI} {n p : Nat} {c : Int32} (hc : ¬ c = -9) (h : ¬ pcd cd n p = c) : pSg cd n p c = false := by
  cases e : pSg cd n p c with
  | false => rfl
  | true => exact absurd ((pcd_sg hc).mpr e) h
theorem sub48 (x : Int32) : (x - 48).toInt = x.toInt - 48 ∨ ((x - 48).toInt = x.toInt - 48 + 4294967296 ∧ x.toInt < -2147483600) := by
  have h := Int32.toInt_sub x 48
  rw [show (48 : Int32).toInt = 48 from rfl, Int.bmod_def] at h
  have h1 := Int32.le_toInt x
  have h2 := Int32.toInt_lt x
  split at h <;> omega
theorem sBt_48 (x : Int32) (a b : Nat) (ha : a < 1000) (hb : b < 1000) : sBt (x - 48) (nI a) (nI b) = sBt x (48 + nI a) (48 + nI b) := by
  have e1 : (48 : Int32) + nI a = nI (48 + a) := nI_add 48 a
  have e2 : (48 : Int32) + nI b = nI (48 + b) := nI_add 48 b
  rw [e1, e2]
  unfold sBt
  have a1 := Int32.lt_iff_toInt_lt (x := x - 48) (y := nI a)
  have a2 := Int32.lt_iff_toInt_lt (x := nI b) (y := x - 48)
  have a3 := Int32.lt_iff_toInt_lt (x := x) (y := nI (48 + a))
  have a4 := Int32.lt_iff_toInt_lt (x := nI (48 + b)) (y := x)
  rw [nI_toInt (by omega)] at a1 a2 a3 a4
  have h1 := Int32.le_toInt x
  have h2 := Int32.toInt_lt x
  rcases sub48 x with h | ⟨h, h3⟩
  · have b1 : (x - 48 < nI a) ↔ (x < nI (48 + a)) := by rw [a1, a3]; omega
    have b2 : (nI b < x - 48) ↔ (nI (48 + b) < x) := by rw [a2, a4]; omega
    simp only [b1, b2]
  · have b2 : nI b < x - 48 := a2.mpr (by omega)
    have b3 : x < nI (48 + a) := a3.mpr (by omega)
    simp only [b2, b3, decide_true, Bool.not_true, Bool.and_false, Bool.false_and]
theorem fig_eq {cd : AI} {n p : Nat} {lo hi : Int32} (hlo : ∃ a, a < 1000 ∧ lo = nI a) (hhi : ∃ b, b < 1000 ∧ hi = nI b) : sBt (pcd cd n p - 48) lo hi = pd cd n p lo hi := by
  obtain ⟨a, ha, rfl⟩ := hlo
  obtain ⟨b, hb, rfl⟩ := hhi
  unfold pd pcd
  by_cases h : p < n
  · rw [if_pos h, decide_eq_true h, Bool.true_and, sBt_48 _ a b ha hb]
  · rw [if_neg h, decide_eq_false h, Bool.false_and]
    unfold sBt
    have e : (-9 - 48 : Int32) < nI a := by
      rw [Int32.lt_iff_toInt_lt, nI_toInt (by omega)]
      have : (-9 - 48 : Int32).toInt = -57 := by decide
      omega
    simp only [e, decide_true, Bool.not_true, Bool.false_and]
theorem nI_i2 (d : Nat) : nI d + Int32.ofInt 2 = nI (d + 2) := nI_add d 2
theorem nI_i5 (d : Nat) : nI d + Int32.ofInt 5 = nI (d + 5) := nI_add d 5
theorem nt_m1 (p : Nat) : (-101 : Int32) - nI p = -100 - nI (p + 1) := by rw [← nI_1 p]; grind
theorem nt_m2 (p : Nat) : (-102 : Int32) - nI p = -100 - nI (p + 2) := by rw [show nI (p + 2) = nI p + 2 from (nI_add p 2).symm]; grind
theorem nt_m3 (p : Nat) : (-103 : Int32) - nI p = -100 - nI (p + 3) := by rw [show nI (p + 3) = nI p + 3 from (nI_add p 3).symm]; grind
theorem nt_m4 (p : Nat) : (-104 : Int32) - nI p = -100 - nI (p + 4) := by rw [show nI (p + 4) = nI p + 4 from (nI_add p 4).symm]; grind
section NTP
variable {cd : AI} {n p m k f : Nat} {wr kr dr nr : AI}
theorem pD_a (h2 : pSg cd n p 45 = false) : pD cd n (f + 1) p m wr = (decide (¬ m = 0), p, m, wr) := by
  rw [pD, if_neg (by rw [h2]; simp)]
theorem pD_b (h1 : m < 6) (h2 : pSg cd n p 45 = true) (h3 : pd cd n (p + 1) 1 9 = false) : pD cd n (f + 1) p m wr = (false, p + 1, m, wr) := by
  rw [pD, if_pos ⟨h1, h2⟩, h3]
  rfl
theorem pD_c : pD cd n (f + 1) p 6 wr = (true, p, 6, wr) := by
  rw [pD, if_neg (by omega)]
  rfl
theorem pP_z (hc : ¬ (k = 0 ∨ (k < 4 ∧ p < n))) : pP cd n (f + 1) p k kr dr nr = (decide (p = n), p, k, kr, dr, nr) := by
  rw [pP, if_neg hc]
theorem pP_a (hc : k = 0 ∨ (k < 4 ∧ p < n)) (h : pSg cd n p 44 = false) : pP cd n (f + 1) p k kr dr nr = (false, p, k, kr, dr, nr) := by
  rw [pP, if_pos hc, h]
  rfl
theorem pP_b (hc : k = 0 ∨ (k < 4 ∧ p < n)) (h : pSg cd n p 44 = true) (hp : (pPer cd n (p + 1)).1 = false) : pP cd n (f + 1) p k kr dr nr = (false, (pPer cd n (p + 1)).2, k, kr, dr, nr) := by
  rw [pP, if_pos hc, if_pos h, hp]
  rfl
theorem pP_s (hc : k = 0 ∨ (k < 4 ∧ p < n)) (h : pSg cd n p 44 = true) (hp : (pPer cd n (p + 1)).1 = true) : pP cd n (f + 1) p k kr dr nr = pP cd n f (p + 5) (k + 1) (upd kr k (pK (cd (p + 1)))) (upd dr k (10 * (cd (p + 2) - 48) + (cd (p + 3) - 48))) (upd nr k (cd (p + 4) - 48)) := by
  rw [pP, if_pos hc, if_pos h, if_pos hp]
theorem pPer_1 (hk : ¬ (p + 1 < n ∧ ¬ pK (cd (p + 1)) = -9)) : pPer cd n (p + 1) = (false, p + 1) := by
  unfold pPer
  rw [if_neg hk]
theorem pPer_2 (hk : p + 1 < n ∧ ¬ pK (cd (p + 1)) = -9) (h2 : pd cd n (p + 2) 0 6 = false) : pPer cd n (p + 1) = (false, p + 2) := by
  have h2 : pd cd n (p + 1 + 1) 0 6 = false := h2
  unfold pPer
  rw [if_pos hk, h2]
  rfl
theorem pPer_3 (hk : p + 1 < n ∧ ¬ pK (cd (p + 1)) = -9) (h2 : pd cd n (p + 2) 0 6 = true) (h3 : pd cd n (p + 3) 0 (pOnes cd (p + 1)) = false) : pPer cd n (p + 1) = (false, p + 3) := by
  have h2 : pd cd n (p + 1 + 1) 0 6 = true := h2
  have h3 : pd cd n (p + 1 + 2) 0 (pOnes cd (p + 1)) = false := h3
  unfold pPer
  rw [if_pos hk, if_pos h2, h3]
  rfl
theorem pPer_4 (hk : p + 1 < n ∧ ¬ pK (cd (p + 1)) = -9) (h2 : pd cd n (p + 2) 0 6 = true) (h3 : pd cd n (p + 3) 0 (pOnes cd (p + 1)) = true) (h4 : pd cd n (p + 4) 0 4 = false) : pPer cd n (p + 1) = (false, p + 4) := by
  have h2 : pd cd n (p + 1 + 1) 0 6 = true := h2
  have h3 : pd cd n (p + 1 + 2) 0 (pOnes cd (p + 1)) = true := h3
  have h4 : pd cd n (p + 1 + 3) 0 4 = false := h4
  unfold pPer
  rw [if_pos hk, if_pos h2, if_pos h3, h4]
  rfl
theorem pPer_5 (hk : p + 1 < n ∧ ¬ pK (cd (p + 1)) = -9) (h2 : pd cd n (p + 2) 0 6 = true) (h3 : pd cd n (p + 3) 0 (pOnes cd (p + 1)) = true) (h4 : pd cd n (p + 4) 0 4 = true) : pPer cd n (p + 1) = (true, p + 5) := by
  have h2 : pd cd n (p + 1 + 1) 0 6 = true := h2
  have h3 : pd cd n (p + 1 + 2) 0 (pOnes cd (p + 1)) = true := h3
  have h4 : pd cd n (p + 1 + 3) 0 4 = true := h4
  unfold pPer
  rw [if_pos hk, if_pos h2, if_pos h3, if_pos h4]
theorem nt_T0 (h : pSg cd n 0 117 = false) : (pT cd n).1 = false ∧ (pT cd n).2.1 = 0 := by
  unfold pT
  rw [if_neg (by rw [h]; simp)]
  exact ⟨rfl, rfl⟩
theorem nt_TD (h : pSg cd n 0 117 = true) {q : Nat} {r : Nat × AI} (hD : pD cd n 8 1 0 pZ = (false, q, r)) : (pT cd n).1 = false ∧ (pT cd n).2.1 = q := by
  unfold pT
  rw [if_pos h, hD]
  exact ⟨rfl, rfl⟩
theorem nt_TPf (h : pSg cd n 0 117 = true) {p0 dm q : Nat} {wr : AI} {r : Nat × AI × AI × AI} (hD : pD cd n 8 1 0 pZ = (true, p0, dm, wr)) (hP : pP cd n 6 p0 0 pZ pZ pZ = (false, q, r)) : (pT cd n).1 = false ∧ (pT cd n).2.1 = q := by
  unfold pT
  rw [if_pos h, hD, if_pos rfl, hP]
  exact ⟨rfl, rfl⟩
theorem nt_TPt (h : pSg cd n 0 117 = true) {p0 dm q : Nat} {wr : AI} {r : Nat × AI × AI × AI} (hD : pD cd n 8 1 0 pZ = (true, p0, dm, wr)) (hP : pP cd n 6 p0 0 pZ pZ pZ = (true, q, r)) : pT cd n = (true, q, (dm, wr), r) := by
  unfold pT
  rw [if_pos h, hD, if_pos rfl, hP]
theorem nt_4544 (h : pcd cd n p = 45) : pSg cd n p 44 = false := pcd_sgf (by decide) (by rw [h]; decide)
theorem nt_wr {dm : Nat} (h : ∀ d, d < dm → wr d = cd (2 + 2 * d) - 48) : ∀ d, d < dm + 1 → upd wr dm (cd (1 + 2 * dm + 1) - 48) d = cd (2 + 2 * d) - 48 := by
  intro d hd
  by_cases e : d = dm
  · subst e
    rw [pk_us, show 1 + 2 * d + 1 = 2 + 2 * d by omega]
  · rw [pk_un e]
    exact h d (by omega)
theorem pK_in (c : Int32) : pK c = -9 ∨ ∃ q : Nat, q < 3 ∧ pK c = nI q := by
  unfold pK
  split
  · exact Or.inr ⟨0, by decide, rfl⟩
  · split
    · exact Or.inr ⟨1, by decide, rfl⟩
    · split
      · exact Or.inr ⟨2, by decide, rfl⟩
      · exact Or.inl rfl
theorem nt_n9 {q : Nat} (hq : q < 3) : ¬ nI q = -9 := by
  rcases (show q = 0 ∨ q = 1 ∨ q = 2 by omega) with z | z | z <;> subst z <;> decide
theorem nt_kind {kd_ : Int32} (h : kd_ = pK (pcd cd n (p + 1))) (h0 : 0 ≤ kd_) : ∃ kq : Nat, kq < 3 ∧ kd_ = nI kq ∧ p + 1 < n ∧ pK (cd (p + 1)) = nI kq := by
  rcases pK_in (pcd cd n (p + 1)) with e | ⟨q, hq, e⟩
  · rw [h, e] at h0
    exact absurd h0 (by decide)
  · by_cases hp : p + 1 < n
    · have e2 : pcd cd n (p + 1) = cd (p + 1) := if_pos hp
      rw [e2] at e h
      exact ⟨q, hq, h.trans e, hp, e⟩
    · have e2 : pcd cd n (p + 1) = -9 := if_neg hp
      rw [e2] at e
      exact absurd e.symm (by rw [show pK (-9) = -9 by decide]; exact nt_n9 hq)
theorem nt_kindN {kd_ : Int32} (h : kd_ = pK (pcd cd n (p + 1))) (h0 : ¬ 0 ≤ kd_) : ¬ (p + 1 < n ∧ ¬ pK (cd (p + 1)) = -9) := by
  rintro ⟨hp, hk⟩
  have e2 : pcd cd n (p + 1) = cd (p + 1) := if_pos hp
  rw [e2] at h
  rcases pK_in (cd (p + 1)) with e | ⟨q, hq, e⟩
  · exact hk e
  · rw [h, e] at h0
    exact h0 (Int32.not_lt.mp (nI_pos (n := q) (by omega)))
end NTP
/-- while a tower is read: k people stand in a list of their own -/
def nt_ok (G : nG) (ad : Nat → Nat) (x : nPic) (ad1 : Nat → Nat) (x1 : nPic) (k : Nat) (kr dr nr : AI) (mcl : Int32) : Prop :=
  (∀ z, z < 80 → ad1 z = ad z) ∧ (∀ z, z < 80 → x1 z = x z) ∧ x1 82 = some (.inr (7, [.int mcl, .ref (ad1 83), .int (nI k)])) ∧ x1 83 = some (qA (G.1.1 103) 4 (fun j => if j < k then some (ad1 (84 + j)) else none)) ∧ ∀ j, j < k → ∃ q, q < 3 ∧ kr j = nI q ∧ x1 (84 + j) = some (pE ad q (nI j) (dr j) (nr j))
def ntQ (G : nG) (ad : Nat → Nat) (x : nPic) (ad' : Nat → Nat) (x' : nPic) (T : Bool × Nat × (Nat × AI) × (Nat × AI × AI × AI)) : Prop :=
  (∀ z, z < 80 → ¬ z = 3 → (z < 20 ∨ 24 ≤ z) → ad' z = ad z) ∧ (∀ z, z < 80 → ¬ (z = 2 ∨ z = 3 ∨ z = 6 ∨ z = 7) → (z < 20 ∨ 24 ≤ z) → x' z = x z) ∧ (∀ z, 80 ≤ z → x' z = none) ∧ sPeo G ad' x' T.2.2.2.1 T.2.2.2.2.1 T.2.2.2.2.2.1 T.2.2.2.2.2.2 ∧ (∀ rw_ rf_ : AI, sRea G ad' x' 0 rw_ rf_) ∧ T.2.2.1.1 ≤ 6
theorem sPic_ad6 {G : nG} {x : nPic} {ad ad' : Nat → Nat} {si : AI} {sa : Nat → AI} {rn : Value} (h : ad' 1 = ad 1 ∧ ad' 2 = ad 2 ∧ ad' 4 = ad 4 ∧ ad' 5 = ad 5 ∧ ad' 6 = ad 6 ∧ ad' 8 = ad 8) : sPic G x ad' si sa rn = sPic G x ad si sa rn := by
  obtain ⟨h1, h2, h4, h5, h6, h8⟩ := h
  funext i
  unfold sPic sF
  rw [h1, h2, h4, h5, h6, h8]
section NT
variable {G : nG} {ad ad1 ad2 ad9 : Nat → Nat} {x x1 x2 : nPic} {k : Nat} {kr dr nr : AI} {mcl : Int32} {si : AI} {sa : Nat → AI} {rn : Value} {H : Heap}
theorem nt_drop (hNT : nt_ok G ad x ad1 x1 k kr dr nr mcl) (hx8 : ∀ z, 80 ≤ z → x z = none) (h : nOk G nCl ad1 (sPic G x1 ad1 si sa rn) H) : nOk G nCl ad (sPic G x ad si sa rn) H := by
  rw [sPic_ad (ad := ad) (fun z hz => hNT.1 z (by omega))] at h
  refine h.by fun i e he => ?_
  by_cases hi : i < 80
  · refine ⟨?_, (hNT.1 i hi).symm⟩
    rw [← he]
    by_cases hs : i = 0 ∨ i = 1 ∨ i = 4 ∨ i = 5
    · exact sPic_i hs
    · rw [sPic_x (by omega), sPic_x (by omega), hNT.2.1 i hi]
  · rw [sPic_x (by omega), hx8 i (by omega)] at he
    cases he
theorem nt_start {q q0 : Nat} (h : nOk G nCl (va_up ad9 83 q) (va_up (va_up (va_up (sPic G x ad si sa rn) 82 (some (.inr (7, [.int 0, .null, .int 0])))) 82 (some (.inr (7, [.int 0, .ref q, .int (nI 0)])))) 83 (some (qA (G.1.1 103) 4 (fun _ => none)))) H) (e9 : ad9 = va_up ad 82 q0) (_hx8 : ∀ z, 80 ≤ z → x z = none) :
    ∃ (ad1 : Nat → Nat) (x1 : nPic), nOk G nCl ad1 (sPic G x1 ad1 si sa rn) H ∧ nt_ok G ad x ad1 x1 0 pZ pZ pZ 0 ∧ ad1 82 = ad9 82 := by
  have had : ∀ z, z < 80 → va_up ad9 83 q z = ad z := fun z hz => by rw [va_up_ne _ _ (by omega), e9, va_up_ne _ _ (by omega)]
  rw [va_up_up, sPic_up (by decide), sPic_up (by decide), ← sPic_ad (ad := ad) (ad' := va_up ad9 83 q) (fun z hz => had z (by omega))] at h
  refine ⟨va_up ad9 83 q, _, h, ⟨had, fun z hz => ?_, ?_, ?_, fun j hj => absurd hj (by omega)⟩, va_up_ne _ _ (by decide)⟩
  · rw [va_up_ne _ _ (by omega), va_up_ne _ _ (by omega)]
  · rw [va_up_ne _ _ (by decide), va_up_self, va_up_self]
  · rw [va_up_self]
    congr 2
theorem nt_mid {kq : Nat} {u v w : Int32} (hNT : nt_ok G ad x ad1 x1 k kr dr nr mcl) (hkq : kq < 3) (had2 : ∀ z, z ≠ 84 + k → ad2 z = ad1 z) (hk : k < 4) :
    (va_up (sPic G x1 ad1 si sa rn) (84 + k) (some (pE ad1 kq u v w))) 82 = some (.inr (7, [.int mcl, .ref (ad2 83), .int (nI k)])) ∧ (va_up (sPic G x1 ad1 si sa rn) (84 + k) (some (pE ad1 kq u v w))) 83 = some (qA (G.1.1 103) 4 (fun j => if j < k then some (ad1 (84 + j)) else none)) ∧ nEl (va_up (sPic G x1 ad1 si sa rn) (84 + k) (some (pE ad1 kq u v w))) (84 + k) := by
  refine ⟨?_, ?_, nEl_P hkq (va_up_self _ _ _)⟩
  · rw [va_up_ne _ _ (by omega), sPic_x (by decide), hNT.2.2.1, had2 83 (by omega)]
  · rw [va_up_ne _ _ (by omega), sPic_x (by decide), hNT.2.2.2.1]
theorem nt_step {kq : Nat} {v w : Int32} (h : nOk G nCl ad2 (va_up (va_up (va_up (sPic G x1 ad1 si sa rn) (84 + k) (some (pE ad1 kq (nI k) v w))) 82 (some (.inr (7, [.int (mcl + 1), .ref (ad2 83), .int (nI (k + 1))])))) 83 (some (qA (G.1.1 103) 4 (va_up (fun j => if j < k then some (ad1 (84 + j)) else none) k (some (ad2 (84 + k))))))) H)
    (hNT : nt_ok G ad x ad1 x1 k kr dr nr mcl) (hkq : kq < 3) (hk : k < 4) (had2 : ∀ z, z ≠ 84 + k → ad2 z = ad1 z) : ∃ x2 : nPic, nOk G nCl ad2 (sPic G x2 ad2 si sa rn) H ∧ nt_ok G ad x ad2 x2 (k + 1) (upd kr k (nI kq)) (upd dr k v) (upd nr k w) (mcl + 1) := by
  obtain ⟨n1, n2, n3, n4, n5⟩ := hNT
  rw [sPic_up ⟨by omega, by omega, by omega, by omega⟩, sPic_up (by decide), sPic_up (by decide), ← sPic_ad (ad := ad1) (ad' := ad2) (fun z hz => had2 z (by omega))] at h
  refine ⟨_, h, ⟨fun z hz => (had2 z (by omega)).trans (n1 z hz), fun z hz => ?_, ?_, ?_, fun j hj => ?_⟩⟩
  · rw [va_up_ne _ _ (by omega), va_up_ne _ _ (by omega), va_up_ne _ _ (by omega), n2 z hz]
  · rw [va_up_ne _ _ (by decide), va_up_self]
  · rw [va_up_self]
    congr 2
    funext j
    by_cases e : j = k
    · subst e
      rw [va_up_self, if_pos (by omega)]
    · rw [va_up_ne _ _ e]
      by_cases hj : j < k
      · rw [if_pos hj, if_pos (by omega), had2 (84 + j) (by omega)]
      · rw [if_neg hj, if_neg (by omega)]
  · rw [va_up_ne _ _ (by omega), va_up_ne _ _ (by omega)]
    by_cases e : j = k
    · subst e
      exact ⟨kq, hkq, by rw [pk_us], by rw [va_up_self, pk_us, pk_us, pE_ad (n1 0 (by omega))]⟩
    · obtain ⟨q, a1, a2, a3⟩ := n5 j (by omega)
      exact ⟨q, a1, by rw [pk_un e]; exact a2, by rw [va_up_ne _ _ (by omega), pk_un e, pk_un e]; exact a3⟩
theorem nt_clrZ {li : Nat} (la : Nat) {mc : Int32} {ea : Value} (hli : li ≠ 0 ∧ li ≠ 1 ∧ li ≠ 4 ∧ li ≠ 5) (h : nOk G nCl ad1 (va_up (sPic G x1 ad1 si sa rn) li (some (.inr (7, [.int mc, ea, .int 0])))) H) :
    ∃ x2 : nPic, nOk G nCl ad1 (sPic G x2 ad1 si sa rn) H ∧ (∀ z, z ≠ li → z ≠ la → x2 z = x1 z) ∧ x2 li = some (.inr (7, [.int mc, ea, .int 0])) := by
  rw [sPic_up hli] at h
  exact ⟨_, h, fun z h1 _ => va_up_ne _ _ h1, va_up_self _ _ _⟩
theorem nt_clr2 {li la : Nat} {mc : Int32} {f : Nat → Option Nat} (hli : li ≠ 0 ∧ li ≠ 1 ∧ li ≠ 4 ∧ li ≠ 5) (hla : la ≠ 0 ∧ la ≠ 1 ∧ la ≠ 4 ∧ la ≠ 5) (hne : li ≠ la) (hf : f = fun _ => none) (h : nOk G nCl ad1 (va_up (va_up (sPic G x1 ad1 si sa rn) li (some (.inr (7, [.int mc, .ref (ad1 la), .int 0])))) la (some (qA (G.1.1 103) 10 f))) H) :
    ∃ x2 : nPic, nOk G nCl ad1 (sPic G x2 ad1 si sa rn) H ∧ (∀ z, z ≠ li → z ≠ la → x2 z = x1 z) ∧ x2 li = some (.inr (7, [.int mc, .ref (ad1 la), .int 0])) ∧ x2 la = some (qA (G.1.1 103) 10 (fun _ => none)) := by
  rw [sPic_up hli, sPic_up hla, hf] at h
  exact ⟨_, h, fun z h1 h2 => by rw [va_up_ne _ _ h2, va_up_ne _ _ h1], by rw [va_up_ne _ _ hne, va_up_self], va_up_self _ _ _⟩
theorem nt_clrO {np : Nat} {mc : Int32} (h : nOk G nCl ad1 (va_up (va_up (sPic G x1 ad1 si sa rn) 2 (some (.inr (7, [.int mc, .ref (ad1 3), .int 0])))) 3 (some (qA (G.1.1 103) 10 (fun j => if j < np then none else sPl ad np j)))) H) :
    ∃ x2 : nPic, nOk G nCl ad1 (sPic G x2 ad1 si sa rn) H ∧ (∀ z, z ≠ 2 → z ≠ 3 → x2 z = x1 z) ∧ x2 2 = some (.inr (7, [.int mc, .ref (ad1 3), .int 0])) ∧ x2 3 = some (qA (G.1.1 103) 10 (fun _ => none)) := by
  refine nt_clr2 (by decide) (by decide) (by decide) ?_ h
  funext j
  unfold sPl
  split
  · rfl
  · rfl
theorem nt_clrR {nr : Nat} {mc : Int32} (h : nOk G nCl ad1 (va_up (va_up (sPic G x1 ad1 si sa rn) 6 (some (.inr (7, [.int mc, .ref (ad1 7), .int 0])))) 7 (some (qA (G.1.1 103) 10 (fun j => if j < nr then none else sRl ad nr j)))) H) :
    ∃ x2 : nPic, nOk G nCl ad1 (sPic G x2 ad1 si sa rn) H ∧ (∀ z, z ≠ 6 → z ≠ 7 → x2 z = x1 z) ∧ x2 6 = some (.inr (7, [.int mc, .ref (ad1 7), .int 0])) ∧ x2 7 = some (qA (G.1.1 103) 10 (fun _ => none)) := by
  refine nt_clr2 (by decide) (by decide) (by decide) ?_ h
  funext j
  unfold sRl
  split
  · rfl
  · rfl
theorem nt_FF (hNT : nt_ok G ad x ad1 x1 k kr dr nr mcl) (hx2 : ∀ z, z ≠ 2 → z ≠ 3 → x2 z = x1 z) (hk : k ≤ 4) : ∀ i, i < k → ∀ y, (fun j => if j < k then some (ad1 (84 + j)) else none) i = some y → ∃ el, el ≠ 88 ∧ el ≠ 2 ∧ el ≠ 3 ∧ y = ad1 el ∧ nEl (sPic G x2 ad1 si sa rn) el := by
  intro i hi y hy
  have hy : (if i < k then some (ad1 (84 + i)) else none) = some y := hy
  rw [if_pos hi] at hy
  obtain ⟨q, a1, a2, a3⟩ := hNT.2.2.2.2 i hi
  refine ⟨84 + i, by omega, by omega, by omega, (Option.some.inj hy).symm, nEl_P (ad := ad) (a := nI i) (b := dr i) (c := nr i) a1 ?_⟩
  rw [sPic_x ⟨by omega, by omega, by omega, by omega⟩, hx2 _ (by omega) (by omega)]
  exact a3
theorem nt_cpy {f : Nat → Option Nat} : va_cpy (va_cpy (fun j => if j < k then f j else none) (fun _ => none) 0 0 k) (fun _ => none) 0 0 k = fun j => if j < k then f j else none := by
  funext j
  unfold va_cpy
  by_cases h : j < k
  · rw [if_pos ⟨by omega, by omega⟩, if_pos ⟨by omega, by omega⟩]
    simp
  · rw [if_neg (by omega), if_neg h]
theorem nt_all {ad3 : Nat → Nat} {mc : Int32} (h : nOk G nCl ad3 (va_up (va_up (va_up (sPic G x2 ad1 si sa rn) 88 (some (qA (G.1.1 103) k (va_cpy (fun j => if j < k then some (ad1 (84 + j)) else none) (fun _ => none) 0 0 k)))) 2 (some (.inr (7, [.int mc, .ref (ad3 3), .int (nI k)])))) 3 (some (qA (G.1.1 103) 10 (va_cpy (va_cpy (fun j => if j < k then some (ad1 (84 + j)) else none) (fun _ => none) 0 0 k) (fun _ => none) 0 0 k)))) H)
    (hz : ∀ z, z ≠ 88 → z ≠ 3 → ad3 z = ad1 z) (hx2 : ∀ z, z ≠ 2 → z ≠ 3 → x2 z = x1 z) :
    ∃ (ad3 : Nat → Nat) (x3 : nPic), nOk G nCl ad3 (sPic G x3 ad3 si sa rn) H ∧ (∀ z, z ≠ 88 → z ≠ 3 → ad3 z = ad1 z) ∧ (∀ z, z ≠ 2 → z ≠ 3 → z ≠ 88 → x3 z = x1 z) ∧ x3 2 = some (.inr (7, [.int mc, .ref (ad3 3), .int (nI k)])) ∧ x3 3 = some (qA (G.1.1 103) 10 (fun j => if j < k then some (ad1 (84 + j)) else none)) := by
  rw [nt_cpy (f := fun j => some (ad1 (84 + j))), sPic_up (by decide), sPic_up (by decide), sPic_up (by decide), ← sPic_ad6 (ad := ad1) (ad' := ad3) ⟨hz 1 (by decide) (by decide), hz 2 (by decide) (by decide), hz 4 (by decide) (by decide), hz 5 (by decide) (by decide), hz 6 (by decide) (by decide), hz 8 (by decide) (by decide)⟩] at h
  refine ⟨ad3, _, h, hz, fun z h1 h2 h3 => ?_, ?_, va_up_self _ _ _⟩
  · rw [va_up_ne _ _ h2, va_up_ne _ _ h1, va_up_ne _ _ h3, hx2 z h1 h2]
  · rw [va_up_ne _ _ (by decide), va_up_self]
theorem nt_fin {ad3 : Nat → Nat} {x3 x4 : nPic} {mc : Int32} {dm p_ : Nat} {wr : AI} (h : nOk G nCl ad3 (sPic G x4 ad3 si sa rn) H) (hNT : nt_ok G ad x ad1 x1 k kr dr nr mcl) (hz : ∀ z, z ≠ 88 → z ≠ 3 → ad3 z = ad1 z) (hx3 : ∀ z, z ≠ 2 → z ≠ 3 → z ≠ 88 → x3 z = x1 z) (hx4 : ∀ z, z ≠ 6 → z ≠ 7 → x4 z = x3 z)
    (h2 : x4 2 = some (.inr (7, [.int mc, .ref (ad3 3), .int (nI k)]))) (h3 : x4 3 = some (qA (G.1.1 103) 10 (fun j => if j < k then some (ad1 (84 + j)) else none))) (hR : ∀ rw_ rf_ : AI, sRea G ad3 x4 0 rw_ rf_) (hk : k ≤ 4) (hdm : dm ≤ 6) :
    ∃ (ad5 : Nat → Nat) (x5 : nPic), nOk G nCl ad5 (sPic G x5 ad5 si sa rn) H ∧ ntQ G ad x ad5 x5 (true, p_, (dm, wr), (k, kr, dr, nr)) := by
  obtain ⟨n1, n2, n3, n4, n5⟩ := hNT
  obtain ⟨ad5, e5⟩ : ∃ ad5 : Nat → Nat, ad5 = fun z => if 20 ≤ z ∧ z < 24 then ad3 (z + 64) else ad3 z := ⟨_, rfl⟩
  obtain ⟨x5, f5⟩ : ∃ x5 : nPic, x5 = fun z => if 20 ≤ z ∧ z < 24 then (if z < 20 + k then x4 (z + 64) else none) else if 80 ≤ z then none else x4 z := ⟨_, rfl⟩
  have ea : ∀ z, (z < 20 ∨ 24 ≤ z) → ad5 z = ad3 z := fun z hz => by rw [e5]; exact if_neg (by omega)
  have ep : ∀ j, j < 4 → ad5 (20 + j) = ad3 (84 + j) := fun j hj => by rw [e5]; show (if 20 ≤ 20 + j ∧ 20 + j < 24 then ad3 (20 + j + 64) else _) = _; rw [if_pos (by omega), show 20 + j + 64 = 84 + j by omega]
  have fa : ∀ z, (z < 20 ∨ 24 ≤ z) → z < 80 → x5 z = x4 z := fun z hz h8 => by rw [f5]; show (if 20 ≤ z ∧ z < 24 then _ else if 80 ≤ z then _ else x4 z) = _; rw [if_neg (by omega), if_neg (by omega)]
  have f8 : ∀ z, 80 ≤ z → x5 z = none := fun z h8 => by rw [f5]; show (if 20 ≤ z ∧ z < 24 then _ else if 80 ≤ z then _ else x4 z) = _; rw [if_neg (by omega), if_pos h8]
  have fp : ∀ j, j < k → x5 (20 + j) = x4 (84 + j) := fun j hj => by rw [f5]; show (if 20 ≤ 20 + j ∧ 20 + j < 24 then (if 20 + j < 20 + k then x4 (20 + j + 64) else none) else _) = _; rw [if_pos (by omega), if_pos (by omega), show 20 + j + 64 = 84 + j by omega]
  have fn : ∀ z, 20 ≤ z → z < 24 → x5 z ≠ none → z < 20 + k := fun z g1 g2 g3 => by
    rcases Nat.lt_or_ge z (20 + k) with q | q
    · exact q
    · exact absurd (by rw [f5]; show (if 20 ≤ z ∧ z < 24 then (if z < 20 + k then x4 (z + 64) else none) else _) = _; rw [if_pos ⟨g1, g2⟩, if_neg (by omega)]) g3
  refine ⟨ad5, x5, ?_, ?_⟩
  · rw [sPic_ad (ad := ad3) (fun z hz => ea z (Or.inl hz))]
    refine nOk.ren (fun z => if 20 ≤ z ∧ z < 24 then z + 64 else z) h (fun i e he => ?_) (fun i i2 hi hi2 hij => ?_)
    · show sPic G x4 ad3 si sa rn (if 20 ≤ i ∧ i < 24 then i + 64 else i) = some e ∧ ad5 i = ad3 (if 20 ≤ i ∧ i < 24 then i + 64 else i)
      by_cases h1 : 20 ≤ i ∧ i < 24
      · rw [if_pos h1]
        rw [sPic_x (by omega)] at he
        have hlt := fn i h1.1 h1.2 (by rw [he]; simp)
        obtain ⟨j, rfl⟩ : ∃ j, i = 20 + j := ⟨i - 20, by omega⟩
        rw [fp j (by omega)] at he
        rw [show 20 + j + 64 = 84 + j by omega, sPic_x ⟨by omega, by omega, by omega, by omega⟩]
        exact ⟨he, ep j (by omega)⟩
      · rw [if_neg h1]
        refine ⟨?_, ea i (by omega)⟩
        rw [← he]
        by_cases hs : i = 0 ∨ i = 1 ∨ i = 4 ∨ i = 5
        · exact sPic_i hs
        · rw [sPic_x (by omega)] at he
          rcases Nat.lt_or_ge i 80 with h8 | h8
          · rw [sPic_x (by omega), sPic_x (by omega), fa i (by omega) h8]
          · rw [f8 i h8] at he
            cases he
    · have hij : (if 20 ≤ i ∧ i < 24 then i + 64 else i) = (if 20 ≤ i2 ∧ i2 < 24 then i2 + 64 else i2) := hij
      have g : ∀ z, sPic G x5 ad3 si sa rn z ≠ none → z < 80 := by
        intro z hz
        rcases Nat.lt_or_ge z 80 with q | q
        · exact q
        · exact absurd (by rw [sPic_x (by omega), f8 z q]) hz
      have g1 := g i hi
      have g2 := g i2 hi2
      split at hij <;> split at hij <;> omega
  · refine ⟨fun z h8 h1 hq => (ea z hq).trans ((hz z (by omega) h1).trans (n1 z h8)), fun z h8 hne hq => ?_, f8, ?_, fun rw_ rf_ => ?_, hdm⟩
    · rw [fa z hq h8, hx4 z (by omega) (by omega), hx3 z (by omega) (by omega) (by omega), n2 z h8]
    · have e0 : ad5 0 = ad 0 := by rw [ea 0 (by omega), hz 0 (by decide) (by decide), n1 0 (by omega)]
      refine ⟨hk, ⟨mc, .ref (ad5 3), ?_, Or.inr ⟨rfl, ?_⟩⟩, fun j hj => ?_⟩
      · rw [fa 2 (by omega) (by omega), h2, ea 3 (by omega)]
      · rw [fa 3 (by omega) (by omega), h3]
        congr 2
        funext j
        show _ = sPl ad5 k j
        unfold sPl
        by_cases hj : j < k
        · rw [if_pos hj, if_pos hj, ep j (by omega), hz (84 + j) (by omega) (by omega)]
        · rw [if_neg hj, if_neg hj]
      · have hj : j < k := hj
        obtain ⟨q, a1, a2, a3⟩ := n5 j hj
        refine ⟨q, a1, a2, ?_⟩
        rw [fp j hj, hx4 _ (by omega) (by omega), hx3 _ (by omega) (by omega) (by omega), a3, pE_ad e0]
    · obtain ⟨r8, ⟨mr, er, r1, r2⟩, r3⟩ := hR rw_ rf_
      refine ⟨r8, ⟨mr, er, (fa 6 (by omega) (by omega)).trans r1, ?_⟩, fun j hj => absurd hj (by omega)⟩
      rcases r2 with q | ⟨q, q2⟩
      · exact Or.inl q
      · refine Or.inr ⟨by rw [q, ea 7 (by omega)], (fa 7 (by omega) (by omega)).trans ?_⟩
        rw [q2]
        congr 2
end NT
set_option maxHeartbeats 1000000 in
set_option maxRecDepth 100000 in
theorem sX0_codeAt (l : Launch) (G : nG) (K : State → Prop) (hKo : nKo G K) (hK0 : ∀ U, K U → sK0 G U) (ad : Nat → Nat) (c0 : nPic) (ra n_ : Nat) (cd : AI) (hRx : c0 ra = some (.inl (G.1.1 100, n_, .inl cd))) (hn : n_ ≤ 60) (p_ : Nat) (hp : p_ < 1000) : Met l yX0_codeAt (ws_ yX0_codeAt cX0_codeAt 2 (some .int)) (sR 0 0 0) (nPc G nCl K ad c0 [.ref (ad ra), .int (nI p_)]) (nQ G nCl (fun rv ad' c' => rv = some (.int (pcd cd n_ p_)) ∧ ad = ad' ∧ c0 = c')) 0 0 (fun q => G.2 ≤ q) := by
  refine nMet RX0 (by decide) rfl (Nat.le_of_ble_eq_true rfl) ?_
  intro p e s m below meth c ls SS hR hK hN hS hl
  obtain ⟨hx, hb, hml, hown, hts⟩ := id SS
  obtain ⟨hr, hlk, hnm⟩ := hR
  obtain ⟨hKv, hKw, hKf, hKz, hKm⟩ := hK0 s hK
  generalize s.heap = H at hN hS ⊢
  generalize ([] : List Loc) = locs at hS ⊢
  have hl : lv_has ls 2 [(0, .ref (ad ra)), (1, .int (nI p_))] := hl
  refine lv_iload_n hx hb dX0_codeAt_0 rfl (lv_at hl 1 rfl) ?_
  refine lv_aload_n hx hb dX0_codeAt_1 rfl (lv_at hl 0 rfl) ?_
  refine n_alen hx hb hKv hN (ra) 0 hRx rfl dX0_codeAt_2 ?_
  refine lv_icmp_ge (tgt := 12) hx hb dX0_codeAt_3 (by decide) (fun c3 => ?_) (fun c3 => ?_)
  · have c3 : n_ ≤ p_ := (nI_leI (by omega) (by omega)).mp c3
    have hz : pcd cd n_ p_ = -9 := if_neg (by omega)
    refine lv_bipush (v := (-9)) hx hb dX0_codeAt_12 (by decide) ?_
    exact W.iret hx hb hr (nEnd hN hS ⟨by rw [hz], rfl, rfl⟩) hS.2 dX0_codeAt_14
  · have c3 : p_ < n_ := by have := mt (nI_leI (a := n_) (b := p_) (by omega) (by omega)).mpr c3; omega
    have hz : pcd cd n_ p_ = cd p_ := if_pos c3
    refine lv_aload_n hx hb dX0_codeAt_6 rfl (lv_at hl 0 rfl) ?_
    refine lv_iload_n hx hb dX0_codeAt_7 rfl (lv_at hl 1 rfl) ?_
    refine n_iald hx hb hKv hN (ra) 0 hRx rfl (p_) (rfl) (by omega) (by omega) dX0_codeAt_8 ?_
    refine lv_goto (tgt := 14) hx hb dX0_codeAt_9 (by decide) ?_
    exact W.iret hx hb hr (nEnd hN hS ⟨by rw [hz], rfl, rfl⟩) hS.2 dX0_codeAt_14
set_option maxHeartbeats 1000000 in
set_option maxRecDepth 100000 in
theorem sX0_isFigure (l : Launch) (G : nG) (K : State → Prop) (hKo : nKo G K) (hK0 : ∀ U, K U → sK0 G U) (ad : Nat → Nat) (c0 : nPic) (ra n_ : Nat) (cd : AI) (hRx : c0 ra = some (.inl (G.1.1 100, n_, .inl cd))) (hn : n_ ≤ 60) (p_ : Nat) (hp : p_ < 1000) (lo hi : Int32) (hlo : ∃ a, a < 1000 ∧ lo = nI a) (hhi : ∃ b, b < 1000 ∧ hi = nI b) : Met l yX0_isFigure (ws_ yX0_isFigure cX0_isFigure 4 (some .boolean)) (sR 1 0 0) (nPc G nCl K ad c0 [.ref (ad ra), .int (nI p_), .int lo, .int hi]) (nQ G nCl (fun rv ad' c' => rv = some (.int (zI (pd cd n_ p_ lo hi))) ∧ ad = ad' ∧ c0 = c')) 0 0 (fun q => G.2 ≤ q) := by
  refine nMet RX0 (by decide) rfl (Nat.le_of_ble_eq_true rfl) ?_
  intro p e s m below meth c ls SS hR hK hN hS hl
  obtain ⟨hx, hb, hml, hown, hts⟩ := id SS
  obtain ⟨hr, hlk, hnm⟩ := hR
  obtain ⟨hKv, hKw, hKf, hKz, hKm⟩ := hK0 s hK
  generalize s.heap = H at hN hS ⊢
  generalize ([] : List Loc) = locs at hS ⊢
  have hl : lv_has ls 4 [(0, .ref (ad ra)), (1, .int (nI p_)), (2, .int lo), (3, .int hi)] := hl
  refine lv_aload_n hx hb dX0_isFigure_0 rfl (lv_at hl 0 rfl) ?_
  refine lv_iload_n hx hb dX0_isFigure_1 rfl (lv_at hl 1 rfl) ?_
  refine n_callS (As := [_, _]) SS hKo hK (sX0_codeAt l G K hKo hK0 ad _ ra n_ cd hRx hn p_ hp) (va_cwS 2 hts (lw_S q760 q761 q57 q762) rfl rfl rfl (by decide +kernel) ⟨Nat.le_of_ble_eq_true rfl, Nat.le_of_ble_eq_true rfl⟩) hN hS rfl hl.1 rfl (Nat.le_of_ble_eq_true rfl) dX0_isFigure_2 ⟨Nat.le_of_ble_eq_true rfl, Nat.le_of_ble_eq_true rfl⟩ (fun v ad' c' H locs hv hN hS => ?_)
  obtain ⟨rfl, rfl, rfl⟩ := hv
  refine W.eq (g2 := F0 m 5 ls (_ :: _)) rfl ?_
  refine lv_bipush (v := 48) hx hb dX0_isFigure_5 (by decide) ?_
  refine lv_isub hx hb dX0_isFigure_7 ?_
  refine lv_i2l hx hb dX0_isFigure_8 rfl ?_
  refine lv_iload_n hx hb dX0_isFigure_9 rfl (lv_at hl 2 rfl) ?_
  refine lv_i2l hx hb dX0_isFigure_10 rfl ?_
  refine lv_iload_n hx hb dX0_isFigure_11 rfl (lv_at hl 3 rfl) ?_
  refine lv_i2l hx hb dX0_isFigure_12 rfl ?_
  refine n_callS (As := [_, _, _]) SS hKo hK (sX0_in l G K hKo hK0 ad _ (pcd cd n_ p_ - 48) lo hi) (va_cwS 3 hts (lw_S q185 q186 q57 q187) rfl rfl rfl (by decide +kernel) ⟨Nat.le_of_ble_eq_true rfl, Nat.le_of_ble_eq_true rfl⟩) hN hS rfl hl.1 rfl (Nat.le_of_ble_eq_true rfl) dX0_isFigure_13 ⟨Nat.le_of_ble_eq_true rfl, Nat.le_of_ble_eq_true rfl⟩ (fun v ad' c' H locs hv hN hS => ?_)
  obtain ⟨rfl, rfl, rfl⟩ := hv
  refine W.eq (g2 := F0 m 16 ls (_ :: _)) rfl ?_
  refine n_top (y := zI (pd cd n_ p_ lo hi)) (by rw [fig_eq hlo hhi]) ?_
  exact W.zret hx hb hr (zI_nar _) (nEnd hN hS ⟨rfl, rfl, rfl⟩) hS.2 dX0_isFigure_16
set_option maxHeartbeats 1000000 in
set_option maxRecDepth 100000 in
theorem sX0_figureAt (l : Launch) (G : nG) (K : State → Prop) (hKo : nKo G K) (hK0 : ∀ U, K U → sK0 G U) (ad : Nat → Nat) (c0 : nPic) (ra n_ : Nat) (cd : AI) (hRx : c0 ra = some (.inl (G.1.1 100, n_, .inl cd))) (hn : n_ ≤ 60) (p_ : Nat) (hp : p_ < n_) : Met l yX0_figureAt (ws_ yX0_figureAt cX0_figureAt 2 (some .int)) (sR 0 0 0) (nPc G nCl K ad c0 [.ref (ad ra), .int (nI p_)]) (nQ G nCl (fun rv ad' c' => rv = some (.int (cd p_ - 48)) ∧ ad = ad' ∧ c0 = c')) 0 0 (fun q => G.2 ≤ q) := by
  refine nMet RX0 (by decide) rfl (Nat.le_of_ble_eq_true rfl) ?_
  intro p e s m below meth c ls SS hR hK hN hS hl
  obtain ⟨hx, hb, hml, hown, hts⟩ := id SS
  obtain ⟨hr, hlk, hnm⟩ := hR
  obtain ⟨hKv, hKw, hKf, hKz, hKm⟩ := hK0 s hK
  generalize s.heap = H at hN hS ⊢
  generalize ([] : List Loc) = locs at hS ⊢
  have hl : lv_has ls 2 [(0, .ref (ad ra)), (1, .int (nI p_))] := hl
  refine lv_aload_n hx hb dX0_figureAt_0 rfl (lv_at hl 0 rfl) ?_
  refine lv_iload_n hx hb dX0_figureAt_1 rfl (lv_at hl 1 rfl) ?_
  refine n_iald hx hb hKv hN (ra) 0 hRx rfl (p_) (rfl) (by omega) (by omega) dX0_figureAt_2 ?_
  refine lv_bipush (v := 48) hx hb dX0_figureAt_3 (by decide) ?_
  refine lv_isub hx hb dX0_figureAt_5 ?_
  exact W.iret hx hb hr (nEnd hN hS ⟨rfl, rfl, rfl⟩) hS.2 dX0_figureAt_6
set_option maxHeartbeats 1000000 in
set_option maxRecDepth 100000 in
theorem sX0_newTower (l : Launch) (G : nG) (K : State → Prop) (hKo : nKo G K) (hK0 : ∀ U, K U → sK0 G U) (ad : Nat → Nat) (x : nPic) (si : AI) (sa : Nat → AI) (rn : Value) (np : Nat) (kd dr kn : AI) (hP : sPeo G ad x np kd dr kn) (nr : Nat) (rw_ rf_ : AI) (hQ : sRea G ad x nr rw_ rf_) (ra n_ : Nat) (cd : AI) (hn : n_ ≤ 60) (hra : ra ≠ 0 ∧ ra ≠ 1 ∧ ra ≠ 4 ∧ ra ≠ 5) (hra2 : 8 < ra ∧ ra < 80 ∧ (ra < 20 ∨ 40 ≤ ra)) (hRx : x ra = some (.inl (G.1.1 100, n_, .inl cd))) (hx8 : ∀ z, 80 ≤ z → x z = none) (T : Bool × Nat × (Nat × AI) × (Nat × AI × AI × AI)) (hT : pT cd n_ = T) : Met l yX0_newTower (ws_ yX0_newTower cX0_newTower 8 (some .int)) (sR 7 8 51) (nPc G nCl K ad (sPic G x ad si sa rn) [.ref (ad 0), .ref (ad ra)]) (nQ G nCl (fun rv ad' c' => rv = some (.int (if T.1 = true then nI T.2.2.2.1 else -100 - nI T.2.1)) ∧ (T.1 = false → ad = ad' ∧ sPic G x ad si sa rn = c') ∧ (T.1 = true → ∃ x' : nPic, ntQ G ad x ad' x' T ∧ sPic G x' ad' (upd si 1 (nI T.2.2.1.1)) (va_up (va_up sa 1 (pTk T.2.2.1.1 T.2.2.1.2 (sa 1))) 4 (pTk 4 pZ (sa 4))) rn = c'))) 8 51 (fun q => G.2 ≤ q) := by
  refine nMet RX0 (by decide) rfl (Nat.le_of_ble_eq_true rfl) ?_
  intro p e s m below meth c ls SS hR hK hN hS hl
  obtain ⟨hx, hb, hml, hown, hts⟩ := id SS
  obtain ⟨hr, hlk, hnm⟩ := hR
  obtain ⟨hKv, hKw, hKf, hKz, hKm⟩ := hK0 s hK
  generalize s.heap = H at hN hS ⊢
  generalize ([] : List Loc) = locs at hS ⊢
  have hl : lv_has ls 8 [(0, .ref (ad 0)), (1, .ref (ad ra))] := hl
  have hnp4 := hP.1
  have hRr : (sPic G x ad si sa rn) ra = _ := (sPic_x hra).trans hRx
  refine lv_aload_n hx hb dX0_newTower_0 rfl (lv_at hl 1 rfl) ?_
  refine lv_iconst (v := 0) hx hb dX0_newTower_1 (by decide) ?_
  refine n_callS (As := [_, _]) SS hKo hK (sX0_codeAt l G K hKo hK0 ad _ ra n_ cd hRr hn (0) (by omega)) (va_cwS 2 hts (lw_S q760 q761 q57 q762) rfl rfl rfl (by decide +kernel) ⟨Nat.le_of_ble_eq_true rfl, Nat.le_of_ble_eq_true rfl⟩) hN hS rfl hl.1 rfl (Nat.le_of_ble_eq_true rfl) dX0_newTower_2 ⟨Nat.le_of_ble_eq_true rfl, Nat.le_of_ble_eq_true rfl⟩ (fun v ad' c' H locs hv hN hS => ?_)
  obtain ⟨rfl, rfl, rfl⟩ := hv
  refine W.eq (g2 := F0 m 5 ls (_ :: _)) rfl ?_
  refine lv_bipush (v := 117) hx hb dX0_newTower_5 (by decide) ?_
  refine lv_icmp_eq (tgt := 13) hx hb dX0_newTower_7 (by decide) (fun c7 => ?_) (fun c7 => ?_)
  · have h117 : pSg cd n_ 0 117 = true := (pcd_sg (by decide)).mp c7
    have hn0 := (pSg_lt h117).1
    refine lv_iconst (v := nI 0) hx hb dX0_newTower_13 (rfl) ?_
    refine lv_istore_n (lv' := [(2, _), (0, _), (1, _)]) hx hb dX0_newTower_14 rfl hl (by decide) rfl (fun ls hl => ?_)
    refine lv_iconst (v := nI (1 + 2 * 0)) hx hb dX0_newTower_15 (rfl) ?_
    refine lv_istore_n (lv' := [(3, _), (2, _), (0, _), (1, _)]) hx hb dX0_newTower_16 rfl hl (by decide) rfl (fun ls hl => ?_)
    have loop17 : ∀ (n : Nat) (dm : Nat) (wr : AI) (H : Heap) (locs : List Loc) (ls : Array Slot), 8 ≤ n + dm → dm ≤ 6 → 1 + 2 * dm ≤ n_ → pD cd n_ (8 - dm) (1 + 2 * dm) dm wr = pD cd n_ 8 1 0 pZ → (∀ d, d < dm → wr d = cd (2 + 2 * d) - 48) → nOk G nCl ad (sPic G x ad si sa rn) H → nS G s H locs → lv_has ls 8 [(0, .ref (ad 0)), (1, .ref (ad ra)), (2, .int (nI dm)), (3, .int (nI (1 + 2 * dm)))] → W p l e (sR 7 8 51) s m ([.ref (ad 0), .ref (ad ra)] : List Value).toArray below meth c H locs 0 0 (MQ below (nQ G nCl (fun rv ad' c' => rv = some (.int (if T.1 = true then nI T.2.2.2.1 else -100 - nI T.2.1)) ∧ (T.1 = false → ad = ad' ∧ sPic G x ad si sa rn = c') ∧ (T.1 = true → ∃ x' : nPic, ntQ G ad x ad' x' T ∧ sPic G x' ad' (upd si 1 (nI T.2.2.1.1)) (va_up (va_up sa 1 (pTk T.2.2.1.1 T.2.2.1.2 (sa 1))) 4 (pTk 4 pZ (sa 4))) rn = c'))) ([.ref (ad 0), .ref (ad ra)] : List Value).toArray s 8 51 (fun q => G.2 ≤ q)) (F0 m 17 ls []) := by
      intro n
      induction n with
      | zero => intro dm wr H locs ls hfuel hdm hpn hDi hwr hN hS hl; exact absurd hfuel (by omega)
      | succ n ih17 =>
        intro dm wr H locs ls hfuel hdm hpn hDi hwr hN hS hl
        obtain ⟨ff, eff⟩ : ∃ ff, 8 - dm = ff + 1 := ⟨7 - dm, by omega⟩
        rw [eff] at hDi
        refine lv_iload_n hx hb dX0_newTower_17 rfl (lv_at hl 2 rfl) ?_
        refine lv_if_eq (tgt := 31) hx hb dX0_newTower_18 (by decide) (fun c18 => ?_) (fun c18 => ?_)
        · have hd0 : dm = 0 := (nI_eq (a := dm) (b := 0) (by omega) (by omega)).mp c18
          refine lv_iload_n hx hb dX0_newTower_31 rfl (lv_at hl 2 rfl) ?_
          refine lv_bipush (v := 6) hx hb dX0_newTower_32 (by decide) ?_
          refine lv_icmp_eq (tgt := 47) hx hb dX0_newTower_34 (by decide) (fun c34 => absurd c34 (fun z => by have := (nI_eq (a := dm) (b := 6) (by omega) (by omega)).mp z; omega)) (fun c34 => ?_)
          have hd6 : ¬ dm = 6 := fun z => c34 (by rw [z]; rfl)
          refine lv_aload_n hx hb dX0_newTower_37 rfl (lv_at hl 1 rfl) ?_
          refine lv_iload_n hx hb dX0_newTower_38 rfl (lv_at hl 3 rfl) ?_
          refine n_callS (As := [_, _]) SS hKo hK (sX0_codeAt l G K hKo hK0 ad _ ra n_ cd hRr hn ((1 + 2 * dm)) (by omega)) (va_cwS 2 hts (lw_S q760 q761 q57 q762) rfl rfl rfl (by decide +kernel) ⟨Nat.le_of_ble_eq_true rfl, Nat.le_of_ble_eq_true rfl⟩) hN hS rfl hl.1 rfl (Nat.le_of_ble_eq_true rfl) dX0_newTower_39 ⟨Nat.le_of_ble_eq_true rfl, Nat.le_of_ble_eq_true rfl⟩ (fun v ad' c' H locs hv hN hS => ?_)
          obtain ⟨rfl, rfl, rfl⟩ := hv
          refine W.eq (g2 := F0 m 42 ls (_ :: _)) rfl ?_
          refine lv_bipush (v := 45) hx hb dX0_newTower_42 (by decide) ?_
          refine lv_icmp_eq (tgt := 52) hx hb dX0_newTower_44 (by decide) (fun c44 => ?_) (fun c44 => ?_)
          · have hs45 : pSg cd n_ (1 + 2 * dm) 45 = true := (pcd_sg (by decide)).mp c44
            refine lv_aload_n hx hb dX0_newTower_52 rfl (lv_at hl 1 rfl) ?_
            refine lv_iload_n hx hb dX0_newTower_53 rfl (lv_at hl 3 rfl) ?_
            refine lv_iconst (v := 1) hx hb dX0_newTower_54 (by decide) ?_
            refine lv_iadd hx hb dX0_newTower_55 ?_
            refine n_top (y := nI (1 + 2 * dm + 1)) (nI_1 _) ?_
            refine lv_iconst (v := 1) hx hb dX0_newTower_56 (by decide) ?_
            refine lv_bipush (v := 9) hx hb dX0_newTower_57 (by decide) ?_
            refine n_callS (As := [_, _, _, _]) SS hKo hK (sX0_isFigure l G K hKo hK0 ad _ ra n_ cd hRr hn (1 + 2 * dm + 1) (by omega) 1 9 ⟨_, by decide, rfl⟩ ⟨_, by decide, rfl⟩) (va_cwS 4 hts (lw_S q763 q764 q57 q765) rfl rfl rfl (by decide +kernel) ⟨Nat.le_of_ble_eq_true rfl, Nat.le_of_ble_eq_true rfl⟩) hN hS rfl hl.1 rfl (Nat.le_of_ble_eq_true rfl) dX0_newTower_59 ⟨Nat.le_of_ble_eq_true rfl, Nat.le_of_ble_eq_true rfl⟩ (fun v ad' c' H locs hv hN hS => ?_)
            obtain ⟨rfl, rfl, rfl⟩ := hv
            refine W.eq (g2 := F0 m 62 ls (_ :: _)) rfl ?_
            refine lv_if_ne (tgt := 70) hx hb dX0_newTower_62 (by decide) (fun c62 => ?_) (fun c62 => ?_)
            · have hfig : pd cd n_ (1 + 2 * dm + 1) 1 9 = true := zI_n0 c62
              have hplt := pd_lt hfig
              refine lv_iinc (v := nI (1 + 2 * (dm + 1))) (lv' := [(3, _), (0, _), (1, _), (2, _)]) hx hb dX0_newTower_70 hl (k := 3) rfl (nI_i2 (1 + 2 * dm)) (by decide) rfl (fun ls hl => ?_)
              refine lv_iinc (v := nI (dm + 1)) (lv' := [(2, _), (3, _), (0, _), (1, _)]) hx hb dX0_newTower_73 hl (k := 3) rfl (nI_inc dm) (by decide) rfl (fun ls hl => ?_)
              refine lv_goto (tgt := 17) hx hb dX0_newTower_76 (by decide) ?_
              exact ih17 (dm + 1) (upd wr dm (cd (1 + 2 * dm + 1) - 48)) _ _ _ (by omega) (by omega) (by omega) (by rw [show 8 - (dm + 1) = ff by omega, show 1 + 2 * (dm + 1) = 1 + 2 * dm + 2 by omega]; exact (pD_s (by omega) hs45 hfig).symm.trans hDi) (nt_wr hwr) hN hS (lv_sub hl [2, 3, 0, 1] (rfl))
            · have hfig : pd cd n_ (1 + 2 * dm + 1) 1 9 = false := zI_0.mp c62
              have hTf : T.1 = false ∧ T.2.1 = 1 + 2 * dm + 1 := by rw [← hT]; exact nt_TD h117 (hDi.symm.trans (pD_b (by omega) hs45 hfig))
              refine lv_bipush (v := (-101)) hx hb dX0_newTower_65 (by decide) ?_
              refine lv_iload_n hx hb dX0_newTower_67 rfl (lv_at hl 3 rfl) ?_
              refine lv_isub hx hb dX0_newTower_68 ?_
              refine W.widen (k := 8) (n := 51) (by first | omega | decide) (by first | omega | decide) ?_
              exact W.iret hx hb hr (nEnd hN hS ⟨by rw [if_neg (by rw [hTf.1]; simp), hTf.2] <;> exact congrArg (fun z => some (Value.int z)) (nt_m1 _), fun _ => ⟨rfl, rfl⟩, fun z => by rw [hTf.1] at z; cases z⟩) hS.2 dX0_newTower_69
          · have hs45 : pSg cd n_ (1 + 2 * dm) 45 = false := pcd_sgf (by decide) c44
            have hTf : T.1 = false ∧ T.2.1 = (1 + 2 * dm) := by rw [← hT]; exact nt_TD h117 (hDi.symm.trans (by rw [pD_a hs45, decide_eq_false (by omega)]))
            refine lv_bipush (v := (-100)) hx hb dX0_newTower_47 (by decide) ?_
            refine lv_iload_n hx hb dX0_newTower_49 rfl (lv_at hl 3 rfl) ?_
            refine lv_isub hx hb dX0_newTower_50 ?_
            refine W.widen (k := 8) (n := 51) (by first | omega | decide) (by first | omega | decide) ?_
            exact W.iret hx hb hr (nEnd hN hS ⟨by rw [if_neg (by rw [hTf.1]; simp), hTf.2], fun _ => ⟨rfl, rfl⟩, fun z => by rw [hTf.1] at z; cases z⟩) hS.2 dX0_newTower_51
        · have hd0 : ¬ dm = 0 := fun z => c18 (by rw [z]; rfl)
          refine lv_aload_n hx hb dX0_newTower_21 rfl (lv_at hl 1 rfl) ?_
          refine lv_iload_n hx hb dX0_newTower_22 rfl (lv_at hl 3 rfl) ?_
          refine n_callS (As := [_, _]) SS hKo hK (sX0_codeAt l G K hKo hK0 ad _ ra n_ cd hRr hn ((1 + 2 * dm)) (by omega)) (va_cwS 2 hts (lw_S q760 q761 q57 q762) rfl rfl rfl (by decide +kernel) ⟨Nat.le_of_ble_eq_true rfl, Nat.le_of_ble_eq_true rfl⟩) hN hS rfl hl.1 rfl (Nat.le_of_ble_eq_true rfl) dX0_newTower_23 ⟨Nat.le_of_ble_eq_true rfl, Nat.le_of_ble_eq_true rfl⟩ (fun v ad' c' H locs hv hN hS => ?_)
          obtain ⟨rfl, rfl, rfl⟩ := hv
          refine W.eq (g2 := F0 m 26 ls (_ :: _)) rfl ?_
          refine lv_bipush (v := 45) hx hb dX0_newTower_26 (by decide) ?_
          refine lv_icmp_ne (tgt := 79) hx hb dX0_newTower_28 (by decide) (fun c28 => ?_) (fun c28 => ?_)
          · have hs45 : pSg cd n_ (1 + 2 * dm) 45 = false := pcd_sgf (by decide) c28
            have hDD : pD cd n_ 8 1 0 pZ = (true, (1 + 2 * dm), dm, wr) := by rw [← hDi, pD_a hs45, decide_eq_true hd0]
            refine n_new (C := RJ2) (T := TJ2) (N := 3) (ci := 7) (fs := [.int 0, .null, .int 0]) hx hb hts in_J2 tyJ2 tyJ2_ok hown q98 q99 q60 hKv hN hS (82) rfl (by intro j hj; rcases (show j = 0 ∨ j = 1 ∨ j = 2 by omega) with rfl | rfl | rfl <;> rfl) (Nat.le_of_ble_eq_true rfl) (Nat.le_of_ble_eq_true rfl) dX0_newTower_79 (fun q79 H hN hS => ?_)
            obtain ⟨ad9, e9⟩ : ∃ ad9, ad9 = va_up ad 82 q79 := ⟨_, rfl⟩
            rw [← e9] at hN
            have hq9 : ad9 82 = q79 := by rw [e9]; exact va_up_self _ _ _
            have hL9 : (va_up (sPic G x ad si sa rn) 82 (some (.inr (7, [.int 0, .null, .int 0])))) 82 = _ := va_up_self _ _ _
            refine W.eq (g2 := F0 m 82 ls [.ref (ad9 82)]) (by rw [hq9] <;> rfl) ?_
            refine lv_dup hx hb dX0_newTower_82 rfl ?_
            refine lv_iconst (v := 4) hx hb dX0_newTower_83 (by decide) ?_
            refine n_callI (As := [_]) SS hKo hK (tJ2_init_2 l G K hKo hK0 ad9 _ 82 0 .null 0 hL9 83 (by decide)) (cwI 1 hts (lw_meth q768) rfl rfl rfl (hts _ q60) (hts _ q766) (hts _ q767) rfl (by decide +kernel) ⟨Nat.le_of_ble_eq_true rfl, Nat.le_of_ble_eq_true rfl⟩) hN hS rfl hl.1 rfl (Nat.le_of_ble_eq_true rfl) dX0_newTower_84 ⟨Nat.le_of_ble_eq_true rfl, Nat.le_of_ble_eq_true rfl⟩ (fun v ad' c' H locs hv hN hS => ?_)
            obtain ⟨q, rfl, rfl, rfl⟩ := hv
            obtain ⟨ad1, x1, hN, hNT, e82⟩ := nt_start hN e9 hx8
            refine W.eq (g2 := F0 m 87 ls _) rfl ?_
            refine W.eq (g2 := F0 m 87 ls [.ref (ad1 82)]) (by rw [e82] <;> rfl) ?_
            rw [← hNT.1 0 (by omega), ← hNT.1 ra (by omega)] at hl
            refine lv_astore (lv' := [(4, _), (0, _), (1, _), (2, _), (3, _)]) hx hb dX0_newTower_87 hl (by decide) rfl (fun ls hl => ?_)
            refine W.widen (k := 2 + 0) (n := 7 + 6 * 0) (by decide) (by decide) ?_
            have loop89 : ∀ (n : Nat) (k p_ : Nat) (ad1 : Nat → Nat) (x1 : nPic) (kr dr1 nr1 : AI) (mcl : Int32) (H : Heap) (locs : List Loc) (ls : Array Slot), 5 ≤ n + k → k ≤ 4 → p_ ≤ 13 + 5 * k → p_ ≤ n_ → pP cd n_ (6 - k) p_ k kr dr1 nr1 = pP cd n_ 6 (1 + 2 * dm) 0 pZ pZ pZ → nt_ok G ad x ad1 x1 k kr dr1 nr1 mcl → nOk G nCl ad1 (sPic G x1 ad1 si sa rn) H → nS G s H locs → lv_has ls 8 [(0, .ref (ad1 0)), (1, .ref (ad1 ra)), (2, .int (nI dm)), (3, .int (nI p_)), (4, .ref (ad1 82))] → W p l e (sR 7 8 51) s m ([.ref (ad 0), .ref (ad ra)] : List Value).toArray below meth c H locs (2 + k) (7 + 6 * k) (MQ below (nQ G nCl (fun rv ad' c' => rv = some (.int (if T.1 = true then nI T.2.2.2.1 else -100 - nI T.2.1)) ∧ (T.1 = false → ad = ad' ∧ sPic G x ad si sa rn = c') ∧ (T.1 = true → ∃ x' : nPic, ntQ G ad x ad' x' T ∧ sPic G x' ad' (upd si 1 (nI T.2.2.1.1)) (va_up (va_up sa 1 (pTk T.2.2.1.1 T.2.2.1.2 (sa 1))) 4 (pTk 4 pZ (sa 4))) rn = c'))) ([.ref (ad 0), .ref (ad ra)] : List Value).toArray s 8 51 (fun q => G.2 ≤ q)) (F0 m 89 ls []) := by
              intro n
              induction n with
              | zero => intro k p_ ad1 x1 kr dr1 nr1 mcl H locs ls hfuel hk hp13 hpn hPi hNT hN hS hl; exact absurd hfuel (by omega)
              | succ n ih89 =>
                intro k p_ ad1 x1 kr dr1 nr1 mcl H locs ls hfuel hk hp13 hpn hPi hNT hN hS hl
                obtain ⟨fp, efp⟩ : ∃ fp, 6 - k = fp + 1 := ⟨5 - k, by omega⟩
                rw [efp] at hPi
                have hL : (sPic G x1 ad1 si sa rn) 82 = _ := (sPic_x (by decide)).trans hNT.2.2.1
                have hA : (sPic G x1 ad1 si sa rn) 83 = _ := (sPic_x (by decide)).trans hNT.2.2.2.1
                have hRr : (sPic G x1 ad1 si sa rn) ra = _ := (sPic_x hra).trans ((hNT.2.1 ra (by omega)).trans hRx)
                refine lv_aload hx hb dX0_newTower_89 (lv_at hl 4 rfl) ?_
                refine n_callF (As := []) (C := RJ2) (b := 82) SS hKo hK hKv (tJ2_isEmpty l G K hKo hK0 ad1 _ 82 mcl _ k hL (by omega)) (va_cwF 0 hts (lw_F q296 q299 q301 q60 q303) rfl rfl rfl (hKf (RJ2, ⟨"java/util/List", "isEmpty", "()Z"⟩, ⟨"java/util/ArrayList", "isEmpty", "()Z"⟩) (List.mem_of_getElem? (i := 2) rfl)) (by decide +kernel) ⟨Nat.le_of_ble_eq_true rfl, Nat.le_of_ble_eq_true rfl⟩) hN hS hL rfl rfl hl.1 rfl (Nat.le_of_ble_eq_true rfl) dX0_newTower_91 ⟨by show 2 + k + 0 ≤ 8; omega, by show 7 + 6 * k + 0 ≤ 51; omega⟩ (fun v ad' c' H locs hv hN hS => ?_)
                obtain ⟨rfl, rfl, rfl⟩ := hv
                refine W.eq (g2 := F0 m 96 ls (_ :: _)) rfl ?_
                refine lv_if_ne (tgt := 105) hx hb dX0_newTower_96 (by decide) (fun c96 => ?_) (fun c96 => ?_)
                · have hk0 : k = 0 := by have := zI_n0 c96; simpa using this
                  have hgo : k = 0 ∨ p_ < n_ := Or.inl hk0
                  refine lv_aload hx hb dX0_newTower_105 (lv_at hl 4 rfl) ?_
                  refine n_callF (As := []) (C := RJ2) (b := 82) SS hKo hK hKv (tJ2_size l G K hKo hK0 ad1 _ 82 mcl _ k hL) (va_cwF 0 hts (lw_F q176 q180 q182 q60 q184) rfl rfl rfl (hKf (RJ2, ⟨"java/util/List", "size", "()I"⟩, ⟨"java/util/ArrayList", "size", "()I"⟩) (List.mem_of_getElem? (i := 0) rfl)) (by decide +kernel) ⟨Nat.le_of_ble_eq_true rfl, Nat.le_of_ble_eq_true rfl⟩) hN hS hL rfl rfl hl.1 rfl (Nat.le_of_ble_eq_true rfl) dX0_newTower_107 ⟨by show 2 + k + 0 ≤ 8; omega, by show 7 + 6 * k + 0 ≤ 51; omega⟩ (fun v ad' c' H locs hv hN hS => ?_)
                  obtain ⟨rfl, rfl, rfl⟩ := hv
                  refine W.eq (g2 := F0 m 112 ls (_ :: _)) rfl ?_
                  refine lv_iconst (v := 4) hx hb dX0_newTower_112 (by decide) ?_
                  refine lv_icmp_eq (tgt := 126) hx hb dX0_newTower_113 (by decide) (fun c113 => ?_) (fun c113 => ?_)
                  · have hk4 : k = 4 := (nI_eq (a := k) (b := 4) (by omega) (by omega)).mp c113
                    have hTf : T.1 = false ∧ T.2.1 = p_ := by rw [← hT]; exact nt_TPf h117 hDD (hPi.symm.trans (by rw [pP_z (by omega), decide_eq_false (by omega)]))
                    refine lv_bipush (v := (-100)) hx hb dX0_newTower_126 (by decide) ?_
                    refine lv_iload_n hx hb dX0_newTower_128 rfl (lv_at hl 3 rfl) ?_
                    refine lv_isub hx hb dX0_newTower_129 ?_
                    have hN : nOk G nCl ad (sPic G x ad si sa rn) H := nt_drop hNT hx8 hN
                    refine W.widen (k := 8) (n := 51) (by first | omega | decide) (by first | omega | decide) ?_
                    exact W.iret hx hb hr (nEnd hN hS ⟨by rw [if_neg (by rw [hTf.1]; simp), hTf.2], fun _ => ⟨rfl, rfl⟩, fun z => by rw [hTf.1] at z; cases z⟩) hS.2 dX0_newTower_130
                  · have hk4 : k < 4 := by have : ¬ k = 4 := (fun z => c113 (by rw [z]; rfl)); omega
                    refine lv_aload_n hx hb dX0_newTower_116 rfl (lv_at hl 1 rfl) ?_
                    refine lv_iload_n hx hb dX0_newTower_117 rfl (lv_at hl 3 rfl) ?_
                    refine n_callS (As := [_, _]) SS hKo hK (sX0_codeAt l G K hKo hK0 ad1 _ ra n_ cd hRr hn (p_) (by omega)) (va_cwS 2 hts (lw_S q760 q761 q57 q762) rfl rfl rfl (by decide +kernel) ⟨Nat.le_of_ble_eq_true rfl, Nat.le_of_ble_eq_true rfl⟩) hN hS rfl hl.1 rfl (Nat.le_of_ble_eq_true rfl) dX0_newTower_118 ⟨by show 2 + k + 0 ≤ 8; omega, by show 7 + 6 * k + 0 ≤ 51; omega⟩ (fun v ad' c' H locs hv hN hS => ?_)
                    obtain ⟨rfl, rfl, rfl⟩ := hv
                    refine W.eq (g2 := F0 m 121 ls (_ :: _)) rfl ?_
                    refine lv_bipush (v := 44) hx hb dX0_newTower_121 (by decide) ?_
                    refine lv_icmp_eq (tgt := 131) hx hb dX0_newTower_123 (by decide) (fun c123 => ?_) (fun c123 => ?_)
                    · have hs44 : pSg cd n_ p_ 44 = true := (pcd_sg (by decide)).mp c123
                      have hgo4 : k = 0 ∨ (k < 4 ∧ p_ < n_) := by omega
                      refine lv_aload_n hx hb dX0_newTower_131 rfl (lv_at hl 1 rfl) ?_
                      refine lv_iload_n hx hb dX0_newTower_132 rfl (lv_at hl 3 rfl) ?_
                      refine lv_iconst (v := 1) hx hb dX0_newTower_133 (by decide) ?_
                      refine lv_iadd hx hb dX0_newTower_134 ?_
                      refine n_top (y := nI (p_ + 1)) (nI_1 _) ?_
                      refine n_callS (As := [_, _]) SS hKo hK (sX0_codeAt l G K hKo hK0 ad1 _ ra n_ cd hRr hn (p_ + 1) (by omega)) (va_cwS 2 hts (lw_S q760 q761 q57 q762) rfl rfl rfl (by decide +kernel) ⟨Nat.le_of_ble_eq_true rfl, Nat.le_of_ble_eq_true rfl⟩) hN hS rfl hl.1 rfl (Nat.le_of_ble_eq_true rfl) dX0_newTower_135 ⟨by show 2 + k + 0 ≤ 8; omega, by show 7 + 6 * k + 0 ≤ 51; omega⟩ (fun v ad' c' H locs hv hN hS => ?_)
                      obtain ⟨rfl, rfl, rfl⟩ := hv
                      refine W.eq (g2 := F0 m 138 ls (_ :: _)) rfl ?_
                      refine lv_istore (lv' := [(5, _), (0, _), (1, _), (2, _), (3, _), (4, _)]) hx hb dX0_newTower_138 hl (by decide) rfl (fun ls hl => ?_)
                      have j175 : ∀ (kd_ : Int32), kd_ = pK (pcd cd n_ (p_ + 1)) → W p l e (sR 7 8 51) s m ([.ref (ad 0), .ref (ad ra)] : List Value).toArray below meth c H locs (2 + k) (7 + 6 * k) (MQ below (nQ G nCl (fun rv ad' c' => rv = some (.int (if T.1 = true then nI T.2.2.2.1 else -100 - nI T.2.1)) ∧ (T.1 = false → ad = ad' ∧ sPic G x ad si sa rn = c') ∧ (T.1 = true → ∃ x' : nPic, ntQ G ad x ad' x' T ∧ sPic G x' ad' (upd si 1 (nI T.2.2.1.1)) (va_up (va_up sa 1 (pTk T.2.2.1.1 T.2.2.1.2 (sa 1))) 4 (pTk 4 pZ (sa 4))) rn = c'))) ([.ref (ad 0), .ref (ad ra)] : List Value).toArray s 8 51 (fun q => G.2 ≤ q)) (F0 m 175 ls [.int kd_]) := by
                        intro kd_ hkd
                        refine lv_istore (lv' := [(6, _), (5, _), (0, _), (1, _), (2, _), (3, _), (4, _)]) hx hb dX0_newTower_175 hl (by decide) rfl (fun ls hl => ?_)
                        refine lv_iload hx hb dX0_newTower_177 (lv_at hl 0 rfl) ?_
                        refine lv_if_ge (tgt := 187) hx hb dX0_newTower_179 (by decide) (fun c179 => ?_) (fun c179 => ?_)
                        · obtain ⟨kq, hkq3, ekq, hp1, hkn⟩ := nt_kind hkd c179
                          have hkk : p_ + 1 < n_ ∧ ¬ pK (cd (p_ + 1)) = -9 := ⟨hp1, by rw [hkn]; exact nt_n9 hkq3⟩
                          subst ekq
                          refine lv_aload_n hx hb dX0_newTower_187 rfl (lv_at hl 3 rfl) ?_
                          refine lv_iload_n hx hb dX0_newTower_188 rfl (lv_at hl 5 rfl) ?_
                          refine lv_iconst (v := 2) hx hb dX0_newTower_189 (by decide) ?_
                          refine lv_iadd hx hb dX0_newTower_190 ?_
                          refine n_top (y := nI (p_ + 2)) (nI_add _ 2) ?_
                          refine lv_iconst (v := 0) hx hb dX0_newTower_191 (by decide) ?_
                          refine lv_bipush (v := 6) hx hb dX0_newTower_192 (by decide) ?_
                          refine n_callS (As := [_, _, _, _]) SS hKo hK (sX0_isFigure l G K hKo hK0 ad1 _ ra n_ cd hRr hn (p_ + 2) (by omega) 0 6 ⟨_, by decide, rfl⟩ ⟨_, by decide, rfl⟩) (va_cwS 4 hts (lw_S q763 q764 q57 q765) rfl rfl rfl (by decide +kernel) ⟨Nat.le_of_ble_eq_true rfl, Nat.le_of_ble_eq_true rfl⟩) hN hS rfl hl.1 rfl (Nat.le_of_ble_eq_true rfl) dX0_newTower_194 ⟨by show 2 + k + 0 ≤ 8; omega, by show 7 + 6 * k + 0 ≤ 51; omega⟩ (fun v ad' c' H locs hv hN hS => ?_)
                          obtain ⟨rfl, rfl, rfl⟩ := hv
                          refine W.eq (g2 := F0 m 197 ls (_ :: _)) rfl ?_
                          refine lv_if_ne (tgt := 205) hx hb dX0_newTower_197 (by decide) (fun c197 => ?_) (fun c197 => ?_)
                          · have hf2 : pd cd n_ (p_ + 2) 0 6 = true := zI_n0 c197
                            have hp2 := pd_lt hf2
                            refine lv_aload_n hx hb dX0_newTower_205 rfl (lv_at hl 3 rfl) ?_
                            refine lv_iload_n hx hb dX0_newTower_206 rfl (lv_at hl 5 rfl) ?_
                            refine lv_iconst (v := 2) hx hb dX0_newTower_207 (by decide) ?_
                            refine lv_iadd hx hb dX0_newTower_208 ?_
                            refine n_top (y := nI (p_ + 2)) (nI_add _ 2) ?_
                            refine n_callS (As := [_, _]) SS hKo hK (sX0_figureAt l G K hKo hK0 ad1 _ ra n_ cd hRr hn (p_ + 2) (by omega)) (va_cwS 2 hts (lw_S q771 q772 q57 q773) rfl rfl rfl (by decide +kernel) ⟨Nat.le_of_ble_eq_true rfl, Nat.le_of_ble_eq_true rfl⟩) hN hS rfl hl.1 rfl (Nat.le_of_ble_eq_true rfl) dX0_newTower_209 ⟨by show 2 + k + 0 ≤ 8; omega, by show 7 + 6 * k + 0 ≤ 51; omega⟩ (fun v ad' c' H locs hv hN hS => ?_)
                            obtain ⟨rfl, rfl, rfl⟩ := hv
                            refine W.eq (g2 := F0 m 212 ls (_ :: _)) rfl ?_
                            refine lv_istore (lv' := [(7, _), (6, _), (5, _), (0, _), (1, _), (2, _), (3, _), (4, _)]) hx hb dX0_newTower_212 hl (by decide) rfl (fun ls hl => ?_)
                            refine lv_aload_n hx hb dX0_newTower_214 rfl (lv_at hl 4 rfl) ?_
                            refine lv_iload_n hx hb dX0_newTower_215 rfl (lv_at hl 6 rfl) ?_
                            refine lv_iconst (v := 3) hx hb dX0_newTower_216 (by decide) ?_
                            refine lv_iadd hx hb dX0_newTower_217 ?_
                            refine n_top (y := nI (p_ + 3)) (nI_add _ 3) ?_
                            refine lv_iconst (v := 0) hx hb dX0_newTower_218 (by decide) ?_
                            have j232 : ∀ (o_ : Int32), o_ = pOnes cd (p_ + 1) → W p l e (sR 7 8 51) s m ([.ref (ad 0), .ref (ad ra)] : List Value).toArray below meth c H locs (2 + k) (7 + 6 * k) (MQ below (nQ G nCl (fun rv ad' c' => rv = some (.int (if T.1 = true then nI T.2.2.2.1 else -100 - nI T.2.1)) ∧ (T.1 = false → ad = ad' ∧ sPic G x ad si sa rn = c') ∧ (T.1 = true → ∃ x' : nPic, ntQ G ad x ad' x' T ∧ sPic G x' ad' (upd si 1 (nI T.2.2.1.1)) (va_up (va_up sa 1 (pTk T.2.2.1.1 T.2.2.1.2 (sa 1))) 4 (pTk 4 pZ (sa 4))) rn = c'))) ([.ref (ad 0), .ref (ad ra)] : List Value).toArray s 8 51 (fun q => G.2 ≤ q)) (F0 m 232 ls [.int o_, .int 0, .int (nI (p_ + 3)), .ref (ad1 ra)]) := by
                              intro o_ ho
                              have ho3 : ∃ b, b < 1000 ∧ o_ = nI b := by rw [ho]; rcases pOnes_in cd (p_ + 1) with z | z; exact ⟨3, by decide, z⟩; exact ⟨9, by decide, z⟩
                              refine n_callS (As := [_, _, _, _]) SS hKo hK (sX0_isFigure l G K hKo hK0 ad1 _ ra n_ cd hRr hn (p_ + 3) (by omega) 0 o_ ⟨_, by decide, rfl⟩ ho3) (va_cwS 4 hts (lw_S q763 q764 q57 q765) rfl rfl rfl (by decide +kernel) ⟨Nat.le_of_ble_eq_true rfl, Nat.le_of_ble_eq_true rfl⟩) hN hS rfl hl.1 rfl (Nat.le_of_ble_eq_true rfl) dX0_newTower_232 ⟨by show 2 + k + 0 ≤ 8; omega, by show 7 + 6 * k + 0 ≤ 51; omega⟩ (fun v ad' c' H locs hv hN hS => ?_)
                              obtain ⟨rfl, rfl, rfl⟩ := hv
                              refine W.eq (g2 := F0 m 235 ls (_ :: _)) rfl ?_
                              refine lv_if_ne (tgt := 243) hx hb dX0_newTower_235 (by decide) (fun c235 => ?_) (fun c235 => ?_)
                              · have hf3 : pd cd n_ (p_ + 3) 0 (pOnes cd (p_ + 1)) = true := by rw [← ho]; exact zI_n0 c235
                                have hp3 := pd_lt hf3
                                refine lv_aload_n hx hb dX0_newTower_243 rfl (lv_at hl 4 rfl) ?_
                                refine lv_iload_n hx hb dX0_newTower_244 rfl (lv_at hl 6 rfl) ?_
                                refine lv_iconst (v := 4) hx hb dX0_newTower_245 (by decide) ?_
                                refine lv_iadd hx hb dX0_newTower_246 ?_
                                refine n_top (y := nI (p_ + 4)) (nI_add _ 4) ?_
                                refine lv_iconst (v := 0) hx hb dX0_newTower_247 (by decide) ?_
                                refine lv_iconst (v := 4) hx hb dX0_newTower_248 (by decide) ?_
                                refine n_callS (As := [_, _, _, _]) SS hKo hK (sX0_isFigure l G K hKo hK0 ad1 _ ra n_ cd hRr hn (p_ + 4) (by omega) 0 4 ⟨_, by decide, rfl⟩ ⟨_, by decide, rfl⟩) (va_cwS 4 hts (lw_S q763 q764 q57 q765) rfl rfl rfl (by decide +kernel) ⟨Nat.le_of_ble_eq_true rfl, Nat.le_of_ble_eq_true rfl⟩) hN hS rfl hl.1 rfl (Nat.le_of_ble_eq_true rfl) dX0_newTower_249 ⟨by show 2 + k + 0 ≤ 8; omega, by show 7 + 6 * k + 0 ≤ 51; omega⟩ (fun v ad' c' H locs hv hN hS => ?_)
                                obtain ⟨rfl, rfl, rfl⟩ := hv
                                refine W.eq (g2 := F0 m 252 ls (_ :: _)) rfl ?_
                                refine lv_if_ne (tgt := 260) hx hb dX0_newTower_252 (by decide) (fun c252 => ?_) (fun c252 => ?_)
                                · have hf4 : pd cd n_ (p_ + 4) 0 4 = true := zI_n0 c252
                                  have hp4 := pd_lt hf4
                                  have hper : (pPer cd n_ (p_ + 1)).1 = true := by rw [pPer_5 hkk hf2 hf3 hf4]
                                  refine lv_aload hx hb dX0_newTower_260 (lv_at hl 7 rfl) ?_
                                  refine lv_aload_n hx hb dX0_newTower_262 rfl (lv_at hl 3 rfl) ?_
                                  refine lv_iload hx hb dX0_newTower_263 (lv_at hl 1 rfl) ?_
                                  refine lv_aload hx hb dX0_newTower_265 (lv_at hl 7 rfl) ?_
                                  refine n_callF (As := []) (C := RJ2) (b := 82) SS hKo hK hKv (tJ2_size l G K hKo hK0 ad1 _ 82 mcl _ k hL) (va_cwF 0 hts (lw_F q176 q180 q182 q60 q184) rfl rfl rfl (hKf (RJ2, ⟨"java/util/List", "size", "()I"⟩, ⟨"java/util/ArrayList", "size", "()I"⟩) (List.mem_of_getElem? (i := 0) rfl)) (by decide +kernel) ⟨Nat.le_of_ble_eq_true rfl, Nat.le_of_ble_eq_true rfl⟩) hN hS hL rfl rfl hl.1 rfl (Nat.le_of_ble_eq_true rfl) dX0_newTower_267 ⟨by show 2 + k + 0 ≤ 8; omega, by show 7 + 6 * k + 0 ≤ 51; omega⟩ (fun v ad' c' H locs hv hN hS => ?_)
                                  obtain ⟨rfl, rfl, rfl⟩ := hv
                                  refine W.eq (g2 := F0 m 272 ls (_ :: _)) rfl ?_
                                  refine lv_bipush (v := 10) hx hb dX0_newTower_272 (by decide) ?_
                                  refine lv_iload hx hb dX0_newTower_274 (lv_at hl 0 rfl) ?_
                                  refine lv_imul hx hb dX0_newTower_276 ?_
                                  refine lv_aload_n hx hb dX0_newTower_277 rfl (lv_at hl 4 rfl) ?_
                                  refine lv_iload_n hx hb dX0_newTower_278 rfl (lv_at hl 6 rfl) ?_
                                  refine lv_iconst (v := 3) hx hb dX0_newTower_279 (by decide) ?_
                                  refine lv_iadd hx hb dX0_newTower_280 ?_
                                  refine n_top (y := nI (p_ + 3)) (nI_add _ 3) ?_
                                  refine n_callS (As := [_, _]) SS hKo hK (sX0_figureAt l G K hKo hK0 ad1 _ ra n_ cd hRr hn (p_ + 3) (by omega)) (va_cwS 2 hts (lw_S q771 q772 q57 q773) rfl rfl rfl (by decide +kernel) ⟨Nat.le_of_ble_eq_true rfl, Nat.le_of_ble_eq_true rfl⟩) hN hS rfl hl.1 rfl (Nat.le_of_ble_eq_true rfl) dX0_newTower_281 ⟨by show 2 + k + 0 ≤ 8; omega, by show 7 + 6 * k + 0 ≤ 51; omega⟩ (fun v ad' c' H locs hv hN hS => ?_)
                                  obtain ⟨rfl, rfl, rfl⟩ := hv
                                  refine W.eq (g2 := F0 m 284 ls (_ :: _)) rfl ?_
                                  refine lv_iadd hx hb dX0_newTower_284 ?_
                                  refine lv_aload_n hx hb dX0_newTower_285 rfl (lv_at hl 4 rfl) ?_
                                  refine lv_iload_n hx hb dX0_newTower_286 rfl (lv_at hl 6 rfl) ?_
                                  refine lv_iconst (v := 4) hx hb dX0_newTower_287 (by decide) ?_
                                  refine lv_iadd hx hb dX0_newTower_288 ?_
                                  refine n_top (y := nI (p_ + 4)) (nI_add _ 4) ?_
                                  refine n_callS (As := [_, _]) SS hKo hK (sX0_figureAt l G K hKo hK0 ad1 _ ra n_ cd hRr hn (p_ + 4) (by omega)) (va_cwS 2 hts (lw_S q771 q772 q57 q773) rfl rfl rfl (by decide +kernel) ⟨Nat.le_of_ble_eq_true rfl, Nat.le_of_ble_eq_true rfl⟩) hN hS rfl hl.1 rfl (Nat.le_of_ble_eq_true rfl) dX0_newTower_289 ⟨by show 2 + k + 0 ≤ 8; omega, by show 7 + 6 * k + 0 ≤ 51; omega⟩ (fun v ad' c' H locs hv hN hS => ?_)
                                  obtain ⟨rfl, rfl, rfl⟩ := hv
                                  refine W.eq (g2 := F0 m 292 ls (_ :: _)) rfl ?_
                                  refine n_callV (C := RX0) (As := [_, _, _, _]) (b := 0) SS hKo hK hKv (sX0_madeOf l G K hKo hK0 ad1 _ (84 + k) kq hkq3 (nI k) (10 * (cd (p_ + 2) - 48) + (cd (p_ + 3) - 48)) (cd (p_ + 4) - 48)) (cwV 4 hts (lw_V q774 q776 qs20 q57 q777) rfl rfl rfl (by decide +kernel) ⟨Nat.le_of_ble_eq_true rfl, Nat.le_of_ble_eq_true rfl⟩) hN hS sPic_0 rfl rfl hl.1 rfl (Nat.le_of_ble_eq_true rfl) dX0_newTower_292 ⟨by show 2 + k + 1 ≤ 8; omega, by show 7 + 6 * k + 6 ≤ 51; omega⟩ (fun v ad' c' H locs hv hN hS => ?_)
                                  obtain ⟨q, rfl, rfl, rfl⟩ := hv
                                  refine W.eq (g2 := F0 m 295 ls (_ :: _)) rfl ?_
                                  obtain ⟨ad2, e2⟩ : ∃ ad2, ad2 = va_up ad1 (84 + k) q := ⟨_, rfl⟩
                                  have had2 : ∀ z, z ≠ 84 + k → ad2 z = ad1 z := fun z hz => by rw [e2]; exact va_up_ne ad1 q hz
                                  have hq2 : ad2 (84 + k) = q := by rw [e2]; exact va_up_self _ _ _
                                  rw [← e2] at hN
                                  rw [← had2 0 (by omega), ← had2 ra (by omega), ← had2 82 (by omega)] at hl
                                  refine W.eq (g2 := F0 m 295 ls [.ref (ad2 (84 + k)), .ref (ad2 82)]) (by rw [hq2, had2 82 (by omega)] <;> rfl) ?_
                                  obtain ⟨hL, hA, hE2⟩ := nt_mid (si := si) (sa := sa) (rn := rn) (u := nI k) (v := 10 * (cd (p_ + 2) - 48) + (cd (p_ + 3) - 48)) (w := cd (p_ + 4) - 48) hNT hkq3 had2 (by omega)
                                  refine n_callF (As := [_]) (C := RJ2) (b := 82) SS hKo hK hKv (tJ2_add l G K hKo hK0 ad2 _ 82 83 mcl k 4 (fun j => if j < k then some (ad1 (84 + j)) else none) hL hA (by decide) (84 + k) (by decide) (by omega) (by omega) hE2) (va_cwF 1 hts (lw_F q347 q350 q352 q60 q354) rfl rfl rfl (hKf (RJ2, ⟨"java/util/List", "add", "(Ljava/lang/Object;)Z"⟩, ⟨"java/util/ArrayList", "add", "(Ljava/lang/Object;)Z"⟩) (List.mem_of_getElem? (i := 3) rfl)) (by decide +kernel) ⟨Nat.le_of_ble_eq_true rfl, Nat.le_of_ble_eq_true rfl⟩) hN hS hL rfl rfl hl.1 rfl (Nat.le_of_ble_eq_true rfl) dX0_newTower_295 ⟨by show 2 + k + 1 + 0 ≤ 8; omega, by show 7 + 6 * k + 6 + 0 ≤ 51; omega⟩ (fun v ad' c' H locs hv hN hS => ?_)
                                  obtain ⟨rfl, rfl, rfl⟩ := hv
                                  obtain ⟨x2, hN, hNT⟩ := nt_step hN hNT hkq3 (by omega) had2
                                  refine W.eq (g2 := F0 m 300 ls (_ :: _)) rfl ?_
                                  refine lv_pop hx hb dX0_newTower_300 rfl ?_
                                  refine lv_iinc (v := nI (p_ + 5)) (lv' := [(3, _), (7, _), (6, _), (5, _), (0, _), (1, _), (2, _), (4, _)]) hx hb dX0_newTower_301 hl (k := 6) rfl (nI_i5 p_) (by decide) rfl (fun ls hl => ?_)
                                  refine lv_goto (tgt := 89) hx hb dX0_newTower_304 (by decide) ?_
                                  
                                  refine W.widen (k := 2 + (k + 1)) (n := 7 + 6 * (k + 1)) (by omega) (by omega) ?_
                                  exact ih89 (k + 1) (p_ + 5) ad2 x2 _ _ _ _ _ _ _ (by omega) (by omega) (by omega) (by omega) (by rw [show 6 - (k + 1) = fp by omega, ← hkn]; exact (pP_s hgo4 hs44 hper).symm.trans hPi) hNT hN hS (lv_sub hl [4, 5, 6, 0, 7] (rfl))
                                · have hf4 : pd cd n_ (p_ + 4) 0 4 = false := zI_0.mp c252
                                  have hTf : T.1 = false ∧ T.2.1 = p_ + 4 := by rw [← hT]; exact nt_TPf h117 hDD (hPi.symm.trans ((pP_b hgo4 hs44 (by rw [pPer_4 hkk hf2 hf3 hf4])).trans (by rw [pPer_4 hkk hf2 hf3 hf4])))
                                  refine lv_bipush (v := (-104)) hx hb dX0_newTower_255 (by decide) ?_
                                  refine lv_iload_n hx hb dX0_newTower_257 rfl (lv_at hl 6 rfl) ?_
                                  refine lv_isub hx hb dX0_newTower_258 ?_
                                  have hN : nOk G nCl ad (sPic G x ad si sa rn) H := nt_drop hNT hx8 hN
                                  refine W.widen (k := 8) (n := 51) (by first | omega | decide) (by first | omega | decide) ?_
                                  exact W.iret hx hb hr (nEnd hN hS ⟨by rw [if_neg (by rw [hTf.1]; simp), hTf.2] <;> exact congrArg (fun z => some (Value.int z)) (nt_m4 _), fun _ => ⟨rfl, rfl⟩, fun z => by rw [hTf.1] at z; cases z⟩) hS.2 dX0_newTower_259
                              · have hf3 : pd cd n_ (p_ + 3) 0 (pOnes cd (p_ + 1)) = false := by rw [← ho]; exact zI_0.mp c235
                                have hTf : T.1 = false ∧ T.2.1 = p_ + 3 := by rw [← hT]; exact nt_TPf h117 hDD (hPi.symm.trans ((pP_b hgo4 hs44 (by rw [pPer_3 hkk hf2 hf3])).trans (by rw [pPer_3 hkk hf2 hf3])))
                                refine lv_bipush (v := (-103)) hx hb dX0_newTower_238 (by decide) ?_
                                refine lv_iload_n hx hb dX0_newTower_240 rfl (lv_at hl 6 rfl) ?_
                                refine lv_isub hx hb dX0_newTower_241 ?_
                                have hN : nOk G nCl ad (sPic G x ad si sa rn) H := nt_drop hNT hx8 hN
                                refine W.widen (k := 8) (n := 51) (by first | omega | decide) (by first | omega | decide) ?_
                                exact W.iret hx hb hr (nEnd hN hS ⟨by rw [if_neg (by rw [hTf.1]; simp), hTf.2] <;> exact congrArg (fun z => some (Value.int z)) (nt_m3 _), fun _ => ⟨rfl, rfl⟩, fun z => by rw [hTf.1] at z; cases z⟩) hS.2 dX0_newTower_242
                            refine lv_iload hx hb dX0_newTower_219 (lv_at hl 0 rfl) ?_
                            refine lv_bipush (v := 6) hx hb dX0_newTower_221 (by decide) ?_
                            refine lv_icmp_ne (tgt := 230) hx hb dX0_newTower_223 (by decide) (fun c223 => ?_) (fun c223 => ?_)
                            · refine lv_bipush (v := 9) hx hb dX0_newTower_230 (by decide) ?_
                              exact j232 _ (if_neg (show ¬ cd (p_ + 1 + 1) - 48 = 6 from c223)).symm
                            · refine lv_iconst (v := 3) hx hb dX0_newTower_226 (by decide) ?_
                              refine lv_goto (tgt := 232) hx hb dX0_newTower_227 (by decide) ?_
                              exact j232 _ (if_pos (show cd (p_ + 1 + 1) - 48 = 6 from c223)).symm
                          · have hf2 : pd cd n_ (p_ + 2) 0 6 = false := zI_0.mp c197
                            have hTf : T.1 = false ∧ T.2.1 = p_ + 2 := by rw [← hT]; exact nt_TPf h117 hDD (hPi.symm.trans ((pP_b hgo4 hs44 (by rw [pPer_2 hkk hf2])).trans (by rw [pPer_2 hkk hf2])))
                            refine lv_bipush (v := (-102)) hx hb dX0_newTower_200 (by decide) ?_
                            refine lv_iload_n hx hb dX0_newTower_202 rfl (lv_at hl 5 rfl) ?_
                            refine lv_isub hx hb dX0_newTower_203 ?_
                            have hN : nOk G nCl ad (sPic G x ad si sa rn) H := nt_drop hNT hx8 hN
                            refine W.widen (k := 8) (n := 51) (by first | omega | decide) (by first | omega | decide) ?_
                            exact W.iret hx hb hr (nEnd hN hS ⟨by rw [if_neg (by rw [hTf.1]; simp), hTf.2] <;> exact congrArg (fun z => some (Value.int z)) (nt_m2 _), fun _ => ⟨rfl, rfl⟩, fun z => by rw [hTf.1] at z; cases z⟩) hS.2 dX0_newTower_204
                        · have hTf : T.1 = false ∧ T.2.1 = p_ + 1 := by rw [← hT]; exact nt_TPf h117 hDD (hPi.symm.trans ((pP_b hgo4 hs44 (by rw [pPer_1 (nt_kindN hkd c179)])).trans (by rw [pPer_1 (nt_kindN hkd c179)])))
                          refine lv_bipush (v := (-101)) hx hb dX0_newTower_182 (by decide) ?_
                          refine lv_iload_n hx hb dX0_newTower_184 rfl (lv_at hl 5 rfl) ?_
                          refine lv_isub hx hb dX0_newTower_185 ?_
                          have hN : nOk G nCl ad (sPic G x ad si sa rn) H := nt_drop hNT hx8 hN
                          refine W.widen (k := 8) (n := 51) (by first | omega | decide) (by first | omega | decide) ?_
                          exact W.iret hx hb hr (nEnd hN hS ⟨by rw [if_neg (by rw [hTf.1]; simp), hTf.2] <;> exact congrArg (fun z => some (Value.int z)) (nt_m1 _), fun _ => ⟨rfl, rfl⟩, fun z => by rw [hTf.1] at z; cases z⟩) hS.2 dX0_newTower_186
                      refine lv_iload hx hb dX0_newTower_140 (lv_at hl 0 rfl) ?_
                      refine lv_bipush (v := 112) hx hb dX0_newTower_142 (by decide) ?_
                      refine lv_icmp_ne (tgt := 151) hx hb dX0_newTower_144 (by decide) (fun c144 => ?_) (fun c144 => ?_)
                      · refine lv_iload hx hb dX0_newTower_151 (lv_at hl 0 rfl) ?_
                        refine lv_bipush (v := 114) hx hb dX0_newTower_153 (by decide) ?_
                        refine lv_icmp_ne (tgt := 162) hx hb dX0_newTower_155 (by decide) (fun c155 => ?_) (fun c155 => ?_)
                        · refine lv_iload hx hb dX0_newTower_162 (lv_at hl 0 rfl) ?_
                          refine lv_bipush (v := 97) hx hb dX0_newTower_164 (by decide) ?_
                          refine lv_icmp_ne (tgt := 173) hx hb dX0_newTower_166 (by decide) (fun c166 => ?_) (fun c166 => ?_)
                          · refine lv_bipush (v := (-9)) hx hb dX0_newTower_173 (by decide) ?_
                            exact j175 _ ((if_neg c144).trans ((if_neg c155).trans (if_neg c166))).symm
                          · refine lv_iconst (v := 2) hx hb dX0_newTower_169 (by decide) ?_
                            refine lv_goto (tgt := 175) hx hb dX0_newTower_170 (by decide) ?_
                            exact j175 _ ((if_neg c144).trans ((if_neg c155).trans (if_pos c166))).symm
                        · refine lv_iconst (v := 1) hx hb dX0_newTower_158 (by decide) ?_
                          refine lv_goto (tgt := 175) hx hb dX0_newTower_159 (by decide) ?_
                          exact j175 _ ((if_neg c144).trans (if_pos c155)).symm
                      · refine lv_iconst (v := 0) hx hb dX0_newTower_147 (by decide) ?_
                        refine lv_goto (tgt := 175) hx hb dX0_newTower_148 (by decide) ?_
                        exact j175 _ (if_pos c144).symm
                    · have hs44 : pSg cd n_ p_ 44 = false := pcd_sgf (by decide) c123
                      have hTf : T.1 = false ∧ T.2.1 = p_ := by rw [← hT]; exact nt_TPf h117 hDD (hPi.symm.trans (pP_a (by omega) hs44))
                      refine lv_bipush (v := (-100)) hx hb dX0_newTower_126 (by decide) ?_
                      refine lv_iload_n hx hb dX0_newTower_128 rfl (lv_at hl 3 rfl) ?_
                      refine lv_isub hx hb dX0_newTower_129 ?_
                      have hN : nOk G nCl ad (sPic G x ad si sa rn) H := nt_drop hNT hx8 hN
                      refine W.widen (k := 8) (n := 51) (by first | omega | decide) (by first | omega | decide) ?_
                      exact W.iret hx hb hr (nEnd hN hS ⟨by rw [if_neg (by rw [hTf.1]; simp), hTf.2], fun _ => ⟨rfl, rfl⟩, fun z => by rw [hTf.1] at z; cases z⟩) hS.2 dX0_newTower_130
                · have hk0 : ¬ k = 0 := by have := zI_0.mp c96; simpa using this
                  refine lv_iload_n hx hb dX0_newTower_99 rfl (lv_at hl 3 rfl) ?_
                  refine lv_aload_n hx hb dX0_newTower_100 rfl (lv_at hl 1 rfl) ?_
                  refine n_alen hx hb hKv hN (ra) 0 hRr rfl dX0_newTower_101 ?_
                  refine lv_icmp_ge (tgt := 307) hx hb dX0_newTower_102 (by decide) (fun c102 => ?_) (fun c102 => ?_)
                  · have c102 : n_ ≤ p_ := (nI_leI (by omega) (by omega)).mp c102
                    have hpe : p_ = n_ := by omega
                    have hTt : T = (true, p_, (dm, wr), (k, kr, dr1, nr1)) := by rw [← hT]; exact nt_TPt h117 hDD (hPi.symm.trans (by rw [pP_z (by omega), decide_eq_true hpe]))
                    refine lv_aload_n hx hb dX0_newTower_307 rfl (lv_at hl 0 rfl) ?_
                    refine lv_iload_n hx hb dX0_newTower_308 rfl (lv_at hl 2 rfl) ?_
                    refine n_put (ci := 0) (C := RX0) (T := TX0) (N := 12) hx hb hts in_X0 tyX0 tyX0_ok (va_apart (own := RX0) hts in_X0 tyX0 tyX0_ok nmX0 hKv rfl) hown hKv hN hS (0) sPic_0 rfl 1 (by decide) q129 (fun z h => h) rfl rfl rfl (Nat.le_of_ble_eq_true rfl) dX0_newTower_309 (fun H locs hN hS => ?_)
                    have hN := hN.congr (sPic_put rfl)
                    refine lv_iconst (v := nI 0) hx hb dX0_newTower_312 (rfl) ?_
                    refine lv_istore (lv' := [(5, _), (0, _), (1, _), (2, _), (3, _), (4, _)]) hx hb dX0_newTower_313 hl (by decide) rfl (fun ls hl => ?_)
                    have hN : nOk G nCl ad1 (sPic G x1 ad1 (upd si 1 (nI dm)) (va_up sa 1 (pTk 0 wr (sa 1))) rn) H := by rw [pTk_0, va_up_id sa 1 _ rfl]; exact hN
                    have loop315 : ∀ (n : Nat) (d : Nat) (H : Heap) (locs : List Loc) (ls : Array Slot), dm + 1 ≤ n + d → d ≤ dm → nOk G nCl ad1 (sPic G x1 ad1 (upd si 1 (nI dm)) (va_up sa 1 (pTk d wr (sa 1))) rn) H → nS G s H locs → lv_has ls 8 [(0, .ref (ad1 0)), (1, .ref (ad1 ra)), (2, .int (nI dm)), (3, .int (nI p_)), (4, .ref (ad1 82)), (5, .int (nI d))] → W p l e (sR 7 8 51) s m ([.ref (ad 0), .ref (ad ra)] : List Value).toArray below meth c H locs (2 + k) (7 + 6 * k) (MQ below (nQ G nCl (fun rv ad' c' => rv = some (.int (if T.1 = true then nI T.2.2.2.1 else -100 - nI T.2.1)) ∧ (T.1 = false → ad = ad' ∧ sPic G x ad si sa rn = c') ∧ (T.1 = true → ∃ x' : nPic, ntQ G ad x ad' x' T ∧ sPic G x' ad' (upd si 1 (nI T.2.2.1.1)) (va_up (va_up sa 1 (pTk T.2.2.1.1 T.2.2.1.2 (sa 1))) 4 (pTk 4 pZ (sa 4))) rn = c'))) ([.ref (ad 0), .ref (ad ra)] : List Value).toArray s 8 51 (fun q => G.2 ≤ q)) (F0 m 315 ls []) := by
                      intro n
                      induction n with
                      | zero => intro d H locs ls hfuel hd hN hS hl; exact absurd hfuel (by omega)
                      | succ n ih315 =>
                        intro d H locs ls hfuel hd hN hS hl
                        have hRr : (sPic G x1 ad1 (upd si 1 (nI dm)) (va_up sa 1 (pTk d wr (sa 1))) rn) ra = _ := (sPic_x hra).trans ((hNT.2.1 ra (by omega)).trans hRx)
                        refine lv_iload hx hb dX0_newTower_315 (lv_at hl 5 rfl) ?_
                        refine lv_aload_n hx hb dX0_newTower_317 rfl (lv_at hl 0 rfl) ?_
                        refine n_get (v := .int (nI dm)) (ci := 0) (C := RX0) (T := TX0) (N := 12) hx hb hts in_X0 hown hKv hN (0) sPic_0 rfl 1 (by decide) q129 (fun z h => h) (rfl) dX0_newTower_318 ?_
                        refine lv_icmp_ge (tgt := 347) hx hb dX0_newTower_321 (by decide) (fun c321 => ?_) (fun c321 => ?_)
                        · have c321 : dm ≤ d := (nI_leI (by omega) (by omega)).mp c321
                          have ed : d = dm := by omega
                          rw [ed] at hN
                          refine lv_iconst (v := nI 0) hx hb dX0_newTower_347 (rfl) ?_
                          refine lv_istore (lv' := [(5, _), (0, _), (1, _), (2, _), (3, _), (4, _)]) hx hb dX0_newTower_348 hl (by decide) rfl (fun ls hl => ?_)
                          have hN : nOk G nCl ad1 (sPic G x1 ad1 (upd si 1 (nI dm)) (va_up (va_up sa 1 (pTk dm wr (sa 1))) 4 (pTk 0 pZ (sa 4))) rn) H := by rw [pTk_0, va_up_id (va_up sa 1 (pTk dm wr (sa 1))) 4 (sa 4) rfl]; exact hN
                          have loop350 : ∀ (n : Nat) (pp : Nat) (H : Heap) (locs : List Loc) (ls : Array Slot), 5 ≤ n + pp → pp ≤ 4 → nOk G nCl ad1 (sPic G x1 ad1 (upd si 1 (nI dm)) (va_up (va_up sa 1 (pTk dm wr (sa 1))) 4 (pTk pp pZ (sa 4))) rn) H → nS G s H locs → lv_has ls 8 [(0, .ref (ad1 0)), (1, .ref (ad1 ra)), (2, .int (nI dm)), (3, .int (nI p_)), (4, .ref (ad1 82)), (5, .int (nI pp))] → W p l e (sR 7 8 51) s m ([.ref (ad 0), .ref (ad ra)] : List Value).toArray below meth c H locs (2 + k) (7 + 6 * k) (MQ below (nQ G nCl (fun rv ad' c' => rv = some (.int (if T.1 = true then nI T.2.2.2.1 else -100 - nI T.2.1)) ∧ (T.1 = false → ad = ad' ∧ sPic G x ad si sa rn = c') ∧ (T.1 = true → ∃ x' : nPic, ntQ G ad x ad' x' T ∧ sPic G x' ad' (upd si 1 (nI T.2.2.1.1)) (va_up (va_up sa 1 (pTk T.2.2.1.1 T.2.2.1.2 (sa 1))) 4 (pTk 4 pZ (sa 4))) rn = c'))) ([.ref (ad 0), .ref (ad ra)] : List Value).toArray s 8 51 (fun q => G.2 ≤ q)) (F0 m 350 ls []) := by
                            intro n
                            induction n with
                            | zero => intro pp H locs ls hfuel hpp hN hS hl; exact absurd hfuel (by omega)
                            | succ n ih350 =>
                              intro pp H locs ls hfuel hpp hN hS hl
                              refine lv_iload hx hb dX0_newTower_350 (lv_at hl 5 rfl) ?_
                              refine lv_iconst (v := 4) hx hb dX0_newTower_352 (by decide) ?_
                              refine lv_icmp_ge (tgt := 370) hx hb dX0_newTower_353 (by decide) (fun c353 => ?_) (fun c353 => ?_)
                              · have c353 : 4 ≤ pp := (nI_leI (a := 4) (b := pp) (by omega) (by omega)).mp c353
                                have epp : pp = 4 := by omega
                                rw [epp] at hN
                                obtain ⟨mcp, eap, hX2, horp⟩ := hP.2.1
                                rcases horp with horp | horp
                                · have hPl : (sPic G x1 ad1 (upd si 1 (nI dm)) (va_up (va_up sa 1 (pTk dm wr (sa 1))) 4 (pTk 4 pZ (sa 4))) rn) 2 = some (.inr (7, [.int mcp, .ref (nDea G), .int 0])) := by rw [sPic_x (by decide), hNT.2.1 2 (by omega), hX2, horp.1, horp.2]; rfl
                                  refine lv_aload_n hx hb dX0_newTower_370 rfl (lv_at hl 0 rfl) ?_
                                  refine n_get (ci := 0) (C := RX0) (T := TX0) (N := 12) hx hb hts in_X0 hown hKv hN (0) sPic_0 rfl 3 (by decide) q131 (fun z h => h) (rfl) dX0_newTower_371 ?_
                                  refine n_callF (As := []) (C := RJ2) (b := 2) SS hKo hK hKv (tJ2_clear0 l G K hKo hK0 ad1 _ 2 mcp _ ⟨_, rfl⟩ hPl) (va_cwF 0 hts (lw_F q832 q835 q837 q60 q839) rfl rfl rfl (hKf (RJ2, ⟨"java/util/List", "clear", "()V"⟩, ⟨"java/util/ArrayList", "clear", "()V"⟩) (List.mem_of_getElem? (i := 5) rfl)) (by decide +kernel) ⟨Nat.le_of_ble_eq_true rfl, Nat.le_of_ble_eq_true rfl⟩) hN hS hPl rfl rfl hl.1 rfl (Nat.le_of_ble_eq_true rfl) dX0_newTower_374 ⟨by show 2 + k + 0 ≤ 8; omega, by show 7 + 6 * k + 0 ≤ 51; omega⟩ (fun v ad' c' H locs hv hN hS => ?_)
                                  obtain ⟨rfl, rfl, rfl⟩ := hv
                                  obtain ⟨x2, hN, hx2, hP2⟩ := nt_clrZ 3 (by decide) hN
                                  refine W.eq (g2 := F0 m 379 ls _) rfl ?_
                                  have hPl : (sPic G x2 ad1 (upd si 1 (nI dm)) (va_up (va_up sa 1 (pTk dm wr (sa 1))) 4 (pTk 4 pZ (sa 4))) rn) 2 = _ := (sPic_x (by decide)).trans hP2
                                  have hL : (sPic G x2 ad1 (upd si 1 (nI dm)) (va_up (va_up sa 1 (pTk dm wr (sa 1))) 4 (pTk 4 pZ (sa 4))) rn) 82 = _ := (sPic_x (by decide)).trans ((hx2 82 (by decide) (by decide)).trans hNT.2.2.1)
                                  have hA : (sPic G x2 ad1 (upd si 1 (nI dm)) (va_up (va_up sa 1 (pTk dm wr (sa 1))) 4 (pTk 4 pZ (sa 4))) rn) 83 = _ := (sPic_x (by decide)).trans ((hx2 83 (by decide) (by decide)).trans hNT.2.2.2.1)
                                  have hFF := nt_FF (si := upd si 1 (nI dm)) (sa := va_up (va_up sa 1 (pTk dm wr (sa 1))) 4 (pTk 4 pZ (sa 4))) (rn := rn) hNT hx2 (by omega)
                                  refine lv_aload_n hx hb dX0_newTower_379 rfl (lv_at hl 0 rfl) ?_
                                  refine n_get (ci := 0) (C := RX0) (T := TX0) (N := 12) hx hb hts in_X0 hown hKv hN (0) sPic_0 rfl 3 (by decide) q131 (fun z h => h) (rfl) dX0_newTower_380 ?_
                                  refine lv_aload hx hb dX0_newTower_383 (lv_at hl 4 rfl) ?_
                                  refine n_callF (As := [_]) (C := RJ2) (b := 2) SS hKo hK hKv (tJ2_addAllZ l G K hKo hK0 ad1 _ 2 3 82 83 88 (mcp + 1) mcl k (fun j => if j < k then some (ad1 (84 + j)) else none) hPl hL hA (by omega) (by omega) (by decide) (by decide) (by decide) (by decide) (by decide) (by decide) hFF) (va_cwF 1 hts (lw_F q841 q844 q846 q60 q848) rfl rfl rfl (hKf (RJ2, ⟨"java/util/List", "addAll", "(Ljava/util/Collection;)Z"⟩, ⟨"java/util/ArrayList", "addAll", "(Ljava/util/Collection;)Z"⟩) (List.mem_of_getElem? (i := 4) rfl)) (by decide +kernel) ⟨Nat.le_of_ble_eq_true rfl, Nat.le_of_ble_eq_true rfl⟩) hN hS hPl rfl rfl hl.1 rfl (Nat.le_of_ble_eq_true rfl) dX0_newTower_385 ⟨by show 2 + k + 0 + 2 ≤ 8; omega, by show 7 + 6 * k + 0 + 20 ≤ 51; omega⟩ (fun v ad' c' H locs hv hN hS => ?_)
                                  obtain ⟨rfl, hz3, rfl⟩ := hv
                                  refine W.eq (g2 := F0 m 390 ls (_ :: _)) rfl ?_
                                  obtain ⟨ad3, x3, hN, hz3, hx3, hP2, hP3⟩ := nt_all hN hz3 hx2
                                  rw [← hz3 0 (by decide) (by decide), ← hz3 ra (by omega) (by omega), ← hz3 82 (by decide) (by decide)] at hl
                                  refine lv_pop hx hb dX0_newTower_390 rfl ?_
                                  obtain ⟨hr8, ⟨mcr, ear, hX6, horr⟩, -⟩ := id hQ
                                  rcases horr with horr | horr
                                  · have hRl : (sPic G x3 ad3 (upd si 1 (nI dm)) (va_up (va_up sa 1 (pTk dm wr (sa 1))) 4 (pTk 4 pZ (sa 4))) rn) 6 = some (.inr (7, [.int mcr, .ref (nDea G), .int 0])) := by rw [sPic_x (by decide), hx3 6 (by decide) (by decide) (by decide), hNT.2.1 6 (by omega), hX6, horr.1, horr.2]; rfl
                                    refine lv_aload_n hx hb dX0_newTower_391 rfl (lv_at hl 0 rfl) ?_
                                    refine n_get (ci := 0) (C := RX0) (T := TX0) (N := 12) hx hb hts in_X0 hown hKv hN (0) sPic_0 rfl 8 (by decide) q136 (fun z h => h) (rfl) dX0_newTower_392 ?_
                                    refine n_callF (As := []) (C := RJ2) (b := 6) SS hKo hK hKv (tJ2_clear0 l G K hKo hK0 ad3 _ 6 mcr _ ⟨_, rfl⟩ hRl) (va_cwF 0 hts (lw_F q832 q835 q837 q60 q839) rfl rfl rfl (hKf (RJ2, ⟨"java/util/List", "clear", "()V"⟩, ⟨"java/util/ArrayList", "clear", "()V"⟩) (List.mem_of_getElem? (i := 5) rfl)) (by decide +kernel) ⟨Nat.le_of_ble_eq_true rfl, Nat.le_of_ble_eq_true rfl⟩) hN hS hRl rfl rfl hl.1 rfl (Nat.le_of_ble_eq_true rfl) dX0_newTower_395 ⟨by first | (show 2 + k + 0 + 1 + 0 ≤ 8; omega) | (show 2 + k + 0 + 2 + 0 ≤ 8; omega) | (show 2 + k + 0 + 1 + 0 + 0 ≤ 8; omega) | (show 2 + k + 0 + 2 + 0 + 0 ≤ 8; omega), by first | (show 7 + 6 * k + 0 + 10 + 0 ≤ 51; omega) | (show 7 + 6 * k + 0 + 20 + 0 ≤ 51; omega) | (show 7 + 6 * k + 0 + 10 + 0 + 0 ≤ 51; omega) | (show 7 + 6 * k + 0 + 20 + 0 + 0 ≤ 51; omega)⟩ (fun v ad' c' H locs hv hN hS => ?_)
                                    obtain ⟨rfl, rfl, rfl⟩ := hv
                                    obtain ⟨x4, hN, hx4, hRl4⟩ := nt_clrZ 7 (by decide) hN
                                    have hRf : ∀ rw_ rf_, sRea G ad3 x4 0 rw_ rf_ := fun rw_ rf_ => ⟨by omega, ⟨_, _, hRl4, Or.inl ⟨rfl, rfl⟩⟩, fun j hj => absurd hj (by omega)⟩
                                    refine W.eq (g2 := F0 m 400 ls _) rfl ?_
                                    have hPl : (sPic G x4 ad3 (upd si 1 (nI dm)) (va_up (va_up sa 1 (pTk dm wr (sa 1))) 4 (pTk 4 pZ (sa 4))) rn) 2 = _ := (sPic_x (by decide)).trans ((hx4 2 (by decide) (by decide)).trans hP2)
                                    refine lv_aload_n hx hb dX0_newTower_400 rfl (lv_at hl 0 rfl) ?_
                                    refine n_get (ci := 0) (C := RX0) (T := TX0) (N := 12) hx hb hts in_X0 hown hKv hN (0) sPic_0 rfl 3 (by decide) q131 (fun z h => h) (rfl) dX0_newTower_401 ?_
                                    refine n_callF (As := []) (C := RJ2) (b := 2) SS hKo hK hKv (tJ2_size l G K hKo hK0 ad3 _ 2 (mcp + 1 + 1) _ k hPl) (va_cwF 0 hts (lw_F q176 q180 q182 q60 q184) rfl rfl rfl (hKf (RJ2, ⟨"java/util/List", "size", "()I"⟩, ⟨"java/util/ArrayList", "size", "()I"⟩) (List.mem_of_getElem? (i := 0) rfl)) (by decide +kernel) ⟨Nat.le_of_ble_eq_true rfl, Nat.le_of_ble_eq_true rfl⟩) hN hS hPl rfl rfl hl.1 rfl (Nat.le_of_ble_eq_true rfl) dX0_newTower_404 ⟨by first | (show 2 + k + 0 + 1 + 0 ≤ 8; omega) | (show 2 + k + 0 + 2 + 0 ≤ 8; omega) | (show 2 + k + 0 + 1 + 0 + 0 ≤ 8; omega) | (show 2 + k + 0 + 2 + 0 + 0 ≤ 8; omega), by first | (show 7 + 6 * k + 0 + 10 + 0 ≤ 51; omega) | (show 7 + 6 * k + 0 + 20 + 0 ≤ 51; omega) | (show 7 + 6 * k + 0 + 10 + 0 + 0 ≤ 51; omega) | (show 7 + 6 * k + 0 + 20 + 0 + 0 ≤ 51; omega)⟩ (fun v ad' c' H locs hv hN hS => ?_)
                                    obtain ⟨rfl, rfl, rfl⟩ := hv
                                    refine W.eq (g2 := F0 m 409 ls (_ :: _)) rfl ?_
                                    obtain ⟨ad5, x5, hN, hQQ⟩ := nt_fin (p_ := p_) (wr := wr) hN hNT hz3 hx3 hx4 ((hx4 2 (by decide) (by decide)).trans hP2) ((hx4 3 (by decide) (by decide)).trans hP3) hRf hk hdm
                                    refine W.widen (k := 8) (n := 51) (by first | omega | decide) (by first | omega | decide) ?_
                                    exact W.iret hx hb hr (nEnd hN hS ⟨by rw [hTt] <;> rfl, fun z => (by rw [hTt] at z; cases z), fun _ => ⟨x5, by rw [hTt]; exact hQQ, by rw [hTt]⟩⟩) hS.2 dX0_newTower_409
                                  · have hRl : (sPic G x3 ad3 (upd si 1 (nI dm)) (va_up (va_up sa 1 (pTk dm wr (sa 1))) 4 (pTk 4 pZ (sa 4))) rn) 6 = some (.inr (7, [.int mcr, .ref (ad3 7), .int (nI nr)])) := by rw [sPic_x (by decide), hx3 6 (by decide) (by decide) (by decide), hNT.2.1 6 (by omega), hX6, horr.1, hz3 7 (by decide) (by decide), hNT.1 7 (by omega)]
                                    have hRA : (sPic G x3 ad3 (upd si 1 (nI dm)) (va_up (va_up sa 1 (pTk dm wr (sa 1))) 4 (pTk 4 pZ (sa 4))) rn) 7 = some (qA (G.1.1 103) 10 (sRl ad nr)) := by rw [sPic_x (by decide), hx3 7 (by decide) (by decide) (by decide), hNT.2.1 7 (by omega), horr.2]
                                    refine lv_aload_n hx hb dX0_newTower_391 rfl (lv_at hl 0 rfl) ?_
                                    refine n_get (ci := 0) (C := RX0) (T := TX0) (N := 12) hx hb hts in_X0 hown hKv hN (0) sPic_0 rfl 8 (by decide) q136 (fun z h => h) (rfl) dX0_newTower_392 ?_
                                    refine n_callF (As := []) (C := RJ2) (b := 6) SS hKo hK hKv (tJ2_clear l G K hKo hK0 ad3 _ 6 7 mcr nr 10 (sRl ad nr) hRl hRA (by decide) (by decide) (by omega)) (va_cwF 0 hts (lw_F q832 q835 q837 q60 q839) rfl rfl rfl (hKf (RJ2, ⟨"java/util/List", "clear", "()V"⟩, ⟨"java/util/ArrayList", "clear", "()V"⟩) (List.mem_of_getElem? (i := 5) rfl)) (by decide +kernel) ⟨Nat.le_of_ble_eq_true rfl, Nat.le_of_ble_eq_true rfl⟩) hN hS hRl rfl rfl hl.1 rfl (Nat.le_of_ble_eq_true rfl) dX0_newTower_395 ⟨by first | (show 2 + k + 0 + 1 + 0 ≤ 8; omega) | (show 2 + k + 0 + 2 + 0 ≤ 8; omega) | (show 2 + k + 0 + 1 + 0 + 0 ≤ 8; omega) | (show 2 + k + 0 + 2 + 0 + 0 ≤ 8; omega), by first | (show 7 + 6 * k + 0 + 10 + 0 ≤ 51; omega) | (show 7 + 6 * k + 0 + 20 + 0 ≤ 51; omega) | (show 7 + 6 * k + 0 + 10 + 0 + 0 ≤ 51; omega) | (show 7 + 6 * k + 0 + 20 + 0 + 0 ≤ 51; omega)⟩ (fun v ad' c' H locs hv hN hS => ?_)
                                    obtain ⟨rfl, rfl, rfl⟩ := hv
                                    obtain ⟨x4, hN, hx4, hRl4, hRA4⟩ := nt_clrR hN
                                    have hRf : ∀ rw_ rf_, sRea G ad3 x4 0 rw_ rf_ := fun rw_ rf_ => ⟨by omega, ⟨_, _, hRl4, Or.inr ⟨rfl, hRA4⟩⟩, fun j hj => absurd hj (by omega)⟩
                                    refine W.eq (g2 := F0 m 400 ls _) rfl ?_
                                    have hPl : (sPic G x4 ad3 (upd si 1 (nI dm)) (va_up (va_up sa 1 (pTk dm wr (sa 1))) 4 (pTk 4 pZ (sa 4))) rn) 2 = _ := (sPic_x (by decide)).trans ((hx4 2 (by decide) (by decide)).trans hP2)
                                    refine lv_aload_n hx hb dX0_newTower_400 rfl (lv_at hl 0 rfl) ?_
                                    refine n_get (ci := 0) (C := RX0) (T := TX0) (N := 12) hx hb hts in_X0 hown hKv hN (0) sPic_0 rfl 3 (by decide) q131 (fun z h => h) (rfl) dX0_newTower_401 ?_
                                    refine n_callF (As := []) (C := RJ2) (b := 2) SS hKo hK hKv (tJ2_size l G K hKo hK0 ad3 _ 2 (mcp + 1 + 1) _ k hPl) (va_cwF 0 hts (lw_F q176 q180 q182 q60 q184) rfl rfl rfl (hKf (RJ2, ⟨"java/util/List", "size", "()I"⟩, ⟨"java/util/ArrayList", "size", "()I"⟩) (List.mem_of_getElem? (i := 0) rfl)) (by decide +kernel) ⟨Nat.le_of_ble_eq_true rfl, Nat.le_of_ble_eq_true rfl⟩) hN hS hPl rfl rfl hl.1 rfl (Nat.le_of_ble_eq_true rfl) dX0_newTower_404 ⟨by first | (show 2 + k + 0 + 1 + 0 ≤ 8; omega) | (show 2 + k + 0 + 2 + 0 ≤ 8; omega) | (show 2 + k + 0 + 1 + 0 + 0 ≤ 8; omega) | (show 2 + k + 0 + 2 + 0 + 0 ≤ 8; omega), by first | (show 7 + 6 * k + 0 + 10 + 0 ≤ 51; omega) | (show 7 + 6 * k + 0 + 20 + 0 ≤ 51; omega) | (show 7 + 6 * k + 0 + 10 + 0 + 0 ≤ 51; omega) | (show 7 + 6 * k + 0 + 20 + 0 + 0 ≤ 51; omega)⟩ (fun v ad' c' H locs hv hN hS => ?_)
                                    obtain ⟨rfl, rfl, rfl⟩ := hv
                                    refine W.eq (g2 := F0 m 409 ls (_ :: _)) rfl ?_
                                    obtain ⟨ad5, x5, hN, hQQ⟩ := nt_fin (p_ := p_) (wr := wr) hN hNT hz3 hx3 hx4 ((hx4 2 (by decide) (by decide)).trans hP2) ((hx4 3 (by decide) (by decide)).trans hP3) hRf hk hdm
                                    refine W.widen (k := 8) (n := 51) (by first | omega | decide) (by first | omega | decide) ?_
                                    exact W.iret hx hb hr (nEnd hN hS ⟨by rw [hTt] <;> rfl, fun z => (by rw [hTt] at z; cases z), fun _ => ⟨x5, by rw [hTt]; exact hQQ, by rw [hTt]⟩⟩) hS.2 dX0_newTower_409
                                · have hPl : (sPic G x1 ad1 (upd si 1 (nI dm)) (va_up (va_up sa 1 (pTk dm wr (sa 1))) 4 (pTk 4 pZ (sa 4))) rn) 2 = some (.inr (7, [.int mcp, .ref (ad1 3), .int (nI np)])) := by rw [sPic_x (by decide), hNT.2.1 2 (by omega), hX2, horp.1, hNT.1 3 (by omega)]
                                  have hPA : (sPic G x1 ad1 (upd si 1 (nI dm)) (va_up (va_up sa 1 (pTk dm wr (sa 1))) 4 (pTk 4 pZ (sa 4))) rn) 3 = some (qA (G.1.1 103) 10 (sPl ad np)) := by rw [sPic_x (by decide), hNT.2.1 3 (by omega), horp.2]
                                  refine lv_aload_n hx hb dX0_newTower_370 rfl (lv_at hl 0 rfl) ?_
                                  refine n_get (ci := 0) (C := RX0) (T := TX0) (N := 12) hx hb hts in_X0 hown hKv hN (0) sPic_0 rfl 3 (by decide) q131 (fun z h => h) (rfl) dX0_newTower_371 ?_
                                  refine n_callF (As := []) (C := RJ2) (b := 2) SS hKo hK hKv (tJ2_clear l G K hKo hK0 ad1 _ 2 3 mcp np 10 (sPl ad np) hPl hPA (by decide) (by decide) (by omega)) (va_cwF 0 hts (lw_F q832 q835 q837 q60 q839) rfl rfl rfl (hKf (RJ2, ⟨"java/util/List", "clear", "()V"⟩, ⟨"java/util/ArrayList", "clear", "()V"⟩) (List.mem_of_getElem? (i := 5) rfl)) (by decide +kernel) ⟨Nat.le_of_ble_eq_true rfl, Nat.le_of_ble_eq_true rfl⟩) hN hS hPl rfl rfl hl.1 rfl (Nat.le_of_ble_eq_true rfl) dX0_newTower_374 ⟨by show 2 + k + 0 ≤ 8; omega, by show 7 + 6 * k + 0 ≤ 51; omega⟩ (fun v ad' c' H locs hv hN hS => ?_)
                                  obtain ⟨rfl, rfl, rfl⟩ := hv
                                  obtain ⟨x2, hN, hx2, hP2, hP3⟩ := nt_clrO hN
                                  refine W.eq (g2 := F0 m 379 ls _) rfl ?_
                                  have hPA : (sPic G x2 ad1 (upd si 1 (nI dm)) (va_up (va_up sa 1 (pTk dm wr (sa 1))) 4 (pTk 4 pZ (sa 4))) rn) 3 = _ := (sPic_x (by decide)).trans hP3
                                  have hPl : (sPic G x2 ad1 (upd si 1 (nI dm)) (va_up (va_up sa 1 (pTk dm wr (sa 1))) 4 (pTk 4 pZ (sa 4))) rn) 2 = _ := (sPic_x (by decide)).trans hP2
                                  have hL : (sPic G x2 ad1 (upd si 1 (nI dm)) (va_up (va_up sa 1 (pTk dm wr (sa 1))) 4 (pTk 4 pZ (sa 4))) rn) 82 = _ := (sPic_x (by decide)).trans ((hx2 82 (by decide) (by decide)).trans hNT.2.2.1)
                                  have hA : (sPic G x2 ad1 (upd si 1 (nI dm)) (va_up (va_up sa 1 (pTk dm wr (sa 1))) 4 (pTk 4 pZ (sa 4))) rn) 83 = _ := (sPic_x (by decide)).trans ((hx2 83 (by decide) (by decide)).trans hNT.2.2.2.1)
                                  have hFF := nt_FF (si := upd si 1 (nI dm)) (sa := va_up (va_up sa 1 (pTk dm wr (sa 1))) 4 (pTk 4 pZ (sa 4))) (rn := rn) hNT hx2 (by omega)
                                  refine lv_aload_n hx hb dX0_newTower_379 rfl (lv_at hl 0 rfl) ?_
                                  refine n_get (ci := 0) (C := RX0) (T := TX0) (N := 12) hx hb hts in_X0 hown hKv hN (0) sPic_0 rfl 3 (by decide) q131 (fun z h => h) (rfl) dX0_newTower_380 ?_
                                  refine lv_aload hx hb dX0_newTower_383 (lv_at hl 4 rfl) ?_
                                  refine n_callF (As := [_]) (C := RJ2) (b := 2) SS hKo hK hKv (tJ2_addAll l G K hKo hK0 ad1 _ 2 3 82 83 88 (mcp + 1) mcl k _ (fun j => if j < k then some (ad1 (84 + j)) else none) hPl hPA hL hA (by omega) (by omega) (by decide) (by decide) (by decide) (by decide) (by decide) (by decide) hFF) (va_cwF 1 hts (lw_F q841 q844 q846 q60 q848) rfl rfl rfl (hKf (RJ2, ⟨"java/util/List", "addAll", "(Ljava/util/Collection;)Z"⟩, ⟨"java/util/ArrayList", "addAll", "(Ljava/util/Collection;)Z"⟩) (List.mem_of_getElem? (i := 4) rfl)) (by decide +kernel) ⟨Nat.le_of_ble_eq_true rfl, Nat.le_of_ble_eq_true rfl⟩) hN hS hPl rfl rfl hl.1 rfl (Nat.le_of_ble_eq_true rfl) dX0_newTower_385 ⟨by show 2 + k + 0 + 1 ≤ 8; omega, by show 7 + 6 * k + 0 + 10 ≤ 51; omega⟩ (fun v ad' c' H locs hv hN hS => ?_)
                                  obtain ⟨rfl, hz3, rfl⟩ := hv
                                  refine W.eq (g2 := F0 m 390 ls (_ :: _)) rfl ?_
                                  obtain ⟨ad3, x3, hN, hz3, hx3, hP2, hP3⟩ := nt_all hN hz3 hx2
                                  rw [← hz3 0 (by decide) (by decide), ← hz3 ra (by omega) (by omega), ← hz3 82 (by decide) (by decide)] at hl
                                  refine lv_pop hx hb dX0_newTower_390 rfl ?_
                                  obtain ⟨hr8, ⟨mcr, ear, hX6, horr⟩, -⟩ := id hQ
                                  rcases horr with horr | horr
                                  · have hRl : (sPic G x3 ad3 (upd si 1 (nI dm)) (va_up (va_up sa 1 (pTk dm wr (sa 1))) 4 (pTk 4 pZ (sa 4))) rn) 6 = some (.inr (7, [.int mcr, .ref (nDea G), .int 0])) := by rw [sPic_x (by decide), hx3 6 (by decide) (by decide) (by decide), hNT.2.1 6 (by omega), hX6, horr.1, horr.2]; rfl
                                    refine lv_aload_n hx hb dX0_newTower_391 rfl (lv_at hl 0 rfl) ?_
                                    refine n_get (ci := 0) (C := RX0) (T := TX0) (N := 12) hx hb hts in_X0 hown hKv hN (0) sPic_0 rfl 8 (by decide) q136 (fun z h => h) (rfl) dX0_newTower_392 ?_
                                    refine n_callF (As := []) (C := RJ2) (b := 6) SS hKo hK hKv (tJ2_clear0 l G K hKo hK0 ad3 _ 6 mcr _ ⟨_, rfl⟩ hRl) (va_cwF 0 hts (lw_F q832 q835 q837 q60 q839) rfl rfl rfl (hKf (RJ2, ⟨"java/util/List", "clear", "()V"⟩, ⟨"java/util/ArrayList", "clear", "()V"⟩) (List.mem_of_getElem? (i := 5) rfl)) (by decide +kernel) ⟨Nat.le_of_ble_eq_true rfl, Nat.le_of_ble_eq_true rfl⟩) hN hS hRl rfl rfl hl.1 rfl (Nat.le_of_ble_eq_true rfl) dX0_newTower_395 ⟨by first | (show 2 + k + 0 + 1 + 0 ≤ 8; omega) | (show 2 + k + 0 + 2 + 0 ≤ 8; omega) | (show 2 + k + 0 + 1 + 0 + 0 ≤ 8; omega) | (show 2 + k + 0 + 2 + 0 + 0 ≤ 8; omega), by first | (show 7 + 6 * k + 0 + 10 + 0 ≤ 51; omega) | (show 7 + 6 * k + 0 + 20 + 0 ≤ 51; omega) | (show 7 + 6 * k + 0 + 10 + 0 + 0 ≤ 51; omega) | (show 7 + 6 * k + 0 + 20 + 0 + 0 ≤ 51; omega)⟩ (fun v ad' c' H locs hv hN hS => ?_)
                                    obtain ⟨rfl, rfl, rfl⟩ := hv
                                    obtain ⟨x4, hN, hx4, hRl4⟩ := nt_clrZ 7 (by decide) hN
                                    have hRf : ∀ rw_ rf_, sRea G ad3 x4 0 rw_ rf_ := fun rw_ rf_ => ⟨by omega, ⟨_, _, hRl4, Or.inl ⟨rfl, rfl⟩⟩, fun j hj => absurd hj (by omega)⟩
                                    refine W.eq (g2 := F0 m 400 ls _) rfl ?_
                                    have hPl : (sPic G x4 ad3 (upd si 1 (nI dm)) (va_up (va_up sa 1 (pTk dm wr (sa 1))) 4 (pTk 4 pZ (sa 4))) rn) 2 = _ := (sPic_x (by decide)).trans ((hx4 2 (by decide) (by decide)).trans hP2)
                                    refine lv_aload_n hx hb dX0_newTower_400 rfl (lv_at hl 0 rfl) ?_
                                    refine n_get (ci := 0) (C := RX0) (T := TX0) (N := 12) hx hb hts in_X0 hown hKv hN (0) sPic_0 rfl 3 (by decide) q131 (fun z h => h) (rfl) dX0_newTower_401 ?_
                                    refine n_callF (As := []) (C := RJ2) (b := 2) SS hKo hK hKv (tJ2_size l G K hKo hK0 ad3 _ 2 (mcp + 1 + 1) _ k hPl) (va_cwF 0 hts (lw_F q176 q180 q182 q60 q184) rfl rfl rfl (hKf (RJ2, ⟨"java/util/List", "size", "()I"⟩, ⟨"java/util/ArrayList", "size", "()I"⟩) (List.mem_of_getElem? (i := 0) rfl)) (by decide +kernel) ⟨Nat.le_of_ble_eq_true rfl, Nat.le_of_ble_eq_true rfl⟩) hN hS hPl rfl rfl hl.1 rfl (Nat.le_of_ble_eq_true rfl) dX0_newTower_404 ⟨by first | (show 2 + k + 0 + 1 + 0 ≤ 8; omega) | (show 2 + k + 0 + 2 + 0 ≤ 8; omega) | (show 2 + k + 0 + 1 + 0 + 0 ≤ 8; omega) | (show 2 + k + 0 + 2 + 0 + 0 ≤ 8; omega), by first | (show 7 + 6 * k + 0 + 10 + 0 ≤ 51; omega) | (show 7 + 6 * k + 0 + 20 + 0 ≤ 51; omega) | (show 7 + 6 * k + 0 + 10 + 0 + 0 ≤ 51; omega) | (show 7 + 6 * k + 0 + 20 + 0 + 0 ≤ 51; omega)⟩ (fun v ad' c' H locs hv hN hS => ?_)
                                    obtain ⟨rfl, rfl, rfl⟩ := hv
                                    refine W.eq (g2 := F0 m 409 ls (_ :: _)) rfl ?_
                                    obtain ⟨ad5, x5, hN, hQQ⟩ := nt_fin (p_ := p_) (wr := wr) hN hNT hz3 hx3 hx4 ((hx4 2 (by decide) (by decide)).trans hP2) ((hx4 3 (by decide) (by decide)).trans hP3) hRf hk hdm
                                    refine W.widen (k := 8) (n := 51) (by first | omega | decide) (by first | omega | decide) ?_
                                    exact W.iret hx hb hr (nEnd hN hS ⟨by rw [hTt] <;> rfl, fun z => (by rw [hTt] at z; cases z), fun _ => ⟨x5, by rw [hTt]; exact hQQ, by rw [hTt]⟩⟩) hS.2 dX0_newTower_409
                                  · have hRl : (sPic G x3 ad3 (upd si 1 (nI dm)) (va_up (va_up sa 1 (pTk dm wr (sa 1))) 4 (pTk 4 pZ (sa 4))) rn) 6 = some (.inr (7, [.int mcr, .ref (ad3 7), .int (nI nr)])) := by rw [sPic_x (by decide), hx3 6 (by decide) (by decide) (by decide), hNT.2.1 6 (by omega), hX6, horr.1, hz3 7 (by decide) (by decide), hNT.1 7 (by omega)]
                                    have hRA : (sPic G x3 ad3 (upd si 1 (nI dm)) (va_up (va_up sa 1 (pTk dm wr (sa 1))) 4 (pTk 4 pZ (sa 4))) rn) 7 = some (qA (G.1.1 103) 10 (sRl ad nr)) := by rw [sPic_x (by decide), hx3 7 (by decide) (by decide) (by decide), hNT.2.1 7 (by omega), horr.2]
                                    refine lv_aload_n hx hb dX0_newTower_391 rfl (lv_at hl 0 rfl) ?_
                                    refine n_get (ci := 0) (C := RX0) (T := TX0) (N := 12) hx hb hts in_X0 hown hKv hN (0) sPic_0 rfl 8 (by decide) q136 (fun z h => h) (rfl) dX0_newTower_392 ?_
                                    refine n_callF (As := []) (C := RJ2) (b := 6) SS hKo hK hKv (tJ2_clear l G K hKo hK0 ad3 _ 6 7 mcr nr 10 (sRl ad nr) hRl hRA (by decide) (by decide) (by omega)) (va_cwF 0 hts (lw_F q832 q835 q837 q60 q839) rfl rfl rfl (hKf (RJ2, ⟨"java/util/List", "clear", "()V"⟩, ⟨"java/util/ArrayList", "clear", "()V"⟩) (List.mem_of_getElem? (i := 5) rfl)) (by decide +kernel) ⟨Nat.le_of_ble_eq_true rfl, Nat.le_of_ble_eq_true rfl⟩) hN hS hRl rfl rfl hl.1 rfl (Nat.le_of_ble_eq_true rfl) dX0_newTower_395 ⟨by first | (show 2 + k + 0 + 1 + 0 ≤ 8; omega) | (show 2 + k + 0 + 2 + 0 ≤ 8; omega) | (show 2 + k + 0 + 1 + 0 + 0 ≤ 8; omega) | (show 2 + k + 0 + 2 + 0 + 0 ≤ 8; omega), by first | (show 7 + 6 * k + 0 + 10 + 0 ≤ 51; omega) | (show 7 + 6 * k + 0 + 20 + 0 ≤ 51; omega) | (show 7 + 6 * k + 0 + 10 + 0 + 0 ≤ 51; omega) | (show 7 + 6 * k + 0 + 20 + 0 + 0 ≤ 51; omega)⟩ (fun v ad' c' H locs hv hN hS => ?_)
                                    obtain ⟨rfl, rfl, rfl⟩ := hv
                                    obtain ⟨x4, hN, hx4, hRl4, hRA4⟩ := nt_clrR hN
                                    have hRf : ∀ rw_ rf_, sRea G ad3 x4 0 rw_ rf_ := fun rw_ rf_ => ⟨by omega, ⟨_, _, hRl4, Or.inr ⟨rfl, hRA4⟩⟩, fun j hj => absurd hj (by omega)⟩
                                    refine W.eq (g2 := F0 m 400 ls _) rfl ?_
                                    have hPl : (sPic G x4 ad3 (upd si 1 (nI dm)) (va_up (va_up sa 1 (pTk dm wr (sa 1))) 4 (pTk 4 pZ (sa 4))) rn) 2 = _ := (sPic_x (by decide)).trans ((hx4 2 (by decide) (by decide)).trans hP2)
                                    refine lv_aload_n hx hb dX0_newTower_400 rfl (lv_at hl 0 rfl) ?_
                                    refine n_get (ci := 0) (C := RX0) (T := TX0) (N := 12) hx hb hts in_X0 hown hKv hN (0) sPic_0 rfl 3 (by decide) q131 (fun z h => h) (rfl) dX0_newTower_401 ?_
                                    refine n_callF (As := []) (C := RJ2) (b := 2) SS hKo hK hKv (tJ2_size l G K hKo hK0 ad3 _ 2 (mcp + 1 + 1) _ k hPl) (va_cwF 0 hts (lw_F q176 q180 q182 q60 q184) rfl rfl rfl (hKf (RJ2, ⟨"java/util/List", "size", "()I"⟩, ⟨"java/util/ArrayList", "size", "()I"⟩) (List.mem_of_getElem? (i := 0) rfl)) (by decide +kernel) ⟨Nat.le_of_ble_eq_true rfl, Nat.le_of_ble_eq_true rfl⟩) hN hS hPl rfl rfl hl.1 rfl (Nat.le_of_ble_eq_true rfl) dX0_newTower_404 ⟨by first | (show 2 + k + 0 + 1 + 0 ≤ 8; omega) | (show 2 + k + 0 + 2 + 0 ≤ 8; omega) | (show 2 + k + 0 + 1 + 0 + 0 ≤ 8; omega) | (show 2 + k + 0 + 2 + 0 + 0 ≤ 8; omega), by first | (show 7 + 6 * k + 0 + 10 + 0 ≤ 51; omega) | (show 7 + 6 * k + 0 + 20 + 0 ≤ 51; omega) | (show 7 + 6 * k + 0 + 10 + 0 + 0 ≤ 51; omega) | (show 7 + 6 * k + 0 + 20 + 0 + 0 ≤ 51; omega)⟩ (fun v ad' c' H locs hv hN hS => ?_)
                                    obtain ⟨rfl, rfl, rfl⟩ := hv
                                    refine W.eq (g2 := F0 m 409 ls (_ :: _)) rfl ?_
                                    obtain ⟨ad5, x5, hN, hQQ⟩ := nt_fin (p_ := p_) (wr := wr) hN hNT hz3 hx3 hx4 ((hx4 2 (by decide) (by decide)).trans hP2) ((hx4 3 (by decide) (by decide)).trans hP3) hRf hk hdm
                                    refine W.widen (k := 8) (n := 51) (by first | omega | decide) (by first | omega | decide) ?_
                                    exact W.iret hx hb hr (nEnd hN hS ⟨by rw [hTt] <;> rfl, fun z => (by rw [hTt] at z; cases z), fun _ => ⟨x5, by rw [hTt]; exact hQQ, by rw [hTt]⟩⟩) hS.2 dX0_newTower_409
                              · have c353 : pp < 4 := by have := mt (nI_leI (a := 4) (b := pp) (by omega) (by omega)).mpr c353; omega
                                refine lv_aload_n hx hb dX0_newTower_356 rfl (lv_at hl 0 rfl) ?_
                                refine n_get (ci := 0) (C := RX0) (T := TX0) (N := 12) hx hb hts in_X0 hown hKv hN (0) sPic_0 rfl 4 (by decide) q132 (fun z h => h) (rfl) dX0_newTower_357 ?_
                                refine lv_iload hx hb dX0_newTower_360 (lv_at hl 5 rfl) ?_
                                refine lv_iconst (v := 0) hx hb dX0_newTower_362 (by decide) ?_
                                refine n_iast hx hb hKv hN hS (4) 0 sPic_4 rfl (pp) (rfl) (by omega) (by decide) dX0_newTower_363 (fun H locs hN hS => ?_)
                                have hN := hN.congr sPic_s4
                                rw [va_up_up] at hN
                                have hN : nOk G nCl ad1 (sPic G x1 ad1 (upd si 1 (nI dm)) (va_up (va_up sa 1 (pTk dm wr (sa 1))) 4 (pTk (pp + 1) pZ (sa 4))) rn) H := by rw [← pTk_s pZ (sa 4) pp]; exact hN
                                refine lv_iinc (v := nI (pp + 1)) (lv' := [(5, _), (0, _), (1, _), (2, _), (3, _), (4, _)]) hx hb dX0_newTower_364 hl (k := 5) rfl (nI_inc pp) (by decide) rfl (fun ls hl => ?_)
                                refine lv_goto (tgt := 350) hx hb dX0_newTower_367 (by decide) ?_
                                exact ih350 (pp + 1) _ _ _ (by omega) (by omega) hN hS (lv_sub hl [1, 2, 3, 4, 5, 0] (rfl))
                          exact loop350 5 0 _ _ _ (by omega) (by omega) hN hS (lv_sub hl [1, 2, 3, 4, 5, 0] rfl)
                        · have c321 : d < dm := by have := mt (nI_leI (a := dm) (b := d) (by omega) (by omega)).mpr c321; omega
                          refine lv_aload_n hx hb dX0_newTower_324 rfl (lv_at hl 0 rfl) ?_
                          refine n_get (ci := 0) (C := RX0) (T := TX0) (N := 12) hx hb hts in_X0 hown hKv hN (0) sPic_0 rfl 2 (by decide) q130 (fun z h => h) (rfl) dX0_newTower_325 ?_
                          refine lv_iload hx hb dX0_newTower_328 (lv_at hl 5 rfl) ?_
                          refine lv_aload_n hx hb dX0_newTower_330 rfl (lv_at hl 1 rfl) ?_
                          refine lv_iconst (v := 2) hx hb dX0_newTower_331 (by decide) ?_
                          refine lv_iconst (v := 2) hx hb dX0_newTower_332 (by decide) ?_
                          refine lv_iload hx hb dX0_newTower_333 (lv_at hl 5 rfl) ?_
                          refine lv_imul hx hb dX0_newTower_335 ?_
                          refine n_top (y := nI (2 * d)) (pk_mul 2 d) ?_
                          refine lv_iadd hx hb dX0_newTower_336 ?_
                          refine n_top (y := nI (2 + 2 * d)) (nI_add 2 _) ?_
                          refine n_callS (As := [_, _]) SS hKo hK (sX0_figureAt l G K hKo hK0 ad1 _ ra n_ cd hRr hn (2 + 2 * d) (by omega)) (va_cwS 2 hts (lw_S q771 q772 q57 q773) rfl rfl rfl (by decide +kernel) ⟨Nat.le_of_ble_eq_true rfl, Nat.le_of_ble_eq_true rfl⟩) hN hS rfl hl.1 rfl (Nat.le_of_ble_eq_true rfl) dX0_newTower_337 ⟨by show 2 + k + 0 ≤ 8; omega, by show 7 + 6 * k + 0 ≤ 51; omega⟩ (fun v ad' c' H locs hv hN hS => ?_)
                          obtain ⟨rfl, rfl, rfl⟩ := hv
                          refine W.eq (g2 := F0 m 340 ls (_ :: _)) rfl ?_
                          refine n_iast hx hb hKv hN hS (1) 0 sPic_1 rfl (d) (rfl) (by omega) (by decide) dX0_newTower_340 (fun H locs hN hS => ?_)
                          have hN := hN.congr sPic_s1
                          rw [va_up_up] at hN
                          have hN : nOk G nCl ad1 (sPic G x1 ad1 (upd si 1 (nI dm)) (va_up sa 1 (pTk (d + 1) wr (sa 1))) rn) H := by rw [← pTk_s wr (sa 1) d, hwr d (by omega)]; exact hN
                          refine lv_iinc (v := nI (d + 1)) (lv' := [(5, _), (0, _), (1, _), (2, _), (3, _), (4, _)]) hx hb dX0_newTower_341 hl (k := 5) rfl (nI_inc d) (by decide) rfl (fun ls hl => ?_)
                          refine lv_goto (tgt := 315) hx hb dX0_newTower_344 (by decide) ?_
                          exact ih315 (d + 1) _ _ _ (by omega) (by omega) hN hS (lv_sub hl [1, 2, 3, 4, 5, 0] (rfl))
                    exact loop315 (dm + 1) 0 _ _ _ (by omega) (by omega) hN hS (lv_sub hl [1, 2, 3, 4, 5, 0] rfl)
                  · have c102 : p_ < n_ := by have := mt (nI_leI (a := n_) (b := p_) (by omega) (by omega)).mpr c102; omega
                    have hgo : k = 0 ∨ p_ < n_ := Or.inr c102
                    refine lv_aload hx hb dX0_newTower_105 (lv_at hl 4 rfl) ?_
                    refine n_callF (As := []) (C := RJ2) (b := 82) SS hKo hK hKv (tJ2_size l G K hKo hK0 ad1 _ 82 mcl _ k hL) (va_cwF 0 hts (lw_F q176 q180 q182 q60 q184) rfl rfl rfl (hKf (RJ2, ⟨"java/util/List", "size", "()I"⟩, ⟨"java/util/ArrayList", "size", "()I"⟩) (List.mem_of_getElem? (i := 0) rfl)) (by decide +kernel) ⟨Nat.le_of_ble_eq_true rfl, Nat.le_of_ble_eq_true rfl⟩) hN hS hL rfl rfl hl.1 rfl (Nat.le_of_ble_eq_true rfl) dX0_newTower_107 ⟨by show 2 + k + 0 ≤ 8; omega, by show 7 + 6 * k + 0 ≤ 51; omega⟩ (fun v ad' c' H locs hv hN hS => ?_)
                    obtain ⟨rfl, rfl, rfl⟩ := hv
                    refine W.eq (g2 := F0 m 112 ls (_ :: _)) rfl ?_
                    refine lv_iconst (v := 4) hx hb dX0_newTower_112 (by decide) ?_
                    refine lv_icmp_eq (tgt := 126) hx hb dX0_newTower_113 (by decide) (fun c113 => ?_) (fun c113 => ?_)
                    · have hk4 : k = 4 := (nI_eq (a := k) (b := 4) (by omega) (by omega)).mp c113
                      have hTf : T.1 = false ∧ T.2.1 = p_ := by rw [← hT]; exact nt_TPf h117 hDD (hPi.symm.trans (by rw [pP_z (by omega), decide_eq_false (by omega)]))
                      refine lv_bipush (v := (-100)) hx hb dX0_newTower_126 (by decide) ?_
                      refine lv_iload_n hx hb dX0_newTower_128 rfl (lv_at hl 3 rfl) ?_
                      refine lv_isub hx hb dX0_newTower_129 ?_
                      have hN : nOk G nCl ad (sPic G x ad si sa rn) H := nt_drop hNT hx8 hN
                      refine W.widen (k := 8) (n := 51) (by first | omega | decide) (by first | omega | decide) ?_
                      exact W.iret hx hb hr (nEnd hN hS ⟨by rw [if_neg (by rw [hTf.1]; simp), hTf.2], fun _ => ⟨rfl, rfl⟩, fun z => by rw [hTf.1] at z; cases z⟩) hS.2 dX0_newTower_130
                    · have hk4 : k < 4 := by have : ¬ k = 4 := (fun z => c113 (by rw [z]; rfl)); omega
                      refine lv_aload_n hx hb dX0_newTower_116 rfl (lv_at hl 1 rfl) ?_
                      refine lv_iload_n hx hb dX0_newTower_117 rfl (lv_at hl 3 rfl) ?_
                      refine n_callS (As := [_, _]) SS hKo hK (sX0_codeAt l G K hKo hK0 ad1 _ ra n_ cd hRr hn (p_) (by omega)) (va_cwS 2 hts (lw_S q760 q761 q57 q762) rfl rfl rfl (by decide +kernel) ⟨Nat.le_of_ble_eq_true rfl, Nat.le_of_ble_eq_true rfl⟩) hN hS rfl hl.1 rfl (Nat.le_of_ble_eq_true rfl) dX0_newTower_118 ⟨by show 2 + k + 0 ≤ 8; omega, by show 7 + 6 * k + 0 ≤ 51; omega⟩ (fun v ad' c' H locs hv hN hS => ?_)
                      obtain ⟨rfl, rfl, rfl⟩ := hv
                      refine W.eq (g2 := F0 m 121 ls (_ :: _)) rfl ?_
                      refine lv_bipush (v := 44) hx hb dX0_newTower_121 (by decide) ?_
                      refine lv_icmp_eq (tgt := 131) hx hb dX0_newTower_123 (by decide) (fun c123 => ?_) (fun c123 => ?_)
                      · have hs44 : pSg cd n_ p_ 44 = true := (pcd_sg (by decide)).mp c123
                        have hgo4 : k = 0 ∨ (k < 4 ∧ p_ < n_) := by omega
                        refine lv_aload_n hx hb dX0_newTower_131 rfl (lv_at hl 1 rfl) ?_
                        refine lv_iload_n hx hb dX0_newTower_132 rfl (lv_at hl 3 rfl) ?_
                        refine lv_iconst (v := 1) hx hb dX0_newTower_133 (by decide) ?_
                        refine lv_iadd hx hb dX0_newTower_134 ?_
                        refine n_top (y := nI (p_ + 1)) (nI_1 _) ?_
                        refine n_callS (As := [_, _]) SS hKo hK (sX0_codeAt l G K hKo hK0 ad1 _ ra n_ cd hRr hn (p_ + 1) (by omega)) (va_cwS 2 hts (lw_S q760 q761 q57 q762) rfl rfl rfl (by decide +kernel) ⟨Nat.le_of_ble_eq_true rfl, Nat.le_of_ble_eq_true rfl⟩) hN hS rfl hl.1 rfl (Nat.le_of_ble_eq_true rfl) dX0_newTower_135 ⟨by show 2 + k + 0 ≤ 8; omega, by show 7 + 6 * k + 0 ≤ 51; omega⟩ (fun v ad' c' H locs hv hN hS => ?_)
                        obtain ⟨rfl, rfl, rfl⟩ := hv
                        refine W.eq (g2 := F0 m 138 ls (_ :: _)) rfl ?_
                        refine lv_istore (lv' := [(5, _), (0, _), (1, _), (2, _), (3, _), (4, _)]) hx hb dX0_newTower_138 hl (by decide) rfl (fun ls hl => ?_)
                        have j175 : ∀ (kd_ : Int32), kd_ = pK (pcd cd n_ (p_ + 1)) → W p l e (sR 7 8 51) s m ([.ref (ad 0), .ref (ad ra)] : List Value).toArray below meth c H locs (2 + k) (7 + 6 * k) (MQ below (nQ G nCl (fun rv ad' c' => rv = some (.int (if T.1 = true then nI T.2.2.2.1 else -100 - nI T.2.1)) ∧ (T.1 = false → ad = ad' ∧ sPic G x ad si sa rn = c') ∧ (T.1 = true → ∃ x' : nPic, ntQ G ad x ad' x' T ∧ sPic G x' ad' (upd si 1 (nI T.2.2.1.1)) (va_up (va_up sa 1 (pTk T.2.2.1.1 T.2.2.1.2 (sa 1))) 4 (pTk 4 pZ (sa 4))) rn = c'))) ([.ref (ad 0), .ref (ad ra)] : List Value).toArray s 8 51 (fun q => G.2 ≤ q)) (F0 m 175 ls [.int kd_]) := by
                          intro kd_ hkd
                          refine lv_istore (lv' := [(6, _), (5, _), (0, _), (1, _), (2, _), (3, _), (4, _)]) hx hb dX0_newTower_175 hl (by decide) rfl (fun ls hl => ?_)
                          refine lv_iload hx hb dX0_newTower_177 (lv_at hl 0 rfl) ?_
                          refine lv_if_ge (tgt := 187) hx hb dX0_newTower_179 (by decide) (fun c179 => ?_) (fun c179 => ?_)
                          · obtain ⟨kq, hkq3, ekq, hp1, hkn⟩ := nt_kind hkd c179
                            have hkk : p_ + 1 < n_ ∧ ¬ pK (cd (p_ + 1)) = -9 := ⟨hp1, by rw [hkn]; exact nt_n9 hkq3⟩
                            subst ekq
                            refine lv_aload_n hx hb dX0_newTower_187 rfl (lv_at hl 3 rfl) ?_
                            refine lv_iload_n hx hb dX0_newTower_188 rfl (lv_at hl 5 rfl) ?_
                            refine lv_iconst (v := 2) hx hb dX0_newTower_189 (by decide) ?_
                            refine lv_iadd hx hb dX0_newTower_190 ?_
                            refine n_top (y := nI (p_ + 2)) (nI_add _ 2) ?_
                            refine lv_iconst (v := 0) hx hb dX0_newTower_191 (by decide) ?_
                            refine lv_bipush (v := 6) hx hb dX0_newTower_192 (by decide) ?_
                            refine n_callS (As := [_, _, _, _]) SS hKo hK (sX0_isFigure l G K hKo hK0 ad1 _ ra n_ cd hRr hn (p_ + 2) (by omega) 0 6 ⟨_, by decide, rfl⟩ ⟨_, by decide, rfl⟩) (va_cwS 4 hts (lw_S q763 q764 q57 q765) rfl rfl rfl (by decide +kernel) ⟨Nat.le_of_ble_eq_true rfl, Nat.le_of_ble_eq_true rfl⟩) hN hS rfl hl.1 rfl (Nat.le_of_ble_eq_true rfl) dX0_newTower_194 ⟨by show 2 + k + 0 ≤ 8; omega, by show 7 + 6 * k + 0 ≤ 51; omega⟩ (fun v ad' c' H locs hv hN hS => ?_)
                            obtain ⟨rfl, rfl, rfl⟩ := hv
                            refine W.eq (g2 := F0 m 197 ls (_ :: _)) rfl ?_
                            refine lv_if_ne (tgt := 205) hx hb dX0_newTower_197 (by decide) (fun c197 => ?_) (fun c197 => ?_)
                            · have hf2 : pd cd n_ (p_ + 2) 0 6 = true := zI_n0 c197
                              have hp2 := pd_lt hf2
                              refine lv_aload_n hx hb dX0_newTower_205 rfl (lv_at hl 3 rfl) ?_
                              refine lv_iload_n hx hb dX0_newTower_206 rfl (lv_at hl 5 rfl) ?_
                              refine lv_iconst (v := 2) hx hb dX0_newTower_207 (by decide) ?_
                              refine lv_iadd hx hb dX0_newTower_208 ?_
                              refine n_top (y := nI (p_ + 2)) (nI_add _ 2) ?_
                              refine n_callS (As := [_, _]) SS hKo hK (sX0_figureAt l G K hKo hK0 ad1 _ ra n_ cd hRr hn (p_ + 2) (by omega)) (va_cwS 2 hts (lw_S q771 q772 q57 q773) rfl rfl rfl (by decide +kernel) ⟨Nat.le_of_ble_eq_true rfl, Nat.le_of_ble_eq_true rfl⟩) hN hS rfl hl.1 rfl (Nat.le_of_ble_eq_true rfl) dX0_newTower_209 ⟨by show 2 + k + 0 ≤ 8; omega, by show 7 + 6 * k + 0 ≤ 51; omega⟩ (fun v ad' c' H locs hv hN hS => ?_)
                              obtain ⟨rfl, rfl, rfl⟩ := hv
                              refine W.eq (g2 := F0 m 212 ls (_ :: _)) rfl ?_
                              refine lv_istore (lv' := [(7, _), (6, _), (5, _), (0, _), (1, _), (2, _), (3, _), (4, _)]) hx hb dX0_newTower_212 hl (by decide) rfl (fun ls hl => ?_)
                              refine lv_aload_n hx hb dX0_newTower_214 rfl (lv_at hl 4 rfl) ?_
                              refine lv_iload_n hx hb dX0_newTower_215 rfl (lv_at hl 6 rfl) ?_
                              refine lv_iconst (v := 3) hx hb dX0_newTower_216 (by decide) ?_
                              refine lv_iadd hx hb dX0_newTower_217 ?_
                              refine n_top (y := nI (p_ + 3)) (nI_add _ 3) ?_
                              refine lv_iconst (v := 0) hx hb dX0_newTower_218 (by decide) ?_
                              have j232 : ∀ (o_ : Int32), o_ = pOnes cd (p_ + 1) → W p l e (sR 7 8 51) s m ([.ref (ad 0), .ref (ad ra)] : List Value).toArray below meth c H locs (2 + k) (7 + 6 * k) (MQ below (nQ G nCl (fun rv ad' c' => rv = some (.int (if T.1 = true then nI T.2.2.2.1 else -100 - nI T.2.1)) ∧ (T.1 = false → ad = ad' ∧ sPic G x ad si sa rn = c') ∧ (T.1 = true → ∃ x' : nPic, ntQ G ad x ad' x' T ∧ sPic G x' ad' (upd si 1 (nI T.2.2.1.1)) (va_up (va_up sa 1 (pTk T.2.2.1.1 T.2.2.1.2 (sa 1))) 4 (pTk 4 pZ (sa 4))) rn = c'))) ([.ref (ad 0), .ref (ad ra)] : List Value).toArray s 8 51 (fun q => G.2 ≤ q)) (F0 m 232 ls [.int o_, .int 0, .int (nI (p_ + 3)), .ref (ad1 ra)]) := by
                                intro o_ ho
                                have ho3 : ∃ b, b < 1000 ∧ o_ = nI b := by rw [ho]; rcases pOnes_in cd (p_ + 1) with z | z; exact ⟨3, by decide, z⟩; exact ⟨9, by decide, z⟩
                                refine n_callS (As := [_, _, _, _]) SS hKo hK (sX0_isFigure l G K hKo hK0 ad1 _ ra n_ cd hRr hn (p_ + 3) (by omega) 0 o_ ⟨_, by decide, rfl⟩ ho3) (va_cwS 4 hts (lw_S q763 q764 q57 q765) rfl rfl rfl (by decide +kernel) ⟨Nat.le_of_ble_eq_true rfl, Nat.le_of_ble_eq_true rfl⟩) hN hS rfl hl.1 rfl (Nat.le_of_ble_eq_true rfl) dX0_newTower_232 ⟨by show 2 + k + 0 ≤ 8; omega, by show 7 + 6 * k + 0 ≤ 51; omega⟩ (fun v ad' c' H locs hv hN hS => ?_)
                                obtain ⟨rfl, rfl, rfl⟩ := hv
                                refine W.eq (g2 := F0 m 235 ls (_ :: _)) rfl ?_
                                refine lv_if_ne (tgt := 243) hx hb dX0_newTower_235 (by decide) (fun c235 => ?_) (fun c235 => ?_)
                                · have hf3 : pd cd n_ (p_ + 3) 0 (pOnes cd (p_ + 1)) = true := by rw [← ho]; exact zI_n0 c235
                                  have hp3 := pd_lt hf3
                                  refine lv_aload_n hx hb dX0_newTower_243 rfl (lv_at hl 4 rfl) ?_
                                  refine lv_iload_n hx hb dX0_newTower_244 rfl (lv_at hl 6 rfl) ?_
                                  refine lv_iconst (v := 4) hx hb dX0_newTower_245 (by decide) ?_
                                  refine lv_iadd hx hb dX0_newTower_246 ?_
                                  refine n_top (y := nI (p_ + 4)) (nI_add _ 4) ?_
                                  refine lv_iconst (v := 0) hx hb dX0_newTower_247 (by decide) ?_
                                  refine lv_iconst (v := 4) hx hb dX0_newTower_248 (by decide) ?_
                                  refine n_callS (As := [_, _, _, _]) SS hKo hK (sX0_isFigure l G K hKo hK0 ad1 _ ra n_ cd hRr hn (p_ + 4) (by omega) 0 4 ⟨_, by decide, rfl⟩ ⟨_, by decide, rfl⟩) (va_cwS 4 hts (lw_S q763 q764 q57 q765) rfl rfl rfl (by decide +kernel) ⟨Nat.le_of_ble_eq_true rfl, Nat.le_of_ble_eq_true rfl⟩) hN hS rfl hl.1 rfl (Nat.le_of_ble_eq_true rfl) dX0_newTower_249 ⟨by show 2 + k + 0 ≤ 8; omega, by show 7 + 6 * k + 0 ≤ 51; omega⟩ (fun v ad' c' H locs hv hN hS => ?_)
                                  obtain ⟨rfl, rfl, rfl⟩ := hv
                                  refine W.eq (g2 := F0 m 252 ls (_ :: _)) rfl ?_
                                  refine lv_if_ne (tgt := 260) hx hb dX0_newTower_252 (by decide) (fun c252 => ?_) (fun c252 => ?_)
                                  · have hf4 : pd cd n_ (p_ + 4) 0 4 = true := zI_n0 c252
                                    have hp4 := pd_lt hf4
                                    have hper : (pPer cd n_ (p_ + 1)).1 = true := by rw [pPer_5 hkk hf2 hf3 hf4]
                                    refine lv_aload hx hb dX0_newTower_260 (lv_at hl 7 rfl) ?_
                                    refine lv_aload_n hx hb dX0_newTower_262 rfl (lv_at hl 3 rfl) ?_
                                    refine lv_iload hx hb dX0_newTower_263 (lv_at hl 1 rfl) ?_
                                    refine lv_aload hx hb dX0_newTower_265 (lv_at hl 7 rfl) ?_
                                    refine n_callF (As := []) (C := RJ2) (b := 82) SS hKo hK hKv (tJ2_size l G K hKo hK0 ad1 _ 82 mcl _ k hL) (va_cwF 0 hts (lw_F q176 q180 q182 q60 q184) rfl rfl rfl (hKf (RJ2, ⟨"java/util/List", "size", "()I"⟩, ⟨"java/util/ArrayList", "size", "()I"⟩) (List.mem_of_getElem? (i := 0) rfl)) (by decide +kernel) ⟨Nat.le_of_ble_eq_true rfl, Nat.le_of_ble_eq_true rfl⟩) hN hS hL rfl rfl hl.1 rfl (Nat.le_of_ble_eq_true rfl) dX0_newTower_267 ⟨by show 2 + k + 0 ≤ 8; omega, by show 7 + 6 * k + 0 ≤ 51; omega⟩ (fun v ad' c' H locs hv hN hS => ?_)
                                    obtain ⟨rfl, rfl, rfl⟩ := hv
                                    refine W.eq (g2 := F0 m 272 ls (_ :: _)) rfl ?_
                                    refine lv_bipush (v := 10) hx hb dX0_newTower_272 (by decide) ?_
                                    refine lv_iload hx hb dX0_newTower_274 (lv_at hl 0 rfl) ?_
                                    refine lv_imul hx hb dX0_newTower_276 ?_
                                    refine lv_aload_n hx hb dX0_newTower_277 rfl (lv_at hl 4 rfl) ?_
                                    refine lv_iload_n hx hb dX0_newTower_278 rfl (lv_at hl 6 rfl) ?_
                                    refine lv_iconst (v := 3) hx hb dX0_newTower_279 (by decide) ?_
                                    refine lv_iadd hx hb dX0_newTower_280 ?_
                                    refine n_top (y := nI (p_ + 3)) (nI_add _ 3) ?_
                                    refine n_callS (As := [_, _]) SS hKo hK (sX0_figureAt l G K hKo hK0 ad1 _ ra n_ cd hRr hn (p_ + 3) (by omega)) (va_cwS 2 hts (lw_S q771 q772 q57 q773) rfl rfl rfl (by decide +kernel) ⟨Nat.le_of_ble_eq_true rfl, Nat.le_of_ble_eq_true rfl⟩) hN hS rfl hl.1 rfl (Nat.le_of_ble_eq_true rfl) dX0_newTower_281 ⟨by show 2 + k + 0 ≤ 8; omega, by show 7 + 6 * k + 0 ≤ 51; omega⟩ (fun v ad' c' H locs hv hN hS => ?_)
                                    obtain ⟨rfl, rfl, rfl⟩ := hv
                                    refine W.eq (g2 := F0 m 284 ls (_ :: _)) rfl ?_
                                    refine lv_iadd hx hb dX0_newTower_284 ?_
                                    refine lv_aload_n hx hb dX0_newTower_285 rfl (lv_at hl 4 rfl) ?_
                                    refine lv_iload_n hx hb dX0_newTower_286 rfl (lv_at hl 6 rfl) ?_
                                    refine lv_iconst (v := 4) hx hb dX0_newTower_287 (by decide) ?_
                                    refine lv_iadd hx hb dX0_newTower_288 ?_
                                    refine n_top (y := nI (p_ + 4)) (nI_add _ 4) ?_
                                    refine n_callS (As := [_, _]) SS hKo hK (sX0_figureAt l G K hKo hK0 ad1 _ ra n_ cd hRr hn (p_ + 4) (by omega)) (va_cwS 2 hts (lw_S q771 q772 q57 q773) rfl rfl rfl (by decide +kernel) ⟨Nat.le_of_ble_eq_true rfl, Nat.le_of_ble_eq_true rfl⟩) hN hS rfl hl.1 rfl (Nat.le_of_ble_eq_true rfl) dX0_newTower_289 ⟨by show 2 + k + 0 ≤ 8; omega, by show 7 + 6 * k + 0 ≤ 51; omega⟩ (fun v ad' c' H locs hv hN hS => ?_)
                                    obtain ⟨rfl, rfl, rfl⟩ := hv
                                    refine W.eq (g2 := F0 m 292 ls (_ :: _)) rfl ?_
                                    refine n_callV (C := RX0) (As := [_, _, _, _]) (b := 0) SS hKo hK hKv (sX0_madeOf l G K hKo hK0 ad1 _ (84 + k) kq hkq3 (nI k) (10 * (cd (p_ + 2) - 48) + (cd (p_ + 3) - 48)) (cd (p_ + 4) - 48)) (cwV 4 hts (lw_V q774 q776 qs20 q57 q777) rfl rfl rfl (by decide +kernel) ⟨Nat.le_of_ble_eq_true rfl, Nat.le_of_ble_eq_true rfl⟩) hN hS sPic_0 rfl rfl hl.1 rfl (Nat.le_of_ble_eq_true rfl) dX0_newTower_292 ⟨by show 2 + k + 1 ≤ 8; omega, by show 7 + 6 * k + 6 ≤ 51; omega⟩ (fun v ad' c' H locs hv hN hS => ?_)
                                    obtain ⟨q, rfl, rfl, rfl⟩ := hv
                                    refine W.eq (g2 := F0 m 295 ls (_ :: _)) rfl ?_
                                    obtain ⟨ad2, e2⟩ : ∃ ad2, ad2 = va_up ad1 (84 + k) q := ⟨_, rfl⟩
                                    have had2 : ∀ z, z ≠ 84 + k → ad2 z = ad1 z := fun z hz => by rw [e2]; exact va_up_ne ad1 q hz
                                    have hq2 : ad2 (84 + k) = q := by rw [e2]; exact va_up_self _ _ _
                                    rw [← e2] at hN
                                    rw [← had2 0 (by omega), ← had2 ra (by omega), ← had2 82 (by omega)] at hl
                                    refine W.eq (g2 := F0 m 295 ls [.ref (ad2 (84 + k)), .ref (ad2 82)]) (by rw [hq2, had2 82 (by omega)] <;> rfl) ?_
                                    obtain ⟨hL, hA, hE2⟩ := nt_mid (si := si) (sa := sa) (rn := rn) (u := nI k) (v := 10 * (cd (p_ + 2) - 48) + (cd (p_ + 3) - 48)) (w := cd (p_ + 4) - 48) hNT hkq3 had2 (by omega)
                                    refine n_callF (As := [_]) (C := RJ2) (b := 82) SS hKo hK hKv (tJ2_add l G K hKo hK0 ad2 _ 82 83 mcl k 4 (fun j => if j < k then some (ad1 (84 + j)) else none) hL hA (by decide) (84 + k) (by decide) (by omega) (by omega) hE2) (va_cwF 1 hts (lw_F q347 q350 q352 q60 q354) rfl rfl rfl (hKf (RJ2, ⟨"java/util/List", "add", "(Ljava/lang/Object;)Z"⟩, ⟨"java/util/ArrayList", "add", "(Ljava/lang/Object;)Z"⟩) (List.mem_of_getElem? (i := 3) rfl)) (by decide +kernel) ⟨Nat.le_of_ble_eq_true rfl, Nat.le_of_ble_eq_true rfl⟩) hN hS hL rfl rfl hl.1 rfl (Nat.le_of_ble_eq_true rfl) dX0_newTower_295 ⟨by show 2 + k + 1 + 0 ≤ 8; omega, by show 7 + 6 * k + 6 + 0 ≤ 51; omega⟩ (fun v ad' c' H locs hv hN hS => ?_)
                                    obtain ⟨rfl, rfl, rfl⟩ := hv
                                    obtain ⟨x2, hN, hNT⟩ := nt_step hN hNT hkq3 (by omega) had2
                                    refine W.eq (g2 := F0 m 300 ls (_ :: _)) rfl ?_
                                    refine lv_pop hx hb dX0_newTower_300 rfl ?_
                                    refine lv_iinc (v := nI (p_ + 5)) (lv' := [(3, _), (7, _), (6, _), (5, _), (0, _), (1, _), (2, _), (4, _)]) hx hb dX0_newTower_301 hl (k := 6) rfl (nI_i5 p_) (by decide) rfl (fun ls hl => ?_)
                                    refine lv_goto (tgt := 89) hx hb dX0_newTower_304 (by decide) ?_
                                    
                                    refine W.widen (k := 2 + (k + 1)) (n := 7 + 6 * (k + 1)) (by omega) (by omega) ?_
                                    exact ih89 (k + 1) (p_ + 5) ad2 x2 _ _ _ _ _ _ _ (by omega) (by omega) (by omega) (by omega) (by rw [show 6 - (k + 1) = fp by omega, ← hkn]; exact (pP_s hgo4 hs44 hper).symm.trans hPi) hNT hN hS (lv_sub hl [4, 5, 6, 0, 7] (rfl))
                                  · have hf4 : pd cd n_ (p_ + 4) 0 4 = false := zI_0.mp c252
                                    have hTf : T.1 = false ∧ T.2.1 = p_ + 4 := by rw [← hT]; exact nt_TPf h117 hDD (hPi.symm.trans ((pP_b hgo4 hs44 (by rw [pPer_4 hkk hf2 hf3 hf4])).trans (by rw [pPer_4 hkk hf2 hf3 hf4])))
                                    refine lv_bipush (v := (-104)) hx hb dX0_newTower_255 (by decide) ?_
                                    refine lv_iload_n hx hb dX0_newTower_257 rfl (lv_at hl 6 rfl) ?_
                                    refine lv_isub hx hb dX0_newTower_258 ?_
                                    have hN : nOk G nCl ad (sPic G x ad si sa rn) H := nt_drop hNT hx8 hN
                                    refine W.widen (k := 8) (n := 51) (by first | omega | decide) (by first | omega | decide) ?_
                                    exact W.iret hx hb hr (nEnd hN hS ⟨by rw [if_neg (by rw [hTf.1]; simp), hTf.2] <;> exact congrArg (fun z => some (Value.int z)) (nt_m4 _), fun _ => ⟨rfl, rfl⟩, fun z => by rw [hTf.1] at z; cases z⟩) hS.2 dX0_newTower_259
                                · have hf3 : pd cd n_ (p_ + 3) 0 (pOnes cd (p_ + 1)) = false := by rw [← ho]; exact zI_0.mp c235
                                  have hTf : T.1 = false ∧ T.2.1 = p_ + 3 := by rw [← hT]; exact nt_TPf h117 hDD (hPi.symm.trans ((pP_b hgo4 hs44 (by rw [pPer_3 hkk hf2 hf3])).trans (by rw [pPer_3 hkk hf2 hf3])))
                                  refine lv_bipush (v := (-103)) hx hb dX0_newTower_238 (by decide) ?_
                                  refine lv_iload_n hx hb dX0_newTower_240 rfl (lv_at hl 6 rfl) ?_
                                  refine lv_isub hx hb dX0_newTower_241 ?_
                                  have hN : nOk G nCl ad (sPic G x ad si sa rn) H := nt_drop hNT hx8 hN
                                  refine W.widen (k := 8) (n := 51) (by first | omega | decide) (by first | omega | decide) ?_
                                  exact W.iret hx hb hr (nEnd hN hS ⟨by rw [if_neg (by rw [hTf.1]; simp), hTf.2] <;> exact congrArg (fun z => some (Value.int z)) (nt_m3 _), fun _ => ⟨rfl, rfl⟩, fun z => by rw [hTf.1] at z; cases z⟩) hS.2 dX0_newTower_242
                              refine lv_iload hx hb dX0_newTower_219 (lv_at hl 0 rfl) ?_
                              refine lv_bipush (v := 6) hx hb dX0_newTower_221 (by decide) ?_
                              refine lv_icmp_ne (tgt := 230) hx hb dX0_newTower_223 (by decide) (fun c223 => ?_) (fun c223 => ?_)
                              · refine lv_bipush (v := 9) hx hb dX0_newTower_230 (by decide) ?_
                                exact j232 _ (if_neg (show ¬ cd (p_ + 1 + 1) - 48 = 6 from c223)).symm
                              · refine lv_iconst (v := 3) hx hb dX0_newTower_226 (by decide) ?_
                                refine lv_goto (tgt := 232) hx hb dX0_newTower_227 (by decide) ?_
                                exact j232 _ (if_pos (show cd (p_ + 1 + 1) - 48 = 6 from c223)).symm
                            · have hf2 : pd cd n_ (p_ + 2) 0 6 = false := zI_0.mp c197
                              have hTf : T.1 = false ∧ T.2.1 = p_ + 2 := by rw [← hT]; exact nt_TPf h117 hDD (hPi.symm.trans ((pP_b hgo4 hs44 (by rw [pPer_2 hkk hf2])).trans (by rw [pPer_2 hkk hf2])))
                              refine lv_bipush (v := (-102)) hx hb dX0_newTower_200 (by decide) ?_
                              refine lv_iload_n hx hb dX0_newTower_202 rfl (lv_at hl 5 rfl) ?_
                              refine lv_isub hx hb dX0_newTower_203 ?_
                              have hN : nOk G nCl ad (sPic G x ad si sa rn) H := nt_drop hNT hx8 hN
                              refine W.widen (k := 8) (n := 51) (by first | omega | decide) (by first | omega | decide) ?_
                              exact W.iret hx hb hr (nEnd hN hS ⟨by rw [if_neg (by rw [hTf.1]; simp), hTf.2] <;> exact congrArg (fun z => some (Value.int z)) (nt_m2 _), fun _ => ⟨rfl, rfl⟩, fun z => by rw [hTf.1] at z; cases z⟩) hS.2 dX0_newTower_204
                          · have hTf : T.1 = false ∧ T.2.1 = p_ + 1 := by rw [← hT]; exact nt_TPf h117 hDD (hPi.symm.trans ((pP_b hgo4 hs44 (by rw [pPer_1 (nt_kindN hkd c179)])).trans (by rw [pPer_1 (nt_kindN hkd c179)])))
                            refine lv_bipush (v := (-101)) hx hb dX0_newTower_182 (by decide) ?_
                            refine lv_iload_n hx hb dX0_newTower_184 rfl (lv_at hl 5 rfl) ?_
                            refine lv_isub hx hb dX0_newTower_185 ?_
                            have hN : nOk G nCl ad (sPic G x ad si sa rn) H := nt_drop hNT hx8 hN
                            refine W.widen (k := 8) (n := 51) (by first | omega | decide) (by first | omega | decide) ?_
                            exact W.iret hx hb hr (nEnd hN hS ⟨by rw [if_neg (by rw [hTf.1]; simp), hTf.2] <;> exact congrArg (fun z => some (Value.int z)) (nt_m1 _), fun _ => ⟨rfl, rfl⟩, fun z => by rw [hTf.1] at z; cases z⟩) hS.2 dX0_newTower_186
                        refine lv_iload hx hb dX0_newTower_140 (lv_at hl 0 rfl) ?_
                        refine lv_bipush (v := 112) hx hb dX0_newTower_142 (by decide) ?_
                        refine lv_icmp_ne (tgt := 151) hx hb dX0_newTower_144 (by decide) (fun c144 => ?_) (fun c144 => ?_)
                        · refine lv_iload hx hb dX0_newTower_151 (lv_at hl 0 rfl) ?_
                          refine lv_bipush (v := 114) hx hb dX0_newTower_153 (by decide) ?_
                          refine lv_icmp_ne (tgt := 162) hx hb dX0_newTower_155 (by decide) (fun c155 => ?_) (fun c155 => ?_)
                          · refine lv_iload hx hb dX0_newTower_162 (lv_at hl 0 rfl) ?_
                            refine lv_bipush (v := 97) hx hb dX0_newTower_164 (by decide) ?_
                            refine lv_icmp_ne (tgt := 173) hx hb dX0_newTower_166 (by decide) (fun c166 => ?_) (fun c166 => ?_)
                            · refine lv_bipush (v := (-9)) hx hb dX0_newTower_173 (by decide) ?_
                              exact j175 _ ((if_neg c144).trans ((if_neg c155).trans (if_neg c166))).symm
                            · refine lv_iconst (v := 2) hx hb dX0_newTower_169 (by decide) ?_
                              refine lv_goto (tgt := 175) hx hb dX0_newTower_170 (by decide) ?_
                              exact j175 _ ((if_neg c144).trans ((if_neg c155).trans (if_pos c166))).symm
                          · refine lv_iconst (v := 1) hx hb dX0_newTower_158 (by decide) ?_
                            refine lv_goto (tgt := 175) hx hb dX0_newTower_159 (by decide) ?_
                            exact j175 _ ((if_neg c144).trans (if_pos c155)).symm
                        · refine lv_iconst (v := 0) hx hb dX0_newTower_147 (by decide) ?_
                          refine lv_goto (tgt := 175) hx hb dX0_newTower_148 (by decide) ?_
                          exact j175 _ (if_pos c144).symm
                      · have hs44 : pSg cd n_ p_ 44 = false := pcd_sgf (by decide) c123
                        have hTf : T.1 = false ∧ T.2.1 = p_ := by rw [← hT]; exact nt_TPf h117 hDD (hPi.symm.trans (pP_a (by omega) hs44))
                        refine lv_bipush (v := (-100)) hx hb dX0_newTower_126 (by decide) ?_
                        refine lv_iload_n hx hb dX0_newTower_128 rfl (lv_at hl 3 rfl) ?_
                        refine lv_isub hx hb dX0_newTower_129 ?_
                        have hN : nOk G nCl ad (sPic G x ad si sa rn) H := nt_drop hNT hx8 hN
                        refine W.widen (k := 8) (n := 51) (by first | omega | decide) (by first | omega | decide) ?_
                        exact W.iret hx hb hr (nEnd hN hS ⟨by rw [if_neg (by rw [hTf.1]; simp), hTf.2], fun _ => ⟨rfl, rfl⟩, fun z => by rw [hTf.1] at z; cases z⟩) hS.2 dX0_newTower_130
            exact loop89 5 0 (1 + 2 * dm) ad1 x1 pZ pZ pZ 0 _ _ _ (by omega) (by omega) (by omega) (by omega) rfl hNT hN hS (lv_sub hl [1, 2, 3, 4, 0] rfl)
          · refine lv_iload_n hx hb dX0_newTower_31 rfl (lv_at hl 2 rfl) ?_
            refine lv_bipush (v := 6) hx hb dX0_newTower_32 (by decide) ?_
            refine lv_icmp_eq (tgt := 47) hx hb dX0_newTower_34 (by decide) (fun c34 => ?_) (fun c34 => ?_)
            · have hd6 : dm = 6 := (nI_eq (a := dm) (b := 6) (by omega) (by omega)).mp c34
              have hDD : pD cd n_ 8 1 0 pZ = (true, (1 + 2 * dm), dm, wr) := by rw [← hDi, hd6, pD_c]
              have hTf : T.1 = false ∧ T.2.1 = (1 + 2 * dm) := by rw [← hT]; exact nt_TPf h117 hDD (pP_a (Or.inl rfl) (nt_4544 c28))
              refine lv_bipush (v := (-100)) hx hb dX0_newTower_47 (by decide) ?_
              refine lv_iload_n hx hb dX0_newTower_49 rfl (lv_at hl 3 rfl) ?_
              refine lv_isub hx hb dX0_newTower_50 ?_
              refine W.widen (k := 8) (n := 51) (by first | omega | decide) (by first | omega | decide) ?_
              exact W.iret hx hb hr (nEnd hN hS ⟨by rw [if_neg (by rw [hTf.1]; simp), hTf.2], fun _ => ⟨rfl, rfl⟩, fun z => by rw [hTf.1] at z; cases z⟩) hS.2 dX0_newTower_51
            · have hd6 : ¬ dm = 6 := fun z => c34 (by rw [z]; rfl)
              refine lv_aload_n hx hb dX0_newTower_37 rfl (lv_at hl 1 rfl) ?_
              refine lv_iload_n hx hb dX0_newTower_38 rfl (lv_at hl 3 rfl) ?_
              refine n_callS (As := [_, _]) SS hKo hK (sX0_codeAt l G K hKo hK0 ad _ ra n_ cd hRr hn ((1 + 2 * dm)) (by omega)) (va_cwS 2 hts (lw_S q760 q761 q57 q762) rfl rfl rfl (by decide +kernel) ⟨Nat.le_of_ble_eq_true rfl, Nat.le_of_ble_eq_true rfl⟩) hN hS rfl hl.1 rfl (Nat.le_of_ble_eq_true rfl) dX0_newTower_39 ⟨Nat.le_of_ble_eq_true rfl, Nat.le_of_ble_eq_true rfl⟩ (fun v ad' c' H locs hv hN hS => ?_)
              obtain ⟨rfl, rfl, rfl⟩ := hv
              refine W.eq (g2 := F0 m 42 ls (_ :: _)) rfl ?_
              refine lv_bipush (v := 45) hx hb dX0_newTower_42 (by decide) ?_
              refine lv_icmp_eq (tgt := 52) hx hb dX0_newTower_44 (by decide) (fun c44 => ?_) (fun c44 => absurd c44 (fun z => z c28))
              have hs45 : pSg cd n_ (1 + 2 * dm) 45 = true := (pcd_sg (by decide)).mp c44
              refine lv_aload_n hx hb dX0_newTower_52 rfl (lv_at hl 1 rfl) ?_
              refine lv_iload_n hx hb dX0_newTower_53 rfl (lv_at hl 3 rfl) ?_
              refine lv_iconst (v := 1) hx hb dX0_newTower_54 (by decide) ?_
              refine lv_iadd hx hb dX0_newTower_55 ?_
              refine n_top (y := nI (1 + 2 * dm + 1)) (nI_1 _) ?_
              refine lv_iconst (v := 1) hx hb dX0_newTower_56 (by decide) ?_
              refine lv_bipush (v := 9) hx hb dX0_newTower_57 (by decide) ?_
              refine n_callS (As := [_, _, _, _]) SS hKo hK (sX0_isFigure l G K hKo hK0 ad _ ra n_ cd hRr hn (1 + 2 * dm + 1) (by omega) 1 9 ⟨_, by decide, rfl⟩ ⟨_, by decide, rfl⟩) (va_cwS 4 hts (lw_S q763 q764 q57 q765) rfl rfl rfl (by decide +kernel) ⟨Nat.le_of_ble_eq_true rfl, Nat.le_of_ble_eq_true rfl⟩) hN hS rfl hl.1 rfl (Nat.le_of_ble_eq_true rfl) dX0_newTower_59 ⟨Nat.le_of_ble_eq_true rfl, Nat.le_of_ble_eq_true rfl⟩ (fun v ad' c' H locs hv hN hS => ?_)
              obtain ⟨rfl, rfl, rfl⟩ := hv
              refine W.eq (g2 := F0 m 62 ls (_ :: _)) rfl ?_
              refine lv_if_ne (tgt := 70) hx hb dX0_newTower_62 (by decide) (fun c62 => ?_) (fun c62 => ?_)
              · have hfig : pd cd n_ (1 + 2 * dm + 1) 1 9 = true := zI_n0 c62
                have hplt := pd_lt hfig
                refine lv_iinc (v := nI (1 + 2 * (dm + 1))) (lv' := [(3, _), (0, _), (1, _), (2, _)]) hx hb dX0_newTower_70 hl (k := 3) rfl (nI_i2 (1 + 2 * dm)) (by decide) rfl (fun ls hl => ?_)
                refine lv_iinc (v := nI (dm + 1)) (lv' := [(2, _), (3, _), (0, _), (1, _)]) hx hb dX0_newTower_73 hl (k := 3) rfl (nI_inc dm) (by decide) rfl (fun ls hl => ?_)
                refine lv_goto (tgt := 17) hx hb dX0_newTower_76 (by decide) ?_
                exact ih17 (dm + 1) (upd wr dm (cd (1 + 2 * dm + 1) - 48)) _ _ _ (by omega) (by omega) (by omega) (by rw [show 8 - (dm + 1) = ff by omega, show 1 + 2 * (dm + 1) = 1 + 2 * dm + 2 by omega]; exact (pD_s (by omega) hs45 hfig).symm.trans hDi) (nt_wr hwr) hN hS (lv_sub hl [2, 3, 0, 1] (rfl))
              · have hfig : pd cd n_ (1 + 2 * dm + 1) 1 9 = false := zI_0.mp c62
                have hTf : T.1 = false ∧ T.2.1 = 1 + 2 * dm + 1 := by rw [← hT]; exact nt_TD h117 (hDi.symm.trans (pD_b (by omega) hs45 hfig))
                refine lv_bipush (v := (-101)) hx hb dX0_newTower_65 (by decide) ?_
                refine lv_iload_n hx hb dX0_newTower_67 rfl (lv_at hl 3 rfl) ?_
                refine lv_isub hx hb dX0_newTower_68 ?_
                refine W.widen (k := 8) (n := 51) (by first | omega | decide) (by first | omega | decide) ?_
                exact W.iret hx hb hr (nEnd hN hS ⟨by rw [if_neg (by rw [hTf.1]; simp), hTf.2] <;> exact congrArg (fun z => some (Value.int z)) (nt_m1 _), fun _ => ⟨rfl, rfl⟩, fun z => by rw [hTf.1] at z; cases z⟩) hS.2 dX0_newTower_69
    exact loop17 8 0 pZ _ _ _ (by omega) (by omega) (by omega) rfl (fun d hd => absurd hd (by omega)) hN hS (lv_sub hl [2, 3, 1, 0] rfl)
  · have h117 : pSg cd n_ 0 117 = false := pcd_sgf (by decide) c7
    have hTf : T.1 = false ∧ T.2.1 = 0 := by rw [← hT]; exact nt_T0 h117
    refine lv_bipush (v := (-100)) hx hb dX0_newTower_10 (by decide) ?_
    refine W.widen (k := 8) (n := 51) (by first | omega | decide) (by first | omega | decide) ?_
    exact W.iret hx hb hr (nEnd hN hS ⟨by rw [if_neg (by rw [hTf.1]; simp), hTf.2] <;> rfl, fun _ => ⟨rfl, rfl⟩, fun z => by rw [hTf.1] at z; cases z⟩) hS.2 dX0_newTower_12
