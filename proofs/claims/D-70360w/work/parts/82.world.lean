/-! THE TWO TOGETHER: the System's picture over the Model's, and what holds between them -/
section LW
variable {G : nG} {y x x' : nPic} {ad ad' : Nat → Nat} {fi fi' si si' : AI} {fa fa' sa sa' : Nat → AI} {rn rn' : Value}
theorem mPic_lo {z : Nat} (h : z < 50) : mPic G y ad fi fa z = y z := by
  unfold mPic
  rw [if_neg (by omega), show z - 50 = 0 by omega]
  rfl
theorem mPic_hi {z : Nat} (h : 75 ≤ z) : mPic G y ad fi fa z = y z := by
  have hA : mA (z - 50) = false := by
    unfold mA
    split <;> first | rfl | omega
  unfold mPic
  rw [if_neg (by omega), hA]
  rfl
theorem sm_swap : sPic G (mPic G y ad fi fa) ad si sa rn = mPic G (sPic G y ad si sa rn) ad fi fa := by
  funext i
  by_cases h : i < 50
  · rw [mPic_lo h]
    by_cases hs : i = 0 ∨ i = 1 ∨ i = 4 ∨ i = 5
    · rcases hs with z | z | z | z <;> subst z <;> rfl
    · rw [sPic_x (by omega), sPic_x (by omega), mPic_lo h]
  · rw [sPic_x (by omega)]
    unfold mPic
    rw [sPic_x (by omega)]
theorem mPic_keep (hx : ∀ z, 50 ≤ z → z < 75 → x' z = mPic G y ad fi fa z) (ha : ∀ z, 50 ≤ z → z < 75 → ad' z = ad z) : mPic G x' ad' fi fa = x' := by
  funext i
  by_cases h5 : i = 50
  · subst h5
    rw [hx 50 (by omega) (by omega), mPic_o, mPic_o]
    unfold mF
    rw [ha 52 (by omega) (by omega), ha 53 (by omega) (by omega), ha 54 (by omega) (by omega), ha 57 (by omega) (by omega), ha 58 (by omega) (by omega), ha 59 (by omega) (by omega), ha 60 (by omega) (by omega), ha 61 (by omega) (by omega), ha 65 (by omega) (by omega), ha 66 (by omega) (by omega), ha 67 (by omega) (by omega), ha 69 (by omega) (by omega), ha 70 (by omega) (by omega), ha 73 (by omega) (by omega), ha 74 (by omega) (by omega)]
  · by_cases hA : mA (i - 50) = true
    · have hk : 50 ≤ i ∧ i < 75 := by
        unfold mA at hA
        split at hA <;> first | omega | cases hA
      rw [hx i hk.1 hk.2]
      unfold mPic
      rw [if_neg h5, if_neg h5, if_pos hA, if_pos hA]
    · unfold mPic
      rw [if_neg h5, if_neg hA]
/-- numbers of the two -/
def wN (si fi : AI) (sa fa : Nat → AI) (dr : AI) (nd np nr : Nat) : Prop :=
  nd ≤ 6 ∧ si 1 = nI nd ∧ fi 5 = nI nd ∧ fi 6 = nI np ∧ fi 22 = nI nr ∧ fi 1 = si 0 ∧ fi 0 = si 9 ∧ sa 1 = fa 7 ∧ (∀ j, j < np → sa 4 j = fa 11 j) ∧ (∀ j, j < np → dr j &&& sMsk nd = fa 9 j) ∧ ∀ k, k < nr → sIn (fa 23 k) np = true
def wR (G : nG) (ad : Nat → Nat) (x : nPic) (si fi : AI) (sa fa : Nat → AI) (dr : AI) (nd np nr : Nat) : Prop :=
  sPeo G ad x np (fa 8) dr (fa 10) ∧ sRea G ad x nr (fa 23) (fa 24) ∧ sShe G ad x (fa 2) (fa 3) (fa 4) ∧ (∀ z, 80 ≤ z → x z = none) ∧ wN si fi sa fa dr nd np nr
theorem wR.SL {dr : AI} {nd np nr : Nat} (h : wR G ad x si fi sa fa dr nd np nr) : ∀ k, k < 4 → ¬ fa 2 k = -9 → ∃ L, L ≤ 60 ∧ fa 3 k = nI L := by
  intro k hk h9
  obtain ⟨q, L, f, g1, g2, g3, g4, -⟩ := (h.2.2.1.2 k hk).resolve_left h9
  exact ⟨L, g3, g4⟩
theorem wR.RW {dr : AI} {nd np nr : Nat} (h : wR G ad x si fi sa fa dr nd np nr) : ∀ k, k < nr → ∃ q, q < np ∧ fa 23 k = nI q := by
  intro k hk
  obtain ⟨q, h1, h2, -⟩ := sIn_t (by have := h.1.1; omega) (h.2.2.2.2.2.2.2.2.2.2.2.2.2.2 k hk)
  exact ⟨q, h1, h2⟩
/-- the same seen with the Model's new insides -/
theorem wR.m {dr : AI} {nd np nr : Nat} (h1 : sPeo G ad x np (fa' 8) dr (fa' 10)) (h2 : sRea G ad x nr (fa' 23) (fa' 24)) (h3 : sShe G ad x (fa' 2) (fa' 3) (fa' 4)) (h8 : ∀ z, 80 ≤ z → x z = none) (hn : wN si fi' sa fa' dr nd np nr) : wR G ad (mPic G x ad fi' fa') si fi' sa fa' dr nd np nr :=
  ⟨h1.fr fun z hz _ => ⟨rfl, mPic_lo (by omega)⟩, h2.fr fun z hz _ => ⟨rfl, mPic_lo (by omega)⟩, h3.fr fun z _ hz _ => ⟨rfl, mPic_lo (by omega)⟩, fun z hz => (mPic_hi (by omega)).trans (h8 z hz), hn⟩
end LW
/-! ANSWERS ALIKE where what was told and what is true agree below the people -/
section AL
variable {w kd kn t t' dn dn' : AI} {nd np : Nat}
theorem sCgt_d {p d : Nat} (h : dn p = dn' p) : sCgt w kd dn kn nd np t p d = sCgt w kd dn' kn nd np t p d := by
  unfold sCgt
  rw [h]
theorem sTel_d {p d : Nat} (h : dn p = dn' p) : sTel w kd dn kn nd np t p d = sTel w kd dn' kn nd np t p d := by
  unfold sTel
  rw [sCgt_d h]
theorem sGo_d {wh wt : Nat → Nat} (hd : ∀ j, j < np → dn j = dn' j) : ∀ (r k : Nat) (t : AI) (cg : Int32), (∀ j, k ≤ j → j < k + r → wh j < np) → sGo w kd dn kn nd np wh wt r k t cg = sGo w kd dn' kn nd np wh wt r k t cg := by
  intro r
  induction r with
  | zero => intro k t cg _; rfl
  | succ r ih =>
    intro k t cg hw
    have hk := hd _ (hw k (by omega) (by omega))
    rw [sGo, sGo, sTel_d hk, sCgt_d hk, ih _ _ _ (fun j h1 h2 => hw j (by omega) (by omega))]
theorem sSo_d {wh wt : Nat → Nat} {n nr : Nat} {rw_ rf td : AI} (hd : ∀ j, j < np → dn j = dn' j) (hw : ∀ k, k < n → wh k < np) : sSo w kd dn kn td nd np nr wh wt n rw_ rf = sSo w kd dn' kn td nd np nr wh wt n rw_ rf := by
  unfold sSo
  rw [sGo_d hd n 0 td 0 (fun j _ h => hw j (by omega))]
theorem sTru_d {p s : Nat} (h : dn p = dn' p) : sTru dn p s = sTru dn' p s := by
  unfold sTru
  rw [h]
theorem sWay_d {p : Nat} {f : Int32} (h : dn p = dn' p) : ∀ s, sWay w kd dn nd p f s = sWay w kd dn' nd p f s := by
  intro s
  induction s with
  | zero => rfl
  | succ s ih => rw [sWay, sWay, ih, sTru_d h]
theorem sKept_d {p : Nat} {f : Int32} (h : dn p = dn' p) : ∀ s, sKept w kd dn nd p f s = sKept w kd dn' nd p f s := by
  intro s
  induction s with
  | zero => rfl
  | succ s ih => rw [sKept, sKept, ih, sTru_d h]
theorem sMany_d {p : Nat} {f : Int32} (h : dn p = dn' p) : ∀ s, sMany w kd dn nd p f s = sMany w kd dn' nd p f s := by
  intro s
  induction s with
  | zero => rfl
  | succ s ih => rw [sMany, sMany, ih, sTru_d h]
theorem sAll_d {p : Nat} (h : dn p = dn' p) : ∀ s, sAll dn p s = sAll dn' p s := by
  intro s
  induction s with
  | zero => rfl
  | succ s ih => rw [sAll, sAll, ih, sTru_d h]
theorem in_lt {p : Int32} (h4 : np ≤ 4) (h : sIn p np = true) : tn p < np := by
  obtain ⟨j, hj, -, e⟩ := sIn_t (by omega) h
  have e : tn p = j := e
  omega
theorem oOfP_c (h4 : np ≤ 4) (hd : ∀ j, j < np → dn j = dn' j) (ht : ∀ j, j < np → t j = t' j) (p a : Int32) : oOfP nd np w kd dn kn t p a = oOfP nd np w kd dn' kn t' p a := by
  unfold oOfP
  by_cases h : sIn p np = true
  · rw [if_pos h, if_pos h, hd _ (in_lt h4 h), ht _ (in_lt h4 h)]
  · rw [if_neg h, if_neg h]
theorem oSay_c (h4 : np ≤ 4) (hd : ∀ j, j < np → dn j = dn' j) (ht : ∀ j, j < np → t j = t' j) (p d : Int32) : (oSay nd np w kd dn kn t p d).1 = (oSay nd np w kd dn' kn t' p d).1 ∧ ∀ j, j < np → (oSay nd np w kd dn kn t p d).2 j = (oSay nd np w kd dn' kn t' p d).2 j := by
  unfold oSay
  by_cases h : sIn p np = true ∧ sIn d nd = true
  · have hp := in_lt h4 h.1
    rw [if_pos h, if_pos h, ht _ hp]
    by_cases h2 : sBit (t' (tn p)) (tn d) = 1
    · rw [if_pos h2, if_pos h2]
      exact ⟨rfl, ht⟩
    · rw [if_neg h2, if_neg h2, sTel_d (hd _ hp), sTel_congr hp ht _ hp]
      exact ⟨rfl, fun j hj => sTel_congr hp ht j hj⟩
  · rw [if_neg h, if_neg h]
    exact ⟨rfl, ht⟩
theorem oHsh_c (h4 : np ≤ 4) (ht : ∀ j, j < np → t j = t' j) (p : Int32) : (oHsh nd np w kd t p).1 = (oHsh nd np w kd t' p).1 ∧ ∀ j, j < np → (oHsh nd np w kd t p).2 j = (oHsh nd np w kd t' p).2 j := by
  unfold oHsh
  by_cases h : sIn p np = true
  · rw [if_pos h, if_pos h, ht _ (in_lt h4 h)]
    refine ⟨rfl, fun j hj => ?_⟩
    by_cases e : j = tn p
    · show upd t (tn p) 0 j = upd t' (tn p) 0 j
      rw [e, pk_us, pk_us]
    · show upd t (tn p) 0 j = upd t' (tn p) 0 j
      rw [pk_un e, pk_un e]; exact ht j hj
  · rw [if_neg h, if_neg h]
    exact ⟨rfl, ht⟩
theorem sLand_c {f : Int32} : ∀ q, (∀ j, j < q → t j = t' j) → sLand w kd t nd f q = sLand w kd t' nd f q := by
  intro q
  induction q with
  | zero => intro _; rfl
  | succ q ih => intro h; rw [sLand, sLand, ih (fun j hj => h j (by omega)), h q (by omega)]
theorem oLnd_c (ht : ∀ j, j < np → t j = t' j) (f : Int32) : oLnd nd np w kd t f = oLnd nd np w kd t' f := by
  unfold oLnd
  rw [sLand_c np ht]
theorem oDys_c {so sl ce : AI} (h4 : np ≤ 4) (h6 : nd ≤ 6) (hd : ∀ j, j < np → dn j = dn' j) (ht : ∀ j, j < np → t j = t' j) (k sort i n a : Int32) : oDys nd np w kd dn kn t so sl ce k sort i n a = oDys nd np w kd dn' kn t' so sl ce k sort i n a := by
  unfold oDys
  by_cases h1 : sBt k 0 3 = true
  · rw [if_pos h1, if_pos h1]
    by_cases h2 : sBt sort 0 2 = true ∧ sBt n 0 20 = true ∧ sAsk a = true
    · rw [if_pos h2, if_pos h2]
      by_cases h3 : (sLay so sl ce nd np (tn k) sort i (tn n)).1 = 0
      · rw [if_pos h3, if_pos h3]
        have hw : ∀ j, j < tn n → sWh ce (60 * tn k + tn i) j < np := fun j hj => (row_w (sLay_0 h3).1 (by omega) (by omega) j hj).2.1
        rw [sGo_d hd (tn n) 0 t 0 (fun j _ h => hw j (by omega))]
        obtain ⟨g1, g2, g3⟩ := sGo_congr (w := w) (kd := kd) (dn := dn') (kn := kn) (nd := nd) (np := np) (wh := sWh ce (60 * tn k + tn i)) (wt := sWt ce (60 * tn k + tn i)) (tn n) 0 t t' 0 (fun j _ h => hw j (by omega)) ht
        unfold sGoA
        rw [g1, g2, sTd_congr (by omega) g3]
      · rw [if_neg h3, if_neg h3]
    · rw [if_neg h2, if_neg h2]
  · rw [if_neg h1, if_neg h1]
theorem oWay_c (h4 : np ≤ 4) (hd : ∀ j, j < np → dn j = dn' j) (p f : Int32) : oWay nd np w kd dn p f = oWay nd np w kd dn' p f := by
  unfold oWay
  by_cases h : sIn p np = true
  · rw [if_pos h, if_pos h, sWay_d (hd _ (in_lt h4 h))]
  · rw [if_neg h, if_neg h]
theorem oKpt_c (h4 : np ≤ 4) (hd : ∀ j, j < np → dn j = dn' j) (p f : Int32) : oKpt nd np w kd dn p f = oKpt nd np w kd dn' p f := by
  unfold oKpt
  by_cases h : sIn p np = true
  · rw [if_pos h, if_pos h, sKept_d (hd _ (in_lt h4 h))]
  · rw [if_neg h, if_neg h]
theorem oRof_c (h4 : np ≤ 4) (hd : ∀ j, j < np → dn j = dn' j) (p : Int32) : oRof nd np w kd dn p = oRof nd np w kd dn' p := by
  unfold oRof
  by_cases h : sIn p np = true
  · rw [if_pos h, if_pos h, hd _ (in_lt h4 h)]
  · rw [if_neg h, if_neg h]
theorem oSfe_c (h4 : np ≤ 4) (hd : ∀ j, j < np → dn j = dn' j) (ht : ∀ j, j < np → t j = t' j) (p : Int32) : oSfe nd np w kd dn kn t p = oSfe nd np w kd dn' kn t' p := by
  unfold oSfe
  by_cases h : sIn p np = true
  · have hp := in_lt h4 h
    rw [if_pos h, if_pos h, hd _ hp, ht _ hp, sSeen_congr hp ht np (Nat.le_refl _)]
  · rw [if_neg h, if_neg h]
theorem oOds_c (h4 : np ≤ 4) (hd : ∀ j, j < np → dn j = dn' j) (p f a : Int32) : oOds nd np w kd dn p f a = oOds nd np w kd dn' p f a := by
  unfold oOds
  by_cases h : sIn p np = true ∧ ¬ f < 0 ∧ sBt a 0 1 = true
  · rw [if_pos h, if_pos h, sMany_d (hd _ (in_lt h4 h.1)), sAll_d (hd _ (in_lt h4 h.1))]
  · rw [if_neg h, if_neg h]
theorem sSet_c {f g : Int32 → Bool} {v0 : Nat} (h : ∀ v, f v = g v) : ∀ c, sSet f v0 c = sSet g v0 c := by
  intro c
  induction c with
  | zero => rfl
  | succ c ih => rw [sSet, sSet, ih, h]
theorem oWif_c {so sl ce : AI} (h4 : np ≤ 4) (h6 : nd ≤ 6) {there : Bool} {k sort i n : Int32} {f g : (Nat → Nat) → (Nat → Nat) → Nat → Int32 → Bool} {v0 c : Nat} (h : ∀ (wh wt : Nat → Nat) (m : Nat), (∀ j, j < m → wh j < np) → ∀ v, f wh wt m v = g wh wt m v) : oWif nd np so sl ce there k sort i n f v0 c = oWif nd np so sl ce there k sort i n g v0 c := by
  unfold oWif
  by_cases h0 : (oLayB nd np so sl ce there k sort i n).1 = 0
  · rw [if_pos h0, if_pos h0]
    have hw : ∀ j, j < tn n → sWh ce (60 * tn k + tn i) j < np := by
      unfold oLayB at h0
      split at h0
      · split at h0
        · intro j hj
          exact (row_w (sLay_0 h0).1 (by omega) (by omega) j hj).2.1
        · exact absurd h0 (by decide)
      · exact absurd h0 (by decide)
    rw [sSet_c (h _ _ _ hw)]
  · rw [if_neg h0, if_neg h0]
end AL
