/-! SYSTEM: copying, putting: printed by wip/gen/e12.py -/
def sT0 (q : Nat) : Nat := if q = 0 then 1 else if q = 1 then 2 else 0
theorem sT0_at {G : nG} {q : Nat} (hq : q < 3) : (nTy G)[sT0 q]? = some (G.1.1 (sCl q), sTy q) := by
  rcases (show q = 0 ∨ q = 1 ∨ q = 2 by omega) with z | z | z <;> subst z <;> rfl
theorem sTy_p {q : Nat} (hq : q < 3) : refKind (sTy q) = false := by
  rcases (show q = 0 ∨ q = 1 ∨ q = 2 by omega) with z | z | z <;> subst z <;> rfl
theorem sTy_k {q : Nat} (hq : q < 3) : (Native.java_lang_System.arraycopy.kindName (sTy q)).toList.length ≤ 20 := by
  rcases (show q = 0 ∨ q = 1 ∨ q = 2 by omega) with z | z | z <;> subst z <;> decide
theorem sTy_ne {q q2 : Nat} (hq : q < 3) (hq2 : q2 < 3) (h : q ≠ q2) : ((refKind (sTy q) != refKind (sTy q2)) || (!refKind (sTy q) && sTy q != sTy q2)) = true := by
  rcases (show q = 0 ∨ q = 1 ∨ q = 2 by omega) with z | z | z <;> subst z <;> rcases (show q2 = 0 ∨ q2 = 1 ∨ q2 = 2 by omega) with z | z | z <;> subst z <;> first | exact absurd rfl h | decide
theorem sTy_eq (q : Nat) : ((refKind (sTy q) != refKind (sTy q)) || (!refKind (sTy q) && sTy q != sTy q)) = false := by simp
/-- a row's cell and its class, in a warmer state -/
theorem row_at {G : nG} {s U : State} {H : Heap} {ad : Nat → Nat} {c0 : nPic} (hK : va_K G.1 nCl (nTy G) s) (hN : nOk G nCl ad c0 H) {i q L : Nat} {f : AI} (hq : q < 3) (hE : c0 i = some (rowE G q L f)) (hU : U.heap = H) (hal : s.vm.Alike U.vm) :
    ∃ (cell : Cell) (k : Class) (cm : ClassId), U.heap[ad i]? = some cell ∧ (∀ z, cell.vm ≠ .statics z) ∧ U.vm.classes[cell.cls]? = some k ∧ k.kind = .array cm (sTy q) ∧ cell.slots.size = L := by
  obtain ⟨hc, -⟩ := hN.1 i _ hE
  obtain ⟨-, k0, hk0, cm0, hkk0⟩ := (hK.2 (sT0 q) _ (sT0_at hq)).1 L (fun j => .int (f j))
  obtain ⟨k', hk', he⟩ := hal.2.2 _ _ hk0
  exact ⟨_, k', cm0, by rw [hU]; exact hc, fun z h => (by cases h), hk', by rw [he]; exact hkk0, by show (arrV _ _ _).slots.size = L; rw [arrV_size]⟩
section SC
variable {G : nG} {ad : Nat → Nat} {x x' : nPic} {so sl ce : AI}
theorem she_copy {k k2 q L1 L2 a b w : Nat} {f g : AI} (hSh : sShe G ad x so sl ce) (hk : k < 4) (hk2 : k2 < 4) (h1 : so k = nI q) (h2 : so k2 = nI q) (hq : q < 3) (e1 : x (14 + k) = some (rowE G q L1 f)) (e2 : x (14 + k2) = some (rowE G q L2 g)) (ha : a + w ≤ L1) (hb : b + w ≤ L2) (hL1 : L1 ≤ 60) (hL2 : L2 ≤ 60) : sShe G ad (va_up x (14 + k2) (some (rowE G q L2 (va_cpy f g a b w)))) so sl (sCpy ce (60 * k + a) (60 * k2 + b) w) := by
  have n9 : ∀ q : Nat, q < 3 → ¬ nI q = -9 := by decide
  have s1 : ∀ i, i < L1 → f i = ce (60 * k + i) ∧ fits (sTy q) (.int (f i)) = true := by
    obtain ⟨q', L', f', g1, g2, g3, g4, g5, g6, g7⟩ := (hSh.2 k hk).resolve_left (by rw [h1]; exact n9 q hq)
    cases (nI_eq (a := q) (b := q') (by omega) (by omega)).mp (h1.symm.trans g2)
    rw [e1] at g6
    cases g6
    exact g7
  refine ⟨(va_up_ne _ _ (by omega)).trans hSh.1, fun j hj => ?_⟩
  rcases hSh.2 j hj with h | ⟨q', L', f', g1, g2, g3, g4, g5, g6, g7⟩
  · exact Or.inl h
  · right
    by_cases hjk : j = k2
    · subst hjk
      cases (nI_eq (a := q) (b := q') (by omega) (by omega)).mp (h2.symm.trans g2)
      rw [e2] at g6
      cases g6
      refine ⟨q, L2, va_cpy f g a b w, hq, g2, g3, g4, (va_up_ne _ _ (by omega)).trans g5, va_up_self _ _ _, fun i hi => ?_⟩
      unfold va_cpy sCpy
      by_cases hin : b ≤ i ∧ i < b + w
      · rw [if_pos hin, if_pos (by omega)]
        obtain ⟨z1, z2⟩ := s1 (a + (i - b)) (by omega)
        refine ⟨?_, z2⟩
        rw [z1]
        congr 1
        omega
      · rw [if_neg hin, if_neg (by omega)]
        exact g7 i hi
    · refine ⟨q', L', f', g1, g2, g3, g4, (va_up_ne _ _ (by omega)).trans g5, (va_up_ne _ _ (by omega)).trans g6, fun i hi => ⟨?_, (g7 i hi).2⟩⟩
      unfold sCpy
      rw [if_neg (by omega)]
      exact (g7 i hi).1
theorem fits_nar (q : Nat) (hq : q < 3) (v : Int32) : fits (sTy q) (.int (sNar (nI q) v)) = true := by
  rcases (show q = 0 ∨ q = 1 ∨ q = 2 by omega) with z | z | z <;> subst z
  · show fits .byte (.int v.toInt8.toInt32) = true
    simp only [fits, Bool.and_eq_true, decide_eq_true_eq, Int32.le_iff_toInt_le, Int8.toInt_toInt32]
    have h1 := v.toInt8.le_toInt
    have h2 := v.toInt8.toInt_lt
    have e1 : (-128 : Int32).toInt = -128 := by decide
    have e2 : (127 : Int32).toInt = 127 := by decide
    omega
  · show fits .short (.int v.toInt16.toInt32) = true
    simp only [fits, Bool.and_eq_true, decide_eq_true_eq, Int32.le_iff_toInt_le, Int16.toInt_toInt32]
    have h1 := v.toInt16.le_toInt
    have h2 := v.toInt16.toInt_lt
    have e1 : (-32768 : Int32).toInt = -32768 := by decide
    have e2 : (32767 : Int32).toInt = 32767 := by decide
    omega
  · rfl
theorem she_put {k q L i : Nat} {f : AI} {v : Int32} (hSh : sShe G ad x so sl ce) (hk : k < 4) (h1 : so k = nI q) (hq : q < 3) (e1 : x (14 + k) = some (rowE G q L f)) (hi : i < L) (hL : L ≤ 60) : sShe G ad (va_up x (14 + k) (some (rowE G q L (upd f i (sNar (nI q) v))))) so sl (upd ce (60 * k + i) (sNar (so k) v)) := by
  refine ⟨(va_up_ne _ _ (by omega)).trans hSh.1, fun j hj => ?_⟩
  rcases hSh.2 j hj with h | ⟨q', L', f', g1, g2, g3, g4, g5, g6, g7⟩
  · exact Or.inl h
  · right
    by_cases hjk : j = k
    · subst hjk
      cases (nI_eq (a := q) (b := q') (by omega) (by omega)).mp (h1.symm.trans g2)
      rw [e1] at g6
      cases g6
      refine ⟨q, L, _, hq, g2, g3, g4, (va_up_ne _ _ (by omega)).trans g5, va_up_self _ _ _, fun z hz => ?_⟩
      by_cases hzi : z = i
      · subst hzi
        rw [pk_us, pk_us, h1]
        exact ⟨rfl, fits_nar q hq v⟩
      · rw [pk_un hzi, pk_un (by omega)]
        exact g7 z hz
    · refine ⟨q', L', f', g1, g2, g3, g4, (va_up_ne _ _ (by omega)).trans g5, (va_up_ne _ _ (by omega)).trans g6, fun z hz => ⟨?_, (g7 z hz).2⟩⟩
      rw [pk_un (by omega)]
      exact (g7 z hz).1
/-- what copying is refused with, by the two rows -/
theorem cpy_case (hSh : sShe G ad x so sl ce) {k k2 : Nat} (hk : k < 4) (hk2 : k2 < 4) (i j n : Int32) :
    ((so k = -9 ∨ so k2 = -9) ∧ oCpy so sl ce (nI k) i (nI k2) j n = (-11, 1, ce)) ∨
    ∃ (q q2 L1 L2 : Nat) (f g : AI), q < 3 ∧ q2 < 3 ∧ ¬ so k = -9 ∧ ¬ so k2 = -9 ∧ so k = nI q ∧ so k2 = nI q2 ∧ L1 ≤ 60 ∧ L2 ≤ 60 ∧ x (14 + k) = some (rowE G q L1 f) ∧ x (14 + k2) = some (rowE G q2 L2 g) ∧ (∀ i, i < L1 → fits (sTy q) (.int (f i)) = true) ∧
      ((q ≠ q2 ∧ oCpy so sl ce (nI k) i (nI k2) j n = (-12, 2, ce)) ∨ (q = q2 ∧ (i < 0 ∨ j < 0 ∨ n < 0 ∨ i.toInt + n.toInt > (L1 : Int) ∨ j.toInt + n.toInt > (L2 : Int)) ∧ oCpy so sl ce (nI k) i (nI k2) j n = (-13, 3, ce)) ∨
        (q = q2 ∧ ∃ a b w : Nat, i = nI a ∧ j = nI b ∧ n = nI w ∧ a + w ≤ L1 ∧ b + w ≤ L2 ∧ oCpy so sl ce (nI k) i (nI k2) j n = (n, 0, sCpy ce (60 * k + a) (60 * k2 + b) w))) := by
  have b1 : sBt (nI k) 0 3 = true ∧ sBt (nI k2) 0 3 = true := ⟨sBt_lt (n := 3) (by omega), sBt_lt (n := 3) (by omega)⟩
  have t1 : tn (nI k) = k := tn_nI (by omega)
  have t2 : tn (nI k2) = k2 := tn_nI (by omega)
  by_cases h9 : so k = -9 ∨ so k2 = -9
  · left
    refine ⟨h9, ?_⟩
    unfold oCpy
    rw [if_pos b1, t1, t2, if_pos h9]
  · right
    have n1 : ¬ so k = -9 := fun z => h9 (Or.inl z)
    have n2 : ¬ so k2 = -9 := fun z => h9 (Or.inr z)
    obtain ⟨q, L1, f, g1, g2, g3, g4, -, g6, g7⟩ := (hSh.2 k hk).resolve_left n1
    obtain ⟨q2, L2, g, d1, d2, d3, d4, -, d6, d7⟩ := (hSh.2 k2 hk2).resolve_left n2
    refine ⟨q, q2, L1, L2, f, g, g1, d1, n1, n2, g2, d2, g3, d3, g6, d6, fun i hi => (g7 i hi).2, ?_⟩
    by_cases hqq : q = q2
    · right
      have eqs : ¬ ¬ so k = so k2 := fun z => z (by rw [g2, d2, hqq])
      by_cases ht : sThr sl k k2 i j n = true
      · right
        refine ⟨hqq, ?_⟩
        have ht' := ht
        unfold sThr at ht
        simp only [Bool.and_eq_true, Bool.not_eq_true', decide_eq_false_iff_not] at ht
        obtain ⟨⟨⟨⟨⟨⟨c1, c2⟩, c3⟩, c4⟩, c5⟩, c6⟩, c7⟩ := ht
        obtain ⟨a, ha, rfl⟩ := nI_of c1
        obtain ⟨b, hb, rfl⟩ := nI_of c2
        obtain ⟨w, hw, rfl⟩ := nI_of c3
        rw [g4] at c4 c6
        rw [d4] at c5 c7
        have p1 : a ≤ L1 := by have := mt (nI_ltI (a := L1) (b := a) (by omega) ha).mpr c4; omega
        have p2 : b ≤ L2 := by have := mt (nI_ltI (a := L2) (b := b) (by omega) hb).mpr c5; omega
        rw [pk_sub p1] at c6
        rw [pk_sub p2] at c7
        have p3 : w ≤ L1 - a := by have := mt (nI_ltI (a := L1 - a) (b := w) (by omega) hw).mpr c6; omega
        have p4 : w ≤ L2 - b := by have := mt (nI_ltI (a := L2 - b) (b := w) (by omega) hw).mpr c7; omega
        refine ⟨a, b, w, rfl, rfl, rfl, by omega, by omega, ?_⟩
        unfold oCpy
        rw [if_pos b1, t1, t2, if_neg h9, if_neg eqs, if_pos ht', tn_nI ha, tn_nI hb, tn_nI hw]
      · left
        refine ⟨hqq, ?_, ?_⟩
        · by_cases c1 : i < 0
          · exact Or.inl c1
          by_cases c2 : j < 0
          · exact Or.inr (Or.inl c2)
          by_cases c3 : n < 0
          · exact Or.inr (Or.inr (Or.inl c3))
          right; right; right
          obtain ⟨a, ha, rfl⟩ := nI_of c1
          obtain ⟨b, hb, rfl⟩ := nI_of c2
          obtain ⟨w, hw, rfl⟩ := nI_of c3
          rw [nI_toInt ha, nI_toInt hb, nI_toInt hw]
          by_cases r1 : a + w ≤ L1
          · right
            by_cases r2 : b + w ≤ L2
            · exfalso
              refine ht ?_
              unfold sThr
              have k1 : ¬ nI L1 < nI a := nI_nlt (by omega) (by omega)
              have k2' : ¬ nI L2 < nI b := nI_nlt (by omega) (by omega)
              have k3 : ¬ nI (L1 - a) < nI w := nI_nlt (by omega) (by omega)
              have k4 : ¬ nI (L2 - b) < nI w := nI_nlt (by omega) (by omega)
              rw [g4, d4, pk_sub (show a ≤ L1 by omega), pk_sub (show b ≤ L2 by omega)]
              simp [c1, c2, c3, k1, k2', k3, k4]
            · omega
          · left
            omega
        · unfold oCpy
          rw [if_pos b1, t1, t2, if_neg h9, if_neg eqs, if_neg ht]
    · left
      refine ⟨hqq, ?_⟩
      unfold oCpy
      rw [if_pos b1, t1, t2, if_neg h9, if_pos (fun z => hqq ((nI_eq (a := q) (b := q2) (by omega) (by omega)).mp (by rw [← g2, ← d2]; exact z)))]
end SC
theorem cpy_n3 {p1 p2 : Prop} (h : p1 ∨ p2) : (p1 ∧ p2) ∨ (p1 ∧ ¬ p2) ∨ (¬ p1 ∧ p2) := by
  by_cases h1 : p1
  · by_cases h2 : p2
    · exact Or.inl ⟨h1, h2⟩
    · exact Or.inr (Or.inl ⟨h1, h2⟩)
  · exact Or.inr (Or.inr ⟨h1, h.resolve_left h1⟩)
theorem x_rowF {args : Array Value} {s : State} (hts : ∀ w ∈ lw_all, w.before args s = true) : ∃ (c : ClassId) (k : Class) (i : Nat) (f : Field), s.fieldFound? "TowerTell$Sheet" "row" "Ljava/lang/Object;" = some (c, k, i, f) ∧ f.isStatic = false := by
  have h := u_lays hts in_X10 (k := 0) (by decide)
  rcases h with h | h
  · obtain ⟨c, k, cf', kf', fi', fd', r1, r2, hi', hst, -⟩ := Cond.lays_spec h
    exact ⟨cf', kf', fi', fd', hi', hst⟩
  · obtain ⟨c, k, cf', kf', fi', fd', r1, r2, hi', hst, -⟩ := Cond.laysFinal_spec h
    exact ⟨cf', kf', fi', fd', hi', hst⟩
theorem put_case {G : nG} {ad : Nat → Nat} {x : nPic} {so sl ce : AI} (hSh : sShe G ad x so sl ce) {k : Nat} (hk : k < 4) (i : Int32) :
    (so k = -9 ∧ ∀ v : Int32, sBt (nI k) 0 3 = true → tn (nI k) = k → oPut so sl ce (nI k) i v = (-11, 1, ce)) ∨
    ∃ (q L : Nat) (f : AI), q < 3 ∧ ¬ so k = -9 ∧ so k = nI q ∧ L ≤ 60 ∧ x (10 + k) = some (.inr (6, [.ref (ad (14 + k))])) ∧ x (14 + k) = some (rowE G q L f) ∧
      (((i < 0 ∨ nI L ≤ i) ∧ ∀ v : Int32, sBt (nI k) 0 3 = true → tn (nI k) = k → oPut so sl ce (nI k) i v = (-13, 3, ce)) ∨ (∃ ii : Nat, ii < L ∧ i = nI ii ∧ ∀ v : Int32, sBt (nI k) 0 3 = true → tn (nI k) = k → oPut so sl ce (nI k) i v = (1, 0, upd ce (60 * k + ii) (sNar (so k) v)))) := by
  by_cases h9 : so k = -9
  · left
    refine ⟨h9, fun v h1 tk => ?_⟩
    unfold oPut
    rw [if_pos h1, tk, if_pos h9]
  · right
    obtain ⟨q, L, f, g1, g2, g3, g4, g5, g6, g7⟩ := (hSh.2 k hk).resolve_left h9
    refine ⟨q, L, f, g1, h9, g2, g3, g5, g6, ?_⟩
    have eB : sBt i 0 (nI L - 1) = sIn i L := sBt_in (by omega)
    by_cases hs : sIn i L = true
    · right
      obtain ⟨ii, hii, ei, ti⟩ := sIn_t (by omega) hs
      have ti : tn i = ii := ti
      refine ⟨ii, hii, ei, fun v h1 tk => ?_⟩
      unfold oPut
      rw [if_pos h1, tk, if_neg h9, g4, eB, if_pos hs, ti]
    · left
      refine ⟨?_, fun v h1 tk => ?_⟩
      · unfold sIn at hs
        by_cases h0 : i < 0
        · exact Or.inl h0
        · right
          by_cases h5 : nI L ≤ i
          · exact h5
          · exact absurd (by simp [h0, h5]) hs
      · unfold oPut
        rw [if_pos h1, tk, if_neg h9, g4, eB, if_neg hs]
set_option maxHeartbeats 1000000 in
set_option maxRecDepth 100000 in
theorem sX11_done (l : Launch) (G : nG) (K : State → Prop) (hKo : nKo G K) (hK0 : ∀ U, K U → sK0 G U) (ad : Nat → Nat) (x : nPic) (si : AI) (sa : Nat → AI) (rn : Value) (so sl ce : AI) (hSh : sShe G ad x so sl ce) (k k2 : Nat) (hk : k < 4) (hk2 : k2 < 4) (i j n_ : Int32) (hAc : x 40 = some (.inr (10, [.ref (ad 0), .int (nI k), .int i, .int (nI k2), .int j, .int n_, .ref (ad 0)]))) (q L1 L2 : Nat) (f g : AI) (hq : q < 3) (n1 : ¬ so k = -9) (n2 : ¬ so k2 = -9) (hL1 : L1 ≤ 60) (hL2 : L2 ≤ 60) (e1 : x (14 + k) = some (rowE G q L1 f)) (e2 : x (14 + k2) = some (rowE G q L2 g)) (hfit : ∀ z, z < L1 → fits (sTy q) (.int (f z)) = true) (a b w : Nat) (hia : i = nI a) (hjb : j = nI b) (hnw : n_ = nI w) (ha : a + w ≤ L1) (hb_ : b + w ≤ L2) : Met l yX11_done (ws_ yX11_done cX11_done 1 (some .int)) (sR 9 0 0) (nPc G nCl K ad (sPic G x ad si sa rn) [.ref (ad 40)]) (nQ G nCl (fun rv ad' c' => rv = some (.int n_) ∧ ad = ad' ∧ sPic G (va_up x (14 + k2) (some (rowE G q L2 (va_cpy f g a b w)))) ad si sa rn = c')) 0 0 (fun q => G.2 ≤ q) := by
  refine nMet RX11 (by decide) rfl (Nat.le_of_ble_eq_true rfl) ?_
  intro p e s m below meth c ls SS hR hK hN hS hl
  obtain ⟨hx, hb, hml, hown, hts⟩ := id SS
  obtain ⟨hr, hlk, hnm⟩ := hR
  obtain ⟨hKv, hKw, hKf, hKz, hKm⟩ := hK0 s hK
  generalize s.heap = H at hN hS ⊢
  generalize ([] : List Loc) = locs at hS ⊢
  have hl : lv_has ls 1 [(0, .ref (ad 40))] := hl
  refine lv_aload_n hx hb dX11_done_0 rfl (lv_at hl 0 rfl) ?_
  refine n_get (ci := 10) (C := RX11) (T := TX11) (N := 7) hx hb hts in_X11 hown hKv hN (40) ((sPic_x (by decide)).trans hAc) rfl 6 (by decide) q979 (fun z h => h) (rfl) dX11_done_1 ?_
  refine lv_aload_n hx hb dX11_done_4 rfl (lv_at hl 0 rfl) ?_
  refine n_get (ci := 10) (C := RX11) (T := TX11) (N := 7) hx hb hts in_X11 hown hKv hN (40) ((sPic_x (by decide)).trans hAc) rfl 1 (by decide) q974 (fun z h => h) (rfl) dX11_done_5 ?_
  refine n_callVNh (As := [_]) (C := RX0) (b := 0) SS hKo hK hKv (sX0_rowIn l G K hKo hK0 ad x si sa rn so sl ce hSh k hk) (⟨va_cnB 1 hts (lw_meth q639) rfl rfl rfl (hKw _ q722 rfl) (hts _ q57) (by decide +kernel) ⟨Nat.le_of_ble_eq_true rfl, Nat.le_of_ble_eq_true rfl⟩, hts _ q638, hts _ qs16⟩) hN hS sPic_0 rfl rfl hl.1 rfl (Nat.le_of_ble_eq_true rfl) dX11_done_8 ⟨Nat.le_of_ble_eq_true rfl, Nat.le_of_ble_eq_true rfl⟩ ?_
  refine n_topv (y := .ref (ad (14 + k))) (if_neg n1) ?_
  refine lv_aload_n hx hb dX11_done_11 rfl (lv_at hl 0 rfl) ?_
  refine n_get (ci := 10) (C := RX11) (T := TX11) (N := 7) hx hb hts in_X11 hown hKv hN (40) ((sPic_x (by decide)).trans hAc) rfl 2 (by decide) q975 (fun z h => h) (rfl) dX11_done_12 ?_
  refine lv_aload_n hx hb dX11_done_15 rfl (lv_at hl 0 rfl) ?_
  refine n_get (ci := 10) (C := RX11) (T := TX11) (N := 7) hx hb hts in_X11 hown hKv hN (40) ((sPic_x (by decide)).trans hAc) rfl 6 (by decide) q979 (fun z h => h) (rfl) dX11_done_16 ?_
  refine lv_aload_n hx hb dX11_done_19 rfl (lv_at hl 0 rfl) ?_
  refine n_get (ci := 10) (C := RX11) (T := TX11) (N := 7) hx hb hts in_X11 hown hKv hN (40) ((sPic_x (by decide)).trans hAc) rfl 3 (by decide) q976 (fun z h => h) (rfl) dX11_done_20 ?_
  refine n_callVNh (As := [_]) (C := RX0) (b := 0) SS hKo hK hKv (sX0_rowIn l G K hKo hK0 ad x si sa rn so sl ce hSh k2 hk2) (⟨va_cnB 1 hts (lw_meth q639) rfl rfl rfl (hKw _ q722 rfl) (hts _ q57) (by decide +kernel) ⟨Nat.le_of_ble_eq_true rfl, Nat.le_of_ble_eq_true rfl⟩, hts _ q638, hts _ qs16⟩) hN hS sPic_0 rfl rfl hl.1 rfl (Nat.le_of_ble_eq_true rfl) dX11_done_23 ⟨Nat.le_of_ble_eq_true rfl, Nat.le_of_ble_eq_true rfl⟩ ?_
  refine n_topv (y := .ref (ad (14 + k2))) (if_neg n2) ?_
  refine lv_aload_n hx hb dX11_done_26 rfl (lv_at hl 0 rfl) ?_
  refine n_get (ci := 10) (C := RX11) (T := TX11) (N := 7) hx hb hts in_X11 hown hKv hN (40) ((sPic_x (by decide)).trans hAc) rfl 4 (by decide) q977 (fun z h => h) (rfl) dX11_done_27 ?_
  refine lv_aload_n hx hb dX11_done_30 rfl (lv_at hl 0 rfl) ?_
  refine n_get (ci := 10) (C := RX11) (T := TX11) (N := 7) hx hb hts in_X11 hown hKv hN (40) ((sPic_x (by decide)).trans hAc) rfl 5 (by decide) q978 (fun z h => h) (rfl) dX11_done_31 ?_
  refine n_copyi hx hb (hml.trans hl.1.symm) hts hown q723 q413 q412 q75 hKv hN hS (14 + k) (14 + k2) (sT0 q) (sT0 q) ((sPic_x ⟨by omega, by omega, by omega, by omega⟩).trans e1) ((sPic_x ⟨by omega, by omega, by omega, by omega⟩).trans e2) (sT0_at hq) (sT0_at hq) (sTy_p hq) a b w hia hjb hnw ha hb_ (by omega) (by omega) (fun z hz => hfit _ (by omega)) (Nat.le_of_ble_eq_true rfl) (Nat.le_of_ble_eq_true rfl) dX11_done_34 (fun H locs hN hS => ?_)
  have hN := hN.congr (sPic_up ⟨by omega, by omega, by omega, by omega⟩)
  refine lv_aload_n hx hb dX11_done_37 rfl (lv_at hl 0 rfl) ?_
  refine n_get (ci := 10) (C := RX11) (T := TX11) (N := 7) hx hb hts in_X11 hown hKv hN (40) ((sPic_x (by decide)).trans ((va_up_ne _ _ (by omega)).trans hAc)) rfl 5 (by decide) q978 (fun z h => h) (rfl) dX11_done_38 ?_
  exact W.iret hx hb hr (nEnd hN hS ⟨rfl, rfl, rfl⟩) hS.2 dX11_done_41
set_option maxHeartbeats 1000000 in
set_option maxRecDepth 100000 in
theorem sX11_doneN (l : Launch) (G : nG) (K : State → Prop) (hKo : nKo G K) (hK0 : ∀ U, K U → sK0 G U) (hKx : ∀ U, K U → xK G U) (hfl : l.stackTraces = false) (ad : Nat → Nat) (x : nPic) (si : AI) (sa : Nat → AI) (rn : Value) (so sl ce : AI) (hSh : sShe G ad x so sl ce) (k k2 : Nat) (hk : k < 4) (hk2 : k2 < 4) (i j n_ : Int32) (hAc : x 40 = some (.inr (10, [.ref (ad 0), .int (nI k), .int i, .int (nI k2), .int j, .int n_, .ref (ad 0)]))) (h9 : so k = -9 ∨ so k2 = -9) : MetT l yX11_done (ws_ yX11_done cX11_done 1 (some .int)) (sR 9 3 1910) (nPc G nCl K ad (sPic G x ad si sa rn) [.ref (ad 40)]) (xQ "java/lang/NullPointerException" G nCl ad (sPic G x ad si sa rn)) 3 1910 (fun q => G.2 ≤ q) := by
  refine nMetT RX11 (by decide) rfl (Nat.le_of_ble_eq_true rfl) ?_
  intro p e s m below meth c ls SS hR hxt hadm hK hN hS hl
  obtain ⟨hx, hb, hml, hown, hts⟩ := id SS
  obtain ⟨hr, hlk, hnm⟩ := hR
  have hX := hKx s hK
  obtain ⟨hKv, hKw, hKf, hKz, hKm⟩ := hK0 s hK
  generalize s.heap = H at hN hS ⊢
  generalize ([] : List Loc) = locs at hS ⊢
  have hl : lv_has ls 1 [(0, .ref (ad 40))] := hl
  rcases cpy_n3 h9 with ⟨n1, n2⟩ | ⟨n1, n2⟩ | ⟨n1, n2⟩
  · have _u := n1
    refine lv_aload_n hx hb dX11_done_0 rfl (lv_at hl 0 rfl) ?_
    refine n_get (ci := 10) (C := RX11) (T := TX11) (N := 7) hx hb hts in_X11 hown hKv hN (40) ((sPic_x (by decide)).trans hAc) rfl 6 (by decide) q979 (fun z h => h) (rfl) dX11_done_1 ?_
    refine lv_aload_n hx hb dX11_done_4 rfl (lv_at hl 0 rfl) ?_
    refine n_get (ci := 10) (C := RX11) (T := TX11) (N := 7) hx hb hts in_X11 hown hKv hN (40) ((sPic_x (by decide)).trans hAc) rfl 1 (by decide) q974 (fun z h => h) (rfl) dX11_done_5 ?_
    refine n_callVNh (As := [_]) (C := RX0) (b := 0) SS hKo hK hKv (sX0_rowIn l G K hKo hK0 ad x si sa rn so sl ce hSh k hk) (⟨va_cnB 1 hts (lw_meth q639) rfl rfl rfl (hKw _ q722 rfl) (hts _ q57) (by decide +kernel) ⟨Nat.le_of_ble_eq_true rfl, Nat.le_of_ble_eq_true rfl⟩, hts _ q638, hts _ qs16⟩) hN hS sPic_0 rfl rfl hl.1 rfl (Nat.le_of_ble_eq_true rfl) dX11_done_8 ⟨Nat.le_of_ble_eq_true rfl, Nat.le_of_ble_eq_true rfl⟩ ?_
    refine n_topv (y := .null) (if_pos n1) ?_
    refine lv_aload_n hx hb dX11_done_11 rfl (lv_at hl 0 rfl) ?_
    refine n_get (ci := 10) (C := RX11) (T := TX11) (N := 7) hx hb hts in_X11 hown hKv hN (40) ((sPic_x (by decide)).trans hAc) rfl 2 (by decide) q975 (fun z h => h) (rfl) dX11_done_12 ?_
    refine lv_aload_n hx hb dX11_done_15 rfl (lv_at hl 0 rfl) ?_
    refine n_get (ci := 10) (C := RX11) (T := TX11) (N := 7) hx hb hts in_X11 hown hKv hN (40) ((sPic_x (by decide)).trans hAc) rfl 6 (by decide) q979 (fun z h => h) (rfl) dX11_done_16 ?_
    refine lv_aload_n hx hb dX11_done_19 rfl (lv_at hl 0 rfl) ?_
    refine n_get (ci := 10) (C := RX11) (T := TX11) (N := 7) hx hb hts in_X11 hown hKv hN (40) ((sPic_x (by decide)).trans hAc) rfl 3 (by decide) q976 (fun z h => h) (rfl) dX11_done_20 ?_
    refine n_callVNh (As := [_]) (C := RX0) (b := 0) SS hKo hK hKv (sX0_rowIn l G K hKo hK0 ad x si sa rn so sl ce hSh k2 hk2) (⟨va_cnB 1 hts (lw_meth q639) rfl rfl rfl (hKw _ q722 rfl) (hts _ q57) (by decide +kernel) ⟨Nat.le_of_ble_eq_true rfl, Nat.le_of_ble_eq_true rfl⟩, hts _ q638, hts _ qs16⟩) hN hS sPic_0 rfl rfl hl.1 rfl (Nat.le_of_ble_eq_true rfl) dX11_done_23 ⟨Nat.le_of_ble_eq_true rfl, Nat.le_of_ble_eq_true rfl⟩ ?_
    refine n_topv (y := .null) (if_pos n2) ?_
    refine lv_aload_n hx hb dX11_done_26 rfl (lv_at hl 0 rfl) ?_
    refine n_get (ci := 10) (C := RX11) (T := TX11) (N := 7) hx hb hts in_X11 hown hKv hN (40) ((sPic_x (by decide)).trans hAc) rfl 4 (by decide) q977 (fun z h => h) (rfl) dX11_done_27 ?_
    refine lv_aload_n hx hb dX11_done_30 rfl (lv_at hl 0 rfl) ?_
    refine n_get (ci := 10) (C := RX11) (T := TX11) (N := 7) hx hb hts in_X11 hown hKv hN (40) ((sPic_x (by decide)).trans hAc) rfl 5 (by decide) q978 (fun z h => h) (rfl) dX11_done_31 ?_
    refine o_copyN hx hb hfl (hml.trans hl.1.symm) hts hown q723 q413 q412 q75 (by first | exact Or.inl ⟨rfl, rfl⟩ | exact Or.inr ⟨⟨_, rfl⟩, rfl⟩) (x_aNPE hts hKw hX.1 hX.2.1) hX.1 hN hS (by decide) (Nat.le_of_ble_eq_true rfl) (Nat.le_of_ble_eq_true rfl) (Nat.le_of_ble_eq_true rfl) (Nat.le_of_ble_eq_true rfl) dX11_done_34 (fun a_ cell_ H locs hA1 hA2 hA3 hN hS => ?_)
    exact WT.widen (k := 3) (n := 1910) (by first | decide | omega) (by first | decide | omega) (WT.out hlk (hxt _) hA1 hA2 hA3 hN hS)
  · have _u := n1
    refine lv_aload_n hx hb dX11_done_0 rfl (lv_at hl 0 rfl) ?_
    refine n_get (ci := 10) (C := RX11) (T := TX11) (N := 7) hx hb hts in_X11 hown hKv hN (40) ((sPic_x (by decide)).trans hAc) rfl 6 (by decide) q979 (fun z h => h) (rfl) dX11_done_1 ?_
    refine lv_aload_n hx hb dX11_done_4 rfl (lv_at hl 0 rfl) ?_
    refine n_get (ci := 10) (C := RX11) (T := TX11) (N := 7) hx hb hts in_X11 hown hKv hN (40) ((sPic_x (by decide)).trans hAc) rfl 1 (by decide) q974 (fun z h => h) (rfl) dX11_done_5 ?_
    refine n_callVNh (As := [_]) (C := RX0) (b := 0) SS hKo hK hKv (sX0_rowIn l G K hKo hK0 ad x si sa rn so sl ce hSh k hk) (⟨va_cnB 1 hts (lw_meth q639) rfl rfl rfl (hKw _ q722 rfl) (hts _ q57) (by decide +kernel) ⟨Nat.le_of_ble_eq_true rfl, Nat.le_of_ble_eq_true rfl⟩, hts _ q638, hts _ qs16⟩) hN hS sPic_0 rfl rfl hl.1 rfl (Nat.le_of_ble_eq_true rfl) dX11_done_8 ⟨Nat.le_of_ble_eq_true rfl, Nat.le_of_ble_eq_true rfl⟩ ?_
    refine n_topv (y := .null) (if_pos n1) ?_
    refine lv_aload_n hx hb dX11_done_11 rfl (lv_at hl 0 rfl) ?_
    refine n_get (ci := 10) (C := RX11) (T := TX11) (N := 7) hx hb hts in_X11 hown hKv hN (40) ((sPic_x (by decide)).trans hAc) rfl 2 (by decide) q975 (fun z h => h) (rfl) dX11_done_12 ?_
    refine lv_aload_n hx hb dX11_done_15 rfl (lv_at hl 0 rfl) ?_
    refine n_get (ci := 10) (C := RX11) (T := TX11) (N := 7) hx hb hts in_X11 hown hKv hN (40) ((sPic_x (by decide)).trans hAc) rfl 6 (by decide) q979 (fun z h => h) (rfl) dX11_done_16 ?_
    refine lv_aload_n hx hb dX11_done_19 rfl (lv_at hl 0 rfl) ?_
    refine n_get (ci := 10) (C := RX11) (T := TX11) (N := 7) hx hb hts in_X11 hown hKv hN (40) ((sPic_x (by decide)).trans hAc) rfl 3 (by decide) q976 (fun z h => h) (rfl) dX11_done_20 ?_
    refine n_callVNh (As := [_]) (C := RX0) (b := 0) SS hKo hK hKv (sX0_rowIn l G K hKo hK0 ad x si sa rn so sl ce hSh k2 hk2) (⟨va_cnB 1 hts (lw_meth q639) rfl rfl rfl (hKw _ q722 rfl) (hts _ q57) (by decide +kernel) ⟨Nat.le_of_ble_eq_true rfl, Nat.le_of_ble_eq_true rfl⟩, hts _ q638, hts _ qs16⟩) hN hS sPic_0 rfl rfl hl.1 rfl (Nat.le_of_ble_eq_true rfl) dX11_done_23 ⟨Nat.le_of_ble_eq_true rfl, Nat.le_of_ble_eq_true rfl⟩ ?_
    refine n_topv (y := .ref (ad (14 + k2))) (if_neg n2) ?_
    refine lv_aload_n hx hb dX11_done_26 rfl (lv_at hl 0 rfl) ?_
    refine n_get (ci := 10) (C := RX11) (T := TX11) (N := 7) hx hb hts in_X11 hown hKv hN (40) ((sPic_x (by decide)).trans hAc) rfl 4 (by decide) q977 (fun z h => h) (rfl) dX11_done_27 ?_
    refine lv_aload_n hx hb dX11_done_30 rfl (lv_at hl 0 rfl) ?_
    refine n_get (ci := 10) (C := RX11) (T := TX11) (N := 7) hx hb hts in_X11 hown hKv hN (40) ((sPic_x (by decide)).trans hAc) rfl 5 (by decide) q978 (fun z h => h) (rfl) dX11_done_31 ?_
    refine o_copyN hx hb hfl (hml.trans hl.1.symm) hts hown q723 q413 q412 q75 (by first | exact Or.inl ⟨rfl, rfl⟩ | exact Or.inr ⟨⟨_, rfl⟩, rfl⟩) (x_aNPE hts hKw hX.1 hX.2.1) hX.1 hN hS (by decide) (Nat.le_of_ble_eq_true rfl) (Nat.le_of_ble_eq_true rfl) (Nat.le_of_ble_eq_true rfl) (Nat.le_of_ble_eq_true rfl) dX11_done_34 (fun a_ cell_ H locs hA1 hA2 hA3 hN hS => ?_)
    exact WT.widen (k := 3) (n := 1910) (by first | decide | omega) (by first | decide | omega) (WT.out hlk (hxt _) hA1 hA2 hA3 hN hS)
  · have _u := n1
    refine lv_aload_n hx hb dX11_done_0 rfl (lv_at hl 0 rfl) ?_
    refine n_get (ci := 10) (C := RX11) (T := TX11) (N := 7) hx hb hts in_X11 hown hKv hN (40) ((sPic_x (by decide)).trans hAc) rfl 6 (by decide) q979 (fun z h => h) (rfl) dX11_done_1 ?_
    refine lv_aload_n hx hb dX11_done_4 rfl (lv_at hl 0 rfl) ?_
    refine n_get (ci := 10) (C := RX11) (T := TX11) (N := 7) hx hb hts in_X11 hown hKv hN (40) ((sPic_x (by decide)).trans hAc) rfl 1 (by decide) q974 (fun z h => h) (rfl) dX11_done_5 ?_
    refine n_callVNh (As := [_]) (C := RX0) (b := 0) SS hKo hK hKv (sX0_rowIn l G K hKo hK0 ad x si sa rn so sl ce hSh k hk) (⟨va_cnB 1 hts (lw_meth q639) rfl rfl rfl (hKw _ q722 rfl) (hts _ q57) (by decide +kernel) ⟨Nat.le_of_ble_eq_true rfl, Nat.le_of_ble_eq_true rfl⟩, hts _ q638, hts _ qs16⟩) hN hS sPic_0 rfl rfl hl.1 rfl (Nat.le_of_ble_eq_true rfl) dX11_done_8 ⟨Nat.le_of_ble_eq_true rfl, Nat.le_of_ble_eq_true rfl⟩ ?_
    refine n_topv (y := .ref (ad (14 + k))) (if_neg n1) ?_
    refine lv_aload_n hx hb dX11_done_11 rfl (lv_at hl 0 rfl) ?_
    refine n_get (ci := 10) (C := RX11) (T := TX11) (N := 7) hx hb hts in_X11 hown hKv hN (40) ((sPic_x (by decide)).trans hAc) rfl 2 (by decide) q975 (fun z h => h) (rfl) dX11_done_12 ?_
    refine lv_aload_n hx hb dX11_done_15 rfl (lv_at hl 0 rfl) ?_
    refine n_get (ci := 10) (C := RX11) (T := TX11) (N := 7) hx hb hts in_X11 hown hKv hN (40) ((sPic_x (by decide)).trans hAc) rfl 6 (by decide) q979 (fun z h => h) (rfl) dX11_done_16 ?_
    refine lv_aload_n hx hb dX11_done_19 rfl (lv_at hl 0 rfl) ?_
    refine n_get (ci := 10) (C := RX11) (T := TX11) (N := 7) hx hb hts in_X11 hown hKv hN (40) ((sPic_x (by decide)).trans hAc) rfl 3 (by decide) q976 (fun z h => h) (rfl) dX11_done_20 ?_
    refine n_callVNh (As := [_]) (C := RX0) (b := 0) SS hKo hK hKv (sX0_rowIn l G K hKo hK0 ad x si sa rn so sl ce hSh k2 hk2) (⟨va_cnB 1 hts (lw_meth q639) rfl rfl rfl (hKw _ q722 rfl) (hts _ q57) (by decide +kernel) ⟨Nat.le_of_ble_eq_true rfl, Nat.le_of_ble_eq_true rfl⟩, hts _ q638, hts _ qs16⟩) hN hS sPic_0 rfl rfl hl.1 rfl (Nat.le_of_ble_eq_true rfl) dX11_done_23 ⟨Nat.le_of_ble_eq_true rfl, Nat.le_of_ble_eq_true rfl⟩ ?_
    refine n_topv (y := .null) (if_pos n2) ?_
    refine lv_aload_n hx hb dX11_done_26 rfl (lv_at hl 0 rfl) ?_
    refine n_get (ci := 10) (C := RX11) (T := TX11) (N := 7) hx hb hts in_X11 hown hKv hN (40) ((sPic_x (by decide)).trans hAc) rfl 4 (by decide) q977 (fun z h => h) (rfl) dX11_done_27 ?_
    refine lv_aload_n hx hb dX11_done_30 rfl (lv_at hl 0 rfl) ?_
    refine n_get (ci := 10) (C := RX11) (T := TX11) (N := 7) hx hb hts in_X11 hown hKv hN (40) ((sPic_x (by decide)).trans hAc) rfl 5 (by decide) q978 (fun z h => h) (rfl) dX11_done_31 ?_
    refine o_copyN hx hb hfl (hml.trans hl.1.symm) hts hown q723 q413 q412 q75 (by first | exact Or.inl ⟨rfl, rfl⟩ | exact Or.inr ⟨⟨_, rfl⟩, rfl⟩) (x_aNPE hts hKw hX.1 hX.2.1) hX.1 hN hS (by decide) (Nat.le_of_ble_eq_true rfl) (Nat.le_of_ble_eq_true rfl) (Nat.le_of_ble_eq_true rfl) (Nat.le_of_ble_eq_true rfl) dX11_done_34 (fun a_ cell_ H locs hA1 hA2 hA3 hN hS => ?_)
    exact WT.widen (k := 3) (n := 1910) (by first | decide | omega) (by first | decide | omega) (WT.out hlk (hxt _) hA1 hA2 hA3 hN hS)
set_option maxHeartbeats 1000000 in
set_option maxRecDepth 100000 in
theorem sX11_doneA (l : Launch) (G : nG) (K : State → Prop) (hKo : nKo G K) (hK0 : ∀ U, K U → sK0 G U) (hKx : ∀ U, K U → xK G U) (hfl : l.stackTraces = false) (ad : Nat → Nat) (x : nPic) (si : AI) (sa : Nat → AI) (rn : Value) (so sl ce : AI) (hSh : sShe G ad x so sl ce) (k k2 : Nat) (hk : k < 4) (hk2 : k2 < 4) (i j n_ : Int32) (hAc : x 40 = some (.inr (10, [.ref (ad 0), .int (nI k), .int i, .int (nI k2), .int j, .int n_, .ref (ad 0)]))) (q q2 L1 L2 : Nat) (f g : AI) (hq : q < 3) (hq2 : q2 < 3) (n1 : ¬ so k = -9) (n2 : ¬ so k2 = -9) (hL1 : L1 ≤ 60) (hL2 : L2 ≤ 60) (e1 : x (14 + k) = some (rowE G q L1 f)) (e2 : x (14 + k2) = some (rowE G q2 L2 g)) (hne : q ≠ q2) : MetT l yX11_done (ws_ yX11_done cX11_done 1 (some .int)) (sR 9 3 1910) (nPc G nCl K ad (sPic G x ad si sa rn) [.ref (ad 40)]) (xQ "java/lang/ArrayStoreException" G nCl ad (sPic G x ad si sa rn)) 3 1910 (fun q => G.2 ≤ q) := by
  refine nMetT RX11 (by decide) rfl (Nat.le_of_ble_eq_true rfl) ?_
  intro p e s m below meth c ls SS hR hxt hadm hK hN hS hl
  obtain ⟨hx, hb, hml, hown, hts⟩ := id SS
  obtain ⟨hr, hlk, hnm⟩ := hR
  have hX := hKx s hK
  obtain ⟨hKv, hKw, hKf, hKz, hKm⟩ := hK0 s hK
  generalize s.heap = H at hN hS ⊢
  generalize ([] : List Loc) = locs at hS ⊢
  have hl : lv_has ls 1 [(0, .ref (ad 40))] := hl
  refine lv_aload_n hx hb dX11_done_0 rfl (lv_at hl 0 rfl) ?_
  refine n_get (ci := 10) (C := RX11) (T := TX11) (N := 7) hx hb hts in_X11 hown hKv hN (40) ((sPic_x (by decide)).trans hAc) rfl 6 (by decide) q979 (fun z h => h) (rfl) dX11_done_1 ?_
  refine lv_aload_n hx hb dX11_done_4 rfl (lv_at hl 0 rfl) ?_
  refine n_get (ci := 10) (C := RX11) (T := TX11) (N := 7) hx hb hts in_X11 hown hKv hN (40) ((sPic_x (by decide)).trans hAc) rfl 1 (by decide) q974 (fun z h => h) (rfl) dX11_done_5 ?_
  refine n_callVNh (As := [_]) (C := RX0) (b := 0) SS hKo hK hKv (sX0_rowIn l G K hKo hK0 ad x si sa rn so sl ce hSh k hk) (⟨va_cnB 1 hts (lw_meth q639) rfl rfl rfl (hKw _ q722 rfl) (hts _ q57) (by decide +kernel) ⟨Nat.le_of_ble_eq_true rfl, Nat.le_of_ble_eq_true rfl⟩, hts _ q638, hts _ qs16⟩) hN hS sPic_0 rfl rfl hl.1 rfl (Nat.le_of_ble_eq_true rfl) dX11_done_8 ⟨Nat.le_of_ble_eq_true rfl, Nat.le_of_ble_eq_true rfl⟩ ?_
  refine n_topv (y := .ref (ad (14 + k))) (if_neg n1) ?_
  refine lv_aload_n hx hb dX11_done_11 rfl (lv_at hl 0 rfl) ?_
  refine n_get (ci := 10) (C := RX11) (T := TX11) (N := 7) hx hb hts in_X11 hown hKv hN (40) ((sPic_x (by decide)).trans hAc) rfl 2 (by decide) q975 (fun z h => h) (rfl) dX11_done_12 ?_
  refine lv_aload_n hx hb dX11_done_15 rfl (lv_at hl 0 rfl) ?_
  refine n_get (ci := 10) (C := RX11) (T := TX11) (N := 7) hx hb hts in_X11 hown hKv hN (40) ((sPic_x (by decide)).trans hAc) rfl 6 (by decide) q979 (fun z h => h) (rfl) dX11_done_16 ?_
  refine lv_aload_n hx hb dX11_done_19 rfl (lv_at hl 0 rfl) ?_
  refine n_get (ci := 10) (C := RX11) (T := TX11) (N := 7) hx hb hts in_X11 hown hKv hN (40) ((sPic_x (by decide)).trans hAc) rfl 3 (by decide) q976 (fun z h => h) (rfl) dX11_done_20 ?_
  refine n_callVNh (As := [_]) (C := RX0) (b := 0) SS hKo hK hKv (sX0_rowIn l G K hKo hK0 ad x si sa rn so sl ce hSh k2 hk2) (⟨va_cnB 1 hts (lw_meth q639) rfl rfl rfl (hKw _ q722 rfl) (hts _ q57) (by decide +kernel) ⟨Nat.le_of_ble_eq_true rfl, Nat.le_of_ble_eq_true rfl⟩, hts _ q638, hts _ qs16⟩) hN hS sPic_0 rfl rfl hl.1 rfl (Nat.le_of_ble_eq_true rfl) dX11_done_23 ⟨Nat.le_of_ble_eq_true rfl, Nat.le_of_ble_eq_true rfl⟩ ?_
  refine n_topv (y := .ref (ad (14 + k2))) (if_neg n2) ?_
  refine lv_aload_n hx hb dX11_done_26 rfl (lv_at hl 0 rfl) ?_
  refine n_get (ci := 10) (C := RX11) (T := TX11) (N := 7) hx hb hts in_X11 hown hKv hN (40) ((sPic_x (by decide)).trans hAc) rfl 4 (by decide) q977 (fun z h => h) (rfl) dX11_done_27 ?_
  refine lv_aload_n hx hb dX11_done_30 rfl (lv_at hl 0 rfl) ?_
  refine n_get (ci := 10) (C := RX11) (T := TX11) (N := 7) hx hb hts in_X11 hown hKv hN (40) ((sPic_x (by decide)).trans hAc) rfl 5 (by decide) q978 (fun z h => h) (rfl) dX11_done_31 ?_
  obtain ⟨tx, hu, hlen, hw⟩ := cp_store (sp := i) (dp := j) (n := n_) (sTy_ne hq hq2 hne) (sTy_k hq) (sTy_k hq2)
  refine o_copyM (cls := "java/lang/ArrayStoreException") (names := ["java/lang/RuntimeException", "java/lang/Exception"]) hx hb hfl (hml.trans hl.1.symm) hts hown q723 q413 q412 q75 ⟨hu, hlen⟩ (fun U fs hU hal E hE => by obtain ⟨c1, k1, m1, a1, a2, a3, a4, a5⟩ := row_at hKv hN hq ((sPic_x ⟨by omega, by omega, by omega, by omega⟩).trans e1) hU hal; obtain ⟨c2, k3, m2, b1, b2, b3, b4, b5⟩ := row_at hKv hN hq2 ((sPic_x ⟨by omega, by omega, by omega, by omega⟩).trans e2) hU hal; exact hw _ (U.setFrames fs) _ _ c1 c2 k1 k3 m1 m2 a1 b1 a2 b2 a3 b3 a4 b4 _ _ _ _ (hE _)) (by decide +kernel) (by decide +kernel) (by decide) (by decide) (x_aASE hts hKw hX.1 hX.2.1) hX.1 hN hS (by decide) (Nat.le_of_ble_eq_true rfl) (by decide) (Nat.le_of_ble_eq_true rfl) (Nat.le_of_ble_eq_true rfl) (Nat.le_of_ble_eq_true rfl) dX11_done_34 (fun a_ cell_ H locs hA1 hA2 hA3 hN hS => ?_)
  exact WT.widen (k := 3) (n := 1910) (by first | decide | omega) (by first | decide | omega) (WT.out hlk (hxt _) hA1 hA2 hA3 hN hS)
set_option maxHeartbeats 1000000 in
set_option maxRecDepth 100000 in
theorem sX11_doneI (l : Launch) (G : nG) (K : State → Prop) (hKo : nKo G K) (hK0 : ∀ U, K U → sK0 G U) (hKx : ∀ U, K U → xK G U) (hfl : l.stackTraces = false) (ad : Nat → Nat) (x : nPic) (si : AI) (sa : Nat → AI) (rn : Value) (so sl ce : AI) (hSh : sShe G ad x so sl ce) (k k2 : Nat) (hk : k < 4) (hk2 : k2 < 4) (i j n_ : Int32) (hAc : x 40 = some (.inr (10, [.ref (ad 0), .int (nI k), .int i, .int (nI k2), .int j, .int n_, .ref (ad 0)]))) (q L1 L2 : Nat) (f g : AI) (hq : q < 3) (n1 : ¬ so k = -9) (n2 : ¬ so k2 = -9) (hL1 : L1 ≤ 60) (hL2 : L2 ≤ 60) (e1 : x (14 + k) = some (rowE G q L1 f)) (e2 : x (14 + k2) = some (rowE G q L2 g)) (ho : i < 0 ∨ j < 0 ∨ n_ < 0 ∨ i.toInt + n_.toInt > (L1 : Int) ∨ j.toInt + n_.toInt > (L2 : Int)) : MetT l yX11_done (ws_ yX11_done cX11_done 1 (some .int)) (sR 9 3 1910) (nPc G nCl K ad (sPic G x ad si sa rn) [.ref (ad 40)]) (xQ "java/lang/ArrayIndexOutOfBoundsException" G nCl ad (sPic G x ad si sa rn)) 3 1910 (fun q => G.2 ≤ q) := by
  refine nMetT RX11 (by decide) rfl (Nat.le_of_ble_eq_true rfl) ?_
  intro p e s m below meth c ls SS hR hxt hadm hK hN hS hl
  obtain ⟨hx, hb, hml, hown, hts⟩ := id SS
  obtain ⟨hr, hlk, hnm⟩ := hR
  have hX := hKx s hK
  obtain ⟨hKv, hKw, hKf, hKz, hKm⟩ := hK0 s hK
  generalize s.heap = H at hN hS ⊢
  generalize ([] : List Loc) = locs at hS ⊢
  have hl : lv_has ls 1 [(0, .ref (ad 40))] := hl
  refine lv_aload_n hx hb dX11_done_0 rfl (lv_at hl 0 rfl) ?_
  refine n_get (ci := 10) (C := RX11) (T := TX11) (N := 7) hx hb hts in_X11 hown hKv hN (40) ((sPic_x (by decide)).trans hAc) rfl 6 (by decide) q979 (fun z h => h) (rfl) dX11_done_1 ?_
  refine lv_aload_n hx hb dX11_done_4 rfl (lv_at hl 0 rfl) ?_
  refine n_get (ci := 10) (C := RX11) (T := TX11) (N := 7) hx hb hts in_X11 hown hKv hN (40) ((sPic_x (by decide)).trans hAc) rfl 1 (by decide) q974 (fun z h => h) (rfl) dX11_done_5 ?_
  refine n_callVNh (As := [_]) (C := RX0) (b := 0) SS hKo hK hKv (sX0_rowIn l G K hKo hK0 ad x si sa rn so sl ce hSh k hk) (⟨va_cnB 1 hts (lw_meth q639) rfl rfl rfl (hKw _ q722 rfl) (hts _ q57) (by decide +kernel) ⟨Nat.le_of_ble_eq_true rfl, Nat.le_of_ble_eq_true rfl⟩, hts _ q638, hts _ qs16⟩) hN hS sPic_0 rfl rfl hl.1 rfl (Nat.le_of_ble_eq_true rfl) dX11_done_8 ⟨Nat.le_of_ble_eq_true rfl, Nat.le_of_ble_eq_true rfl⟩ ?_
  refine n_topv (y := .ref (ad (14 + k))) (if_neg n1) ?_
  refine lv_aload_n hx hb dX11_done_11 rfl (lv_at hl 0 rfl) ?_
  refine n_get (ci := 10) (C := RX11) (T := TX11) (N := 7) hx hb hts in_X11 hown hKv hN (40) ((sPic_x (by decide)).trans hAc) rfl 2 (by decide) q975 (fun z h => h) (rfl) dX11_done_12 ?_
  refine lv_aload_n hx hb dX11_done_15 rfl (lv_at hl 0 rfl) ?_
  refine n_get (ci := 10) (C := RX11) (T := TX11) (N := 7) hx hb hts in_X11 hown hKv hN (40) ((sPic_x (by decide)).trans hAc) rfl 6 (by decide) q979 (fun z h => h) (rfl) dX11_done_16 ?_
  refine lv_aload_n hx hb dX11_done_19 rfl (lv_at hl 0 rfl) ?_
  refine n_get (ci := 10) (C := RX11) (T := TX11) (N := 7) hx hb hts in_X11 hown hKv hN (40) ((sPic_x (by decide)).trans hAc) rfl 3 (by decide) q976 (fun z h => h) (rfl) dX11_done_20 ?_
  refine n_callVNh (As := [_]) (C := RX0) (b := 0) SS hKo hK hKv (sX0_rowIn l G K hKo hK0 ad x si sa rn so sl ce hSh k2 hk2) (⟨va_cnB 1 hts (lw_meth q639) rfl rfl rfl (hKw _ q722 rfl) (hts _ q57) (by decide +kernel) ⟨Nat.le_of_ble_eq_true rfl, Nat.le_of_ble_eq_true rfl⟩, hts _ q638, hts _ qs16⟩) hN hS sPic_0 rfl rfl hl.1 rfl (Nat.le_of_ble_eq_true rfl) dX11_done_23 ⟨Nat.le_of_ble_eq_true rfl, Nat.le_of_ble_eq_true rfl⟩ ?_
  refine n_topv (y := .ref (ad (14 + k2))) (if_neg n2) ?_
  refine lv_aload_n hx hb dX11_done_26 rfl (lv_at hl 0 rfl) ?_
  refine n_get (ci := 10) (C := RX11) (T := TX11) (N := 7) hx hb hts in_X11 hown hKv hN (40) ((sPic_x (by decide)).trans hAc) rfl 4 (by decide) q977 (fun z h => h) (rfl) dX11_done_27 ?_
  refine lv_aload_n hx hb dX11_done_30 rfl (lv_at hl 0 rfl) ?_
  refine n_get (ci := 10) (C := RX11) (T := TX11) (N := 7) hx hb hts in_X11 hown hKv hN (40) ((sPic_x (by decide)).trans hAc) rfl 5 (by decide) q978 (fun z h => h) (rfl) dX11_done_31 ?_
  obtain ⟨tx, hu, hlen, hw⟩ := cp_bounds (sTy_eq q) (sTy_k hq) (sTy_k hq) (l1 := L1) (l2 := L2) (by omega) (by omega) ho
  refine o_copyM (cls := "java/lang/ArrayIndexOutOfBoundsException") (names := ["java/lang/IndexOutOfBoundsException", "java/lang/RuntimeException", "java/lang/Exception"]) hx hb hfl (hml.trans hl.1.symm) hts hown q723 q413 q412 q75 ⟨hu, hlen⟩ (fun U fs hU hal E hE => by obtain ⟨c1, k1, m1, a1, a2, a3, a4, a5⟩ := row_at hKv hN hq ((sPic_x ⟨by omega, by omega, by omega, by omega⟩).trans e1) hU hal; obtain ⟨c2, k3, m2, b1, b2, b3, b4, b5⟩ := row_at hKv hN hq ((sPic_x ⟨by omega, by omega, by omega, by omega⟩).trans e2) hU hal; exact hw _ (U.setFrames fs) _ _ c1 c2 k1 k3 m1 m2 a1 b1 a2 b2 a3 b3 a4 b4 a5 b5 _ _ _ _ (hE _)) (by decide +kernel) (by decide +kernel) (by decide) (by decide) (x_aAIO hts hKw hX.1 hX.2.1) hX.1 hN hS (by decide) (Nat.le_of_ble_eq_true rfl) (by decide) (Nat.le_of_ble_eq_true rfl) (Nat.le_of_ble_eq_true rfl) (Nat.le_of_ble_eq_true rfl) dX11_done_34 (fun a_ cell_ H locs hA1 hA2 hA3 hN hS => ?_)
  exact WT.widen (k := 3) (n := 1910) (by first | decide | omega) (by first | decide | omega) (WT.out hlk (hxt _) hA1 hA2 hA3 hN hS)
set_option maxHeartbeats 1000000 in
set_option maxRecDepth 100000 in
theorem sX0_copy (l : Launch) (G : nG) (K : State → Prop) (hKo : nKo G K) (hK0 : ∀ U, K U → sK0 G U) (hKx : ∀ U, K U → xK G U) (hfl : l.stackTraces = false) (ad : Nat → Nat) (x : nPic) (si : AI) (sa : Nat → AI) (rn : Value) (so sl ce : AI) (hSh : sShe G ad x so sl ce) (k_ i o_ j n_ : Int32) : Met l yX0_copy (ws_ yX0_copy cX0_copy 6 (some .int)) (sR 11 4 1917) (nPc G nCl K ad (sPic G x ad si sa rn) [.ref (ad 0), .int k_, .int i, .int o_, .int j, .int n_]) (nQ G nCl (fun rv ad' c' => rv = some (.int (oCpy so sl ce k_ i o_ j n_).1) ∧ ∃ x' : nPic, (∀ z, z ≠ 40 → ad' z = ad z) ∧ (∀ z, z ≠ 40 → (z < 14 ∨ 18 ≤ z) → x' z = x z) ∧ sShe G ad' x' so sl (oCpy so sl ce k_ i o_ j n_).2.2 ∧ sPic G x' ad' (upd si 9 (oCpy so sl ce k_ i o_ j n_).2.1) sa rn = c')) 4 1917 (fun q => G.2 ≤ q) := by
  refine nMet RX0 (by decide) rfl (Nat.le_of_ble_eq_true rfl) ?_
  intro p e s m below meth c ls SS hR hK hN hS hl
  obtain ⟨hx, hb, hml, hown, hts⟩ := id SS
  obtain ⟨hr, hlk, hnm⟩ := hR
  obtain ⟨hKv, hKw, hKf, hKz, hKm⟩ := hK0 s hK
  generalize s.heap = H at hN hS ⊢
  generalize ([] : List Loc) = locs at hS ⊢
  have hl : lv_has ls 6 [(0, .ref (ad 0)), (1, .int k_), (2, .int i), (3, .int o_), (4, .int j), (5, .int n_)] := hl
  refine lv_iload_n hx hb dX0_copy_0 rfl (lv_at hl 1 rfl) ?_
  refine n_callS (As := [_]) SS hKo hK (sX0_noSheet l G K hKo hK0 ad _ k_) (va_cwS 1 hts (lw_S q533 q534 q57 q535) rfl rfl rfl (by decide +kernel) ⟨Nat.le_of_ble_eq_true rfl, Nat.le_of_ble_eq_true rfl⟩) hN hS rfl hl.1 rfl (Nat.le_of_ble_eq_true rfl) dX0_copy_1 ⟨Nat.le_of_ble_eq_true rfl, Nat.le_of_ble_eq_true rfl⟩ (fun v ad' c' H locs hv hN hS => ?_)
  obtain ⟨rfl, rfl, rfl⟩ := hv
  refine W.eq (g2 := F0 m 4 ls (_ :: _)) rfl ?_
  refine lv_if_ne (tgt := 14) hx hb dX0_copy_4 (by decide) (fun c4 => ?_) (fun c4 => ?_)
  · have h1 := zI_s c4
    have hno : ¬ (sBt k_ 0 3 = true ∧ sBt o_ 0 3 = true) := fun z => by rw [h1] at z; cases z.1
    refine lv_aload_n hx hb dX0_copy_14 rfl (lv_at hl 0 rfl) ?_
    refine lv_iconst (v := (-1)) hx hb dX0_copy_15 (by decide) ?_
    refine n_callV (C := RX0) (As := [_]) (b := 0) SS hKo hK hKv (sX0_refused l G K hKo hK0 ad x si sa rn (-1)) (cwV 1 hts (lw_V q537 q539 qs14 q57 q540) rfl rfl rfl (by decide +kernel) ⟨Nat.le_of_ble_eq_true rfl, Nat.le_of_ble_eq_true rfl⟩) hN hS sPic_0 rfl rfl hl.1 rfl (Nat.le_of_ble_eq_true rfl) dX0_copy_16 ⟨Nat.le_of_ble_eq_true rfl, Nat.le_of_ble_eq_true rfl⟩ (fun v ad' c' H locs hv hN hS => ?_)
    obtain ⟨rfl, rfl, rfl⟩ := hv
    refine W.eq (g2 := F0 m 19 ls (_ :: _)) rfl ?_
    refine lv_goto (tgt := 40) hx hb dX0_copy_19 (by decide) ?_
    refine W.widen (k := 4) (n := 1917) (by first | omega | decide) (by first | omega | decide) ?_
    exact W.iret hx hb hr (nEnd hN hS ⟨by unfold oCpy; rw [if_neg hno], x, fun _ _ => rfl, fun _ _ _ => rfl, by unfold oCpy; rw [if_neg hno]; exact hSh, by unfold oCpy; rw [if_neg hno]⟩) hS.2 dX0_copy_40
  · have h1 := zI_ns c4
    refine lv_iload_n hx hb dX0_copy_7 rfl (lv_at hl 3 rfl) ?_
    refine n_callS (As := [_]) SS hKo hK (sX0_noSheet l G K hKo hK0 ad _ o_) (va_cwS 1 hts (lw_S q533 q534 q57 q535) rfl rfl rfl (by decide +kernel) ⟨Nat.le_of_ble_eq_true rfl, Nat.le_of_ble_eq_true rfl⟩) hN hS rfl hl.1 rfl (Nat.le_of_ble_eq_true rfl) dX0_copy_8 ⟨Nat.le_of_ble_eq_true rfl, Nat.le_of_ble_eq_true rfl⟩ (fun v ad' c' H locs hv hN hS => ?_)
    obtain ⟨rfl, rfl, rfl⟩ := hv
    refine W.eq (g2 := F0 m 11 ls (_ :: _)) rfl ?_
    refine lv_if_eq (tgt := 22) hx hb dX0_copy_11 (by decide) (fun c11 => ?_) (fun c11 => ?_)
    · have h2 := zI_ns c11
      obtain ⟨kk, hkk, rfl, tk⟩ := sBt_t 3 (by decide) h1
      obtain ⟨oo, hoo, rfl, to_⟩ := sBt_t 3 (by decide) h2
      have hk : kk < 4 := by omega
      have hk2 : oo < 4 := by omega
      refine n_new (C := RX11) (T := TX11) (N := 7) (ci := 10) (fs := [.null, .int 0, .int 0, .int 0, .int 0, .int 0, .null]) hx hb hts in_X11 tyX11 tyX11_ok hown q968 q969 q88 hKv hN hS (40) rfl (by intro j hj; rcases (show j = 0 ∨ j = 1 ∨ j = 2 ∨ j = 3 ∨ j = 4 ∨ j = 5 ∨ j = 6 by omega) with rfl | rfl | rfl | rfl | rfl | rfl | rfl <;> rfl) (Nat.le_of_ble_eq_true rfl) (Nat.le_of_ble_eq_true rfl) dX0_copy_22 (fun q22 H hN hS => ?_)
      obtain ⟨ad1, x1, hN, hfr, hp1, hx1, -⟩ := fr_new (by decide) hN
      have h0 := (hfr 0 (by decide)).1
      rw [← h0] at hl
      refine W.eq (g2 := F0 m 25 ls [.ref (ad1 40)]) (by rw [hp1] <;> rfl) ?_
      refine lv_dup hx hb dX0_copy_25 rfl ?_
      refine lv_aload_n hx hb dX0_copy_26 rfl (lv_at hl 0 rfl) ?_
      refine lv_iload_n hx hb dX0_copy_27 rfl (lv_at hl 1 rfl) ?_
      refine lv_iload_n hx hb dX0_copy_28 rfl (lv_at hl 2 rfl) ?_
      refine lv_iload_n hx hb dX0_copy_29 rfl (lv_at hl 3 rfl) ?_
      refine lv_iload hx hb dX0_copy_30 (lv_at hl 4 rfl) ?_
      refine lv_iload hx hb dX0_copy_32 (lv_at hl 5 rfl) ?_
      refine n_callI (As := [_, _, _, _, _, _]) SS hKo hK (tX11_init_X11 l G K hKo hK0 ad1 _ 40 .null (.int 0) (.int 0) (.int 0) (.int 0) (.int 0) .null ((sPic_x (by decide)).trans hx1) (ad1 0) (nI kk) i (nI oo) j n_) (cwI 6 hts (lw_meth q972) rfl rfl rfl (hts _ q88) (hts _ q970) (hts _ q971) rfl (by decide +kernel) ⟨Nat.le_of_ble_eq_true rfl, Nat.le_of_ble_eq_true rfl⟩) hN hS rfl hl.1 rfl (Nat.le_of_ble_eq_true rfl) dX0_copy_34 ⟨Nat.le_of_ble_eq_true rfl, Nat.le_of_ble_eq_true rfl⟩ (fun v ad' c' H locs hv hN hS => ?_)
      obtain ⟨rfl, rfl, rfl⟩ := hv
      obtain ⟨x2, hN, hf2, hx2⟩ := fr_put (by decide) hfr hN
      have hS2 := hSh.fr (ad1 := ad1) (x1 := x2) fun z _ _ _ => hf2 z (by omega)
      refine W.eq (g2 := F0 m 37 ls _) rfl ?_
      rcases cpy_case hS2 hk hk2 i j n_ with ⟨h9, hA⟩ | ⟨q, q2, L1, L2, f, g, hq, hq2, n1, n2, s1, s2, hL1, hL2, e1, e2, hfit, ⟨hne, hA⟩ | ⟨rfl, ho, hA⟩ | ⟨rfl, a, b, w, hia, hjb, hnw, ha, hb_, hA⟩⟩
      · have _u := hA
        refine n_callUW (C := RX11) (owner := "TowerTell$Act") (x := ⟨"TowerTell$Copying", "tried", "()I"⟩) (y := yX2_tried) (As := []) (b := 40) (n := 0) SS hKo hK hKv (sX2_tried_X11N l G K hKo hK0 hKx hfl ad1 x2 si sa rn (nI kk) i (nI oo) j n_ hx2 3 1910 (sX11_doneN l G K hKo hK0 hKx hfl ad1 x2 (upd si 9 0) sa rn so sl ce hS2 kk oo hk hk2 i j n_ hx2 h9)) q994 q995 (hKw _ q693 rfl) q696 q996 q62 q697 (by decide +kernel) rfl rfl ⟨Nat.le_of_ble_eq_true rfl, Nat.le_of_ble_eq_true rfl⟩ hN hS ((sPic_x (by decide)).trans hx2) rfl rfl hl.1 rfl (Nat.le_of_ble_eq_true rfl) dX0_copy_37 ⟨Nat.le_of_ble_eq_true rfl, Nat.le_of_ble_eq_true rfl⟩ (fun v ad' c' H locs hv hN hS => ?_)
        obtain ⟨rfl, rfl, rfl⟩ := hv
        refine W.eq (g2 := F0 m 40 ls (_ :: _)) rfl ?_
        refine W.widen (k := 4) (n := 1917) (by first | omega | decide) (by first | omega | decide) ?_
        exact W.iret hx hb hr (nEnd hN hS ⟨by rw [hA]; rfl, x2, fun z hz => (hf2 z hz).1, fun z hz _ => (hf2 z hz).2, by rw [hA]; exact hS2, by rw [hA]⟩) hS.2 dX0_copy_40
      · have _u := hA
        refine n_callUW (C := RX11) (owner := "TowerTell$Act") (x := ⟨"TowerTell$Copying", "tried", "()I"⟩) (y := yX2_tried) (As := []) (b := 40) (n := 0) SS hKo hK hKv (sX2_tried_X11A l G K hKo hK0 hKx hfl ad1 x2 si sa rn (nI kk) i (nI oo) j n_ hx2 3 1910 (sX11_doneA l G K hKo hK0 hKx hfl ad1 x2 (upd si 9 0) sa rn so sl ce hS2 kk oo hk hk2 i j n_ hx2 q q2 L1 L2 f g hq hq2 n1 n2 hL1 hL2 e1 e2 hne)) q994 q995 (hKw _ q693 rfl) q696 q996 q62 q697 (by decide +kernel) rfl rfl ⟨Nat.le_of_ble_eq_true rfl, Nat.le_of_ble_eq_true rfl⟩ hN hS ((sPic_x (by decide)).trans hx2) rfl rfl hl.1 rfl (Nat.le_of_ble_eq_true rfl) dX0_copy_37 ⟨Nat.le_of_ble_eq_true rfl, Nat.le_of_ble_eq_true rfl⟩ (fun v ad' c' H locs hv hN hS => ?_)
        obtain ⟨rfl, rfl, rfl⟩ := hv
        refine W.eq (g2 := F0 m 40 ls (_ :: _)) rfl ?_
        refine W.widen (k := 4) (n := 1917) (by first | omega | decide) (by first | omega | decide) ?_
        exact W.iret hx hb hr (nEnd hN hS ⟨by rw [hA]; rfl, x2, fun z hz => (hf2 z hz).1, fun z hz _ => (hf2 z hz).2, by rw [hA]; exact hS2, by rw [hA]⟩) hS.2 dX0_copy_40
      · have _u := hA
        refine n_callUW (C := RX11) (owner := "TowerTell$Act") (x := ⟨"TowerTell$Copying", "tried", "()I"⟩) (y := yX2_tried) (As := []) (b := 40) (n := 0) SS hKo hK hKv (sX2_tried_X11I l G K hKo hK0 hKx hfl ad1 x2 si sa rn (nI kk) i (nI oo) j n_ hx2 3 1910 (sX11_doneI l G K hKo hK0 hKx hfl ad1 x2 (upd si 9 0) sa rn so sl ce hS2 kk oo hk hk2 i j n_ hx2 q L1 L2 f g hq n1 n2 hL1 hL2 e1 e2 ho)) q994 q995 (hKw _ q693 rfl) q696 q996 q62 q697 (by decide +kernel) rfl rfl ⟨Nat.le_of_ble_eq_true rfl, Nat.le_of_ble_eq_true rfl⟩ hN hS ((sPic_x (by decide)).trans hx2) rfl rfl hl.1 rfl (Nat.le_of_ble_eq_true rfl) dX0_copy_37 ⟨Nat.le_of_ble_eq_true rfl, Nat.le_of_ble_eq_true rfl⟩ (fun v ad' c' H locs hv hN hS => ?_)
        obtain ⟨rfl, rfl, rfl⟩ := hv
        refine W.eq (g2 := F0 m 40 ls (_ :: _)) rfl ?_
        refine W.widen (k := 4) (n := 1917) (by first | omega | decide) (by first | omega | decide) ?_
        exact W.iret hx hb hr (nEnd hN hS ⟨by rw [hA]; rfl, x2, fun z hz => (hf2 z hz).1, fun z hz _ => (hf2 z hz).2, by rw [hA]; exact hS2, by rw [hA]⟩) hS.2 dX0_copy_40
      · have _u := hA
        refine n_callUW (C := RX11) (owner := "TowerTell$Act") (x := ⟨"TowerTell$Copying", "tried", "()I"⟩) (y := yX2_tried) (As := []) (b := 40) (n := 0) SS hKo hK hKv (sX2_tried_X11 l G K hKo hK0 hKx hfl ad1 x2 si sa rn (nI kk) i (nI oo) j n_ hx2 0 0 (fun rv ad' c' => rv = some (.int n_) ∧ ad1 = ad' ∧ sPic G (va_up x2 (14 + oo) (some (rowE G q L2 (va_cpy f g a b w)))) ad1 (upd si 9 0) sa rn = c') (fun v a c h => ⟨_, h.1⟩) (sX11_done l G K hKo hK0 ad1 x2 (upd si 9 0) sa rn so sl ce hS2 kk oo hk hk2 i j n_ hx2 q L1 L2 f g hq n1 n2 hL1 hL2 e1 e2 hfit a b w hia hjb hnw ha hb_)) q994 q995 (hKw _ q693 rfl) q696 q996 q62 q697 (by decide +kernel) rfl rfl ⟨Nat.le_of_ble_eq_true rfl, Nat.le_of_ble_eq_true rfl⟩ hN hS ((sPic_x (by decide)).trans hx2) rfl rfl hl.1 rfl (Nat.le_of_ble_eq_true rfl) dX0_copy_37 ⟨Nat.le_of_ble_eq_true rfl, Nat.le_of_ble_eq_true rfl⟩ (fun v ad' c' H locs hv hN hS => ?_)
        obtain ⟨rfl, rfl, rfl⟩ := hv
        refine W.eq (g2 := F0 m 40 ls (_ :: _)) rfl ?_
        refine W.widen (k := 4) (n := 1917) (by first | omega | decide) (by first | omega | decide) ?_
        exact W.iret hx hb hr (nEnd hN hS ⟨by rw [hA], va_up x2 (14 + oo) (some (rowE G q L2 (va_cpy f g a b w))), fun z hz => (hf2 z hz).1, fun z hz hz2 => (va_up_ne _ _ (by omega)).trans (hf2 z hz).2, by rw [hA]; exact she_copy hS2 hk hk2 s1 s2 hq e1 e2 ha hb_ hL1 hL2, by rw [hA]⟩) hS.2 dX0_copy_40
    · have h2 := zI_s c11
      have hno : ¬ (sBt k_ 0 3 = true ∧ sBt o_ 0 3 = true) := fun z => by rw [h2] at z; cases z.2
      refine lv_aload_n hx hb dX0_copy_14 rfl (lv_at hl 0 rfl) ?_
      refine lv_iconst (v := (-1)) hx hb dX0_copy_15 (by decide) ?_
      refine n_callV (C := RX0) (As := [_]) (b := 0) SS hKo hK hKv (sX0_refused l G K hKo hK0 ad x si sa rn (-1)) (cwV 1 hts (lw_V q537 q539 qs14 q57 q540) rfl rfl rfl (by decide +kernel) ⟨Nat.le_of_ble_eq_true rfl, Nat.le_of_ble_eq_true rfl⟩) hN hS sPic_0 rfl rfl hl.1 rfl (Nat.le_of_ble_eq_true rfl) dX0_copy_16 ⟨Nat.le_of_ble_eq_true rfl, Nat.le_of_ble_eq_true rfl⟩ (fun v ad' c' H locs hv hN hS => ?_)
      obtain ⟨rfl, rfl, rfl⟩ := hv
      refine W.eq (g2 := F0 m 19 ls (_ :: _)) rfl ?_
      refine lv_goto (tgt := 40) hx hb dX0_copy_19 (by decide) ?_
      refine W.widen (k := 4) (n := 1917) (by first | omega | decide) (by first | omega | decide) ?_
      exact W.iret hx hb hr (nEnd hN hS ⟨by unfold oCpy; rw [if_neg hno], x, fun _ _ => rfl, fun _ _ _ => rfl, by unfold oCpy; rw [if_neg hno]; exact hSh, by unfold oCpy; rw [if_neg hno]⟩) hS.2 dX0_copy_40
set_option maxHeartbeats 1000000 in
set_option maxRecDepth 100000 in
theorem sX0_put (l : Launch) (G : nG) (K : State → Prop) (hKo : nKo G K) (hK0 : ∀ U, K U → sK0 G U) (hKx : ∀ U, K U → xK G U) (hfl : l.stackTraces = false) (ad : Nat → Nat) (x : nPic) (si : AI) (sa : Nat → AI) (rn : Value) (so sl ce : AI) (hSh : sShe G ad x so sl ce) (k_ i v_ : Int32) : Met l yX0_put (wsW_ yX0_put cX0_put 5 (some .int) [(18, 33, 34, 248), (18, 33, 42, 250)]) (sR 3 3 1910) (nPc G nCl K ad (sPic G x ad si sa rn) [.ref (ad 0), .int k_, .int i, .int v_]) (nQ G nCl (fun rv ad' c' => rv = some (.int (oPut so sl ce k_ i v_).1) ∧ ad = ad' ∧ ∃ x' : nPic, (∀ z, (z < 14 ∨ 18 ≤ z) → x' z = x z) ∧ sShe G ad x' so sl (oPut so sl ce k_ i v_).2.2 ∧ sPic G x' ad (upd si 9 (oPut so sl ce k_ i v_).2.1) sa rn = c')) 3 1910 (fun q => G.2 ≤ q) := by
  refine nMetW RX0 (by decide) rfl (Nat.le_of_ble_eq_true rfl) ?_
  intro p e s m below meth c ls SS hR hxh hadm hK hN hS hl
  obtain ⟨hx, hb, hml, hown, hts⟩ := id SS
  obtain ⟨hr, hlk, hnm⟩ := hR
  have hX := hKx s hK
  obtain ⟨hKv, hKw, hKf, hKz, hKm⟩ := hK0 s hK
  generalize s.heap = H at hN hS ⊢
  generalize ([] : List Loc) = locs at hS ⊢
  have hl : lv_has ls 5 [(0, .ref (ad 0)), (1, .int k_), (2, .int i), (3, .int v_)] := hl
  refine lv_iload_n hx hb dX0_put_0 rfl (lv_at hl 1 rfl) ?_
  refine n_callS (As := [_]) SS hKo hK (sX0_noSheet l G K hKo hK0 ad _ k_) (va_cwS 1 hts (lw_S q533 q534 q57 q535) rfl rfl rfl (by decide +kernel) ⟨Nat.le_of_ble_eq_true rfl, Nat.le_of_ble_eq_true rfl⟩) hN hS rfl hl.1 rfl (Nat.le_of_ble_eq_true rfl) dX0_put_1 ⟨Nat.le_of_ble_eq_true rfl, Nat.le_of_ble_eq_true rfl⟩ (fun v ad' c' H locs hv hN hS => ?_)
  obtain ⟨rfl, rfl, rfl⟩ := hv
  refine W.eq (g2 := F0 m 4 ls (_ :: _)) rfl ?_
  refine lv_if_eq (tgt := 13) hx hb dX0_put_4 (by decide) (fun c4 => ?_) (fun c4 => ?_)
  · have h1 := zI_ns c4
    obtain ⟨kk, hkk, rfl, tk⟩ := sBt_t 3 (by decide) h1
    have hk : kk < 4 := by omega
    refine lv_aload_n hx hb dX0_put_13 rfl (lv_at hl 0 rfl) ?_
    refine lv_iconst (v := 0) hx hb dX0_put_14 (by decide) ?_
    refine n_put (ci := 0) (C := RX0) (T := TX0) (N := 12) hx hb hts in_X0 tyX0 tyX0_ok (va_apart (own := RX0) hts in_X0 tyX0 tyX0_ok nmX0 hKv rfl) hown hKv hN hS (0) sPic_0 rfl 9 (by decide) q138 (fun z h => h) rfl rfl rfl (Nat.le_of_ble_eq_true rfl) dX0_put_15 (fun H locs hN hS => ?_)
    have hN := hN.congr (sPic_put rfl)
    rcases put_case hSh hk i with ⟨h9, hA⟩ | ⟨q, L, f, hq, h9, hsq, hL, g5, g6, ⟨hno, hA⟩ | ⟨ii, hii, rfl, hA⟩⟩
    · have hA := hA v_ h1 tk
      refine lv_aload_n hx hb dX0_put_18 rfl (lv_at hl 0 rfl) ?_
      refine n_get (ci := 0) (C := RX0) (T := TX0) (N := 12) hx hb hts in_X0 hown hKv hN (0) sPic_0 rfl 10 (by decide) q139 (fun z h => h) (rfl) dX0_put_19 ?_
      refine lv_iload_n hx hb dX0_put_22 rfl (lv_at hl 1 rfl) ?_
      refine n_aald hx hb hKv hN (8) 4 ((sPic_x (by decide)).trans hSh.1) rfl (kk) (rfl) (by omega) (by decide) dX0_put_23 ?_
      refine n_topv (y := .null) (by rw [if_pos (Or.inl h9)]; rfl) ?_
      obtain ⟨cF, kF, iF, fF, hFf, hFs⟩ := x_rowF hts
      refine o_npe (rest := []) hx hfl (hl.1.trans hml.symm) (x_aNPE hts hKw hX.1 hX.2.1) hX.1 hN hS (by decide) (Nat.le_of_ble_eq_true rfl) (Nat.le_of_ble_eq_true rfl) (Nat.le_of_ble_eq_true rfl) (Nat.le_of_ble_eq_true rfl) (fun T hT X => X.getfieldNull hx hown (hts _ q551) hFf hFs (g := F0 m 24 ls [.null]) rfl (rest := []) rfl (by rw [hb]; exact dX0_put_24)) (fun a_ cell_ H locs hA1 hA2 hA3 hN hS => ?_)
      refine WT.catch (own := "TowerTell") (pre := []) (post := [(18, 33, 42, 250)]) (s0 := 18) (e0 := 33) (h0 := 34) (t0 := 248) (nmT := "java/lang/NullPointerException") hown hxh (List.forall_mem_nil _) ⟨by decide, by decide⟩ (by decide) (hts _ q568) (hKw _ q590 rfl) hA1 hA2 hA3 ?_
      refine lv_astore (lv' := [(4, _), (0, _), (1, _), (2, _), (3, _)]) hx hb dX0_put_34 hl (by decide) rfl (fun ls hl => ?_)
      refine lv_aload_n hx hb dX0_put_36 rfl (lv_at hl 1 rfl) ?_
      refine lv_iconst (v := 1) hx hb dX0_put_37 (by decide) ?_
      refine n_callV (C := RX0) (As := [_]) (b := 0) SS hKo hK hKv (sX0_fails l G K hKo hK0 ad x (upd si 9 0) sa rn 1) (cwV 1 hts (lw_V q556 q558 qs15 q57 q559) rfl rfl rfl (by decide +kernel) ⟨Nat.le_of_ble_eq_true rfl, Nat.le_of_ble_eq_true rfl⟩) hN hS sPic_0 rfl rfl hl.1 rfl (Nat.le_of_ble_eq_true rfl) dX0_put_38 ⟨Nat.le_of_ble_eq_true rfl, Nat.le_of_ble_eq_true rfl⟩ (fun v ad' c' H locs hv hN hS => ?_)
      obtain ⟨rfl, rfl, rfl⟩ := hv
      refine W.eq (g2 := F0 m 41 ls (_ :: _)) rfl ?_
      refine W.widen (k := 3) (n := 1910) (by first | omega | decide) (by first | omega | decide) ?_
      exact W.iret hx hb hr (nEnd hN hS ⟨by rw [hA]; rfl, rfl, x, fun _ _ => rfl, by rw [hA]; exact hSh, by rw [hA, upd_upd]⟩) hS.2 dX0_put_41
    · have hA := hA v_ h1 tk
      refine lv_aload_n hx hb dX0_put_18 rfl (lv_at hl 0 rfl) ?_
      refine n_get (ci := 0) (C := RX0) (T := TX0) (N := 12) hx hb hts in_X0 hown hKv hN (0) sPic_0 rfl 10 (by decide) q139 (fun z h => h) (rfl) dX0_put_19 ?_
      refine lv_iload_n hx hb dX0_put_22 rfl (lv_at hl 1 rfl) ?_
      refine n_aald hx hb hKv hN (8) 4 ((sPic_x (by decide)).trans hSh.1) rfl (kk) (rfl) (by omega) (by decide) dX0_put_23 ?_
      refine n_topv (y := .ref (ad (10 + kk))) (by rw [if_neg (fun z => z.elim h9 (by omega))]; rfl) ?_
      refine n_get (ci := 6) (C := RX10) (T := TX10) (N := 1) hx hb hts in_X10 hown hKv hN (10 + kk) ((sPic_x ⟨by omega, by omega, by omega, by omega⟩).trans g5) rfl 0 (by decide) q551 (fun z h => h) (rfl) dX0_put_24 ?_
      refine lv_iload_n hx hb dX0_put_27 rfl (lv_at hl 2 rfl) ?_
      refine lv_iload_n hx hb dX0_put_28 rfl (lv_at hl 3 rfl) ?_
      refine n_callST (As := [_, _, _]) SS hKo hK (sX0_setInX l G K hKo hK0 hKx hfl ad _ (14 + kk) q L f hq hL ((sPic_x ⟨by omega, by omega, by omega, by omega⟩).trans g6) i v_ hno) (va_cwS 3 hts (lw_S q612 q613 q57 q614) rfl rfl rfl (by decide +kernel) ⟨Nat.le_of_ble_eq_true rfl, Nat.le_of_ble_eq_true rfl⟩) hN hS rfl hl.1 rfl (Nat.le_of_ble_eq_true rfl) dX0_put_29 ⟨Nat.le_of_ble_eq_true rfl, Nat.le_of_ble_eq_true rfl⟩ (fun a_ cell_ H locs hA1 hA2 hA3 hN hS => ?_)
      refine WT.catch (own := "TowerTell") (pre := [(18, 33, 34, 248)]) (post := []) (s0 := 18) (e0 := 33) (h0 := 42) (t0 := 250) (nmT := "java/lang/IndexOutOfBoundsException") hown hxh (List.forall_mem_cons.mpr ⟨⟨by decide, "java/lang/NullPointerException", hts _ q568, hX.2.2.2.1 ("java/lang/ArrayIndexOutOfBoundsException", "java/lang/NullPointerException") (List.mem_of_getElem? (i := 10) rfl)⟩, List.forall_mem_nil _⟩) ⟨by decide, by decide⟩ (by decide) (hts _ q593) (hKw _ q1435 rfl) hA1 hA2 hA3 ?_
      refine lv_astore (lv' := [(4, _), (0, _), (1, _), (2, _), (3, _)]) hx hb dX0_put_42 hl (by decide) rfl (fun ls hl => ?_)
      refine lv_aload_n hx hb dX0_put_44 rfl (lv_at hl 1 rfl) ?_
      refine lv_iconst (v := 3) hx hb dX0_put_45 (by decide) ?_
      refine n_callV (C := RX0) (As := [_]) (b := 0) SS hKo hK hKv (sX0_fails l G K hKo hK0 ad x (upd si 9 0) sa rn 3) (cwV 1 hts (lw_V q556 q558 qs15 q57 q559) rfl rfl rfl (by decide +kernel) ⟨Nat.le_of_ble_eq_true rfl, Nat.le_of_ble_eq_true rfl⟩) hN hS sPic_0 rfl rfl hl.1 rfl (Nat.le_of_ble_eq_true rfl) dX0_put_46 ⟨Nat.le_of_ble_eq_true rfl, Nat.le_of_ble_eq_true rfl⟩ (fun v ad' c' H locs hv hN hS => ?_)
      obtain ⟨rfl, rfl, rfl⟩ := hv
      refine W.eq (g2 := F0 m 49 ls (_ :: _)) rfl ?_
      refine W.widen (k := 3) (n := 1910) (by first | omega | decide) (by first | omega | decide) ?_
      exact W.iret hx hb hr (nEnd hN hS ⟨by rw [hA]; rfl, rfl, x, fun _ _ => rfl, by rw [hA]; exact hSh, by rw [hA, upd_upd]⟩) hS.2 dX0_put_49
    · have hA := hA v_ h1 tk
      refine lv_aload_n hx hb dX0_put_18 rfl (lv_at hl 0 rfl) ?_
      refine n_get (ci := 0) (C := RX0) (T := TX0) (N := 12) hx hb hts in_X0 hown hKv hN (0) sPic_0 rfl 10 (by decide) q139 (fun z h => h) (rfl) dX0_put_19 ?_
      refine lv_iload_n hx hb dX0_put_22 rfl (lv_at hl 1 rfl) ?_
      refine n_aald hx hb hKv hN (8) 4 ((sPic_x (by decide)).trans hSh.1) rfl (kk) (rfl) (by omega) (by decide) dX0_put_23 ?_
      refine n_topv (y := .ref (ad (10 + kk))) (by rw [if_neg (fun z => z.elim h9 (by omega))]; rfl) ?_
      refine n_get (ci := 6) (C := RX10) (T := TX10) (N := 1) hx hb hts in_X10 hown hKv hN (10 + kk) ((sPic_x ⟨by omega, by omega, by omega, by omega⟩).trans g5) rfl 0 (by decide) q551 (fun z h => h) (rfl) dX0_put_24 ?_
      refine lv_iload_n hx hb dX0_put_27 rfl (lv_at hl 2 rfl) ?_
      refine lv_iload_n hx hb dX0_put_28 rfl (lv_at hl 3 rfl) ?_
      refine n_callS (As := [_, _, _]) SS hKo hK (sX0_setIn l G K hKo hK0 hKx ad _ (14 + kk) q L f hq hL ((sPic_x ⟨by omega, by omega, by omega, by omega⟩).trans g6) ii hii v_) (va_cwS 3 hts (lw_S q612 q613 q57 q614) rfl rfl rfl (by decide +kernel) ⟨Nat.le_of_ble_eq_true rfl, Nat.le_of_ble_eq_true rfl⟩) hN hS rfl hl.1 rfl (Nat.le_of_ble_eq_true rfl) dX0_put_29 ⟨Nat.le_of_ble_eq_true rfl, Nat.le_of_ble_eq_true rfl⟩ (fun v ad' c' H locs hv hN hS => ?_)
      obtain ⟨rfl, rfl, rfl⟩ := hv
      have hN := hN.congr (sPic_up ⟨by omega, by omega, by omega, by omega⟩)
      refine W.eq (g2 := F0 m 32 ls _) rfl ?_
      refine lv_iconst (v := 1) hx hb dX0_put_32 (by decide) ?_
      refine W.widen (k := 3) (n := 1910) (by first | omega | decide) (by first | omega | decide) ?_
      exact W.iret hx hb hr (nEnd hN hS ⟨by rw [hA], rfl, va_up x (14 + kk) (some (rowE G q L (upd f ii (sNar (nI q) v_)))), fun z hz => va_up_ne _ _ (by omega), by rw [hA]; exact she_put hSh hk hsq hq g6 hii hL, by rw [hA]⟩) hS.2 dX0_put_33
  · have h1 := zI_s c4
    refine lv_aload_n hx hb dX0_put_7 rfl (lv_at hl 0 rfl) ?_
    refine lv_iconst (v := (-1)) hx hb dX0_put_8 (by decide) ?_
    refine n_callV (C := RX0) (As := [_]) (b := 0) SS hKo hK hKv (sX0_refused l G K hKo hK0 ad x si sa rn (-1)) (cwV 1 hts (lw_V q537 q539 qs14 q57 q540) rfl rfl rfl (by decide +kernel) ⟨Nat.le_of_ble_eq_true rfl, Nat.le_of_ble_eq_true rfl⟩) hN hS sPic_0 rfl rfl hl.1 rfl (Nat.le_of_ble_eq_true rfl) dX0_put_9 ⟨Nat.le_of_ble_eq_true rfl, Nat.le_of_ble_eq_true rfl⟩ (fun v ad' c' H locs hv hN hS => ?_)
    obtain ⟨rfl, rfl, rfl⟩ := hv
    refine W.eq (g2 := F0 m 12 ls (_ :: _)) rfl ?_
    refine W.widen (k := 3) (n := 1910) (by first | omega | decide) (by first | omega | decide) ?_
    exact W.iret hx hb hr (nEnd hN hS ⟨by unfold oPut; rw [h1]; rfl, rfl, x, fun _ _ => rfl, by unfold oPut; rw [h1]; exact hSh, by unfold oPut; rw [h1]; rfl⟩) hS.2 dX0_put_12
