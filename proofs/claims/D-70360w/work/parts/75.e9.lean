/-! SYSTEM: as, lose, cell, sheet: printed by wip/gen/e9.py -/
theorem x_anyE {G : nG} {s : State} {cl : List vw_C} {tys : List (ClassId × FieldType)} {ad : Nat → Nat} {c0 : nPic} {H : Heap} (hK : va_K G.1 cl tys s) (hN : nOk G cl ad c0 H) {i ci : Nat} {fs : List Value} {C : String} {T : u_T} {N : Nat} (he : c0 i = some (.inr (ci, fs))) (hc : cl[ci]? = some (C, T, N)) : va_Any C s H (ad i) := by
  obtain ⟨cell, h1, h2, h3⟩ := n_recv hK hN he hc
  obtain ⟨kC, hkC, -⟩ := Vm.findClass_spec h3
  refine ⟨cell, h1, h2, ⟨kC, hkC⟩, fun comp h => ?_⟩
  cases h3.symm.trans h
  exact va_asg _ _
section SH9
variable {G : nG} {ad ad1 ad2 ad' : Nat → Nat} {x x1 x2 x' : nPic} {si : AI} {sa : Nat → AI} {rn : Value} {H : Heap} {so sl ce : AI}
theorem fr_newg {la p : Nat} {e : Option va_E} (hla : la ≠ 0 ∧ la ≠ 1 ∧ la ≠ 2 ∧ la ≠ 4 ∧ la ≠ 5 ∧ la ≠ 6 ∧ la ≠ 8) (hN : nOk G nCl (va_up ad la p) (va_up (sPic G x ad si sa rn) la e) H) : ∃ (ad1 : Nat → Nat) (x1 : nPic), nOk G nCl ad1 (sPic G x1 ad1 si sa rn) H ∧ sFr la ad x ad1 x1 ∧ ad1 la = p ∧ x1 la = e := by
  refine ⟨va_up ad la p, va_up x la e, ?_, fun z hz => ⟨va_up_ne _ _ hz, va_up_ne _ _ hz⟩, va_up_self _ _ _, va_up_self _ _ _⟩
  rw [sPic_up ⟨by omega, by omega, by omega, by omega⟩] at hN
  rw [sPic_ad6 (ad := ad) ⟨va_up_ne _ _ (by omega), va_up_ne _ _ (by omega), va_up_ne _ _ (by omega), va_up_ne _ _ (by omega), va_up_ne _ _ (by omega), va_up_ne _ _ (by omega)⟩]
  exact hN
/-- a sheet laid anew -/
theorem she_new {k q L : Nat} (hSh : sShe G ad x so sl ce) (hk : k < 4) (hq : q < 3) (hL : L ≤ 60) (ha : ∀ z, z ≠ 10 + k → z ≠ 14 + k → ad' z = ad z) (hx : ∀ z, z ≠ 8 → z ≠ 10 + k → z ≠ 14 + k → x' z = x z) (h10 : x' (10 + k) = some (.inr (6, [.ref (ad' (14 + k))]))) (h14 : x' (14 + k) = some (rowE G q L (fun _ => 0)))
    (h8 : x' 8 = some (qA (G.1.1 104) 4 (va_up (fun j => if so j = -9 ∨ 4 ≤ j then none else some (ad (10 + j))) k (some (ad' (10 + k)))))) : sShe G ad' x' (upd so k (nI q)) (upd sl k (nI L)) (sZer ce k) := by
  have n9 : ∀ q : Nat, q < 3 → ¬ nI q = -9 := by decide
  refine ⟨?_, fun j hj => ?_⟩
  · rw [h8]
    have e : va_up (fun j => if so j = -9 ∨ 4 ≤ j then none else some (ad (10 + j))) k (some (ad' (10 + k))) = fun j => if upd so k (nI q) j = -9 ∨ 4 ≤ j then none else some (ad' (10 + j)) := by
      funext j
      by_cases hj : j = k
      · subst hj
        rw [va_up_self, pk_us, if_neg (fun z => z.elim (n9 q hq) (by omega))]
      · rw [va_up_ne _ _ hj, pk_un hj]
        by_cases h4 : 4 ≤ j
        · rw [if_pos (Or.inr h4), if_pos (Or.inr h4)]
        · rw [ha (10 + j) (by omega) (by omega)]
    rw [e]
  · by_cases e : j = k
    · subst e
      right
      refine ⟨q, L, fun _ => 0, hq, pk_us, hL, pk_us, h10, h14, fun i hi => ⟨?_, ?_⟩⟩
      · unfold sZer
        rw [if_pos (by omega)]
      · rcases (show q = 0 ∨ q = 1 ∨ q = 2 by omega) with z | z | z <;> subst z <;> rfl
    · rw [pk_un e, pk_un e]
      rcases hSh.2 j hj with h | ⟨q2, L2, f, g1, g2, g3, g4, g5, g6, g7⟩
      · exact Or.inl h
      · refine Or.inr ⟨q2, L2, f, g1, g2, g3, g4, ?_, ?_, fun i hi => ⟨?_, (g7 i hi).2⟩⟩
        · rw [hx _ (by omega) (by omega) (by omega), ha _ (by omega) (by omega)]; exact g5
        · rw [hx _ (by omega) (by omega) (by omega)]; exact g6
        · unfold sZer
          rw [if_neg (by omega)]
          exact (g7 i hi).1
/-- a sheet lost -/
theorem she_lose {k : Nat} (hSh : sShe G ad x so sl ce) (hk : k < 4) (hx : ∀ z, z ≠ 8 → x' z = x z) (h8 : x' 8 = some (qA (G.1.1 104) 4 (va_up (fun j => if so j = -9 ∨ 4 ≤ j then none else some (ad (10 + j))) k none))) : sShe G ad x' (upd so k (-9)) sl ce := by
  refine ⟨?_, fun j hj => ?_⟩
  · rw [h8]
    have e : va_up (fun j => if so j = -9 ∨ 4 ≤ j then none else some (ad (10 + j))) k none = fun j => if upd so k (-9) j = -9 ∨ 4 ≤ j then none else some (ad (10 + j)) := by
      funext j
      by_cases hj : j = k
      · subst hj
        rw [va_up_self, pk_us, if_pos (Or.inl rfl)]
      · rw [va_up_ne _ _ hj, pk_un hj]
    rw [e]
  · by_cases e : j = k
    · subst e
      left
      exact pk_us
    · rw [pk_un e]
      rcases hSh.2 j hj with h | ⟨q2, L2, f, g1, g2, g3, g4, g5, g6, g7⟩
      · exact Or.inl h
      · refine Or.inr ⟨q2, L2, f, g1, g2, g3, g4, ?_, ?_, g7⟩
        · rw [hx _ (by omega)]; exact g5
        · rw [hx _ (by omega)]; exact g6
end SH9
theorem cel_case {G : nG} {ad : Nat → Nat} {x : nPic} {so sl ce : AI} (hSh : sShe G ad x so sl ce) {k q : Nat} (hk : k < 4) (hq : q < 3) (i : Int32) :
    (so k = -9 ∧ (sBt (nI k) 0 3 = true → tn (nI k) = k → oCel so sl ce (nI k) i (nI q) = (LOST, 1))) ∨ (∃ (q2 L : Nat) (f : AI), q2 < 3 ∧ q2 ≠ q ∧ ¬ so k = -9 ∧ x (14 + k) = some (rowE G q2 L f) ∧ (sBt (nI k) 0 3 = true → tn (nI k) = k → oCel so sl ce (nI k) i (nI q) = (LOST, 2))) ∨
    ∃ (L : Nat) (f : AI), L ≤ 60 ∧ ¬ so k = -9 ∧ x (14 + k) = some (rowE G q L f) ∧
      (((i < 0 ∨ nI L ≤ i) ∧ (sBt (nI k) 0 3 = true → tn (nI k) = k → oCel so sl ce (nI k) i (nI q) = (LOST, 3))) ∨ (∃ ii : Nat, ii < L ∧ i = nI ii ∧ (sBt (nI k) 0 3 = true → tn (nI k) = k → oCel so sl ce (nI k) i (nI q) = ((f ii).toInt64, 0)))) := by
  have h2 : sBt (nI q) 0 2 = true := sBt_lt (n := 2) (by omega)
  by_cases h9 : so k = -9
  · left
    refine ⟨h9, fun h1 tk => ?_⟩
    unfold oCel
    rw [if_pos ⟨h1, h2⟩, tk, if_neg (fun z => z.1 h9), if_pos h9]
  · right
    obtain ⟨q2, L, f, g1, g2, g3, g4, g5, g6, g7⟩ := (hSh.2 k hk).resolve_left h9
    by_cases hqq : q2 = q
    · right
      subst hqq
      have e0 : ¬ (¬ so k = -9 ∧ ¬ so k = nI q2) := fun z => z.2 g2
      refine ⟨L, f, g3, h9, g6, ?_⟩
      have eB : sBt i 0 (nI L - 1) = sIn i L := sBt_in (by omega)
      by_cases hs : sIn i L = true
      · right
        obtain ⟨ii, hii, ei, ti⟩ := sIn_t (by omega) hs
        have ti : tn i = ii := ti
        refine ⟨ii, hii, ei, fun h1 tk => ?_⟩
        unfold oCel
        rw [if_pos ⟨h1, h2⟩, tk, if_neg e0, if_neg h9, g4, eB, if_pos hs, ti, (g7 ii hii).1]
      · left
        refine ⟨?_, fun h1 tk => ?_⟩
        · unfold sIn at hs
          by_cases h0 : i < 0
          · exact Or.inl h0
          · right
            by_cases h5 : nI L ≤ i
            · exact h5
            · exact absurd (by simp [h0, h5]) hs
        · unfold oCel
          rw [if_pos ⟨h1, h2⟩, tk, if_neg e0, if_neg h9, g4, eB, if_neg hs]
    · left
      refine ⟨q2, L, f, g1, hqq, h9, g6, fun h1 tk => ?_⟩
      unfold oCel
      rw [if_pos ⟨h1, h2⟩, tk, if_pos ⟨h9, fun z => hqq ((nI_eq (a := q2) (b := q) (by omega) (by omega)).mp (g2.symm.trans z))⟩]
set_option maxHeartbeats 1000000 in
set_option maxRecDepth 100000 in
theorem sX0_as (l : Launch) (G : nG) (K : State → Prop) (hKo : nKo G K) (hK0 : ∀ U, K U → sK0 G U) (hKx : ∀ U, K U → xK G U) (hfl : l.stackTraces = false) (ad : Nat → Nat) (x : nPic) (si : AI) (sa : Nat → AI) (rn : Value) (np : Nat) (kd dr kn : AI) (hP : sPeo G ad x np kd dr kn) (p_ a_ : Int32) : Met l yX0_as (ws_ yX0_as cX0_as 3 (some .int)) (sR 11 4 1914) (nPc G nCl K ad (sPic G x ad si sa rn) [.ref (ad 0), .int p_, .int a_]) (nQ G nCl (fun rv ad' c' => rv = some (.int (oAs np kd p_ a_).1) ∧ ∃ x' : nPic, sFr 40 ad x ad' x' ∧ sPic G x' ad' (upd si 9 (oAs np kd p_ a_).2) sa rn = c')) 4 1914 (fun q => G.2 ≤ q) := by
  refine nMet RX0 (by decide) rfl (Nat.le_of_ble_eq_true rfl) ?_
  intro p e s m below meth c ls SS hR hK hN hS hl
  obtain ⟨hx, hb, hml, hown, hts⟩ := id SS
  obtain ⟨hr, hlk, hnm⟩ := hR
  obtain ⟨hKv, hKw, hKf, hKz, hKm⟩ := hK0 s hK
  generalize s.heap = H at hN hS ⊢
  generalize ([] : List Loc) = locs at hS ⊢
  have hl : lv_has ls 3 [(0, .ref (ad 0)), (1, .int p_), (2, .int a_)] := hl
  have hnp4 := hP.1
  by_cases h1 : sIn p_ np = true
  · obtain ⟨j, hj, rfl, tj⟩ := sIn_t (by omega) h1
    refine lv_aload_n hx hb dX0_as_0 rfl (lv_at hl 0 rfl) ?_
    refine lv_iload_n hx hb dX0_as_1 rfl (lv_at hl 1 rfl) ?_
    refine n_callV (C := RX0) (As := [_]) (b := 0) SS hKo hK hKv (sX0_noPerson l G K hKo hK0 ad x si sa rn _ np kd dr kn hP) (cwV 1 hts (lw_V q171 q173 qs0 q57 q174) rfl rfl rfl (by decide +kernel) ⟨Nat.le_of_ble_eq_true rfl, Nat.le_of_ble_eq_true rfl⟩) hN hS sPic_0 rfl rfl hl.1 rfl (Nat.le_of_ble_eq_true rfl) dX0_as_2 ⟨Nat.le_of_ble_eq_true rfl, Nat.le_of_ble_eq_true rfl⟩ (fun v ad' c' H locs hv hN hS => ?_)
    obtain ⟨rfl, rfl, rfl⟩ := hv
    refine W.eq (g2 := F0 m 5 ls (_ :: _)) rfl ?_
    refine n_top (y := 0) (by rw [h1]; rfl) ?_
    refine lv_if_eq (tgt := 14) hx hb dX0_as_5 (by decide) (fun c5 => ?_) (fun c5 => absurd c5 (fun z => z rfl))
    refine lv_iload_n hx hb dX0_as_14 rfl (lv_at hl 2 rfl) ?_
    refine lv_i2l hx hb dX0_as_15 rfl ?_
    refine lv_lconst (v := 0) hx hb dX0_as_16 (by decide) ?_
    refine lv_ldc2 hx hb hown (hts _ q541) dX0_as_17 ?_
    refine n_callS (As := [_, _, _]) SS hKo hK (sX0_in l G K hKo hK0 ad _ a_ 0 2) (va_cwS 3 hts (lw_S q185 q186 q57 q187) rfl rfl rfl (by decide +kernel) ⟨Nat.le_of_ble_eq_true rfl, Nat.le_of_ble_eq_true rfl⟩) hN hS rfl hl.1 rfl (Nat.le_of_ble_eq_true rfl) dX0_as_20 ⟨Nat.le_of_ble_eq_true rfl, Nat.le_of_ble_eq_true rfl⟩ (fun v ad' c' H locs hv hN hS => ?_)
    obtain ⟨rfl, rfl, rfl⟩ := hv
    refine W.eq (g2 := F0 m 23 ls (_ :: _)) rfl ?_
    refine lv_if_eq (tgt := 54) hx hb dX0_as_23 (by decide) (fun c23 => ?_) (fun c23 => ?_)
    · have h2 := zI_0.mp c23
      refine lv_aload_n hx hb dX0_as_54 rfl (lv_at hl 0 rfl) ?_
      refine lv_bipush (v := (-2)) hx hb dX0_as_55 (by decide) ?_
      refine n_callV (C := RX0) (As := [_]) (b := 0) SS hKo hK hKv (sX0_refused l G K hKo hK0 ad x si sa rn (-2)) (cwV 1 hts (lw_V q537 q539 qs14 q57 q540) rfl rfl rfl (by decide +kernel) ⟨Nat.le_of_ble_eq_true rfl, Nat.le_of_ble_eq_true rfl⟩) hN hS sPic_0 rfl rfl hl.1 rfl (Nat.le_of_ble_eq_true rfl) dX0_as_57 ⟨Nat.le_of_ble_eq_true rfl, Nat.le_of_ble_eq_true rfl⟩ (fun v ad' c' H locs hv hN hS => ?_)
      obtain ⟨rfl, rfl, rfl⟩ := hv
      refine W.eq (g2 := F0 m 60 ls (_ :: _)) rfl ?_
      refine W.widen (k := 4) (n := 1914) (by first | omega | decide) (by first | omega | decide) ?_
      exact W.iret hx hb hr (nEnd hN hS ⟨by unfold oAs; rw [if_pos h1, h2]; rfl, x, fun _ _ => ⟨rfl, rfl⟩, by unfold oAs; rw [if_pos h1, h2]; rfl⟩) hS.2 dX0_as_60
    · have h2 := zI_n0 c23
      obtain ⟨a, ha, rfl, ta⟩ := sBt_t 2 (by decide) h2
      refine n_new (C := RX12) (T := TX12) (N := 4) (ci := 11) (fs := [.null, .null, .int 0, .null]) hx hb hts in_X12 tyX12 tyX12_ok hown q1081 q1082 q89 hKv hN hS (40) rfl (by intro j hj; rcases (show j = 0 ∨ j = 1 ∨ j = 2 ∨ j = 3 by omega) with rfl | rfl | rfl | rfl <;> rfl) (Nat.le_of_ble_eq_true rfl) (Nat.le_of_ble_eq_true rfl) dX0_as_26 (fun q26 H hN hS => ?_)
      obtain ⟨ad1, x1, hN, hfr, hp1, hx1, -⟩ := fr_new (by decide) hN
      have h0 := (hfr 0 (by decide)).1
      rw [← h0] at hl
      refine W.eq (g2 := F0 m 29 ls [.ref (ad1 40)]) (by rw [hp1] <;> rfl) ?_
      have hP1 := hP.fr (ad1 := ad1) (x1 := x1) fun z _ _ => hfr z (by omega)
      obtain ⟨mc_, hL, hA⟩ := hP1.own hj
      have hL : (sPic G x1 ad1 si sa rn) 2 = _ := hL
      have hA : (sPic G x1 ad1 si sa rn) 3 = _ := hA
      refine lv_dup hx hb dX0_as_29 rfl ?_
      refine lv_aload_n hx hb dX0_as_30 rfl (lv_at hl 0 rfl) ?_
      refine lv_aload_n hx hb dX0_as_31 rfl (lv_at hl 0 rfl) ?_
      refine n_get (ci := 0) (C := RX0) (T := TX0) (N := 12) hx hb hts in_X0 hown hKv hN (0) sPic_0 rfl 3 (by decide) q131 (fun z h => h) (rfl) dX0_as_32 ?_
      refine lv_iload_n hx hb dX0_as_35 rfl (lv_at hl 1 rfl) ?_
      refine n_callF (As := [_]) (C := RJ2) (b := 2) SS hKo hK hKv (tJ2_get l G K hKo hK0 ad1 _ 2 3 mc_ np 10 (sPl ad1 np) hL hA (by decide) j hj (by omega)) (va_cwF 1 hts (lw_F q189 q192 q194 q60 q196) rfl rfl rfl (hKf (RJ2, ⟨"java/util/List", "get", "(I)Ljava/lang/Object;"⟩, ⟨"java/util/ArrayList", "get", "(I)Ljava/lang/Object;"⟩) (List.mem_of_getElem? (i := 1) rfl)) (by decide +kernel) ⟨Nat.le_of_ble_eq_true rfl, Nat.le_of_ble_eq_true rfl⟩) hN hS hL rfl rfl hl.1 rfl (Nat.le_of_ble_eq_true rfl) dX0_as_36 ⟨Nat.le_of_ble_eq_true rfl, Nat.le_of_ble_eq_true rfl⟩ (fun v ad' c' H locs hv hN hS => ?_)
      obtain ⟨rfl, rfl, rfl⟩ := hv
      refine W.eq (g2 := F0 m 41 ls (_ :: _)) rfl ?_
      refine n_topv (y := .ref (ad1 (20 + j))) (sPl_at hj) ?_
      refine n_castP hx hb hts hown q207 (hK0 s hK) hN (hP1.per hj) dX0_as_41 ?_
      refine lv_iload_n hx hb dX0_as_44 rfl (lv_at hl 2 rfl) ?_
      refine n_callI (As := [_, _, _]) SS hKo hK (tX12_init_X12 l G K hKo hK0 ad1 _ 40 .null .null (.int 0) .null ((sPic_x (by decide)).trans hx1) (ad1 0) (ad1 (20 + j)) (nI a)) (cwI 3 hts (lw_meth q1085) rfl rfl rfl (hts _ q89) (hts _ q1083) (hts _ q1084) rfl (by decide +kernel) ⟨Nat.le_of_ble_eq_true rfl, Nat.le_of_ble_eq_true rfl⟩) hN hS rfl hl.1 rfl (Nat.le_of_ble_eq_true rfl) dX0_as_45 ⟨Nat.le_of_ble_eq_true rfl, Nat.le_of_ble_eq_true rfl⟩ (fun v ad' c' H locs hv hN hS => ?_)
      obtain ⟨rfl, rfl, rfl⟩ := hv
      obtain ⟨x2, hN, hf2, hx2⟩ := fr_put (by decide) hfr hN
      have hP2 := hP.fr (ad1 := ad1) (x1 := x2) fun z _ _ => hf2 z (by omega)
      obtain ⟨kq, hkq, ekd, hXp⟩ := hP2.2.2 j hj
      refine W.eq (g2 := F0 m 48 ls _) rfl ?_
      rcases Nat.lt_or_ge kq a with hle | hle
      · have _u := hle
        refine n_callUW (C := RX12) (owner := "TowerTell$Act") (x := ⟨"TowerTell$Taking", "tried", "()I"⟩) (y := yX2_tried) (As := []) (b := 40) (n := 0) SS hKo hK hKv (sX2_tried_X12C l G K hKo hK0 hKx hfl ad1 x2 si sa rn (ad1 (20 + j)) (nI a) hx2 3 1910 (sX12_doneC l G K hKo hK0 hKx hfl ad1 (sPic G x2 ad1 (upd si 9 0) sa rn) j kq a (by omega) hkq (dr j) (kn j) ((sPic_x ⟨by omega, by omega, by omega, by omega⟩).trans hXp) ((sPic_x (by decide)).trans hx2) hle (by omega))) q1098 q1099 (hKw _ q693 rfl) q696 q1100 q62 q697 (by decide +kernel) rfl rfl ⟨Nat.le_of_ble_eq_true rfl, Nat.le_of_ble_eq_true rfl⟩ hN hS ((sPic_x (by decide)).trans hx2) rfl rfl hl.1 rfl (Nat.le_of_ble_eq_true rfl) dX0_as_48 ⟨Nat.le_of_ble_eq_true rfl, Nat.le_of_ble_eq_true rfl⟩ (fun v ad' c' H locs hv hN hS => ?_)
        obtain ⟨rfl, rfl, rfl⟩ := hv
        refine W.eq (g2 := F0 m 51 ls (_ :: _)) rfl ?_
        refine lv_goto (tgt := 60) hx hb dX0_as_51 (by decide) ?_
        refine W.widen (k := 4) (n := 1914) (by first | omega | decide) (by first | omega | decide) ?_
        exact W.iret hx hb hr (nEnd hN hS ⟨by unfold oAs; rw [if_pos h1, if_pos h2, tn, tj, ekd, if_pos (nI_lt hle (by omega))]; rfl, x2, hf2, by unfold oAs; rw [if_pos h1, if_pos h2, tn, tj, ekd, if_pos (nI_lt hle (by omega))]⟩) hS.2 dX0_as_60
      · have _u := hle
        refine n_callUW (C := RX12) (owner := "TowerTell$Act") (x := ⟨"TowerTell$Taking", "tried", "()I"⟩) (y := yX2_tried) (As := []) (b := 40) (n := 0) SS hKo hK hKv (sX2_tried_X12 l G K hKo hK0 hKx hfl ad1 x2 si sa rn (ad1 (20 + j)) (nI a) hx2 0 0 (fun rv ad' c' => rv = some (.int 1) ∧ ad1 = ad' ∧ sPic G x2 ad1 (upd si 9 0) sa rn = c') (fun v a c h => ⟨_, h.1⟩) (sX12_done l G K hKo hK0 ad1 (sPic G x2 ad1 (upd si 9 0) sa rn) j kq a (by omega) hkq (dr j) (kn j) ((sPic_x ⟨by omega, by omega, by omega, by omega⟩).trans hXp) ((sPic_x (by decide)).trans hx2) hle)) q1098 q1099 (hKw _ q693 rfl) q696 q1100 q62 q697 (by decide +kernel) rfl rfl ⟨Nat.le_of_ble_eq_true rfl, Nat.le_of_ble_eq_true rfl⟩ hN hS ((sPic_x (by decide)).trans hx2) rfl rfl hl.1 rfl (Nat.le_of_ble_eq_true rfl) dX0_as_48 ⟨Nat.le_of_ble_eq_true rfl, Nat.le_of_ble_eq_true rfl⟩ (fun v ad' c' H locs hv hN hS => ?_)
        obtain ⟨rfl, rfl, rfl⟩ := hv
        refine W.eq (g2 := F0 m 51 ls (_ :: _)) rfl ?_
        refine lv_goto (tgt := 60) hx hb dX0_as_51 (by decide) ?_
        refine W.widen (k := 4) (n := 1914) (by first | omega | decide) (by first | omega | decide) ?_
        exact W.iret hx hb hr (nEnd hN hS ⟨by unfold oAs; rw [if_pos h1, if_pos h2, tn, tj, ekd, if_neg (nI_nlt hle (by omega))], x2, hf2, by unfold oAs; rw [if_pos h1, if_pos h2, tn, tj, ekd, if_neg (nI_nlt hle (by omega))]⟩) hS.2 dX0_as_60
  · have h1 : sIn p_ np = false := by simpa using h1
    refine lv_aload_n hx hb dX0_as_0 rfl (lv_at hl 0 rfl) ?_
    refine lv_iload_n hx hb dX0_as_1 rfl (lv_at hl 1 rfl) ?_
    refine n_callV (C := RX0) (As := [_]) (b := 0) SS hKo hK hKv (sX0_noPerson l G K hKo hK0 ad x si sa rn _ np kd dr kn hP) (cwV 1 hts (lw_V q171 q173 qs0 q57 q174) rfl rfl rfl (by decide +kernel) ⟨Nat.le_of_ble_eq_true rfl, Nat.le_of_ble_eq_true rfl⟩) hN hS sPic_0 rfl rfl hl.1 rfl (Nat.le_of_ble_eq_true rfl) dX0_as_2 ⟨Nat.le_of_ble_eq_true rfl, Nat.le_of_ble_eq_true rfl⟩ (fun v ad' c' H locs hv hN hS => ?_)
    obtain ⟨rfl, rfl, rfl⟩ := hv
    refine W.eq (g2 := F0 m 5 ls (_ :: _)) rfl ?_
    refine n_top (y := 1) (by rw [h1]; rfl) ?_
    refine lv_if_eq (tgt := 14) hx hb dX0_as_5 (by decide) (fun c5 => absurd c5 (by decide)) (fun c5 => ?_)
    refine lv_aload_n hx hb dX0_as_8 rfl (lv_at hl 0 rfl) ?_
    refine lv_iconst (v := (-1)) hx hb dX0_as_9 (by decide) ?_
    refine n_callV (C := RX0) (As := [_]) (b := 0) SS hKo hK hKv (sX0_refused l G K hKo hK0 ad x si sa rn (-1)) (cwV 1 hts (lw_V q537 q539 qs14 q57 q540) rfl rfl rfl (by decide +kernel) ⟨Nat.le_of_ble_eq_true rfl, Nat.le_of_ble_eq_true rfl⟩) hN hS sPic_0 rfl rfl hl.1 rfl (Nat.le_of_ble_eq_true rfl) dX0_as_10 ⟨Nat.le_of_ble_eq_true rfl, Nat.le_of_ble_eq_true rfl⟩ (fun v ad' c' H locs hv hN hS => ?_)
    obtain ⟨rfl, rfl, rfl⟩ := hv
    refine W.eq (g2 := F0 m 13 ls (_ :: _)) rfl ?_
    refine W.widen (k := 4) (n := 1914) (by first | omega | decide) (by first | omega | decide) ?_
    exact W.iret hx hb hr (nEnd hN hS ⟨by unfold oAs; rw [h1]; rfl, x, fun _ _ => ⟨rfl, rfl⟩, by unfold oAs; rw [h1]; rfl⟩) hS.2 dX0_as_13
set_option maxHeartbeats 1000000 in
set_option maxRecDepth 100000 in
theorem sX0_lose (l : Launch) (G : nG) (K : State → Prop) (hKo : nKo G K) (hK0 : ∀ U, K U → sK0 G U) (ad : Nat → Nat) (x : nPic) (si : AI) (sa : Nat → AI) (rn : Value) (so sl ce : AI) (hSh : sShe G ad x so sl ce) (k_ : Int32) : Met l yX0_lose (ws_ yX0_lose cX0_lose 3 (some .int)) (sR 2 0 0) (nPc G nCl K ad (sPic G x ad si sa rn) [.ref (ad 0), .int k_]) (nQ G nCl (fun rv ad' c' => rv = some (.int (oLse so k_).1) ∧ ad = ad' ∧ ∃ x' : nPic, (∀ z, z ≠ 8 → x' z = x z) ∧ sShe G ad x' (oLse so k_).2 sl ce ∧ sPic G x' ad si sa rn = c')) 0 0 (fun q => G.2 ≤ q) := by
  refine nMet RX0 (by decide) rfl (Nat.le_of_ble_eq_true rfl) ?_
  intro p e s m below meth c ls SS hR hK hN hS hl
  obtain ⟨hx, hb, hml, hown, hts⟩ := id SS
  obtain ⟨hr, hlk, hnm⟩ := hR
  obtain ⟨hKv, hKw, hKf, hKz, hKm⟩ := hK0 s hK
  generalize s.heap = H at hN hS ⊢
  generalize ([] : List Loc) = locs at hS ⊢
  have hl : lv_has ls 3 [(0, .ref (ad 0)), (1, .int k_)] := hl
  refine lv_iload_n hx hb dX0_lose_0 rfl (lv_at hl 1 rfl) ?_
  refine n_callS (As := [_]) SS hKo hK (sX0_noSheet l G K hKo hK0 ad _ k_) (va_cwS 1 hts (lw_S q533 q534 q57 q535) rfl rfl rfl (by decide +kernel) ⟨Nat.le_of_ble_eq_true rfl, Nat.le_of_ble_eq_true rfl⟩) hN hS rfl hl.1 rfl (Nat.le_of_ble_eq_true rfl) dX0_lose_1 ⟨Nat.le_of_ble_eq_true rfl, Nat.le_of_ble_eq_true rfl⟩ (fun v ad' c' H locs hv hN hS => ?_)
  obtain ⟨rfl, rfl, rfl⟩ := hv
  refine W.eq (g2 := F0 m 4 ls (_ :: _)) rfl ?_
  refine lv_if_eq (tgt := 9) hx hb dX0_lose_4 (by decide) (fun c4 => ?_) (fun c4 => ?_)
  · have h1 := zI_ns c4
    obtain ⟨kk, hkk, rfl, tk⟩ := sBt_t 3 (by decide) h1
    have hk : kk < 4 := by omega
    refine lv_aload_n hx hb dX0_lose_9 rfl (lv_at hl 0 rfl) ?_
    refine n_get (ci := 0) (C := RX0) (T := TX0) (N := 12) hx hb hts in_X0 hown hKv hN (0) sPic_0 rfl 10 (by decide) q139 (fun z h => h) (rfl) dX0_lose_10 ?_
    refine lv_iload_n hx hb dX0_lose_13 rfl (lv_at hl 1 rfl) ?_
    by_cases h9 : so kk = -9
    · have _u := h9
      refine n_aald hx hb hKv hN (8) 4 ((sPic_x (by decide)).trans hSh.1) rfl (kk) (rfl) (by omega) (by decide) dX0_lose_14 ?_
      refine n_topv (y := .null) (by rw [if_pos (Or.inl h9)]; rfl) ?_
      refine lv_ifnonnullN hx hb dX0_lose_15 ?_
      refine lv_iconst (v := 0) hx hb dX0_lose_18 (by decide) ?_
      refine lv_goto (tgt := 23) hx hb dX0_lose_19 (by decide) ?_
      refine lv_istore_n (lv' := [(2, _), (0, _), (1, _)]) hx hb dX0_lose_23 rfl hl (by decide) rfl (fun ls hl => ?_)
      refine lv_aload_n hx hb dX0_lose_24 rfl (lv_at hl 1 rfl) ?_
      refine n_get (ci := 0) (C := RX0) (T := TX0) (N := 12) hx hb hts in_X0 hown hKv hN (0) sPic_0 rfl 10 (by decide) q139 (fun z h => h) (rfl) dX0_lose_25 ?_
      refine lv_iload_n hx hb dX0_lose_28 rfl (lv_at hl 2 rfl) ?_
      refine lv_null hx hb dX0_lose_29 ?_
      refine n_aastN hx hb hKv hN hS (8) 4 ((sPic_x (by decide)).trans hSh.1) rfl (kk) (rfl) (by omega) (by decide) dX0_lose_30 (fun H locs hN hS => ?_)
      have hN := hN.congr (sPic_up (by decide))
      refine lv_iload_n hx hb dX0_lose_31 rfl (lv_at hl 0 rfl) ?_
      exact W.iret hx hb hr (nEnd hN hS ⟨by unfold oLse; rw [if_pos h1, tk, if_pos h9], rfl, va_up x 8 _, fun z hz => va_up_ne _ _ hz, by unfold oLse; rw [if_pos h1, tk]; exact she_lose hSh hk (fun z hz => va_up_ne _ _ hz) (va_up_self _ _ _), rfl⟩) hS.2 dX0_lose_32
    · have _u := h9
      refine n_aald hx hb hKv hN (8) 4 ((sPic_x (by decide)).trans hSh.1) rfl (kk) (rfl) (by omega) (by decide) dX0_lose_14 ?_
      refine n_topv (y := .ref (ad (10 + kk))) (by rw [if_neg (fun z => z.elim h9 (by omega))]; rfl) ?_
      refine lv_ifnonnull (tgt := 22) hx hb dX0_lose_15 (by decide) ?_
      refine lv_iconst (v := 1) hx hb dX0_lose_22 (by decide) ?_
      refine lv_istore_n (lv' := [(2, _), (0, _), (1, _)]) hx hb dX0_lose_23 rfl hl (by decide) rfl (fun ls hl => ?_)
      refine lv_aload_n hx hb dX0_lose_24 rfl (lv_at hl 1 rfl) ?_
      refine n_get (ci := 0) (C := RX0) (T := TX0) (N := 12) hx hb hts in_X0 hown hKv hN (0) sPic_0 rfl 10 (by decide) q139 (fun z h => h) (rfl) dX0_lose_25 ?_
      refine lv_iload_n hx hb dX0_lose_28 rfl (lv_at hl 2 rfl) ?_
      refine lv_null hx hb dX0_lose_29 ?_
      refine n_aastN hx hb hKv hN hS (8) 4 ((sPic_x (by decide)).trans hSh.1) rfl (kk) (rfl) (by omega) (by decide) dX0_lose_30 (fun H locs hN hS => ?_)
      have hN := hN.congr (sPic_up (by decide))
      refine lv_iload_n hx hb dX0_lose_31 rfl (lv_at hl 0 rfl) ?_
      exact W.iret hx hb hr (nEnd hN hS ⟨by unfold oLse; rw [if_pos h1, tk, if_neg h9], rfl, va_up x 8 _, fun z hz => va_up_ne _ _ hz, by unfold oLse; rw [if_pos h1, tk]; exact she_lose hSh hk (fun z hz => va_up_ne _ _ hz) (va_up_self _ _ _), rfl⟩) hS.2 dX0_lose_32
  · have h1 := zI_s c4
    refine lv_iconst (v := (-1)) hx hb dX0_lose_7 (by decide) ?_
    exact W.iret hx hb hr (nEnd hN hS ⟨by unfold oLse; rw [h1]; rfl, rfl, x, fun _ _ => rfl, by unfold oLse; rw [h1]; exact hSh, rfl⟩) hS.2 dX0_lose_8
set_option maxHeartbeats 1000000 in
set_option maxRecDepth 100000 in
theorem sX0_cell (l : Launch) (G : nG) (K : State → Prop) (hKo : nKo G K) (hK0 : ∀ U, K U → sK0 G U) (hKx : ∀ U, K U → xK G U) (hfl : l.stackTraces = false) (ad : Nat → Nat) (x : nPic) (si : AI) (sa : Nat → AI) (rn : Value) (so sl ce : AI) (hSh : sShe G ad x so sl ce) (k_ i q_ : Int32) : Met l yX0_cell (wsW_ yX0_cell cX0_cell 5 (some .long) [(28, 39, 40, 248), (28, 39, 48, 263), (28, 39, 56, 250)]) (sR 3 3 1910) (nPc G nCl K ad (sPic G x ad si sa rn) [.ref (ad 0), .int k_, .int i, .int q_]) (nQ G nCl (fun rv ad' c' => rv = some (.long (oCel so sl ce k_ i q_).1) ∧ ad = ad' ∧ sPic G x ad (upd si 9 (oCel so sl ce k_ i q_).2) sa rn = c')) 3 1910 (fun q => G.2 ≤ q) := by
  refine nMetW RX0 (by decide) rfl (Nat.le_of_ble_eq_true rfl) ?_
  intro p e s m below meth c ls SS hR hxh hadm hK hN hS hl
  obtain ⟨hx, hb, hml, hown, hts⟩ := id SS
  obtain ⟨hr, hlk, hnm⟩ := hR
  have hX := hKx s hK
  obtain ⟨hKv, hKw, hKf, hKz, hKm⟩ := hK0 s hK
  generalize s.heap = H at hN hS ⊢
  generalize ([] : List Loc) = locs at hS ⊢
  have hl : lv_has ls 5 [(0, .ref (ad 0)), (1, .int k_), (2, .int i), (3, .int q_)] := hl
  refine lv_aload_n hx hb dX0_cell_0 rfl (lv_at hl 0 rfl) ?_
  refine lv_iconst (v := 0) hx hb dX0_cell_1 (by decide) ?_
  refine n_put (ci := 0) (C := RX0) (T := TX0) (N := 12) hx hb hts in_X0 tyX0 tyX0_ok (va_apart (own := RX0) hts in_X0 tyX0 tyX0_ok nmX0 hKv rfl) hown hKv hN hS (0) sPic_0 rfl 9 (by decide) q138 (fun z h => h) rfl rfl rfl (Nat.le_of_ble_eq_true rfl) dX0_cell_2 (fun H locs hN hS => ?_)
  have hN := hN.congr (sPic_put rfl)
  refine lv_iload_n hx hb dX0_cell_5 rfl (lv_at hl 1 rfl) ?_
  refine n_callS (As := [_]) SS hKo hK (sX0_noSheet l G K hKo hK0 ad _ k_) (va_cwS 1 hts (lw_S q533 q534 q57 q535) rfl rfl rfl (by decide +kernel) ⟨Nat.le_of_ble_eq_true rfl, Nat.le_of_ble_eq_true rfl⟩) hN hS rfl hl.1 rfl (Nat.le_of_ble_eq_true rfl) dX0_cell_6 ⟨Nat.le_of_ble_eq_true rfl, Nat.le_of_ble_eq_true rfl⟩ (fun v ad' c' H locs hv hN hS => ?_)
  obtain ⟨rfl, rfl, rfl⟩ := hv
  refine W.eq (g2 := F0 m 9 ls (_ :: _)) rfl ?_
  refine lv_if_ne (tgt := 24) hx hb dX0_cell_9 (by decide) (fun c9 => ?_) (fun c9 => ?_)
  · have h1 := zI_s c9
    have hn : ¬ (sBt k_ 0 3 = true ∧ sBt q_ 0 2 = true) := fun z => by rw [h1] at z; cases z.1
    refine lv_ldc2 hx hb hown (hts _ q438) dX0_cell_24 ?_
    refine W.widen (k := 3) (n := 1910) (by first | omega | decide) (by first | omega | decide) ?_
    exact W.lret hx hb hr (nEnd hN hS ⟨by unfold oCel; rw [if_neg hn]; rfl, rfl, by unfold oCel; rw [if_neg hn]⟩) hS.2 dX0_cell_27
  · have h1 := zI_ns c9
    refine lv_iload_n hx hb dX0_cell_12 rfl (lv_at hl 3 rfl) ?_
    refine lv_i2l hx hb dX0_cell_13 rfl ?_
    refine lv_lconst (v := 0) hx hb dX0_cell_14 (by decide) ?_
    refine lv_ldc2 hx hb hown (hts _ q541) dX0_cell_15 ?_
    refine n_callS (As := [_, _, _]) SS hKo hK (sX0_in l G K hKo hK0 ad _ q_ 0 2) (va_cwS 3 hts (lw_S q185 q186 q57 q187) rfl rfl rfl (by decide +kernel) ⟨Nat.le_of_ble_eq_true rfl, Nat.le_of_ble_eq_true rfl⟩) hN hS rfl hl.1 rfl (Nat.le_of_ble_eq_true rfl) dX0_cell_18 ⟨Nat.le_of_ble_eq_true rfl, Nat.le_of_ble_eq_true rfl⟩ (fun v ad' c' H locs hv hN hS => ?_)
    obtain ⟨rfl, rfl, rfl⟩ := hv
    refine W.eq (g2 := F0 m 21 ls (_ :: _)) rfl ?_
    refine lv_if_ne (tgt := 28) hx hb dX0_cell_21 (by decide) (fun c21 => ?_) (fun c21 => ?_)
    · have h2 := zI_n0 c21
      obtain ⟨kk, hkk, rfl, tk⟩ := sBt_t 3 (by decide) h1
      obtain ⟨qq, hqq, rfl, tq⟩ := sBt_t 2 (by decide) h2
      have hk : kk < 4 := by omega
      have hq : qq < 3 := by omega
      rcases cel_case hSh hk hq i with ⟨h9, hA⟩ | ⟨q2, L, f, hq2, hne, h9, hE, hA⟩ | ⟨L, f, hL, h9, hE, ⟨hno, hA⟩ | ⟨ii, hii, rfl, hA⟩⟩
      · have hA := hA h1 tk
        refine lv_aload_n hx hb dX0_cell_28 rfl (lv_at hl 0 rfl) ?_
        refine lv_iload_n hx hb dX0_cell_29 rfl (lv_at hl 1 rfl) ?_
        refine n_callVh (C := RX0) (As := [_]) (b := 0) SS hKo hK hKv (sX0_rowIn l G K hKo hK0 ad x (upd si 9 0) sa rn so sl ce hSh kk hk) (cwV 1 hts (lw_V q636 q638 qs16 q57 q639) rfl rfl rfl (by decide +kernel) ⟨Nat.le_of_ble_eq_true rfl, Nat.le_of_ble_eq_true rfl⟩) hN hS sPic_0 rfl rfl hl.1 rfl (Nat.le_of_ble_eq_true rfl) dX0_cell_30 ⟨Nat.le_of_ble_eq_true rfl, Nat.le_of_ble_eq_true rfl⟩ ?_
        refine n_topv (y := .null) (if_pos h9) ?_
        refine lv_iload_n hx hb dX0_cell_33 rfl (lv_at hl 3 rfl) ?_
        refine lv_iload_n hx hb dX0_cell_34 rfl (lv_at hl 2 rfl) ?_
        refine n_callST (As := [_, _, _]) SS hKo hK (sX0_cellOfN l G K hKo hK0 hKx hfl ad _ qq hq i) (va_cwS 3 hts (lw_S q640 q641 q57 q642) rfl rfl rfl (by decide +kernel) ⟨Nat.le_of_ble_eq_true rfl, Nat.le_of_ble_eq_true rfl⟩) hN hS rfl hl.1 rfl (Nat.le_of_ble_eq_true rfl) dX0_cell_35 ⟨Nat.le_of_ble_eq_true rfl, Nat.le_of_ble_eq_true rfl⟩ (fun a_ cell_ H locs hA1 hA2 hA3 hN hS => ?_)
        refine WT.catch (own := "TowerTell") (pre := []) (post := [(28, 39, 48, 263), (28, 39, 56, 250)]) (s0 := 28) (e0 := 39) (h0 := 40) (t0 := 248) (nmT := "java/lang/NullPointerException") hown hxh (List.forall_mem_nil _) ⟨by decide, by decide⟩ (by decide) (hts _ q568) (hKw _ q590 rfl) hA1 hA2 hA3 ?_
        refine lv_astore (lv' := [(4, _), (0, _), (1, _), (2, _), (3, _)]) hx hb dX0_cell_40 hl (by decide) rfl (fun ls hl => ?_)
        refine lv_aload_n hx hb dX0_cell_42 rfl (lv_at hl 1 rfl) ?_
        refine lv_iconst (v := 1) hx hb dX0_cell_43 (by decide) ?_
        refine n_callV (C := RX0) (As := [_]) (b := 0) SS hKo hK hKv (sX0_failsLong l G K hKo hK0 ad x (upd si 9 0) sa rn 1) (cwV 1 hts (lw_V q643 q645 qs17 q57 q646) rfl rfl rfl (by decide +kernel) ⟨Nat.le_of_ble_eq_true rfl, Nat.le_of_ble_eq_true rfl⟩) hN hS sPic_0 rfl rfl hl.1 rfl (Nat.le_of_ble_eq_true rfl) dX0_cell_44 ⟨Nat.le_of_ble_eq_true rfl, Nat.le_of_ble_eq_true rfl⟩ (fun v ad' c' H locs hv hN hS => ?_)
        obtain ⟨rfl, rfl, rfl⟩ := hv
        refine W.eq (g2 := F0 m 47 ls (_ :: _)) rfl ?_
        refine W.widen (k := 3) (n := 1910) (by first | omega | decide) (by first | omega | decide) ?_
        exact W.lret hx hb hr (nEnd hN hS ⟨by rw [hA], rfl, by rw [hA, upd_upd]⟩) hS.2 dX0_cell_47
      · have hA := hA h1 tk
        refine lv_aload_n hx hb dX0_cell_28 rfl (lv_at hl 0 rfl) ?_
        refine lv_iload_n hx hb dX0_cell_29 rfl (lv_at hl 1 rfl) ?_
        refine n_callVh (C := RX0) (As := [_]) (b := 0) SS hKo hK hKv (sX0_rowIn l G K hKo hK0 ad x (upd si 9 0) sa rn so sl ce hSh kk hk) (cwV 1 hts (lw_V q636 q638 qs16 q57 q639) rfl rfl rfl (by decide +kernel) ⟨Nat.le_of_ble_eq_true rfl, Nat.le_of_ble_eq_true rfl⟩) hN hS sPic_0 rfl rfl hl.1 rfl (Nat.le_of_ble_eq_true rfl) dX0_cell_30 ⟨Nat.le_of_ble_eq_true rfl, Nat.le_of_ble_eq_true rfl⟩ ?_
        refine n_topv (y := .ref (ad (14 + kk))) (if_neg h9) ?_
        refine lv_iload_n hx hb dX0_cell_33 rfl (lv_at hl 3 rfl) ?_
        refine lv_iload_n hx hb dX0_cell_34 rfl (lv_at hl 2 rfl) ?_
        refine n_callST (As := [_, _, _]) SS hKo hK (sX0_cellOfC l G K hKo hK0 hKx hfl ad _ (14 + kk) qq q2 L f hq hq2 hne ((sPic_x ⟨by omega, by omega, by omega, by omega⟩).trans hE) i) (va_cwS 3 hts (lw_S q640 q641 q57 q642) rfl rfl rfl (by decide +kernel) ⟨Nat.le_of_ble_eq_true rfl, Nat.le_of_ble_eq_true rfl⟩) hN hS rfl hl.1 rfl (Nat.le_of_ble_eq_true rfl) dX0_cell_35 ⟨Nat.le_of_ble_eq_true rfl, Nat.le_of_ble_eq_true rfl⟩ (fun a_ cell_ H locs hA1 hA2 hA3 hN hS => ?_)
        refine WT.catch (own := "TowerTell") (pre := [(28, 39, 40, 248)]) (post := [(28, 39, 56, 250)]) (s0 := 28) (e0 := 39) (h0 := 48) (t0 := 263) (nmT := "java/lang/ClassCastException") hown hxh (List.forall_mem_cons.mpr ⟨⟨by decide, "java/lang/NullPointerException", hts _ q568, hX.2.2.2.1 ("java/lang/ClassCastException", "java/lang/NullPointerException") (List.mem_of_getElem? (i := 9) rfl)⟩, List.forall_mem_nil _⟩) ⟨by decide, by decide⟩ (by decide) (hts _ q622) (hKw _ q634 rfl) hA1 hA2 hA3 ?_
        refine lv_astore (lv' := [(4, _), (0, _), (1, _), (2, _), (3, _)]) hx hb dX0_cell_48 hl (by decide) rfl (fun ls hl => ?_)
        refine lv_aload_n hx hb dX0_cell_50 rfl (lv_at hl 1 rfl) ?_
        refine lv_iconst (v := 2) hx hb dX0_cell_51 (by decide) ?_
        refine n_callV (C := RX0) (As := [_]) (b := 0) SS hKo hK hKv (sX0_failsLong l G K hKo hK0 ad x (upd si 9 0) sa rn 2) (cwV 1 hts (lw_V q643 q645 qs17 q57 q646) rfl rfl rfl (by decide +kernel) ⟨Nat.le_of_ble_eq_true rfl, Nat.le_of_ble_eq_true rfl⟩) hN hS sPic_0 rfl rfl hl.1 rfl (Nat.le_of_ble_eq_true rfl) dX0_cell_52 ⟨Nat.le_of_ble_eq_true rfl, Nat.le_of_ble_eq_true rfl⟩ (fun v ad' c' H locs hv hN hS => ?_)
        obtain ⟨rfl, rfl, rfl⟩ := hv
        refine W.eq (g2 := F0 m 55 ls (_ :: _)) rfl ?_
        refine W.widen (k := 3) (n := 1910) (by first | omega | decide) (by first | omega | decide) ?_
        exact W.lret hx hb hr (nEnd hN hS ⟨by rw [hA], rfl, by rw [hA, upd_upd]⟩) hS.2 dX0_cell_55
      · have hA := hA h1 tk
        refine lv_aload_n hx hb dX0_cell_28 rfl (lv_at hl 0 rfl) ?_
        refine lv_iload_n hx hb dX0_cell_29 rfl (lv_at hl 1 rfl) ?_
        refine n_callVh (C := RX0) (As := [_]) (b := 0) SS hKo hK hKv (sX0_rowIn l G K hKo hK0 ad x (upd si 9 0) sa rn so sl ce hSh kk hk) (cwV 1 hts (lw_V q636 q638 qs16 q57 q639) rfl rfl rfl (by decide +kernel) ⟨Nat.le_of_ble_eq_true rfl, Nat.le_of_ble_eq_true rfl⟩) hN hS sPic_0 rfl rfl hl.1 rfl (Nat.le_of_ble_eq_true rfl) dX0_cell_30 ⟨Nat.le_of_ble_eq_true rfl, Nat.le_of_ble_eq_true rfl⟩ ?_
        refine n_topv (y := .ref (ad (14 + kk))) (if_neg h9) ?_
        refine lv_iload_n hx hb dX0_cell_33 rfl (lv_at hl 3 rfl) ?_
        refine lv_iload_n hx hb dX0_cell_34 rfl (lv_at hl 2 rfl) ?_
        refine n_callST (As := [_, _, _]) SS hKo hK (sX0_cellOfX l G K hKo hK0 hKx hfl ad _ (14 + kk) qq L f hq hL ((sPic_x ⟨by omega, by omega, by omega, by omega⟩).trans hE) i hno) (va_cwS 3 hts (lw_S q640 q641 q57 q642) rfl rfl rfl (by decide +kernel) ⟨Nat.le_of_ble_eq_true rfl, Nat.le_of_ble_eq_true rfl⟩) hN hS rfl hl.1 rfl (Nat.le_of_ble_eq_true rfl) dX0_cell_35 ⟨Nat.le_of_ble_eq_true rfl, Nat.le_of_ble_eq_true rfl⟩ (fun a_ cell_ H locs hA1 hA2 hA3 hN hS => ?_)
        refine WT.catch (own := "TowerTell") (pre := [(28, 39, 40, 248), (28, 39, 48, 263)]) (post := []) (s0 := 28) (e0 := 39) (h0 := 56) (t0 := 250) (nmT := "java/lang/IndexOutOfBoundsException") hown hxh (List.forall_mem_cons.mpr ⟨⟨by decide, "java/lang/NullPointerException", hts _ q568, hX.2.2.2.1 ("java/lang/ArrayIndexOutOfBoundsException", "java/lang/NullPointerException") (List.mem_of_getElem? (i := 10) rfl)⟩, List.forall_mem_cons.mpr ⟨⟨by decide, "java/lang/ClassCastException", hts _ q622, hX.2.2.2.1 ("java/lang/ArrayIndexOutOfBoundsException", "java/lang/ClassCastException") (List.mem_of_getElem? (i := 11) rfl)⟩, List.forall_mem_nil _⟩⟩) ⟨by decide, by decide⟩ (by decide) (hts _ q593) (hKw _ q1435 rfl) hA1 hA2 hA3 ?_
        refine lv_astore (lv' := [(4, _), (0, _), (1, _), (2, _), (3, _)]) hx hb dX0_cell_56 hl (by decide) rfl (fun ls hl => ?_)
        refine lv_aload_n hx hb dX0_cell_58 rfl (lv_at hl 1 rfl) ?_
        refine lv_iconst (v := 3) hx hb dX0_cell_59 (by decide) ?_
        refine n_callV (C := RX0) (As := [_]) (b := 0) SS hKo hK hKv (sX0_failsLong l G K hKo hK0 ad x (upd si 9 0) sa rn 3) (cwV 1 hts (lw_V q643 q645 qs17 q57 q646) rfl rfl rfl (by decide +kernel) ⟨Nat.le_of_ble_eq_true rfl, Nat.le_of_ble_eq_true rfl⟩) hN hS sPic_0 rfl rfl hl.1 rfl (Nat.le_of_ble_eq_true rfl) dX0_cell_60 ⟨Nat.le_of_ble_eq_true rfl, Nat.le_of_ble_eq_true rfl⟩ (fun v ad' c' H locs hv hN hS => ?_)
        obtain ⟨rfl, rfl, rfl⟩ := hv
        refine W.eq (g2 := F0 m 63 ls (_ :: _)) rfl ?_
        refine W.widen (k := 3) (n := 1910) (by first | omega | decide) (by first | omega | decide) ?_
        exact W.lret hx hb hr (nEnd hN hS ⟨by rw [hA], rfl, by rw [hA, upd_upd]⟩) hS.2 dX0_cell_63
      · have hA := hA h1 tk
        refine lv_aload_n hx hb dX0_cell_28 rfl (lv_at hl 0 rfl) ?_
        refine lv_iload_n hx hb dX0_cell_29 rfl (lv_at hl 1 rfl) ?_
        refine n_callVh (C := RX0) (As := [_]) (b := 0) SS hKo hK hKv (sX0_rowIn l G K hKo hK0 ad x (upd si 9 0) sa rn so sl ce hSh kk hk) (cwV 1 hts (lw_V q636 q638 qs16 q57 q639) rfl rfl rfl (by decide +kernel) ⟨Nat.le_of_ble_eq_true rfl, Nat.le_of_ble_eq_true rfl⟩) hN hS sPic_0 rfl rfl hl.1 rfl (Nat.le_of_ble_eq_true rfl) dX0_cell_30 ⟨Nat.le_of_ble_eq_true rfl, Nat.le_of_ble_eq_true rfl⟩ ?_
        refine n_topv (y := .ref (ad (14 + kk))) (if_neg h9) ?_
        refine lv_iload_n hx hb dX0_cell_33 rfl (lv_at hl 3 rfl) ?_
        refine lv_iload_n hx hb dX0_cell_34 rfl (lv_at hl 2 rfl) ?_
        refine n_callSh (As := [_, _, _]) SS hKo hK (sX0_cellOf l G K hKo hK0 ad _ (14 + kk) qq L f hq hL ((sPic_x ⟨by omega, by omega, by omega, by omega⟩).trans hE) ii hii) (va_cwS 3 hts (lw_S q640 q641 q57 q642) rfl rfl rfl (by decide +kernel) ⟨Nat.le_of_ble_eq_true rfl, Nat.le_of_ble_eq_true rfl⟩) hN hS rfl hl.1 rfl (Nat.le_of_ble_eq_true rfl) dX0_cell_35 ⟨Nat.le_of_ble_eq_true rfl, Nat.le_of_ble_eq_true rfl⟩ ?_
        refine lv_i2l hx hb dX0_cell_38 rfl ?_
        refine W.widen (k := 3) (n := 1910) (by first | omega | decide) (by first | omega | decide) ?_
        exact W.lret hx hb hr (nEnd hN hS ⟨by rw [hA], rfl, by rw [hA]⟩) hS.2 dX0_cell_39
    · have h2 := zI_0.mp c21
      have hn : ¬ (sBt k_ 0 3 = true ∧ sBt q_ 0 2 = true) := fun z => by rw [h2] at z; cases z.2
      refine lv_ldc2 hx hb hown (hts _ q438) dX0_cell_24 ?_
      refine W.widen (k := 3) (n := 1910) (by first | omega | decide) (by first | omega | decide) ?_
      exact W.lret hx hb hr (nEnd hN hS ⟨by unfold oCel; rw [if_neg hn]; rfl, rfl, by unfold oCel; rw [if_neg hn]⟩) hS.2 dX0_cell_27
set_option maxHeartbeats 1000000 in
set_option maxRecDepth 100000 in
theorem sX0_sheet (l : Launch) (G : nG) (K : State → Prop) (hKo : nKo G K) (hK0 : ∀ U, K U → sK0 G U) (hKx : ∀ U, K U → xK G U) (hfl : l.stackTraces = false) (ad : Nat → Nat) (x : nPic) (si : AI) (sa : Nat → AI) (rn : Value) (so sl ce : AI) (hSh : sShe G ad x so sl ce) (k_ q_ n_ : Int32) (hx8 : ∀ z, 80 ≤ z → x z = none) : Met l yX0_sheet (wsW_ yX0_sheet cX0_sheet 5 (some .int) [(43, 62, 63, 239)]) (sR 3 4 1911) (nPc G nCl K ad (sPic G x ad si sa rn) [.ref (ad 0), .int k_, .int q_, .int n_]) (nQ G nCl (fun rv ad' c' => rv = some (.int (oSht so sl ce k_ q_ n_).1) ∧ ∃ x' : nPic, (∀ z, (z < 10 ∨ 18 ≤ z) → ad' z = ad z) ∧ (∀ z, z ≠ 8 → (z < 10 ∨ 18 ≤ z) → x' z = x z) ∧ sShe G ad' x' (oSht so sl ce k_ q_ n_).2.2.1 (oSht so sl ce k_ q_ n_).2.2.2.1 (oSht so sl ce k_ q_ n_).2.2.2.2 ∧ sPic G x' ad' (upd si 9 (oSht so sl ce k_ q_ n_).2.1) sa rn = c')) 4 1911 (fun q => G.2 ≤ q) := by
  refine nMetW RX0 (by decide) rfl (Nat.le_of_ble_eq_true rfl) ?_
  intro p e s m below meth c ls SS hR hxh hadm hK hN hS hl
  obtain ⟨hx, hb, hml, hown, hts⟩ := id SS
  obtain ⟨hr, hlk, hnm⟩ := hR
  have hX := hKx s hK
  obtain ⟨hKv, hKw, hKf, hKz, hKm⟩ := hK0 s hK
  generalize s.heap = H at hN hS ⊢
  generalize ([] : List Loc) = locs at hS ⊢
  have hl : lv_has ls 5 [(0, .ref (ad 0)), (1, .int k_), (2, .int q_), (3, .int n_)] := hl
  refine lv_iload_n hx hb dX0_sheet_0 rfl (lv_at hl 1 rfl) ?_
  refine n_callS (As := [_]) SS hKo hK (sX0_noSheet l G K hKo hK0 ad _ k_) (va_cwS 1 hts (lw_S q533 q534 q57 q535) rfl rfl rfl (by decide +kernel) ⟨Nat.le_of_ble_eq_true rfl, Nat.le_of_ble_eq_true rfl⟩) hN hS rfl hl.1 rfl (Nat.le_of_ble_eq_true rfl) dX0_sheet_1 ⟨Nat.le_of_ble_eq_true rfl, Nat.le_of_ble_eq_true rfl⟩ (fun v ad' c' H locs hv hN hS => ?_)
  obtain ⟨rfl, rfl, rfl⟩ := hv
  refine W.eq (g2 := F0 m 4 ls (_ :: _)) rfl ?_
  refine lv_if_eq (tgt := 13) hx hb dX0_sheet_4 (by decide) (fun c4 => ?_) (fun c4 => ?_)
  · have h1 := zI_ns c4
    refine lv_iload_n hx hb dX0_sheet_13 rfl (lv_at hl 2 rfl) ?_
    refine lv_i2l hx hb dX0_sheet_14 rfl ?_
    refine lv_lconst (v := 0) hx hb dX0_sheet_15 (by decide) ?_
    refine lv_ldc2 hx hb hown (hts _ q541) dX0_sheet_16 ?_
    refine n_callS (As := [_, _, _]) SS hKo hK (sX0_in l G K hKo hK0 ad _ q_ 0 2) (va_cwS 3 hts (lw_S q185 q186 q57 q187) rfl rfl rfl (by decide +kernel) ⟨Nat.le_of_ble_eq_true rfl, Nat.le_of_ble_eq_true rfl⟩) hN hS rfl hl.1 rfl (Nat.le_of_ble_eq_true rfl) dX0_sheet_19 ⟨Nat.le_of_ble_eq_true rfl, Nat.le_of_ble_eq_true rfl⟩ (fun v ad' c' H locs hv hN hS => ?_)
    obtain ⟨rfl, rfl, rfl⟩ := hv
    refine W.eq (g2 := F0 m 22 ls (_ :: _)) rfl ?_
    refine lv_if_eq (tgt := 31) hx hb dX0_sheet_22 (by decide) (fun c22 => ?_) (fun c22 => ?_)
    · have h2 := zI_0.mp c22
      have hno : ¬ (sBt q_ 0 2 = true ∧ ¬ 60 < n_) := fun z => by rw [h2] at z; cases z.1
      refine lv_aload_n hx hb dX0_sheet_31 rfl (lv_at hl 0 rfl) ?_
      refine lv_bipush (v := (-2)) hx hb dX0_sheet_32 (by decide) ?_
      refine n_callV (C := RX0) (As := [_]) (b := 0) SS hKo hK hKv (sX0_refused l G K hKo hK0 ad x si sa rn (-2)) (cwV 1 hts (lw_V q537 q539 qs14 q57 q540) rfl rfl rfl (by decide +kernel) ⟨Nat.le_of_ble_eq_true rfl, Nat.le_of_ble_eq_true rfl⟩) hN hS sPic_0 rfl rfl hl.1 rfl (Nat.le_of_ble_eq_true rfl) dX0_sheet_34 ⟨Nat.le_of_ble_eq_true rfl, Nat.le_of_ble_eq_true rfl⟩ (fun v ad' c' H locs hv hN hS => ?_)
      obtain ⟨rfl, rfl, rfl⟩ := hv
      refine W.eq (g2 := F0 m 37 ls (_ :: _)) rfl ?_
      refine W.widen (k := 4) (n := 1911) (by first | omega | decide) (by first | omega | decide) ?_
      exact W.iret hx hb hr (nEnd hN hS ⟨by unfold oSht; rw [if_pos h1, if_neg hno], x, fun _ _ => rfl, fun _ _ _ => rfl, by unfold oSht; rw [if_pos h1, if_neg hno]; exact hSh, by unfold oSht; rw [if_pos h1, if_neg hno]⟩) hS.2 dX0_sheet_37
    · have h2 := zI_n0 c22
      refine lv_iload_n hx hb dX0_sheet_25 rfl (lv_at hl 3 rfl) ?_
      refine lv_bipush (v := 60) hx hb dX0_sheet_26 (by decide) ?_
      refine lv_icmp_le (tgt := 38) hx hb dX0_sheet_28 (by decide) (fun c28 => ?_) (fun c28 => ?_)
      · have h6 : ¬ 60 < n_ := Int32.not_lt.mpr c28
        refine lv_aload_n hx hb dX0_sheet_38 rfl (lv_at hl 0 rfl) ?_
        refine lv_iconst (v := 0) hx hb dX0_sheet_39 (by decide) ?_
        refine n_put (ci := 0) (C := RX0) (T := TX0) (N := 12) hx hb hts in_X0 tyX0 tyX0_ok (va_apart (own := RX0) hts in_X0 tyX0 tyX0_ok nmX0 hKv rfl) hown hKv hN hS (0) sPic_0 rfl 9 (by decide) q138 (fun z h => h) rfl rfl rfl (Nat.le_of_ble_eq_true rfl) dX0_sheet_40 (fun H locs hN hS => ?_)
        have hN := hN.congr (sPic_put rfl)
        obtain ⟨kk, hkk, rfl, tk⟩ := sBt_t 3 (by decide) h1
        obtain ⟨qq, hqq, rfl, tq⟩ := sBt_t 2 (by decide) h2
        have hk : kk < 4 := by omega
        have hq : qq < 3 := by omega
        by_cases hn : n_ < 0
        · have _u := hn
          refine lv_aload_n hx hb dX0_sheet_43 rfl (lv_at hl 0 rfl) ?_
          refine n_get (ci := 0) (C := RX0) (T := TX0) (N := 12) hx hb hts in_X0 hown hKv hN (0) sPic_0 rfl 10 (by decide) q139 (fun z h => h) (rfl) dX0_sheet_44 ?_
          refine lv_iload_n hx hb dX0_sheet_47 rfl (lv_at hl 1 rfl) ?_
          refine n_new (C := RX10) (T := TX10) (N := 1) (ci := 6) (fs := [.null]) hx hb hts in_X10 tyX10 tyX10_ok hown q125 q542 q87 hKv hN hS (81) rfl (by intro j hj; rcases (show j = 0 by omega) with rfl <;> rfl) (Nat.le_of_ble_eq_true rfl) (Nat.le_of_ble_eq_true rfl) dX0_sheet_48 (fun q48 H hN hS => ?_)
          refine lv_dup hx hb dX0_sheet_51 rfl ?_
          refine lv_iload_n hx hb dX0_sheet_52 rfl (lv_at hl 2 rfl) ?_
          refine lv_iload_n hx hb dX0_sheet_53 rfl (lv_at hl 3 rfl) ?_
          refine n_callST (As := [_, _]) SS hKo hK (sX0_rowOfS l G K hKo hK0 hKx hfl _ _ qq hq n_ hn) (va_cwS 2 hts (lw_S q543 q544 q57 q545) rfl rfl rfl (by decide +kernel) ⟨Nat.le_of_ble_eq_true rfl, Nat.le_of_ble_eq_true rfl⟩) hN hS rfl hl.1 rfl (Nat.le_of_ble_eq_true rfl) dX0_sheet_54 ⟨Nat.le_of_ble_eq_true rfl, Nat.le_of_ble_eq_true rfl⟩ (fun a_ cell_ H locs hA1 hA2 hA3 hN hS => ?_)
          refine WT.catch (own := "TowerTell") (pre := []) (post := []) (s0 := 43) (e0 := 62) (h0 := 63) (t0 := 239) (nmT := "java/lang/NegativeArraySizeException") hown hxh (List.forall_mem_nil _) ⟨by decide, by decide⟩ (by decide) (hts _ q446) (hKw _ q510 rfl) hA1 hA2 hA3 ?_
          have hN : nOk G nCl ad (sPic G x ad (upd si 9 0) sa rn) H := x_drop ((sPic_x (by decide)).trans (hx8 81 (by decide))) hN
          refine lv_astore (lv' := [(4, _), (0, _), (1, _), (2, _), (3, _)]) hx hb dX0_sheet_63 hl (by decide) rfl (fun ls hl => ?_)
          refine lv_aload_n hx hb dX0_sheet_65 rfl (lv_at hl 1 rfl) ?_
          refine lv_iconst (v := 4) hx hb dX0_sheet_66 (by decide) ?_
          refine n_callV (C := RX0) (As := [_]) (b := 0) SS hKo hK hKv (sX0_fails l G K hKo hK0 ad x (upd si 9 0) sa rn 4) (cwV 1 hts (lw_V q556 q558 qs15 q57 q559) rfl rfl rfl (by decide +kernel) ⟨Nat.le_of_ble_eq_true rfl, Nat.le_of_ble_eq_true rfl⟩) hN hS sPic_0 rfl rfl hl.1 rfl (Nat.le_of_ble_eq_true rfl) dX0_sheet_67 ⟨Nat.le_of_ble_eq_true rfl, Nat.le_of_ble_eq_true rfl⟩ (fun v ad' c' H locs hv hN hS => ?_)
          obtain ⟨rfl, rfl, rfl⟩ := hv
          refine W.eq (g2 := F0 m 70 ls (_ :: _)) rfl ?_
          refine W.widen (k := 4) (n := 1911) (by first | omega | decide) (by first | omega | decide) ?_
          exact W.iret hx hb hr (nEnd hN hS ⟨by unfold oSht; rw [if_pos h1, if_pos ⟨h2, h6⟩, if_pos hn]; rfl, x, fun _ _ => rfl, fun _ _ _ => rfl, by unfold oSht; rw [if_pos h1, if_pos ⟨h2, h6⟩, if_pos hn]; exact hSh, by unfold oSht; rw [if_pos h1, if_pos ⟨h2, h6⟩, if_pos hn, upd_upd]⟩) hS.2 dX0_sheet_70
        · obtain ⟨L, hL, rfl⟩ := nI_of hn
          have hL : L ≤ 60 := by have := mt (nI_ltI (a := 60) (b := L) (by decide) hL).mpr h6; omega
          refine lv_aload_n hx hb dX0_sheet_43 rfl (lv_at hl 0 rfl) ?_
          refine n_get (ci := 0) (C := RX0) (T := TX0) (N := 12) hx hb hts in_X0 hown hKv hN (0) sPic_0 rfl 10 (by decide) q139 (fun z h => h) (rfl) dX0_sheet_44 ?_
          refine lv_iload_n hx hb dX0_sheet_47 rfl (lv_at hl 1 rfl) ?_
          refine n_new (C := RX10) (T := TX10) (N := 1) (ci := 6) (fs := [.null]) hx hb hts in_X10 tyX10 tyX10_ok hown q125 q542 q87 hKv hN hS (10 + kk) rfl (by intro j hj; rcases (show j = 0 by omega) with rfl <;> rfl) (Nat.le_of_ble_eq_true rfl) (Nat.le_of_ble_eq_true rfl) dX0_sheet_48 (fun q48 H hN hS => ?_)
          obtain ⟨ad1, x1, hN, hfr, hp1, hx1⟩ := fr_newg ⟨by omega, by omega, by omega, by omega, by omega, by omega, by omega⟩ hN
          refine lv_dup hx hb dX0_sheet_51 rfl ?_
          refine lv_iload_n hx hb dX0_sheet_52 rfl (lv_at hl 2 rfl) ?_
          refine lv_iload_n hx hb dX0_sheet_53 rfl (lv_at hl 3 rfl) ?_
          refine n_callS (As := [_, _]) SS hKo hK (sX0_rowOf l G K hKo hK0 ad1 _ qq L (14 + kk) hq (by omega)) (va_cwS 2 hts (lw_S q543 q544 q57 q545) rfl rfl rfl (by decide +kernel) ⟨Nat.le_of_ble_eq_true rfl, Nat.le_of_ble_eq_true rfl⟩) hN hS rfl hl.1 rfl (Nat.le_of_ble_eq_true rfl) dX0_sheet_54 ⟨Nat.le_of_ble_eq_true rfl, Nat.le_of_ble_eq_true rfl⟩ (fun v ad' c' H locs hv hN hS => ?_)
          obtain ⟨p54, rfl, rfl, rfl⟩ := hv
          obtain ⟨ad2, x2, hN, hf2, hp2, hx2⟩ := fr_newg ⟨by omega, by omega, by omega, by omega, by omega, by omega, by omega⟩ hN
          refine W.eq (g2 := F0 m 57 ls (_ :: _)) rfl ?_
          have h0 : ad2 0 = ad 0 := (hf2 0 (by omega)).1.trans (hfr 0 (by omega)).1
          rw [← h0] at hl
          refine W.eq (g2 := F0 m 57 ls [.ref (ad2 (14 + kk)), .ref (ad2 (10 + kk)), .ref (ad2 (10 + kk)), .int (nI kk), .ref (ad2 8)]) (by rw [hp2, (hf2 (10 + kk) (by omega)).1, hp1, (hf2 8 (by omega)).1, (hfr 8 (by omega)).1] <;> rfl) ?_
          refine n_callI (As := [_]) SS hKo hK (tX10_init_X10 l G K hKo hK0 ad2 _ (10 + kk) .null ((sPic_x ⟨by omega, by omega, by omega, by omega⟩).trans ((hf2 (10 + kk) (by omega)).2.trans hx1)) (ad2 (14 + kk))) (cwI 1 hts (lw_meth q548) rfl rfl rfl (hts _ q87) (hts _ q546) (hts _ q547) rfl (by decide +kernel) ⟨Nat.le_of_ble_eq_true rfl, Nat.le_of_ble_eq_true rfl⟩) hN hS rfl hl.1 rfl (Nat.le_of_ble_eq_true rfl) dX0_sheet_57 ⟨Nat.le_of_ble_eq_true rfl, Nat.le_of_ble_eq_true rfl⟩ (fun v ad' c' H locs hv hN hS => ?_)
          obtain ⟨rfl, rfl, rfl⟩ := hv
          rw [sPic_up ⟨by omega, by omega, by omega, by omega⟩] at hN
          obtain ⟨x3, ex3⟩ : ∃ x3, x3 = va_up x2 (10 + kk) (some (.inr (6, [.ref (ad2 (14 + kk))]))) := ⟨_, rfl⟩
          rw [← ex3] at hN
          have h3n : ∀ z, z ≠ 10 + kk → x3 z = x2 z := fun z hz => by rw [ex3]; exact va_up_ne _ _ hz
          have h3s : x3 (10 + kk) = some (.inr (6, [.ref (ad2 (14 + kk))])) := by rw [ex3]; exact va_up_self _ _ _
          have hx28 : x3 8 = _ := (h3n 8 (by omega)).trans ((hf2 8 (by omega)).2.trans ((hfr 8 (by omega)).2.trans hSh.1))
          refine W.eq (g2 := F0 m 60 ls _) rfl ?_
          refine n_aast hx hb hKv hN hS (8) 4 ((sPic_x (by decide)).trans hx28) rfl (x_anyE hKv hN ((sPic_x ⟨by omega, by omega, by omega, by omega⟩).trans h3s) rfl) (kk) (rfl) (by omega) (by decide) dX0_sheet_60 (fun H locs hN hS => ?_)
          have hN := hN.congr (sPic_up (by decide))
          refine lv_iconst (v := 1) hx hb dX0_sheet_61 (by decide) ?_
          refine W.widen (k := 4) (n := 1911) (by first | omega | decide) (by first | omega | decide) ?_
          exact W.iret hx hb hr (nEnd hN hS ⟨by unfold oSht; rw [if_pos h1, if_pos ⟨h2, h6⟩, if_neg hn], va_up x3 8 _, fun z hz => (hf2 z (by omega)).1.trans (hfr z (by omega)).1, fun z hz1 hz => (va_up_ne _ _ hz1).trans ((h3n z (by omega)).trans ((hf2 z (by omega)).2.trans (hfr z (by omega)).2)), by unfold oSht; rw [if_pos h1, if_pos ⟨h2, h6⟩, if_neg hn, tk]; exact she_new hSh hk hq hL (fun z h1 h2 => (hf2 z h2).1.trans (hfr z h1).1) (fun z h0 h1 h2 => (va_up_ne _ _ h0).trans ((h3n z h1).trans ((hf2 z h2).2.trans (hfr z h1).2))) ((va_up_ne _ _ (by omega)).trans h3s) ((va_up_ne _ _ (by omega)).trans ((h3n _ (by omega)).trans hx2)) (va_up_self _ _ _), by unfold oSht; rw [if_pos h1, if_pos ⟨h2, h6⟩, if_neg hn]⟩) hS.2 dX0_sheet_62
      · have hno : ¬ (sBt q_ 0 2 = true ∧ ¬ 60 < n_) := fun z => z.2 (Int32.not_le.mp c28)
        refine lv_aload_n hx hb dX0_sheet_31 rfl (lv_at hl 0 rfl) ?_
        refine lv_bipush (v := (-2)) hx hb dX0_sheet_32 (by decide) ?_
        refine n_callV (C := RX0) (As := [_]) (b := 0) SS hKo hK hKv (sX0_refused l G K hKo hK0 ad x si sa rn (-2)) (cwV 1 hts (lw_V q537 q539 qs14 q57 q540) rfl rfl rfl (by decide +kernel) ⟨Nat.le_of_ble_eq_true rfl, Nat.le_of_ble_eq_true rfl⟩) hN hS sPic_0 rfl rfl hl.1 rfl (Nat.le_of_ble_eq_true rfl) dX0_sheet_34 ⟨Nat.le_of_ble_eq_true rfl, Nat.le_of_ble_eq_true rfl⟩ (fun v ad' c' H locs hv hN hS => ?_)
        obtain ⟨rfl, rfl, rfl⟩ := hv
        refine W.eq (g2 := F0 m 37 ls (_ :: _)) rfl ?_
        refine W.widen (k := 4) (n := 1911) (by first | omega | decide) (by first | omega | decide) ?_
        exact W.iret hx hb hr (nEnd hN hS ⟨by unfold oSht; rw [if_pos h1, if_neg hno], x, fun _ _ => rfl, fun _ _ _ => rfl, by unfold oSht; rw [if_pos h1, if_neg hno]; exact hSh, by unfold oSht; rw [if_pos h1, if_neg hno]⟩) hS.2 dX0_sheet_37
  · have h1 := zI_s c4
    refine lv_aload_n hx hb dX0_sheet_7 rfl (lv_at hl 0 rfl) ?_
    refine lv_iconst (v := (-1)) hx hb dX0_sheet_8 (by decide) ?_
    refine n_callV (C := RX0) (As := [_]) (b := 0) SS hKo hK hKv (sX0_refused l G K hKo hK0 ad x si sa rn (-1)) (cwV 1 hts (lw_V q537 q539 qs14 q57 q540) rfl rfl rfl (by decide +kernel) ⟨Nat.le_of_ble_eq_true rfl, Nat.le_of_ble_eq_true rfl⟩) hN hS sPic_0 rfl rfl hl.1 rfl (Nat.le_of_ble_eq_true rfl) dX0_sheet_9 ⟨Nat.le_of_ble_eq_true rfl, Nat.le_of_ble_eq_true rfl⟩ (fun v ad' c' H locs hv hN hS => ?_)
    obtain ⟨rfl, rfl, rfl⟩ := hv
    refine W.eq (g2 := F0 m 12 ls (_ :: _)) rfl ?_
    refine W.widen (k := 4) (n := 1911) (by first | omega | decide) (by first | omega | decide) ?_
    exact W.iret hx hb hr (nEnd hN hS ⟨by unfold oSht; rw [h1]; rfl, x, fun _ _ => rfl, fun _ _ _ => rfl, by unfold oSht; rw [h1]; exact hSh, by unfold oSht; rw [h1]; rfl⟩) hS.2 dX0_sheet_12
