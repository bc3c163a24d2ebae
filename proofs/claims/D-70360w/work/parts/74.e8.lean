/-! SYSTEM: towers, days, what-ifs: printed by wip/gen/e8.py -/
section WP
variable {G : nG} {ad ad1 ad' : Nat → Nat} {x x1 x2 x' : nPic} {si : AI} {sa : Nat → AI} {rn : Value} {H : Heap} {so sl ce : AI}
theorem roP.fls {nd np m m' : Nat} {k q i : Int32} {rf rf' : AI} {b : Bool} (hb : b = false) {v : Option Value} {c' : nPic} (h : roP G ad x si sa (oRos nd np so sl ce false k q i m) m rf v ad' c') : roP G ad x si sa (oRos nd np so sl ce b k q i m') m' rf' v ad' c' := by
  subst hb
  have e : ∀ m, oRos nd np so sl ce false k q i m = if sBt k 0 3 = true then (-2, 0) else (-1, 0) := by
    intro m
    unfold oRos
    rw [if_neg (fun z : sBt q 0 2 = true ∧ false = true => by cases z.2)]
  obtain ⟨h1, x', rn', g1, g2, g3⟩ := h
  rw [e] at h1 g3 ⊢
  refine ⟨h1, x', rn', g1, fun z => ?_, g3⟩
  exfalso
  revert z
  split <;> decide
/-- days gone, or a what-if: what stands behind it -/
abbrev wP (G : nG) (ad : Nat → Nat) (x : nPic) (si : AI) (sa : Nat → AI) (D : Int32 × Int32) : Option Value → (Nat → Nat) → nPic → Prop := fun rv ad' c' =>
  rv = some (.int D.1) ∧ ∃ (x' : nPic) (rn' : Value) (cg fw : Int32) (k5 : AI), (∀ z, z ≠ 9 → z ≠ 40 → ad' z = ad z ∧ x' z = x z) ∧ sPic G x' ad' (upd (upd (upd si 9 D.2) 6 cg) 7 fw) (va_up sa 5 k5) rn' = c'
theorem wP.of {D : Int32 × Int32} {v : Option Value} {f : Int32} {rn' : Value} (hv : v = some (.int D.1)) (hD : D.2 = f) (hz : ∀ z, z ≠ 9 → z ≠ 40 → ad' z = ad z ∧ x' z = x z) : wP G ad x si sa D v ad' (sPic G x' ad' (upd si 9 f) sa rn') := by
  refine ⟨hv, x', rn', si 6, si 7, sa 5, hz, ?_⟩
  rw [hD, upd_self (upd si 9 f) 6 (si 6) (pk_un (by decide)), upd_self (upd si 9 f) 7 (si 7) (pk_un (by decide)), va_up_id sa 5 (sa 5) rfl]
theorem wP.mk0 {D : Int32 × Int32} {z cg fw : Int32} {k5 : AI} {rn' : Value} (hD : D = (z, 0)) (hz : ∀ z, z ≠ 9 → z ≠ 40 → ad' z = ad z ∧ x' z = x z) : wP G ad x si sa D (some (.int z)) ad' (sPic G x' ad' (upd (upd (upd si 9 0) 6 cg) 7 fw) (va_up sa 5 k5) rn') := by
  subst hD
  exact ⟨rfl, x', rn', cg, fw, k5, hz, rfl⟩
theorem oDys_no {nd np : Nat} {w kd dn kn td : AI} {k q i n a : Int32} (h : ¬ (oRos nd np so sl ce (sBt n 0 20 && sAsk a) k q i (tn n)).1 = 0) : oDys nd np w kd dn kn td so sl ce k q i n a = oRos nd np so sl ce (sBt n 0 20 && sAsk a) k q i (tn n) := by
  unfold oDys oRos at *
  by_cases h1 : sBt k 0 3 = true
  · rw [if_pos h1] at h ⊢
    rw [if_pos h1]
    by_cases h2 : sBt q 0 2 = true ∧ (sBt n 0 20 && sAsk a) = true
    · rw [if_pos h2] at h ⊢
      have h3 := h2.2
      rw [Bool.and_eq_true] at h3
      rw [if_pos ⟨h2.1, h3.1, h3.2⟩, if_neg h]
    · rw [if_neg h2, if_neg (fun z => h2 ⟨z.1, by rw [Bool.and_eq_true]; exact z.2⟩)]
  · rw [if_neg h1, if_neg h1]
theorem oRos_0 {nd np m : Nat} {b : Bool} {k q i : Int32} (h : (oRos nd np so sl ce b k q i m).1 = 0) : sBt k 0 3 = true ∧ sBt q 0 2 = true ∧ b = true ∧ (sLay so sl ce nd np (tn k) q i m).1 = 0 ∧ (oRos nd np so sl ce b k q i m).2 = 0 ∧ sRow ce nd np (60 * tn k + tn i) m = true := by
  unfold oRos at *
  by_cases h1 : sBt k 0 3 = true
  · rw [if_pos h1] at h ⊢
    by_cases h2 : sBt q 0 2 = true ∧ b = true
    · rw [if_pos h2] at h ⊢
      obtain ⟨g1, g2, g3⟩ := sLay_0 h
      exact ⟨h1, h2.1, h2.2, h, g3, g1⟩
    · rw [if_neg h2] at h
      exact absurd h (by decide)
  · rw [if_neg h1] at h
    exact absurd h (by decide)
theorem oDys_0 {nd np : Nat} {w kd dn kn td : AI} {k q i n a : Int32} (h : (oRos nd np so sl ce (sBt n 0 20 && sAsk a) k q i (tn n)).1 = 0) : oDys nd np w kd dn kn td so sl ce k q i n a = (sGoA (sGo w kd dn kn nd np (sWh ce (60 * tn k + tn i)) (sWt ce (60 * tn k + tn i)) (tn n) 0 td 0) w kd nd np a, 0) := by
  obtain ⟨h1, h2, h3, h4, -, -⟩ := oRos_0 h
  rw [Bool.and_eq_true] at h3
  unfold oDys
  rw [if_pos h1, if_pos ⟨h2, h3.1, h3.2⟩, if_pos h4]
theorem oLayB_t {nd np : Nat} {t : Bool} (ht : t = true) {k q i n : Int32} : oLayB nd np so sl ce t k q i n = oRos nd np so sl ce (sBt n 0 20 && true) k q i (tn n) := by
  subst ht
  unfold oLayB oRos
  rw [Bool.and_true]
  by_cases h1 : sBt k 0 3 = true
  · rw [if_pos ⟨rfl, h1⟩, if_pos h1]
  · rw [if_neg (fun z => h1 z.2), if_neg h1]
theorem oWif_n {nd np : Nat} {t : Bool} (ht : t = false) {k q i n : Int32} {f : (Nat → Nat) → (Nat → Nat) → Nat → Int32 → Bool} {v0 c : Nat} : oWif nd np so sl ce t k q i n f v0 c = (-1, 0) := by
  subst ht
  have e : oLayB nd np so sl ce false k q i n = (-1, 0) := by unfold oLayB; rw [if_neg (fun z => by cases z.1)]
  unfold oWif
  rw [e, if_neg (by decide)]
theorem oWif_no {nd np : Nat} {t : Bool} (ht : t = true) {k q i n : Int32} {f : (Nat → Nat) → (Nat → Nat) → Nat → Int32 → Bool} {v0 c : Nat} (h : ¬ (oRos nd np so sl ce (sBt n 0 20 && true) k q i (tn n)).1 = 0) : oWif nd np so sl ce t k q i n f v0 c = oRos nd np so sl ce (sBt n 0 20 && true) k q i (tn n) := by
  unfold oWif
  rw [oLayB_t ht, if_neg h]
theorem oWif_0 {nd np : Nat} {t : Bool} (ht : t = true) {k q i n : Int32} {f : (Nat → Nat) → (Nat → Nat) → Nat → Int32 → Bool} {v0 c : Nat} (h : (oRos nd np so sl ce (sBt n 0 20 && true) k q i (tn n)).1 = 0) : oWif nd np so sl ce t k q i n f v0 c = (sSet (f (sWh ce (60 * tn k + tn i)) (sWt ce (60 * tn k + tn i)) (tn n)) v0 c, 0) := by
  unfold oWif
  rw [oLayB_t ht, if_pos h]
theorem oRos_le {nd np m : Nat} {b : Bool} {k q i : Int32} : (oRos nd np so sl ce b k q i m).1 < 0 ∨ (oRos nd np so sl ce b k q i m).1 = 0 := by
  unfold oRos
  split
  · split
    · unfold sLay
      split
      · left
        unfold sAgn
        repeat' split
        all_goals decide
      · split
        · left; show (-3 : Int32) < 0; decide
        · split
          · right; rfl
          · left; show (-1 : Int32) < 0; decide
    · left; show (-2 : Int32) < 0; decide
  · left; show (-1 : Int32) < 0; decide
theorem rose_w {nd np m : Nat} {b : Bool} {k q i : Int32} (hnd : nd ≤ 6) (hnp : np ≤ 4) (h : (oRos nd np so sl ce b k q i m).1 = 0) : ∀ j, j < m → (fun z => ce (60 * tn k + tn i + z)) (2 * j) = nI (sWh ce (60 * tn k + tn i) j) ∧ sWh ce (60 * tn k + tn i) j < np ∧ (fun z => ce (60 * tn k + tn i + z)) (2 * j + 1) = nI (sWt ce (60 * tn k + tn i) j) ∧ sWt ce (60 * tn k + tn i) j < nd := by
  intro j hj
  exact row_w (oRos_0 h).2.2.2.2.2 (by omega) (by omega) j hj
theorem sBt_w {x : Int32} (a b : Nat) (h : sBt x (nI a) (nI b) = true) (ha : a < 2 ^ 30 := by decide) (hb : b < 2 ^ 30 := by decide) : ∃ j : Nat, (a ≤ j ∧ j ≤ b) ∧ x = nI j := by
  unfold sBt at h
  simp only [Bool.and_eq_true, Bool.not_eq_true', decide_eq_false_iff_not] at h
  have g1 : ¬ x.toInt < (a : Int) := fun z => h.1 (by rw [Int32.lt_iff_toInt_lt, nI_toInt (by omega)]; exact z)
  have g2 : ¬ (b : Int) < x.toInt := fun z => h.2 (by rw [Int32.lt_iff_toInt_lt, nI_toInt (by omega)]; exact z)
  have hn : ¬ x < 0 := by
    intro z
    have := Int32.lt_iff_toInt_lt.mp z
    have e0 : (0 : Int32).toInt = 0 := rfl
    omega
  obtain ⟨j, hj, e⟩ := nI_of hn
  subst e
  rw [nI_toInt hj] at g1 g2
  exact ⟨j, by omega, rfl⟩
theorem sAsk_n {a : Int32} (h : sAsk a = true) : ∃ z : Nat, a = nI z ∧ z < 24 ∧ (z < 3 ∨ 10 ≤ z) := by
  unfold sAsk at h
  rw [Bool.or_eq_true, Bool.or_eq_true] at h
  rcases h with (h | h) | h
  · obtain ⟨j, h1, h2, -⟩ := sBt_t 2 (by decide) h
    exact ⟨j, h2, by omega, by omega⟩
  · obtain ⟨j, h1, h2⟩ := sBt_w 10 13 h
    exact ⟨j, h2, by omega, by omega⟩
  · obtain ⟨j, h1, h2⟩ := sBt_w 20 23 h
    exact ⟨j, h2, by omega, by omega⟩
end WP
set_option maxHeartbeats 1000000 in
set_option maxRecDepth 100000 in
theorem sX0_tower (l : Launch) (G : nG) (K : State → Prop) (hKo : nKo G K) (hK0 : ∀ U, K U → sK0 G U) (hKx : ∀ U, K U → xK G U) (hfl : l.stackTraces = false) (ad : Nat → Nat) (x : nPic) (si : AI) (sa : Nat → AI) (rn : Value) (so sl ce : AI) (hSh : sShe G ad x so sl ce) (np : Nat) (kd dr kn : AI) (hP : sPeo G ad x np kd dr kn) (nr : Nat) (rw_ rf_ : AI) (hQ : sRea G ad x nr rw_ rf_) (k q i n_ : Int32) (hx8 : ∀ z, 80 ≤ z → x z = none) : Met l yX0_tower (ws_ yX0_tower cX0_tower 5 (some .int)) (sR 12 11 1987) (nPc G nCl K ad (sPic G x ad si sa rn) [.ref (ad 0), .int k, .int q, .int i, .int n_]) (nQ G nCl (lkP G ad x si sa rn (oTwr so sl ce k q i n_) (pT (fun p => ce (60 * tn k + tn i + p)) (tn n_)))) 11 1987 (fun q => G.2 ≤ q) := by
  refine nMet RX0 (by decide) rfl (Nat.le_of_ble_eq_true rfl) ?_
  intro p e s m below meth c ls SS hR hK hN hS hl
  obtain ⟨hx, hb, hml, hown, hts⟩ := id SS
  obtain ⟨hr, hlk, hnm⟩ := hR
  obtain ⟨hKv, hKw, hKf, hKz, hKm⟩ := hK0 s hK
  generalize s.heap = H at hN hS ⊢
  generalize ([] : List Loc) = locs at hS ⊢
  have hl : lv_has ls 5 [(0, .ref (ad 0)), (1, .int k), (2, .int q), (3, .int i), (4, .int n_)] := hl
  refine lv_aload_n hx hb dX0_tower_0 rfl (lv_at hl 0 rfl) ?_
  refine n_new (C := RX4) (T := TX4) (N := 7) (ci := 8) (fs := [.int 0, .int 0, .int 0, .int 0, .null, .null, .null]) hx hb hts in_X4 tyX4 tyX4_ok hown q651 q652 q64 hKv hN hS (40) rfl (by intro j hj; rcases (show j = 0 ∨ j = 1 ∨ j = 2 ∨ j = 3 ∨ j = 4 ∨ j = 5 ∨ j = 6 by omega) with rfl | rfl | rfl | rfl | rfl | rfl | rfl <;> rfl) (Nat.le_of_ble_eq_true rfl) (Nat.le_of_ble_eq_true rfl) dX0_tower_1 (fun q1 H hN hS => ?_)
  obtain ⟨ad1, x1, hN, hfr, hp1, hx1, -⟩ := fr_new (by decide) hN
  have h0 := (hfr 0 (by decide)).1
  rw [← h0] at hl
  refine W.eq (g2 := F0 m 4 ls [.ref (ad1 40), .ref (ad1 0)]) (by rw [hp1, h0] <;> rfl) ?_
  refine lv_dup hx hb dX0_tower_4 rfl ?_
  refine lv_aload_n hx hb dX0_tower_5 rfl (lv_at hl 0 rfl) ?_
  refine lv_iload_n hx hb dX0_tower_6 rfl (lv_at hl 1 rfl) ?_
  refine lv_iload_n hx hb dX0_tower_7 rfl (lv_at hl 2 rfl) ?_
  refine lv_iload_n hx hb dX0_tower_8 rfl (lv_at hl 3 rfl) ?_
  refine lv_iload hx hb dX0_tower_9 (lv_at hl 4 rfl) ?_
  refine n_callI (As := [_, _, _, _, _]) SS hKo hK (tX4_init_X4 l G K hKo hK0 ad1 _ 40 (.int 0) (.int 0) (.int 0) (.int 0) .null .null .null ((sPic_x (by decide)).trans hx1) (ad1 0) k q i n_) (cwI 5 hts (lw_meth q655) rfl rfl rfl (hts _ q64) (hts _ q653) (hts _ q654) rfl (by decide +kernel) ⟨Nat.le_of_ble_eq_true rfl, Nat.le_of_ble_eq_true rfl⟩) hN hS rfl hl.1 rfl (Nat.le_of_ble_eq_true rfl) dX0_tower_11 ⟨Nat.le_of_ble_eq_true rfl, Nat.le_of_ble_eq_true rfl⟩ (fun v ad' c' H locs hv hN hS => ?_)
  obtain ⟨rfl, rfl, rfl⟩ := hv
  obtain ⟨x2, hN, hf2, hx2⟩ := fr_put (by decide) hfr hN
  refine W.eq (g2 := F0 m 14 ls _) rfl ?_
  refine lv_iconst (v := 1) hx hb dX0_tower_14 (by decide) ?_
  refine n_callV (C := RX0) (As := [_, _]) (b := 0) SS hKo hK hKv (sX0_looked_X4 l G K hKo hK0 hKx hfl ad1 x2 si sa rn so sl ce (hSh.fr fun z _ _ _ => hf2 z (by omega)) np kd dr kn (hP.fr fun z _ _ => hf2 z (by omega)) nr rw_ rf_ (hQ.fr fun z _ _ => hf2 z (by omega)) k q i n_ (fun z hz => ((hf2 z (by omega)).2).trans (hx8 z hz)) hx2) (cwV 2 hts (lw_V q687 q689 qs18 q57 q690) rfl rfl rfl (by decide +kernel) ⟨Nat.le_of_ble_eq_true rfl, Nat.le_of_ble_eq_true rfl⟩) hN hS sPic_0 rfl rfl hl.1 rfl (Nat.le_of_ble_eq_true rfl) dX0_tower_15 ⟨Nat.le_of_ble_eq_true rfl, Nat.le_of_ble_eq_true rfl⟩ (fun v ad' c' H locs hv hN hS => ?_)
  obtain ⟨z_, hz_⟩ : ∃ z : Int32, v = some (.int z) := ⟨_, hv.1⟩
  subst hz_
  refine W.eq (g2 := F0 m 18 ls (_ :: _)) rfl ?_
  refine W.widen (k := 11) (n := 1987) (by first | omega | decide) (by first | omega | decide) ?_
  exact W.iret hx hb hr (nEnd hN hS (lkP.fr hf2 hv)) hS.2 dX0_tower_18
set_option maxHeartbeats 1000000 in
set_option maxRecDepth 100000 in
theorem sX0_rose (l : Launch) (G : nG) (K : State → Prop) (hKo : nKo G K) (hK0 : ∀ U, K U → sK0 G U) (hKx : ∀ U, K U → xK G U) (hfl : l.stackTraces = false) (ad : Nat → Nat) (x : nPic) (si : AI) (sa : Nat → AI) (rn : Value) (so sl ce : AI) (hSh : sShe G ad x so sl ce) (np : Nat) (kd dr kn : AI) (hP : sPeo G ad x np kd dr kn) (nd : Nat) (hnd : si 1 = nI nd) (hnd6 : nd ≤ 6) (k q i n_ : Int32) (b : Bool) (hx8 : ∀ z, 80 ≤ z → x z = none) : Met l yX0_rose (ws_ yX0_rose cX0_rose 7 (some .int)) (sR 12 11 1987) (nPc G nCl K ad (sPic G x ad si sa rn) [.ref (ad 0), .int k, .int q, .int i, .int n_, .int (zI b)]) (nQ G nCl (roP G ad x si sa (oRos nd np so sl ce (sBt n_ 0 20 && b) k q i (tn n_)) (tn n_) (fun j => ce (60 * tn k + tn i + j)))) 11 1987 (fun q => G.2 ≤ q) := by
  refine nMet RX0 (by decide) rfl (Nat.le_of_ble_eq_true rfl) ?_
  intro p e s m below meth c ls SS hR hK hN hS hl
  obtain ⟨hx, hb, hml, hown, hts⟩ := id SS
  obtain ⟨hr, hlk, hnm⟩ := hR
  obtain ⟨hKv, hKw, hKf, hKz, hKm⟩ := hK0 s hK
  generalize s.heap = H at hN hS ⊢
  generalize ([] : List Loc) = locs at hS ⊢
  have hl : lv_has ls 7 [(0, .ref (ad 0)), (1, .int k), (2, .int q), (3, .int i), (4, .int n_), (5, .int (zI b))] := hl
  refine lv_iload hx hb dX0_rose_0 (lv_at hl 4 rfl) ?_
  refine lv_i2l hx hb dX0_rose_2 rfl ?_
  refine lv_lconst (v := 0) hx hb dX0_rose_3 (by decide) ?_
  refine lv_ldc2 hx hb hown (hts _ q879) dX0_rose_4 ?_
  refine n_callS (As := [_, _, _]) SS hKo hK (sX0_in l G K hKo hK0 ad _ n_ 0 20) (va_cwS 3 hts (lw_S q185 q186 q57 q187) rfl rfl rfl (by decide +kernel) ⟨Nat.le_of_ble_eq_true rfl, Nat.le_of_ble_eq_true rfl⟩) hN hS rfl hl.1 rfl (Nat.le_of_ble_eq_true rfl) dX0_rose_7 ⟨Nat.le_of_ble_eq_true rfl, Nat.le_of_ble_eq_true rfl⟩ (fun v ad' c' H locs hv hN hS => ?_)
  obtain ⟨rfl, rfl, rfl⟩ := hv
  refine W.eq (g2 := F0 m 10 ls (_ :: _)) rfl ?_
  refine lv_if_eq (tgt := 22) hx hb dX0_rose_10 (by decide) (fun c10 => ?_) (fun c10 => ?_)
  · have h20 := zI_0.mp c10
    have hbb : (sBt n_ 0 20 && b) = false := by rw [h20]; rfl
    refine lv_iconst (v := 0) hx hb dX0_rose_22 (by decide) ?_
    refine lv_istore (lv' := [(6, _), (0, _), (1, _), (2, _), (3, _), (4, _), (5, _)]) hx hb dX0_rose_23 hl (by decide) rfl (fun ls hl => ?_)
    refine lv_aload_n hx hb dX0_rose_25 rfl (lv_at hl 1 rfl) ?_
    refine n_new (C := RX8) (T := TX8) (N := 7) (ci := 9) (fs := [.int 0, .int 0, .int 0, .int 0, .null, .null, .null]) hx hb hts in_X8 tyX8 tyX8_ok hown q885 q886 q84 hKv hN hS (40) rfl (by intro j hj; rcases (show j = 0 ∨ j = 1 ∨ j = 2 ∨ j = 3 ∨ j = 4 ∨ j = 5 ∨ j = 6 by omega) with rfl | rfl | rfl | rfl | rfl | rfl | rfl <;> rfl) (Nat.le_of_ble_eq_true rfl) (Nat.le_of_ble_eq_true rfl) dX0_rose_26 (fun q26 H hN hS => ?_)
    obtain ⟨ad1, x1, hN, hfr, hp1, hx1, -⟩ := fr_new (by decide) hN
    have h0 := (hfr 0 (by decide)).1
    rw [← h0] at hl
    refine W.eq (g2 := F0 m 29 ls [.ref (ad1 40), .ref (ad1 0)]) (by rw [hp1, h0] <;> rfl) ?_
    refine lv_dup hx hb dX0_rose_29 rfl ?_
    refine lv_aload_n hx hb dX0_rose_30 rfl (lv_at hl 1 rfl) ?_
    refine lv_iload_n hx hb dX0_rose_31 rfl (lv_at hl 2 rfl) ?_
    refine lv_iload_n hx hb dX0_rose_32 rfl (lv_at hl 3 rfl) ?_
    refine lv_iload_n hx hb dX0_rose_33 rfl (lv_at hl 4 rfl) ?_
    refine lv_iload hx hb dX0_rose_34 (lv_at hl 0 rfl) ?_
    refine lv_if_eq (tgt := 46) hx hb dX0_rose_36 (by decide) (fun c36 => ?_) (fun c36 => absurd c36 (fun z => z rfl))
    refine lv_iconst (v := nI (2 * 0)) hx hb dX0_rose_46 (rfl) ?_
    refine n_callI (As := [_, _, _, _, _]) SS hKo hK (tX8_init_X8 l G K hKo hK0 ad1 _ 40 (.int 0) (.int 0) (.int 0) (.int 0) .null .null .null ((sPic_x (by decide)).trans hx1) (ad1 0) k q i (nI (2 * 0))) (cwI 5 hts (lw_meth q889) rfl rfl rfl (hts _ q84) (hts _ q887) (hts _ q888) rfl (by decide +kernel) ⟨Nat.le_of_ble_eq_true rfl, Nat.le_of_ble_eq_true rfl⟩) hN hS rfl hl.1 rfl (Nat.le_of_ble_eq_true rfl) dX0_rose_47 ⟨Nat.le_of_ble_eq_true rfl, Nat.le_of_ble_eq_true rfl⟩ (fun v ad' c' H locs hv hN hS => ?_)
    obtain ⟨rfl, rfl, rfl⟩ := hv
    obtain ⟨x2, hN, hf2, hx2⟩ := fr_put (by decide) hfr hN
    refine W.eq (g2 := F0 m 50 ls _) rfl ?_
    refine lv_iload hx hb dX0_rose_50 (lv_at hl 0 rfl) ?_
    refine n_callV (C := RX0) (As := [_, _]) (b := 0) SS hKo hK hKv (sX0_looked_X8 l G K hKo hK0 hKx hfl ad1 x2 si sa rn so sl ce (hSh.fr fun z _ _ _ => hf2 z (by omega)) np kd dr kn (hP.fr fun z _ _ => hf2 z (by omega)) nd hnd hnd6 k q i 0 (by decide) false (fun z hz => ((hf2 z (by omega)).2).trans (hx8 z hz)) hx2) (cwV 2 hts (lw_V q687 q689 qs18 q57 q690) rfl rfl rfl (by decide +kernel) ⟨Nat.le_of_ble_eq_true rfl, Nat.le_of_ble_eq_true rfl⟩) hN hS sPic_0 rfl rfl hl.1 rfl (Nat.le_of_ble_eq_true rfl) dX0_rose_52 ⟨Nat.le_of_ble_eq_true rfl, Nat.le_of_ble_eq_true rfl⟩ (fun v ad' c' H locs hv hN hS => ?_)
    obtain ⟨z_, hz_⟩ : ∃ z : Int32, v = some (.int z) := ⟨_, hv.1⟩
    subst hz_
    refine W.eq (g2 := F0 m 55 ls (_ :: _)) rfl ?_
    refine W.widen (k := 11) (n := 1987) (by first | omega | decide) (by first | omega | decide) ?_
    exact W.iret hx hb hr (nEnd hN hS (roP.fls hbb (roP.fr hf2 hv))) hS.2 dX0_rose_55
  · have h20 := zI_n0 c10
    refine lv_iload hx hb dX0_rose_13 (lv_at hl 5 rfl) ?_
    refine lv_if_eq (tgt := 22) hx hb dX0_rose_15 (by decide) (fun c15 => ?_) (fun c15 => ?_)
    · have hb0 := zI_0.mp c15
      have hbb : (sBt n_ 0 20 && b) = false := by rw [hb0, Bool.and_false]
      refine lv_iconst (v := 0) hx hb dX0_rose_22 (by decide) ?_
      refine lv_istore (lv' := [(6, _), (0, _), (1, _), (2, _), (3, _), (4, _), (5, _)]) hx hb dX0_rose_23 hl (by decide) rfl (fun ls hl => ?_)
      refine lv_aload_n hx hb dX0_rose_25 rfl (lv_at hl 1 rfl) ?_
      refine n_new (C := RX8) (T := TX8) (N := 7) (ci := 9) (fs := [.int 0, .int 0, .int 0, .int 0, .null, .null, .null]) hx hb hts in_X8 tyX8 tyX8_ok hown q885 q886 q84 hKv hN hS (40) rfl (by intro j hj; rcases (show j = 0 ∨ j = 1 ∨ j = 2 ∨ j = 3 ∨ j = 4 ∨ j = 5 ∨ j = 6 by omega) with rfl | rfl | rfl | rfl | rfl | rfl | rfl <;> rfl) (Nat.le_of_ble_eq_true rfl) (Nat.le_of_ble_eq_true rfl) dX0_rose_26 (fun q26 H hN hS => ?_)
      obtain ⟨ad1, x1, hN, hfr, hp1, hx1, -⟩ := fr_new (by decide) hN
      have h0 := (hfr 0 (by decide)).1
      rw [← h0] at hl
      refine W.eq (g2 := F0 m 29 ls [.ref (ad1 40), .ref (ad1 0)]) (by rw [hp1, h0] <;> rfl) ?_
      refine lv_dup hx hb dX0_rose_29 rfl ?_
      refine lv_aload_n hx hb dX0_rose_30 rfl (lv_at hl 1 rfl) ?_
      refine lv_iload_n hx hb dX0_rose_31 rfl (lv_at hl 2 rfl) ?_
      refine lv_iload_n hx hb dX0_rose_32 rfl (lv_at hl 3 rfl) ?_
      refine lv_iload_n hx hb dX0_rose_33 rfl (lv_at hl 4 rfl) ?_
      refine lv_iload hx hb dX0_rose_34 (lv_at hl 0 rfl) ?_
      refine lv_if_eq (tgt := 46) hx hb dX0_rose_36 (by decide) (fun c36 => ?_) (fun c36 => absurd c36 (fun z => z rfl))
      refine lv_iconst (v := nI (2 * 0)) hx hb dX0_rose_46 (rfl) ?_
      refine n_callI (As := [_, _, _, _, _]) SS hKo hK (tX8_init_X8 l G K hKo hK0 ad1 _ 40 (.int 0) (.int 0) (.int 0) (.int 0) .null .null .null ((sPic_x (by decide)).trans hx1) (ad1 0) k q i (nI (2 * 0))) (cwI 5 hts (lw_meth q889) rfl rfl rfl (hts _ q84) (hts _ q887) (hts _ q888) rfl (by decide +kernel) ⟨Nat.le_of_ble_eq_true rfl, Nat.le_of_ble_eq_true rfl⟩) hN hS rfl hl.1 rfl (Nat.le_of_ble_eq_true rfl) dX0_rose_47 ⟨Nat.le_of_ble_eq_true rfl, Nat.le_of_ble_eq_true rfl⟩ (fun v ad' c' H locs hv hN hS => ?_)
      obtain ⟨rfl, rfl, rfl⟩ := hv
      obtain ⟨x2, hN, hf2, hx2⟩ := fr_put (by decide) hfr hN
      refine W.eq (g2 := F0 m 50 ls _) rfl ?_
      refine lv_iload hx hb dX0_rose_50 (lv_at hl 0 rfl) ?_
      refine n_callV (C := RX0) (As := [_, _]) (b := 0) SS hKo hK hKv (sX0_looked_X8 l G K hKo hK0 hKx hfl ad1 x2 si sa rn so sl ce (hSh.fr fun z _ _ _ => hf2 z (by omega)) np kd dr kn (hP.fr fun z _ _ => hf2 z (by omega)) nd hnd hnd6 k q i 0 (by decide) false (fun z hz => ((hf2 z (by omega)).2).trans (hx8 z hz)) hx2) (cwV 2 hts (lw_V q687 q689 qs18 q57 q690) rfl rfl rfl (by decide +kernel) ⟨Nat.le_of_ble_eq_true rfl, Nat.le_of_ble_eq_true rfl⟩) hN hS sPic_0 rfl rfl hl.1 rfl (Nat.le_of_ble_eq_true rfl) dX0_rose_52 ⟨Nat.le_of_ble_eq_true rfl, Nat.le_of_ble_eq_true rfl⟩ (fun v ad' c' H locs hv hN hS => ?_)
      obtain ⟨z_, hz_⟩ : ∃ z : Int32, v = some (.int z) := ⟨_, hv.1⟩
      subst hz_
      refine W.eq (g2 := F0 m 55 ls (_ :: _)) rfl ?_
      refine W.widen (k := 11) (n := 1987) (by first | omega | decide) (by first | omega | decide) ?_
      exact W.iret hx hb hr (nEnd hN hS (roP.fls hbb (roP.fr hf2 hv))) hS.2 dX0_rose_55
    · have hb1 := zI_n0 c15
      subst hb1
      obtain ⟨nn, hnn, rfl, tnn⟩ := sBt_t 20 (by decide) h20
      refine lv_iconst (v := 1) hx hb dX0_rose_18 (by decide) ?_
      refine lv_goto (tgt := 23) hx hb dX0_rose_19 (by decide) ?_
      refine lv_istore (lv' := [(6, _), (0, _), (1, _), (2, _), (3, _), (4, _), (5, _)]) hx hb dX0_rose_23 hl (by decide) rfl (fun ls hl => ?_)
      refine lv_aload_n hx hb dX0_rose_25 rfl (lv_at hl 1 rfl) ?_
      refine n_new (C := RX8) (T := TX8) (N := 7) (ci := 9) (fs := [.int 0, .int 0, .int 0, .int 0, .null, .null, .null]) hx hb hts in_X8 tyX8 tyX8_ok hown q885 q886 q84 hKv hN hS (40) rfl (by intro j hj; rcases (show j = 0 ∨ j = 1 ∨ j = 2 ∨ j = 3 ∨ j = 4 ∨ j = 5 ∨ j = 6 by omega) with rfl | rfl | rfl | rfl | rfl | rfl | rfl <;> rfl) (Nat.le_of_ble_eq_true rfl) (Nat.le_of_ble_eq_true rfl) dX0_rose_26 (fun q26 H hN hS => ?_)
      obtain ⟨ad1, x1, hN, hfr, hp1, hx1, -⟩ := fr_new (by decide) hN
      have h0 := (hfr 0 (by decide)).1
      rw [← h0] at hl
      refine W.eq (g2 := F0 m 29 ls [.ref (ad1 40), .ref (ad1 0)]) (by rw [hp1, h0] <;> rfl) ?_
      refine lv_dup hx hb dX0_rose_29 rfl ?_
      refine lv_aload_n hx hb dX0_rose_30 rfl (lv_at hl 1 rfl) ?_
      refine lv_iload_n hx hb dX0_rose_31 rfl (lv_at hl 2 rfl) ?_
      refine lv_iload_n hx hb dX0_rose_32 rfl (lv_at hl 3 rfl) ?_
      refine lv_iload_n hx hb dX0_rose_33 rfl (lv_at hl 4 rfl) ?_
      refine lv_iload hx hb dX0_rose_34 (lv_at hl 0 rfl) ?_
      refine lv_if_eq (tgt := 46) hx hb dX0_rose_36 (by decide) (fun c36 => absurd c36 (by decide)) (fun c36 => ?_)
      refine lv_iconst (v := 2) hx hb dX0_rose_39 (by decide) ?_
      refine lv_iload hx hb dX0_rose_40 (lv_at hl 5 rfl) ?_
      refine lv_imul hx hb dX0_rose_42 ?_
      refine n_top (y := nI (2 * nn)) (pk_mul 2 nn) ?_
      refine lv_goto (tgt := 47) hx hb dX0_rose_43 (by decide) ?_
      refine n_callI (As := [_, _, _, _, _]) SS hKo hK (tX8_init_X8 l G K hKo hK0 ad1 _ 40 (.int 0) (.int 0) (.int 0) (.int 0) .null .null .null ((sPic_x (by decide)).trans hx1) (ad1 0) k q i (nI (2 * nn))) (cwI 5 hts (lw_meth q889) rfl rfl rfl (hts _ q84) (hts _ q887) (hts _ q888) rfl (by decide +kernel) ⟨Nat.le_of_ble_eq_true rfl, Nat.le_of_ble_eq_true rfl⟩) hN hS rfl hl.1 rfl (Nat.le_of_ble_eq_true rfl) dX0_rose_47 ⟨Nat.le_of_ble_eq_true rfl, Nat.le_of_ble_eq_true rfl⟩ (fun v ad' c' H locs hv hN hS => ?_)
      obtain ⟨rfl, rfl, rfl⟩ := hv
      obtain ⟨x2, hN, hf2, hx2⟩ := fr_put (by decide) hfr hN
      refine W.eq (g2 := F0 m 50 ls _) rfl ?_
      refine lv_iload hx hb dX0_rose_50 (lv_at hl 0 rfl) ?_
      refine n_callV (C := RX0) (As := [_, _]) (b := 0) SS hKo hK hKv (sX0_looked_X8 l G K hKo hK0 hKx hfl ad1 x2 si sa rn so sl ce (hSh.fr fun z _ _ _ => hf2 z (by omega)) np kd dr kn (hP.fr fun z _ _ => hf2 z (by omega)) nd hnd hnd6 k q i nn hnn true (fun z hz => ((hf2 z (by omega)).2).trans (hx8 z hz)) hx2) (cwV 2 hts (lw_V q687 q689 qs18 q57 q690) rfl rfl rfl (by decide +kernel) ⟨Nat.le_of_ble_eq_true rfl, Nat.le_of_ble_eq_true rfl⟩) hN hS sPic_0 rfl rfl hl.1 rfl (Nat.le_of_ble_eq_true rfl) dX0_rose_52 ⟨Nat.le_of_ble_eq_true rfl, Nat.le_of_ble_eq_true rfl⟩ (fun v ad' c' H locs hv hN hS => ?_)
      obtain ⟨z_, hz_⟩ : ∃ z : Int32, v = some (.int z) := ⟨_, hv.1⟩
      subst hz_
      refine W.eq (g2 := F0 m 55 ls (_ :: _)) rfl ?_
      refine W.widen (k := 11) (n := 1987) (by first | omega | decide) (by first | omega | decide) ?_
      exact W.iret hx hb hr (nEnd hN hS (by rw [tnn, h20]; exact roP.fr hf2 hv)) hS.2 dX0_rose_55
set_option maxHeartbeats 1000000 in
set_option maxRecDepth 100000 in
theorem sX0_days (l : Launch) (G : nG) (K : State → Prop) (hKo : nKo G K) (hK0 : ∀ U, K U → sK0 G U) (hKx : ∀ U, K U → xK G U) (hfl : l.stackTraces = false) (ad : Nat → Nat) (x : nPic) (si : AI) (sa : Nat → AI) (rn : Value) (so sl ce : AI) (hSh : sShe G ad x so sl ce) (np : Nat) (kd dr kn : AI) (hP : sPeo G ad x np kd dr kn) (nd : Nat) (hnd : si 1 = nI nd) (hnd6 : nd ≤ 6) (k q i n_ a_ : Int32) (hx8 : ∀ z, 80 ≤ z → x z = none) : Met l yX0_days (ws_ yX0_days cX0_days 8 (some .int)) (sR 13 14 2005) (nPc G nCl K ad (sPic G x ad si sa rn) [.ref (ad 0), .int k, .int q, .int i, .int n_, .int a_]) (nQ G nCl (wP G ad x si sa (oDys nd np (sa 1) kd (fun q => dr q &&& sMsk nd) kn (sa 4) so sl ce k q i n_ a_))) 14 2005 (fun q => G.2 ≤ q) := by
  refine nMet RX0 (by decide) rfl (Nat.le_of_ble_eq_true rfl) ?_
  intro p e s m below meth c ls SS hR hK hN hS hl
  obtain ⟨hx, hb, hml, hown, hts⟩ := id SS
  obtain ⟨hr, hlk, hnm⟩ := hR
  obtain ⟨hKv, hKw, hKf, hKz, hKm⟩ := hK0 s hK
  generalize s.heap = H at hN hS ⊢
  generalize ([] : List Loc) = locs at hS ⊢
  have hl : lv_has ls 8 [(0, .ref (ad 0)), (1, .int k), (2, .int q), (3, .int i), (4, .int n_), (5, .int a_)] := hl
  have j48 : ∀ (b : Bool) (H : Heap) (locs : List Loc), b = sAsk a_ → nOk G nCl ad (sPic G x ad si sa rn) H → nS G s H locs → W p l e (sR 13 14 2005) s m ([.ref (ad 0), .int k, .int q, .int i, .int n_, .int a_] : List Value).toArray below meth c H locs 0 0 (MQ below (nQ G nCl (wP G ad x si sa (oDys nd np (sa 1) kd (fun q => dr q &&& sMsk nd) kn (sa 4) so sl ce k q i n_ a_))) ([.ref (ad 0), .int k, .int q, .int i, .int n_, .int a_] : List Value).toArray s 14 2005 (fun q => G.2 ≤ q)) (F0 m 48 ls [.int (zI b)]) := by
    intro b H locs hbb hN hS
    subst hbb
    refine lv_istore (lv' := [(6, _), (0, _), (1, _), (2, _), (3, _), (4, _), (5, _)]) hx hb dX0_days_48 hl (by decide) rfl (fun ls hl => ?_)
    refine lv_aload_n hx hb dX0_days_50 rfl (lv_at hl 1 rfl) ?_
    refine lv_iload_n hx hb dX0_days_51 rfl (lv_at hl 2 rfl) ?_
    refine lv_iload_n hx hb dX0_days_52 rfl (lv_at hl 3 rfl) ?_
    refine lv_iload_n hx hb dX0_days_53 rfl (lv_at hl 4 rfl) ?_
    refine lv_iload hx hb dX0_days_54 (lv_at hl 5 rfl) ?_
    refine lv_iload hx hb dX0_days_56 (lv_at hl 0 rfl) ?_
    refine n_callV (C := RX0) (As := [_, _, _, _, _]) (b := 0) SS hKo hK hKv (sX0_rose l G K hKo hK0 hKx hfl ad x si sa rn so sl ce hSh np kd dr kn hP nd hnd hnd6 k q i n_ (sAsk a_) hx8) (cwV 5 hts (lw_V q881 q883 qs22 q57 q884) rfl rfl rfl (by decide +kernel) ⟨Nat.le_of_ble_eq_true rfl, Nat.le_of_ble_eq_true rfl⟩) hN hS sPic_0 rfl rfl hl.1 rfl (Nat.le_of_ble_eq_true rfl) dX0_days_58 ⟨Nat.le_of_ble_eq_true rfl, Nat.le_of_ble_eq_true rfl⟩ (fun v ad' c' H locs hv hN hS => ?_)
    obtain ⟨hv1, x2, rn2, hz2, hg2, rfl⟩ := hv
    subst hv1
    have h0 := (hz2 0 (by decide) (by decide)).1
    rw [← h0] at hl
    have hP2 := hP.fr (ad1 := ad') (x1 := x2) fun z h1 h2 => hz2 z h2 (by omega)
    refine W.eq (g2 := F0 m 61 ls (_ :: _)) rfl ?_
    refine lv_istore (lv' := [(7, _), (6, _), (0, _), (1, _), (2, _), (3, _), (4, _), (5, _)]) hx hb dX0_days_61 hl (by decide) rfl (fun ls hl => ?_)
    refine lv_iload hx hb dX0_days_63 (lv_at hl 0 rfl) ?_
    refine lv_if_ge (tgt := 73) hx hb dX0_days_65 (by decide) (fun c65 => ?_) (fun c65 => ?_)
    · have hO := oRos_le.resolve_left (fun z => absurd (Int32.not_lt.mpr c65) (fun y => y z))
      obtain ⟨-, -, hbb, -, hO2, -⟩ := oRos_0 hO
      rw [Bool.and_eq_true] at hbb
      obtain ⟨nn, hnn, en, tnn⟩ := sBt_t 20 (by decide) hbb.1
      obtain ⟨rfl, hx9⟩ := hg2 hO
      rw [tnn] at hx9
      rw [hO2] at hN
      obtain ⟨a, ea, ha, ha2⟩ := sAsk_n hbb.2
      rw [ea] at hl
      refine lv_aload_n hx hb dX0_days_73 rfl (lv_at hl 2 rfl) ?_
      refine lv_aload_n hx hb dX0_days_74 rfl (lv_at hl 2 rfl) ?_
      refine n_get (ci := 0) (C := RX0) (T := TX0) (N := 12) hx hb hts in_X0 hown hKv hN (0) sPic_0 rfl 11 (by decide) q141 (fun z h => h) (rfl) dX0_days_75 ?_
      refine lv_iload hx hb dX0_days_78 (lv_at hl 7 rfl) ?_
      refine n_callV (C := RX0) (As := [_, _]) (b := 0) SS hKo hK hKv (sX0_daysBy l G K hKo hK0 ad' x2 (upd si 9 0) sa _ np kd dr kn hP2 nd ((pk_un (by decide)).trans hnd) hnd6 9 nn (fun j => ce (60 * tn k + tn i + j)) (sWh ce (60 * tn k + tn i)) (sWt ce (60 * tn k + tn i)) hnn (by decide) hx9 (by rw [← tnn]; exact rose_w hnd6 hP.1 hO) a ha ha2) (cwV 2 hts (lw_V q901 q903 qs23 q57 q904) rfl rfl rfl (by decide +kernel) ⟨Nat.le_of_ble_eq_true rfl, Nat.le_of_ble_eq_true rfl⟩) hN hS sPic_0 rfl rfl hl.1 rfl (Nat.le_of_ble_eq_true rfl) dX0_days_80 ⟨Nat.le_of_ble_eq_true rfl, Nat.le_of_ble_eq_true rfl⟩ (fun v ad' c' H locs hv hN hS => ?_)
      obtain ⟨rfl, rfl, rfl⟩ := hv
      refine W.eq (g2 := F0 m 83 ls (_ :: _)) rfl ?_
      refine W.widen (k := 14) (n := 2005) (by first | omega | decide) (by first | omega | decide) ?_
      exact W.iret hx hb hr (nEnd hN hS (wP.mk0 (by rw [oDys_0 hO, tnn, ea]) hz2)) hS.2 dX0_days_83
    · have hO : ¬ (oRos nd np so sl ce (sBt n_ 0 20 && sAsk a_) k q i (tn n_)).1 = 0 := fun z => c65 (by rw [z]; exact Int32.le_refl _)
      refine lv_iload hx hb dX0_days_68 (lv_at hl 0 rfl) ?_
      refine lv_goto (tgt := 83) hx hb dX0_days_70 (by decide) ?_
      refine W.widen (k := 14) (n := 2005) (by first | omega | decide) (by first | omega | decide) ?_
      exact W.iret hx hb hr (nEnd hN hS (wP.of (by rw [oDys_no hO]) (by rw [oDys_no hO]) hz2)) hS.2 dX0_days_83
  refine lv_iload hx hb dX0_days_0 (lv_at hl 5 rfl) ?_
  refine lv_i2l hx hb dX0_days_2 rfl ?_
  refine lv_lconst (v := 0) hx hb dX0_days_3 (by decide) ?_
  refine lv_ldc2 hx hb hown (hts _ q541) dX0_days_4 ?_
  refine n_callS (As := [_, _, _]) SS hKo hK (sX0_in l G K hKo hK0 ad _ a_ 0 2) (va_cwS 3 hts (lw_S q185 q186 q57 q187) rfl rfl rfl (by decide +kernel) ⟨Nat.le_of_ble_eq_true rfl, Nat.le_of_ble_eq_true rfl⟩) hN hS rfl hl.1 rfl (Nat.le_of_ble_eq_true rfl) dX0_days_7 ⟨Nat.le_of_ble_eq_true rfl, Nat.le_of_ble_eq_true rfl⟩ (fun v ad' c' H locs hv hN hS => ?_)
  obtain ⟨rfl, rfl, rfl⟩ := hv
  refine W.eq (g2 := F0 m 10 ls (_ :: _)) rfl ?_
  refine lv_if_ne (tgt := 43) hx hb dX0_days_10 (by decide) (fun c10 => ?_) (fun c10 => ?_)
  · have hb1 := zI_n0 c10
    refine lv_iconst (v := 1) hx hb dX0_days_43 (by decide) ?_
    refine lv_goto (tgt := 48) hx hb dX0_days_44 (by decide) ?_
    first | exact j48 true _ _ (by unfold sAsk; simp [*]) hN hS | exact j48 false _ _ (by unfold sAsk; simp [*]) hN hS
  · have hb1 := zI_0.mp c10
    refine lv_iload hx hb dX0_days_13 (lv_at hl 5 rfl) ?_
    refine lv_i2l hx hb dX0_days_15 rfl ?_
    refine lv_ldc2 hx hb hown (hts _ q877) dX0_days_16 ?_
    refine lv_ldc2 hx hb hown (hts _ q878) dX0_days_19 ?_
    refine n_callS (As := [_, _, _]) SS hKo hK (sX0_in l G K hKo hK0 ad _ a_ 10 13) (va_cwS 3 hts (lw_S q185 q186 q57 q187) rfl rfl rfl (by decide +kernel) ⟨Nat.le_of_ble_eq_true rfl, Nat.le_of_ble_eq_true rfl⟩) hN hS rfl hl.1 rfl (Nat.le_of_ble_eq_true rfl) dX0_days_22 ⟨Nat.le_of_ble_eq_true rfl, Nat.le_of_ble_eq_true rfl⟩ (fun v ad' c' H locs hv hN hS => ?_)
    obtain ⟨rfl, rfl, rfl⟩ := hv
    refine W.eq (g2 := F0 m 25 ls (_ :: _)) rfl ?_
    refine lv_if_ne (tgt := 43) hx hb dX0_days_25 (by decide) (fun c25 => ?_) (fun c25 => ?_)
    · have hb2 := zI_n0 c25
      refine lv_iconst (v := 1) hx hb dX0_days_43 (by decide) ?_
      refine lv_goto (tgt := 48) hx hb dX0_days_44 (by decide) ?_
      first | exact j48 true _ _ (by unfold sAsk; simp [*]) hN hS | exact j48 false _ _ (by unfold sAsk; simp [*]) hN hS
    · have hb2 := zI_0.mp c25
      refine lv_iload hx hb dX0_days_28 (lv_at hl 5 rfl) ?_
      refine lv_i2l hx hb dX0_days_30 rfl ?_
      refine lv_ldc2 hx hb hown (hts _ q879) dX0_days_31 ?_
      refine lv_ldc2 hx hb hown (hts _ q880) dX0_days_34 ?_
      refine n_callS (As := [_, _, _]) SS hKo hK (sX0_in l G K hKo hK0 ad _ a_ 20 23) (va_cwS 3 hts (lw_S q185 q186 q57 q187) rfl rfl rfl (by decide +kernel) ⟨Nat.le_of_ble_eq_true rfl, Nat.le_of_ble_eq_true rfl⟩) hN hS rfl hl.1 rfl (Nat.le_of_ble_eq_true rfl) dX0_days_37 ⟨Nat.le_of_ble_eq_true rfl, Nat.le_of_ble_eq_true rfl⟩ (fun v ad' c' H locs hv hN hS => ?_)
      obtain ⟨rfl, rfl, rfl⟩ := hv
      refine W.eq (g2 := F0 m 40 ls (_ :: _)) rfl ?_
      refine lv_if_eq (tgt := 47) hx hb dX0_days_40 (by decide) (fun c40 => ?_) (fun c40 => ?_)
      · have hb3 := zI_0.mp c40
        refine lv_iconst (v := 0) hx hb dX0_days_47 (by decide) ?_
        first | exact j48 true _ _ (by unfold sAsk; simp [*]) hN hS | exact j48 false _ _ (by unfold sAsk; simp [*]) hN hS
      · have hb3 := zI_n0 c40
        refine lv_iconst (v := 1) hx hb dX0_days_43 (by decide) ?_
        refine lv_goto (tgt := 48) hx hb dX0_days_44 (by decide) ?_
        first | exact j48 true _ _ (by unfold sAsk; simp [*]) hN hS | exact j48 false _ _ (by unfold sAsk; simp [*]) hN hS
set_option maxHeartbeats 1000000 in
set_option maxRecDepth 100000 in
theorem sX0_weights (l : Launch) (G : nG) (K : State → Prop) (hKo : nKo G K) (hK0 : ∀ U, K U → sK0 G U) (hKx : ∀ U, K U → xK G U) (hfl : l.stackTraces = false) (ad : Nat → Nat) (x : nPic) (si : AI) (sa : Nat → AI) (rn : Value) (so sl ce : AI) (hSh : sShe G ad x so sl ce) (np : Nat) (kd dr kn : AI) (hP : sPeo G ad x np kd dr kn) (nd : Nat) (hnd : si 1 = nI nd) (hnd6 : nd ≤ 6) (nr : Nat) (rw_ rf_ : AI) (hQ : sRea G ad x nr rw_ rf_) (hrw : ∀ k, k < nr → ∃ q, q < np ∧ rw_ k = nI q) (d_ k q i n_ : Int32) (hx8 : ∀ z, 80 ≤ z → x z = none) : Met l yX0_weights (ws_ yX0_weights cX0_weights 7 (some .int)) (sR 13 14 2005) (nPc G nCl K ad (sPic G x ad si sa rn) [.ref (ad 0), .int d_, .int k, .int q, .int i, .int n_]) (nQ G nCl (wP G ad x si sa (oWts nd np nr (sa 1) kd (fun q => dr q &&& sMsk nd) kn (sa 4) so sl ce rw_ rf_ d_ k q i n_))) 14 2005 (fun q => G.2 ≤ q) := by
  refine nMet RX0 (by decide) rfl (Nat.le_of_ble_eq_true rfl) ?_
  intro p e s m below meth c ls SS hR hK hN hS hl
  obtain ⟨hx, hb, hml, hown, hts⟩ := id SS
  obtain ⟨hr, hlk, hnm⟩ := hR
  obtain ⟨hKv, hKw, hKf, hKz, hKm⟩ := hK0 s hK
  generalize s.heap = H at hN hS ⊢
  generalize ([] : List Loc) = locs at hS ⊢
  have hl : lv_has ls 7 [(0, .ref (ad 0)), (1, .int d_), (2, .int k), (3, .int q), (4, .int i), (5, .int n_)] := hl
  have hnp4 := hP.1
  refine lv_aload_n hx hb dX0_weights_0 rfl (lv_at hl 0 rfl) ?_
  refine lv_iload_n hx hb dX0_weights_1 rfl (lv_at hl 1 rfl) ?_
  refine n_callV (C := RX0) (As := [_]) (b := 0) SS hKo hK hKv (sX0_noDeed l G K hKo hK0 ad x si sa rn d_ nd hnd hnd6) (cwV 1 hts (lw_V q258 q260 qs4 q57 q261) rfl rfl rfl (by decide +kernel) ⟨Nat.le_of_ble_eq_true rfl, Nat.le_of_ble_eq_true rfl⟩) hN hS sPic_0 rfl rfl hl.1 rfl (Nat.le_of_ble_eq_true rfl) dX0_weights_2 ⟨Nat.le_of_ble_eq_true rfl, Nat.le_of_ble_eq_true rfl⟩ (fun v ad' c' H locs hv hN hS => ?_)
  obtain ⟨rfl, rfl, rfl⟩ := hv
  refine W.eq (g2 := F0 m 5 ls (_ :: _)) rfl ?_
  refine lv_if_eq (tgt := 14) hx hb dX0_weights_5 (by decide) (fun c5 => ?_) (fun c5 => ?_)
  · have h1 := zI_ns c5
    obtain ⟨j, hj, ej, tj⟩ := sIn_t (by omega) h1
    have tj : tn d_ = j := tj
    refine lv_aload_n hx hb dX0_weights_14 rfl (lv_at hl 0 rfl) ?_
    refine lv_iload_n hx hb dX0_weights_15 rfl (lv_at hl 2 rfl) ?_
    refine lv_iload_n hx hb dX0_weights_16 rfl (lv_at hl 3 rfl) ?_
    refine lv_iload hx hb dX0_weights_17 (lv_at hl 4 rfl) ?_
    refine lv_iload hx hb dX0_weights_19 (lv_at hl 5 rfl) ?_
    refine lv_iconst (v := 1) hx hb dX0_weights_21 (by decide) ?_
    refine n_callV (C := RX0) (As := [_, _, _, _, _]) (b := 0) SS hKo hK hKv (sX0_rose l G K hKo hK0 hKx hfl ad x si sa rn so sl ce hSh np kd dr kn hP nd hnd hnd6 k q i n_ true hx8) (cwV 5 hts (lw_V q881 q883 qs22 q57 q884) rfl rfl rfl (by decide +kernel) ⟨Nat.le_of_ble_eq_true rfl, Nat.le_of_ble_eq_true rfl⟩) hN hS sPic_0 rfl rfl hl.1 rfl (Nat.le_of_ble_eq_true rfl) dX0_weights_22 ⟨Nat.le_of_ble_eq_true rfl, Nat.le_of_ble_eq_true rfl⟩ (fun v ad' c' H locs hv hN hS => ?_)
    obtain ⟨hv1, x2, rn2, hz2, hg2, rfl⟩ := hv
    subst hv1
    have h0 := (hz2 0 (by decide) (by decide)).1
    rw [← h0] at hl
    have hP2 := hP.fr (ad1 := ad') (x1 := x2) fun z h1 h2 => hz2 z h2 (by omega)
    refine W.eq (g2 := F0 m 25 ls (_ :: _)) rfl ?_
    refine lv_istore (lv' := [(6, _), (0, _), (1, _), (2, _), (3, _), (4, _), (5, _)]) hx hb dX0_weights_25 hl (by decide) rfl (fun ls hl => ?_)
    refine lv_iload hx hb dX0_weights_27 (lv_at hl 0 rfl) ?_
    refine lv_if_ge (tgt := 37) hx hb dX0_weights_29 (by decide) (fun c29 => ?_) (fun c29 => ?_)
    · have hO := oRos_le.resolve_left (fun z => absurd (Int32.not_lt.mpr c29) (fun y => y z))
      obtain ⟨-, -, hbb, -, hO2, -⟩ := oRos_0 hO
      rw [Bool.and_eq_true] at hbb
      obtain ⟨nn, hnn, en, tnn⟩ := sBt_t 20 (by decide) hbb.1
      obtain ⟨rfl, hx9⟩ := hg2 hO
      rw [tnn] at hx9
      rw [hO2] at hN
      rw [ej] at hl
      have hQ2 := hQ.fr (ad1 := ad') (x1 := x2) fun z h1 h2 => hz2 z h2 (by omega)
      refine lv_aload_n hx hb dX0_weights_37 rfl (lv_at hl 1 rfl) ?_
      refine lv_aload_n hx hb dX0_weights_38 rfl (lv_at hl 1 rfl) ?_
      refine n_get (ci := 0) (C := RX0) (T := TX0) (N := 12) hx hb hts in_X0 hown hKv hN (0) sPic_0 rfl 11 (by decide) q141 (fun z h => h) (rfl) dX0_weights_39 ?_
      refine lv_iload_n hx hb dX0_weights_42 rfl (lv_at hl 2 rfl) ?_
      refine n_callV (C := RX0) (As := [_, _]) (b := 0) SS hKo hK hKv (sX0_weightsBy l G K hKo hK0 ad' x2 (upd si 9 0) sa _ np kd dr kn hP2 nd ((pk_un (by decide)).trans hnd) hnd6 9 nn (fun j => ce (60 * tn k + tn i + j)) (sWh ce (60 * tn k + tn i)) (sWt ce (60 * tn k + tn i)) hnn (by decide) hx9 (by rw [← tnn]; exact rose_w hnd6 hP.1 hO) nr rw_ rf_ hQ2 hrw j hj) (cwV 2 hts (lw_V q931 q933 qs29 q57 q934) rfl rfl rfl (by decide +kernel) ⟨Nat.le_of_ble_eq_true rfl, Nat.le_of_ble_eq_true rfl⟩) hN hS sPic_0 rfl rfl hl.1 rfl (Nat.le_of_ble_eq_true rfl) dX0_weights_43 ⟨Nat.le_of_ble_eq_true rfl, Nat.le_of_ble_eq_true rfl⟩ (fun v ad' c' H locs hv hN hS => ?_)
      obtain ⟨cg, fw, k5, rfl, rfl, rfl⟩ := hv
      refine W.eq (g2 := F0 m 46 ls (_ :: _)) rfl ?_
      refine W.widen (k := 14) (n := 2005) (by first | omega | decide) (by first | omega | decide) ?_
      exact W.iret hx hb hr (nEnd hN hS (wP.mk0 (by unfold oWts; rw [oWif_0 h1 hO, tj, tnn]) hz2)) hS.2 dX0_weights_46
    · have hO : ¬ (oRos nd np so sl ce (sBt n_ 0 20 && true) k q i (tn n_)).1 = 0 := fun z => c29 (by rw [z]; exact Int32.le_refl _)
      refine lv_iload hx hb dX0_weights_32 (lv_at hl 0 rfl) ?_
      refine lv_goto (tgt := 46) hx hb dX0_weights_34 (by decide) ?_
      refine W.widen (k := 14) (n := 2005) (by first | omega | decide) (by first | omega | decide) ?_
      exact W.iret hx hb hr (nEnd hN hS (wP.of (by unfold oWts; rw [oWif_no h1 hO]) (by unfold oWts; rw [oWif_no h1 hO]) hz2)) hS.2 dX0_weights_46
  · have h1 := zI_s c5
    refine lv_aload_n hx hb dX0_weights_8 rfl (lv_at hl 0 rfl) ?_
    refine lv_iconst (v := (-1)) hx hb dX0_weights_9 (by decide) ?_
    refine n_callV (C := RX0) (As := [_]) (b := 0) SS hKo hK hKv (sX0_refused l G K hKo hK0 ad x si sa rn (-1)) (cwV 1 hts (lw_V q537 q539 qs14 q57 q540) rfl rfl rfl (by decide +kernel) ⟨Nat.le_of_ble_eq_true rfl, Nat.le_of_ble_eq_true rfl⟩) hN hS sPic_0 rfl rfl hl.1 rfl (Nat.le_of_ble_eq_true rfl) dX0_weights_10 ⟨Nat.le_of_ble_eq_true rfl, Nat.le_of_ble_eq_true rfl⟩ (fun v ad' c' H locs hv hN hS => ?_)
    obtain ⟨rfl, rfl, rfl⟩ := hv
    refine W.eq (g2 := F0 m 13 ls (_ :: _)) rfl ?_
    refine W.widen (k := 14) (n := 2005) (by first | omega | decide) (by first | omega | decide) ?_
    exact W.iret hx hb hr (nEnd hN hS (wP.of (by unfold oWts; rw [oWif_n h1]) (by unfold oWts; rw [oWif_n h1]) (fun _ _ _ => ⟨rfl, rfl⟩))) hS.2 dX0_weights_13
set_option maxHeartbeats 1000000 in
set_option maxRecDepth 100000 in
theorem sX0_kinds (l : Launch) (G : nG) (K : State → Prop) (hKo : nKo G K) (hK0 : ∀ U, K U → sK0 G U) (hKx : ∀ U, K U → xK G U) (hfl : l.stackTraces = false) (ad : Nat → Nat) (x : nPic) (si : AI) (sa : Nat → AI) (rn : Value) (so sl ce : AI) (hSh : sShe G ad x so sl ce) (np : Nat) (kd dr kn : AI) (hP : sPeo G ad x np kd dr kn) (nd : Nat) (hnd : si 1 = nI nd) (hnd6 : nd ≤ 6) (nr : Nat) (rw_ rf_ : AI) (hQ : sRea G ad x nr rw_ rf_) (hrw : ∀ k, k < nr → ∃ q, q < np ∧ rw_ k = nI q) (d_ k q i n_ : Int32) (hx8 : ∀ z, 80 ≤ z → x z = none) : Met l yX0_kinds (ws_ yX0_kinds cX0_kinds 7 (some .int)) (sR 13 14 2005) (nPc G nCl K ad (sPic G x ad si sa rn) [.ref (ad 0), .int d_, .int k, .int q, .int i, .int n_]) (nQ G nCl (wP G ad x si sa (oKds nd np nr (sa 1) kd (fun q => dr q &&& sMsk nd) kn (sa 4) so sl ce rw_ rf_ d_ k q i n_))) 14 2005 (fun q => G.2 ≤ q) := by
  refine nMet RX0 (by decide) rfl (Nat.le_of_ble_eq_true rfl) ?_
  intro p e s m below meth c ls SS hR hK hN hS hl
  obtain ⟨hx, hb, hml, hown, hts⟩ := id SS
  obtain ⟨hr, hlk, hnm⟩ := hR
  obtain ⟨hKv, hKw, hKf, hKz, hKm⟩ := hK0 s hK
  generalize s.heap = H at hN hS ⊢
  generalize ([] : List Loc) = locs at hS ⊢
  have hl : lv_has ls 7 [(0, .ref (ad 0)), (1, .int d_), (2, .int k), (3, .int q), (4, .int i), (5, .int n_)] := hl
  have hnp4 := hP.1
  refine lv_aload_n hx hb dX0_kinds_0 rfl (lv_at hl 0 rfl) ?_
  refine lv_iload_n hx hb dX0_kinds_1 rfl (lv_at hl 1 rfl) ?_
  refine n_callV (C := RX0) (As := [_]) (b := 0) SS hKo hK hKv (sX0_noPerson l G K hKo hK0 ad x si sa rn d_ np kd dr kn hP) (cwV 1 hts (lw_V q171 q173 qs0 q57 q174) rfl rfl rfl (by decide +kernel) ⟨Nat.le_of_ble_eq_true rfl, Nat.le_of_ble_eq_true rfl⟩) hN hS sPic_0 rfl rfl hl.1 rfl (Nat.le_of_ble_eq_true rfl) dX0_kinds_2 ⟨Nat.le_of_ble_eq_true rfl, Nat.le_of_ble_eq_true rfl⟩ (fun v ad' c' H locs hv hN hS => ?_)
  obtain ⟨rfl, rfl, rfl⟩ := hv
  refine W.eq (g2 := F0 m 5 ls (_ :: _)) rfl ?_
  refine lv_if_eq (tgt := 14) hx hb dX0_kinds_5 (by decide) (fun c5 => ?_) (fun c5 => ?_)
  · have h1 := zI_ns c5
    obtain ⟨j, hj, ej, tj⟩ := sIn_t (by omega) h1
    have tj : tn d_ = j := tj
    refine lv_aload_n hx hb dX0_kinds_14 rfl (lv_at hl 0 rfl) ?_
    refine lv_iload_n hx hb dX0_kinds_15 rfl (lv_at hl 2 rfl) ?_
    refine lv_iload_n hx hb dX0_kinds_16 rfl (lv_at hl 3 rfl) ?_
    refine lv_iload hx hb dX0_kinds_17 (lv_at hl 4 rfl) ?_
    refine lv_iload hx hb dX0_kinds_19 (lv_at hl 5 rfl) ?_
    refine lv_iconst (v := 1) hx hb dX0_kinds_21 (by decide) ?_
    refine n_callV (C := RX0) (As := [_, _, _, _, _]) (b := 0) SS hKo hK hKv (sX0_rose l G K hKo hK0 hKx hfl ad x si sa rn so sl ce hSh np kd dr kn hP nd hnd hnd6 k q i n_ true hx8) (cwV 5 hts (lw_V q881 q883 qs22 q57 q884) rfl rfl rfl (by decide +kernel) ⟨Nat.le_of_ble_eq_true rfl, Nat.le_of_ble_eq_true rfl⟩) hN hS sPic_0 rfl rfl hl.1 rfl (Nat.le_of_ble_eq_true rfl) dX0_kinds_22 ⟨Nat.le_of_ble_eq_true rfl, Nat.le_of_ble_eq_true rfl⟩ (fun v ad' c' H locs hv hN hS => ?_)
    obtain ⟨hv1, x2, rn2, hz2, hg2, rfl⟩ := hv
    subst hv1
    have h0 := (hz2 0 (by decide) (by decide)).1
    rw [← h0] at hl
    have hP2 := hP.fr (ad1 := ad') (x1 := x2) fun z h1 h2 => hz2 z h2 (by omega)
    refine W.eq (g2 := F0 m 25 ls (_ :: _)) rfl ?_
    refine lv_istore (lv' := [(6, _), (0, _), (1, _), (2, _), (3, _), (4, _), (5, _)]) hx hb dX0_kinds_25 hl (by decide) rfl (fun ls hl => ?_)
    refine lv_iload hx hb dX0_kinds_27 (lv_at hl 0 rfl) ?_
    refine lv_if_ge (tgt := 37) hx hb dX0_kinds_29 (by decide) (fun c29 => ?_) (fun c29 => ?_)
    · have hO := oRos_le.resolve_left (fun z => absurd (Int32.not_lt.mpr c29) (fun y => y z))
      obtain ⟨-, -, hbb, -, hO2, -⟩ := oRos_0 hO
      rw [Bool.and_eq_true] at hbb
      obtain ⟨nn, hnn, en, tnn⟩ := sBt_t 20 (by decide) hbb.1
      obtain ⟨rfl, hx9⟩ := hg2 hO
      rw [tnn] at hx9
      rw [hO2] at hN
      rw [ej] at hl
      have hQ2 := hQ.fr (ad1 := ad') (x1 := x2) fun z h1 h2 => hz2 z h2 (by omega)
      refine lv_aload_n hx hb dX0_kinds_37 rfl (lv_at hl 1 rfl) ?_
      refine lv_aload_n hx hb dX0_kinds_38 rfl (lv_at hl 1 rfl) ?_
      refine n_get (ci := 0) (C := RX0) (T := TX0) (N := 12) hx hb hts in_X0 hown hKv hN (0) sPic_0 rfl 11 (by decide) q141 (fun z h => h) (rfl) dX0_kinds_39 ?_
      refine lv_iload_n hx hb dX0_kinds_42 rfl (lv_at hl 2 rfl) ?_
      refine n_callV (C := RX0) (As := [_, _]) (b := 0) SS hKo hK hKv (sX0_kindsBy l G K hKo hK0 ad' x2 (upd si 9 0) sa _ np kd dr kn hP2 j hj nd ((pk_un (by decide)).trans hnd) hnd6 9 nn (fun j => ce (60 * tn k + tn i + j)) (sWh ce (60 * tn k + tn i)) (sWt ce (60 * tn k + tn i)) hnn (by decide) hx9 (by rw [← tnn]; exact rose_w hnd6 hP.1 hO) nr rw_ rf_ hQ2 hrw (by decide) (((hz2 80 (by decide) (by decide)).2).trans (hx8 80 (by decide)))) (cwV 2 hts (lw_V q943 q945 qs31 q57 q946) rfl rfl rfl (by decide +kernel) ⟨Nat.le_of_ble_eq_true rfl, Nat.le_of_ble_eq_true rfl⟩) hN hS sPic_0 rfl rfl hl.1 rfl (Nat.le_of_ble_eq_true rfl) dX0_kinds_43 ⟨Nat.le_of_ble_eq_true rfl, Nat.le_of_ble_eq_true rfl⟩ (fun v ad' c' H locs hv hN hS => ?_)
      obtain ⟨cg, fw, k5, rfl, rfl, rfl⟩ := hv
      refine W.eq (g2 := F0 m 46 ls (_ :: _)) rfl ?_
      refine W.widen (k := 14) (n := 2005) (by first | omega | decide) (by first | omega | decide) ?_
      exact W.iret hx hb hr (nEnd hN hS (wP.mk0 (by unfold oKds; rw [oWif_0 h1 hO, tj, tnn]) hz2)) hS.2 dX0_kinds_46
    · have hO : ¬ (oRos nd np so sl ce (sBt n_ 0 20 && true) k q i (tn n_)).1 = 0 := fun z => c29 (by rw [z]; exact Int32.le_refl _)
      refine lv_iload hx hb dX0_kinds_32 (lv_at hl 0 rfl) ?_
      refine lv_goto (tgt := 46) hx hb dX0_kinds_34 (by decide) ?_
      refine W.widen (k := 14) (n := 2005) (by first | omega | decide) (by first | omega | decide) ?_
      exact W.iret hx hb hr (nEnd hN hS (wP.of (by unfold oKds; rw [oWif_no h1 hO]) (by unfold oKds; rw [oWif_no h1 hO]) hz2)) hS.2 dX0_kinds_46
  · have h1 := zI_s c5
    refine lv_aload_n hx hb dX0_kinds_8 rfl (lv_at hl 0 rfl) ?_
    refine lv_iconst (v := (-1)) hx hb dX0_kinds_9 (by decide) ?_
    refine n_callV (C := RX0) (As := [_]) (b := 0) SS hKo hK hKv (sX0_refused l G K hKo hK0 ad x si sa rn (-1)) (cwV 1 hts (lw_V q537 q539 qs14 q57 q540) rfl rfl rfl (by decide +kernel) ⟨Nat.le_of_ble_eq_true rfl, Nat.le_of_ble_eq_true rfl⟩) hN hS sPic_0 rfl rfl hl.1 rfl (Nat.le_of_ble_eq_true rfl) dX0_kinds_10 ⟨Nat.le_of_ble_eq_true rfl, Nat.le_of_ble_eq_true rfl⟩ (fun v ad' c' H locs hv hN hS => ?_)
    obtain ⟨rfl, rfl, rfl⟩ := hv
    refine W.eq (g2 := F0 m 13 ls (_ :: _)) rfl ?_
    refine W.widen (k := 14) (n := 2005) (by first | omega | decide) (by first | omega | decide) ?_
    exact W.iret hx hb hr (nEnd hN hS (wP.of (by unfold oKds; rw [oWif_n h1]) (by unfold oKds; rw [oWif_n h1]) (fun _ _ _ => ⟨rfl, rfl⟩))) hS.2 dX0_kinds_13
set_option maxHeartbeats 1000000 in
set_option maxRecDepth 100000 in
theorem sX0_knew (l : Launch) (G : nG) (K : State → Prop) (hKo : nKo G K) (hK0 : ∀ U, K U → sK0 G U) (hKx : ∀ U, K U → xK G U) (hfl : l.stackTraces = false) (ad : Nat → Nat) (x : nPic) (si : AI) (sa : Nat → AI) (rn : Value) (so sl ce : AI) (hSh : sShe G ad x so sl ce) (np : Nat) (kd dr kn : AI) (hP : sPeo G ad x np kd dr kn) (nd : Nat) (hnd : si 1 = nI nd) (hnd6 : nd ≤ 6) (nr : Nat) (rw_ rf_ : AI) (hQ : sRea G ad x nr rw_ rf_) (hrw : ∀ k, k < nr → ∃ q, q < np ∧ rw_ k = nI q) (d_ k q i n_ : Int32) (hx8 : ∀ z, 80 ≤ z → x z = none) : Met l yX0_knew (ws_ yX0_knew cX0_knew 7 (some .int)) (sR 13 14 2005) (nPc G nCl K ad (sPic G x ad si sa rn) [.ref (ad 0), .int d_, .int k, .int q, .int i, .int n_]) (nQ G nCl (wP G ad x si sa (oKnw nd np nr (sa 1) kd (fun q => dr q &&& sMsk nd) kn (sa 4) so sl ce rw_ rf_ d_ k q i n_))) 14 2005 (fun q => G.2 ≤ q) := by
  refine nMet RX0 (by decide) rfl (Nat.le_of_ble_eq_true rfl) ?_
  intro p e s m below meth c ls SS hR hK hN hS hl
  obtain ⟨hx, hb, hml, hown, hts⟩ := id SS
  obtain ⟨hr, hlk, hnm⟩ := hR
  obtain ⟨hKv, hKw, hKf, hKz, hKm⟩ := hK0 s hK
  generalize s.heap = H at hN hS ⊢
  generalize ([] : List Loc) = locs at hS ⊢
  have hl : lv_has ls 7 [(0, .ref (ad 0)), (1, .int d_), (2, .int k), (3, .int q), (4, .int i), (5, .int n_)] := hl
  have hnp4 := hP.1
  refine lv_aload_n hx hb dX0_knew_0 rfl (lv_at hl 0 rfl) ?_
  refine lv_iload_n hx hb dX0_knew_1 rfl (lv_at hl 1 rfl) ?_
  refine n_callV (C := RX0) (As := [_]) (b := 0) SS hKo hK hKv (sX0_noPerson l G K hKo hK0 ad x si sa rn d_ np kd dr kn hP) (cwV 1 hts (lw_V q171 q173 qs0 q57 q174) rfl rfl rfl (by decide +kernel) ⟨Nat.le_of_ble_eq_true rfl, Nat.le_of_ble_eq_true rfl⟩) hN hS sPic_0 rfl rfl hl.1 rfl (Nat.le_of_ble_eq_true rfl) dX0_knew_2 ⟨Nat.le_of_ble_eq_true rfl, Nat.le_of_ble_eq_true rfl⟩ (fun v ad' c' H locs hv hN hS => ?_)
  obtain ⟨rfl, rfl, rfl⟩ := hv
  refine W.eq (g2 := F0 m 5 ls (_ :: _)) rfl ?_
  refine lv_if_eq (tgt := 14) hx hb dX0_knew_5 (by decide) (fun c5 => ?_) (fun c5 => ?_)
  · have h1 := zI_ns c5
    obtain ⟨j, hj, ej, tj⟩ := sIn_t (by omega) h1
    have tj : tn d_ = j := tj
    refine lv_aload_n hx hb dX0_knew_14 rfl (lv_at hl 0 rfl) ?_
    refine lv_iload_n hx hb dX0_knew_15 rfl (lv_at hl 2 rfl) ?_
    refine lv_iload_n hx hb dX0_knew_16 rfl (lv_at hl 3 rfl) ?_
    refine lv_iload hx hb dX0_knew_17 (lv_at hl 4 rfl) ?_
    refine lv_iload hx hb dX0_knew_19 (lv_at hl 5 rfl) ?_
    refine lv_iconst (v := 1) hx hb dX0_knew_21 (by decide) ?_
    refine n_callV (C := RX0) (As := [_, _, _, _, _]) (b := 0) SS hKo hK hKv (sX0_rose l G K hKo hK0 hKx hfl ad x si sa rn so sl ce hSh np kd dr kn hP nd hnd hnd6 k q i n_ true hx8) (cwV 5 hts (lw_V q881 q883 qs22 q57 q884) rfl rfl rfl (by decide +kernel) ⟨Nat.le_of_ble_eq_true rfl, Nat.le_of_ble_eq_true rfl⟩) hN hS sPic_0 rfl rfl hl.1 rfl (Nat.le_of_ble_eq_true rfl) dX0_knew_22 ⟨Nat.le_of_ble_eq_true rfl, Nat.le_of_ble_eq_true rfl⟩ (fun v ad' c' H locs hv hN hS => ?_)
    obtain ⟨hv1, x2, rn2, hz2, hg2, rfl⟩ := hv
    subst hv1
    have h0 := (hz2 0 (by decide) (by decide)).1
    rw [← h0] at hl
    have hP2 := hP.fr (ad1 := ad') (x1 := x2) fun z h1 h2 => hz2 z h2 (by omega)
    refine W.eq (g2 := F0 m 25 ls (_ :: _)) rfl ?_
    refine lv_istore (lv' := [(6, _), (0, _), (1, _), (2, _), (3, _), (4, _), (5, _)]) hx hb dX0_knew_25 hl (by decide) rfl (fun ls hl => ?_)
    refine lv_iload hx hb dX0_knew_27 (lv_at hl 0 rfl) ?_
    refine lv_if_ge (tgt := 37) hx hb dX0_knew_29 (by decide) (fun c29 => ?_) (fun c29 => ?_)
    · have hO := oRos_le.resolve_left (fun z => absurd (Int32.not_lt.mpr c29) (fun y => y z))
      obtain ⟨-, -, hbb, -, hO2, -⟩ := oRos_0 hO
      rw [Bool.and_eq_true] at hbb
      obtain ⟨nn, hnn, en, tnn⟩ := sBt_t 20 (by decide) hbb.1
      obtain ⟨rfl, hx9⟩ := hg2 hO
      rw [tnn] at hx9
      rw [hO2] at hN
      rw [ej] at hl
      have hQ2 := hQ.fr (ad1 := ad') (x1 := x2) fun z h1 h2 => hz2 z h2 (by omega)
      refine lv_aload_n hx hb dX0_knew_37 rfl (lv_at hl 1 rfl) ?_
      refine lv_aload_n hx hb dX0_knew_38 rfl (lv_at hl 1 rfl) ?_
      refine n_get (ci := 0) (C := RX0) (T := TX0) (N := 12) hx hb hts in_X0 hown hKv hN (0) sPic_0 rfl 11 (by decide) q141 (fun z h => h) (rfl) dX0_knew_39 ?_
      refine lv_iload_n hx hb dX0_knew_42 rfl (lv_at hl 2 rfl) ?_
      refine n_callV (C := RX0) (As := [_, _]) (b := 0) SS hKo hK hKv (sX0_knewBy l G K hKo hK0 ad' x2 (upd si 9 0) sa _ np kd dr kn hP2 j hj nd ((pk_un (by decide)).trans hnd) hnd6 9 nn (fun j => ce (60 * tn k + tn i + j)) (sWh ce (60 * tn k + tn i)) (sWt ce (60 * tn k + tn i)) hnn (by decide) hx9 (by rw [← tnn]; exact rose_w hnd6 hP.1 hO) nr rw_ rf_ hQ2 hrw (by decide)) (cwV 2 hts (lw_V q960 q962 qs32 q57 q963) rfl rfl rfl (by decide +kernel) ⟨Nat.le_of_ble_eq_true rfl, Nat.le_of_ble_eq_true rfl⟩) hN hS sPic_0 rfl rfl hl.1 rfl (Nat.le_of_ble_eq_true rfl) dX0_knew_43 ⟨Nat.le_of_ble_eq_true rfl, Nat.le_of_ble_eq_true rfl⟩ (fun v ad' c' H locs hv hN hS => ?_)
      obtain ⟨cg, fw, k5, rfl, rfl, rfl⟩ := hv
      refine W.eq (g2 := F0 m 46 ls (_ :: _)) rfl ?_
      refine W.widen (k := 14) (n := 2005) (by first | omega | decide) (by first | omega | decide) ?_
      exact W.iret hx hb hr (nEnd hN hS (wP.mk0 (by unfold oKnw; rw [oWif_0 h1 hO, tj, tnn]) hz2)) hS.2 dX0_knew_46
    · have hO : ¬ (oRos nd np so sl ce (sBt n_ 0 20 && true) k q i (tn n_)).1 = 0 := fun z => c29 (by rw [z]; exact Int32.le_refl _)
      refine lv_iload hx hb dX0_knew_32 (lv_at hl 0 rfl) ?_
      refine lv_goto (tgt := 46) hx hb dX0_knew_34 (by decide) ?_
      refine W.widen (k := 14) (n := 2005) (by first | omega | decide) (by first | omega | decide) ?_
      exact W.iret hx hb hr (nEnd hN hS (wP.of (by unfold oKnw; rw [oWif_no h1 hO]) (by unfold oKnw; rw [oWif_no h1 hO]) hz2)) hS.2 dX0_knew_46
  · have h1 := zI_s c5
    refine lv_aload_n hx hb dX0_knew_8 rfl (lv_at hl 0 rfl) ?_
    refine lv_iconst (v := (-1)) hx hb dX0_knew_9 (by decide) ?_
    refine n_callV (C := RX0) (As := [_]) (b := 0) SS hKo hK hKv (sX0_refused l G K hKo hK0 ad x si sa rn (-1)) (cwV 1 hts (lw_V q537 q539 qs14 q57 q540) rfl rfl rfl (by decide +kernel) ⟨Nat.le_of_ble_eq_true rfl, Nat.le_of_ble_eq_true rfl⟩) hN hS sPic_0 rfl rfl hl.1 rfl (Nat.le_of_ble_eq_true rfl) dX0_knew_10 ⟨Nat.le_of_ble_eq_true rfl, Nat.le_of_ble_eq_true rfl⟩ (fun v ad' c' H locs hv hN hS => ?_)
    obtain ⟨rfl, rfl, rfl⟩ := hv
    refine W.eq (g2 := F0 m 13 ls (_ :: _)) rfl ?_
    refine W.widen (k := 14) (n := 2005) (by first | omega | decide) (by first | omega | decide) ?_
    exact W.iret hx hb hr (nEnd hN hS (wP.of (by unfold oKnw; rw [oWif_n h1]) (by unfold oKnw; rw [oWif_n h1]) (fun _ _ _ => ⟨rfl, rfl⟩))) hS.2 dX0_knew_13
