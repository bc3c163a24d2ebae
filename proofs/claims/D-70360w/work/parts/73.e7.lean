/-! SYSTEM: what is looked for: printed by wip/gen/e7.py -/
theorem zI_ns {b : Bool} (h : zI (!b) = 0) : b = true := by cases b <;> first | rfl | exact absurd h (by decide)
theorem zI_s {b : Bool} (h : ¬ zI (!b) = 0) : b = false := by cases b <;> first | rfl | exact absurd rfl h
section LK
variable {G : nG} {ad ad1 ad' : Nat → Nat} {x x1 x2 x' : nPic} {si : AI} {sa : Nat → AI} {rn : Value} {H : Heap} {so sl ce : AI}
theorem fr_put {la : Nat} {e : Option va_E} (hla : la = 9 ∨ 40 ≤ la) (hf : sFr la ad x ad1 x1) (hN : nOk G nCl ad1 (va_up (sPic G x1 ad1 si sa rn) la e) H) : ∃ x2 : nPic, nOk G nCl ad1 (sPic G x2 ad1 si sa rn) H ∧ sFr la ad x ad1 x2 ∧ x2 la = e := by
  refine ⟨va_up x1 la e, ?_, fun z hz => ⟨(hf z hz).1, (va_up_ne _ _ hz).trans (hf z hz).2⟩, va_up_self _ _ _⟩
  rw [sPic_up ⟨by omega, by omega, by omega, by omega⟩] at hN
  exact hN
theorem twF.rf (h8 : ∀ z, 80 ≤ z → x z = none) : twF ad x ad x := ⟨fun _ _ _ => ⟨rfl, rfl⟩, h8⟩
theorem twF.fr (hf : sFr 40 ad x ad1 x1) (h : twF ad1 x1 ad' x') : twF ad x ad' x' :=
  ⟨fun z hz hn => ⟨(h.1 z hz hn).1.trans (hf z (by omega)).1, (h.1 z hz hn).2.trans (hf z (by omega)).2⟩, h.2⟩
theorem twT.fr {T : Bool × Nat × (Nat × AI) × (Nat × AI × AI × AI)} (hf : sFr 40 ad x ad1 x1) (h : twT G ad1 x1 ad' x' T) : twT G ad x ad' x' T :=
  ⟨fun z hz hn => (h.1 z hz hn).trans (hf z (by omega)).1, fun z hz hn => (h.2.1 z hz hn).trans (hf z (by omega)).2, h.2.2⟩
/-- what the machine has against it, by the sheet's row -/
theorem sh_case (hSh : sShe G ad x so sl ce) {k q : Nat} (hk : k < 4) (hq : q < 3) (i n : Int32) :
    (so k = -9 ∧ sAgn so sl k (nI q) i n = 1) ∨ (∃ (q2 L : Nat) (f : AI), q2 < 3 ∧ q2 ≠ q ∧ ¬ so k = -9 ∧ x (14 + k) = some (rowE G q2 L f) ∧ sAgn so sl k (nI q) i n = 2) ∨
    ∃ (L : Nat) (f : AI), L ≤ 60 ∧ ¬ so k = -9 ∧ x (14 + k) = some (rowE G q L f) ∧ (∀ i, i < L → f i = ce (60 * k + i)) ∧
      ((n < 0 ∧ sAgn so sl k (nI q) i n = 4) ∨ (¬ n < 0 ∧ (i < 0 ∨ nI L < i ∨ nI L - i < n) ∧ sAgn so sl k (nI q) i n = 3) ∨ (∃ ii w : Nat, i = nI ii ∧ n = nI w ∧ ii + w ≤ L ∧ sAgn so sl k (nI q) i n = 0)) := by
  by_cases h9 : so k = -9
  · left
    refine ⟨h9, ?_⟩
    unfold sAgn
    rw [if_neg (fun z => z.1 h9), if_pos h9]
  · right
    obtain ⟨q2, L, f, g1, g2, g3, g4, g5, g6, g7⟩ := (hSh.2 k hk).resolve_left h9
    by_cases hqq : q2 = q
    · right
      subst hqq
      have e0 : ¬ (¬ so k = -9 ∧ ¬ so k = nI q2) := fun z => z.2 g2
      refine ⟨L, f, g3, h9, g6, fun i hi => (g7 i hi).1, ?_⟩
      by_cases hn : n < 0
      · left
        refine ⟨hn, ?_⟩
        unfold sAgn
        rw [if_neg e0, if_neg h9, if_pos hn]
      · right
        by_cases ho : i < 0 ∨ nI L < i ∨ nI L - i < n
        · left
          refine ⟨hn, ho, ?_⟩
          unfold sAgn
          rw [if_neg e0, if_neg h9, if_neg hn, if_pos (by rw [g4]; exact ho)]
        · right
          have h0 : sAgn so sl k (nI q2) i n = 0 := by
            unfold sAgn
            rw [if_neg e0, if_neg h9, if_neg hn, if_neg (by rw [g4]; exact ho)]
          obtain ⟨-, -, ii, w, a1, -, a3, -, a5⟩ := sAgn_00 g4 g3 h0
          exact ⟨ii, w, a1, a3, a5, h0⟩
    · left
      refine ⟨q2, L, f, g1, hqq, h9, g6, ?_⟩
      unfold sAgn
      rw [if_pos ⟨h9, fun z => hqq ((nI_eq (a := q2) (b := q) (by omega) (by omega)).mp (g2.symm.trans z))⟩]
theorem oTwr_a {k q i n : Int32} (h : sBt k 0 3 = false) : oTwr so sl ce k q i n = (-1, 0, false) := by unfold oTwr; rw [h]; rfl
theorem oTwr_b {k q i n : Int32} (h : sBt k 0 3 = true) (h2 : sBt q 0 2 = false) : oTwr so sl ce k q i n = (-2, 0, false) := by unfold oTwr; rw [if_pos h, h2]; rfl
theorem oTwr_c {k q i n z : Int32} (h : sBt k 0 3 = true) (h2 : sBt q 0 2 = true) (h3 : sAgn so sl (tn k) q i n = z) (hz : ¬ z = 0) : oTwr so sl ce k q i n = (-10 - z, z, false) := by unfold oTwr; rw [if_pos h, if_pos h2, h3, if_neg hz]
theorem oTwr_d {k q i n : Int32} (h : sBt k 0 3 = true) (h2 : sBt q 0 2 = true) (h3 : sAgn so sl (tn k) q i n = 0) {T : Bool × Nat × (Nat × AI) × (Nat × AI × AI × AI)} (hT : pT (fun p => ce (60 * tn k + tn i + p)) (tn n) = T) : oTwr so sl ce k q i n = (if T.1 = true then (nI T.2.2.2.1, 0, true) else (-100 - nI T.2.1, 0, false)) := by
  unfold oTwr
  rw [if_pos h, if_pos h2, if_pos h3, hT]
/-- a tower looked for: what stands behind it -/
abbrev lkP (G : nG) (ad : Nat → Nat) (x : nPic) (si : AI) (sa : Nat → AI) (rn : Value) (O : Int32 × Int32 × Bool) (T : Bool × Nat × (Nat × AI) × (Nat × AI × AI × AI)) : Option Value → (Nat → Nat) → nPic → Prop := fun rv ad' c' =>
  rv = some (.int O.1) ∧ (O.2.2 = false → ∃ x' : nPic, twF ad x ad' x' ∧ sPic G x' ad' (upd si 9 O.2.1) sa rn = c') ∧ (O.2.2 = true → ∃ x' : nPic, twT G ad x ad' x' T ∧ sPic G x' ad' (upd (upd si 9 0) 1 (nI T.2.2.1.1)) (va_up (va_up sa 1 (pTk T.2.2.1.1 T.2.2.1.2 (sa 1))) 4 (pTk 4 pZ (sa 4))) rn = c')
theorem lkP.no {O : Int32 × Int32 × Bool} {T : Bool × Nat × (Nat × AI) × (Nat × AI × AI × AI)} {z f : Int32} (h8 : ∀ z, 80 ≤ z → x z = none) (hO : O = (z, f, false)) : lkP G ad x si sa rn O T (some (.int z)) ad (sPic G x ad (upd si 9 f) sa rn) := by
  subst hO
  exact ⟨rfl, fun _ => ⟨x, twF.rf h8, rfl⟩, fun z => (by cases z)⟩
theorem lkP.yes {O : Int32 × Int32 × Bool} {T : Bool × Nat × (Nat × AI) × (Nat × AI × AI × AI)} {v : Option Value} {c' : nPic} (hO : O = (if T.1 = true then (nI T.2.2.2.1, 0, true) else (-100 - nI T.2.1, 0, false))) (h : twP G ad x (upd si 9 0) sa rn T v ad' c') : lkP G ad x si sa rn O T v ad' c' := by
  obtain ⟨h1, h2, h3⟩ := h
  subst hO
  by_cases ht : T.1 = true
  · simp only [if_pos ht] at h1 ⊢
    exact ⟨h1, fun z => (by cases z), fun _ => h3 ht⟩
  · simp only [if_neg ht] at h1 ⊢
    exact ⟨h1, fun _ => h2 (by simpa using ht), fun z => (by cases z)⟩
theorem lkP.fr {O : Int32 × Int32 × Bool} {T : Bool × Nat × (Nat × AI) × (Nat × AI × AI × AI)} {v : Option Value} {c' : nPic} (hf : sFr 40 ad x ad1 x1) (h : lkP G ad1 x1 si sa rn O T v ad' c') : lkP G ad x si sa rn O T v ad' c' := by
  obtain ⟨h1, h2, h3⟩ := h
  refine ⟨h1, fun z => ?_, fun z => ?_⟩
  · obtain ⟨x', g1, g2⟩ := h2 z
    exact ⟨x', g1.fr hf, g2⟩
  · obtain ⟨x', g1, g2⟩ := h3 z
    exact ⟨x', g1.fr hf, g2⟩
theorem sRow_sh {ce : AI} {nd np a : Nat} : ∀ n, sRow (fun j => ce (a + j)) nd np 0 n = sRow ce nd np a n := by
  intro n
  induction n with
  | zero => rfl
  | succ n ih =>
    rw [sRow, sRow, ih]
    simp only [Nat.zero_add]
    rfl
def oRos (nd np : Nat) (so sl ce : AI) (b : Bool) (k q i : Int32) (m : Nat) : Int32 × Int32 := if sBt k 0 3 = true then (if sBt q 0 2 = true ∧ b = true then sLay so sl ce nd np (tn k) q i m else (-2, 0)) else (-1, 0)
/-- a row of days looked for: what stands behind it -/
abbrev roP (G : nG) (ad : Nat → Nat) (x : nPic) (si : AI) (sa : Nat → AI) (O : Int32 × Int32) (m : Nat) (rf : AI) : Option Value → (Nat → Nat) → nPic → Prop := fun rv ad' c' =>
  rv = some (.int O.1) ∧ ∃ (x' : nPic) (rn' : Value), (∀ z, z ≠ 9 → z ≠ 40 → ad' z = ad z ∧ x' z = x z) ∧ (O.1 = 0 → rn' = .ref (ad' 9) ∧ x' 9 = some (.inl (G.1.1 100, 2 * m, .inl rf))) ∧ sPic G x' ad' (upd si 9 O.2) sa rn' = c'
theorem roP.no {O : Int32 × Int32} {z f : Int32} {m : Nat} {rf : AI} (hO : O = (z, f)) (hz : ¬ z = 0) : roP G ad x si sa O m rf (some (.int z)) ad (sPic G x ad (upd si 9 f) sa rn) := by
  subst hO
  exact ⟨rfl, x, rn, fun _ _ _ => ⟨rfl, rfl⟩, fun q => absurd q hz, rfl⟩
theorem roP.yes {O : Int32 × Int32} {z : Int32} {m w : Nat} {rf : AI} {v : Option Value} {c' : nPic} (hO : O = (z, 0)) (hw : w = 2 * m) (h : riP G ad x (upd si 9 0) sa z w rf v ad' c') : roP G ad x si sa O m rf v ad' c' := by
  obtain ⟨h1, x', g1, g2, g3⟩ := h
  subst hO
  exact ⟨h1, x', _, fun z hz _ => g1 z hz, fun _ => ⟨rfl, by rw [← hw]; exact g2⟩, g3⟩
theorem roP.fr {O : Int32 × Int32} {m : Nat} {rf : AI} {v : Option Value} {c' : nPic} (hf : sFr 40 ad x ad1 x1) (h : roP G ad1 x1 si sa O m rf v ad' c') : roP G ad x si sa O m rf v ad' c' := by
  obtain ⟨h1, x', rn', g1, g2, g3⟩ := h
  exact ⟨h1, x', rn', fun z h9 h40 => ⟨(g1 z h9 h40).1.trans (hf z h40).1, (g1 z h9 h40).2.trans (hf z h40).2⟩, g2, g3⟩
theorem oRos_a {nd np m : Nat} {b : Bool} {k q i : Int32} (h : sBt k 0 3 = false) : oRos nd np so sl ce b k q i m = (-1, 0) := by unfold oRos; rw [h]; rfl
theorem oRos_b {nd np m : Nat} {b : Bool} {k q i : Int32} (h : sBt k 0 3 = true) (h2 : ¬ (sBt q 0 2 = true ∧ b = true)) : oRos nd np so sl ce b k q i m = (-2, 0) := by unfold oRos; rw [if_pos h, if_neg h2]
theorem oRos_c {nd np m : Nat} {k q i z : Int32} (h : sBt k 0 3 = true) (h2 : sBt q 0 2 = true) (h3 : sAgn so sl (tn k) q i (nI (2 * m)) = z) (hz : ¬ z = 0) : oRos nd np so sl ce true k q i m = (-10 - z, z) := by
  unfold oRos sLay
  rw [if_pos h, if_pos ⟨h2, rfl⟩, h3, if_pos hz]
theorem oRos_d {nd np m : Nat} {k q i : Int32} (h : sBt k 0 3 = true) (h2 : sBt q 0 2 = true) (h3 : sAgn so sl (tn k) q i (nI (2 * m)) = 0) : oRos nd np so sl ce true k q i m = ((if np = 0 then -3 else if sRow ce nd np (60 * tn k + tn i) m = true then 0 else -1), 0) := by
  unfold oRos sLay
  rw [if_pos h, if_pos ⟨h2, rfl⟩, h3, if_neg (fun z => z rfl)]
  split
  · rfl
  · split <;> rfl
end LK
set_option maxHeartbeats 1000000 in
set_option maxRecDepth 100000 in
theorem sX0_looked_X4 (l : Launch) (G : nG) (K : State → Prop) (hKo : nKo G K) (hK0 : ∀ U, K U → sK0 G U) (hKx : ∀ U, K U → xK G U) (hfl : l.stackTraces = false) (ad : Nat → Nat) (x : nPic) (si : AI) (sa : Nat → AI) (rn : Value) (so sl ce : AI) (hSh : sShe G ad x so sl ce) (np : Nat) (kd dr kn : AI) (hP : sPeo G ad x np kd dr kn) (nr : Nat) (rw_ rf_ : AI) (hQ : sRea G ad x nr rw_ rf_) (k q i n_ : Int32) (hx8 : ∀ z, 80 ≤ z → x z = none) (hAc : x 40 = actE 8 ad k q i n_) : Met l yX0_looked (ws_ yX0_looked cX0_looked 3 (some .int)) (sR 11 10 1980) (nPc G nCl K ad (sPic G x ad si sa rn) [.ref (ad 0), .ref (ad 40), .int 1]) (nQ G nCl (lkP G ad x si sa rn (oTwr so sl ce k q i n_) (pT (fun p => ce (60 * tn k + tn i + p)) (tn n_)))) 10 1980 (fun q => G.2 ≤ q) := by
  refine nMet RX0 (by decide) rfl (Nat.le_of_ble_eq_true rfl) ?_
  intro p e s m below meth c ls SS hR hK hN hS hl
  obtain ⟨hx, hb, hml, hown, hts⟩ := id SS
  obtain ⟨hr, hlk, hnm⟩ := hR
  obtain ⟨hKv, hKw, hKf, hKz, hKm⟩ := hK0 s hK
  generalize s.heap = H at hN hS ⊢
  generalize ([] : List Loc) = locs at hS ⊢
  have hl : lv_has ls 3 [(0, .ref (ad 0)), (1, .ref (ad 40)), (2, .int 1)] := hl
  refine lv_aload_n hx hb dX0_looked_0 rfl (lv_at hl 1 rfl) ?_
  refine n_get (ci := 8) (C := RX4) (T := TX4) (N := 7) hx hb hts in_X4 hown hKv hN (40) ((sPic_x (by decide)).trans hAc) rfl 0 (by decide) q665 (fun z h => h) (rfl) dX0_looked_1 ?_
  refine n_callS (As := [_]) SS hKo hK (sX0_noSheet l G K hKo hK0 ad _ k) (va_cwS 1 hts (lw_S q533 q534 q57 q535) rfl rfl rfl (by decide +kernel) ⟨Nat.le_of_ble_eq_true rfl, Nat.le_of_ble_eq_true rfl⟩) hN hS rfl hl.1 rfl (Nat.le_of_ble_eq_true rfl) dX0_looked_4 ⟨Nat.le_of_ble_eq_true rfl, Nat.le_of_ble_eq_true rfl⟩ (fun v ad' c' H locs hv hN hS => ?_)
  obtain ⟨rfl, rfl, rfl⟩ := hv
  refine W.eq (g2 := F0 m 7 ls (_ :: _)) rfl ?_
  refine lv_if_eq (tgt := 16) hx hb dX0_looked_7 (by decide) (fun c7 => ?_) (fun c7 => ?_)
  · have h1 : sBt k 0 3 = true := zI_ns c7
    refine lv_aload_n hx hb dX0_looked_16 rfl (lv_at hl 1 rfl) ?_
    refine n_get (ci := 8) (C := RX4) (T := TX4) (N := 7) hx hb hts in_X4 hown hKv hN (40) ((sPic_x (by decide)).trans hAc) rfl 1 (by decide) q667 (fun z h => h) (rfl) dX0_looked_17 ?_
    refine lv_i2l hx hb dX0_looked_20 rfl ?_
    refine lv_lconst (v := 0) hx hb dX0_looked_21 (by decide) ?_
    refine lv_ldc2 hx hb hown (hts _ q541) dX0_looked_22 ?_
    refine n_callS (As := [_, _, _]) SS hKo hK (sX0_in l G K hKo hK0 ad _ q 0 2) (va_cwS 3 hts (lw_S q185 q186 q57 q187) rfl rfl rfl (by decide +kernel) ⟨Nat.le_of_ble_eq_true rfl, Nat.le_of_ble_eq_true rfl⟩) hN hS rfl hl.1 rfl (Nat.le_of_ble_eq_true rfl) dX0_looked_25 ⟨Nat.le_of_ble_eq_true rfl, Nat.le_of_ble_eq_true rfl⟩ (fun v ad' c' H locs hv hN hS => ?_)
    obtain ⟨rfl, rfl, rfl⟩ := hv
    refine W.eq (g2 := F0 m 28 ls (_ :: _)) rfl ?_
    refine lv_if_eq (tgt := 42) hx hb dX0_looked_28 (by decide) (fun c28 => ?_) (fun c28 => ?_)
    · have h2 := zI_0.mp c28
      refine lv_aload_n hx hb dX0_looked_42 rfl (lv_at hl 0 rfl) ?_
      refine lv_bipush (v := (-2)) hx hb dX0_looked_43 (by decide) ?_
      refine n_callV (C := RX0) (As := [_]) (b := 0) SS hKo hK hKv (sX0_refused l G K hKo hK0 ad x si sa rn (-2)) (cwV 1 hts (lw_V q537 q539 qs14 q57 q540) rfl rfl rfl (by decide +kernel) ⟨Nat.le_of_ble_eq_true rfl, Nat.le_of_ble_eq_true rfl⟩) hN hS sPic_0 rfl rfl hl.1 rfl (Nat.le_of_ble_eq_true rfl) dX0_looked_45 ⟨Nat.le_of_ble_eq_true rfl, Nat.le_of_ble_eq_true rfl⟩ (fun v ad' c' H locs hv hN hS => ?_)
      obtain ⟨rfl, rfl, rfl⟩ := hv
      refine W.eq (g2 := F0 m 48 ls (_ :: _)) rfl ?_
      refine W.widen (k := 10) (n := 1980) (by first | omega | decide) (by first | omega | decide) ?_
      exact W.iret hx hb hr (nEnd hN hS (lkP.no hx8 (oTwr_b h1 h2))) hS.2 dX0_looked_48
    · have h2 := zI_n0 c28
      refine lv_iload_n hx hb dX0_looked_31 rfl (lv_at hl 2 rfl) ?_
      refine lv_if_eq (tgt := 42) hx hb dX0_looked_32 (by decide) (fun c32 => absurd c32 (by decide)) (fun c32 => ?_)
      obtain ⟨kk, hkk_, rfl, tk⟩ := sBt_t 3 (by decide) h1
      obtain ⟨qq, hqq_, rfl, tq⟩ := sBt_t 2 (by decide) h2
      have hk : kk < 4 := by omega
      have hq : qq < 3 := by omega
      rcases sh_case hSh hk hq i n_ with ⟨h9, hA⟩ | ⟨q2, L, f, hq2, hne, h9, hE, hA⟩ | ⟨L, f, hL, h9, hE, hf, ⟨hn, hA⟩ | ⟨hn, hno, hA⟩ | ⟨ii, w, rfl, hw, hiw, hA⟩⟩
      · have hA : sAgn so sl (tn (nI kk)) (nI qq) i n_ = 1 := by rw [tk]; exact hA
        refine lv_aload_n hx hb dX0_looked_35 rfl (lv_at hl 1 rfl) ?_
        refine n_callUW (C := RX4) (owner := "TowerTell$Act") (x := ⟨"TowerTell$Looking", "tried", "()I"⟩) (y := yX2_tried) (As := []) (b := 40) (n := 0) SS hKo hK hKv (sX2_tried_X4N l G K hKo hK0 hKx hfl ad x si sa rn (nI kk) (nI qq) i n_ hAc 4 1980 (sX3_doneT_X4 l G K hKo hK0 hKx hfl ad x (upd si 9 0) sa rn so sl ce hSh kk hk "java/lang/NullPointerException" (nI qq) i n_ hAc (by rw [if_pos h9]; exact sX0_cellsOfN l G K hKo hK0 hKx hfl ad _ qq hq i n_))) q691 q692 (hKw _ q693 rfl) q696 q694 q62 q697 (by decide +kernel) rfl rfl ⟨Nat.le_of_ble_eq_true rfl, Nat.le_of_ble_eq_true rfl⟩ hN hS ((sPic_x (by decide)).trans hAc) rfl rfl hl.1 rfl (Nat.le_of_ble_eq_true rfl) dX0_looked_36 ⟨Nat.le_of_ble_eq_true rfl, Nat.le_of_ble_eq_true rfl⟩ (fun v ad' c' H locs hv hN hS => ?_)
        obtain ⟨rfl, rfl, rfl⟩ := hv
        refine W.eq (g2 := F0 m 39 ls (_ :: _)) rfl ?_
        refine lv_goto (tgt := 48) hx hb dX0_looked_39 (by decide) ?_
        refine W.widen (k := 10) (n := 1980) (by first | omega | decide) (by first | omega | decide) ?_
        exact W.iret hx hb hr (nEnd hN hS (lkP.no hx8 (oTwr_c h1 h2 hA (by decide)))) hS.2 dX0_looked_48
      · have hA : sAgn so sl (tn (nI kk)) (nI qq) i n_ = 2 := by rw [tk]; exact hA
        refine lv_aload_n hx hb dX0_looked_35 rfl (lv_at hl 1 rfl) ?_
        refine n_callUW (C := RX4) (owner := "TowerTell$Act") (x := ⟨"TowerTell$Looking", "tried", "()I"⟩) (y := yX2_tried) (As := []) (b := 40) (n := 0) SS hKo hK hKv (sX2_tried_X4C l G K hKo hK0 hKx hfl ad x si sa rn (nI kk) (nI qq) i n_ hAc 4 1980 (sX3_doneT_X4 l G K hKo hK0 hKx hfl ad x (upd si 9 0) sa rn so sl ce hSh kk hk "java/lang/ClassCastException" (nI qq) i n_ hAc (by rw [if_neg h9]; exact sX0_cellsOfC l G K hKo hK0 hKx hfl ad _ (14 + kk) qq q2 L f hq hq2 hne ((sPic_x ⟨by omega, by omega, by omega, by omega⟩).trans hE) i n_))) q691 q692 (hKw _ q693 rfl) q696 q694 q62 q697 (by decide +kernel) rfl rfl ⟨Nat.le_of_ble_eq_true rfl, Nat.le_of_ble_eq_true rfl⟩ hN hS ((sPic_x (by decide)).trans hAc) rfl rfl hl.1 rfl (Nat.le_of_ble_eq_true rfl) dX0_looked_36 ⟨Nat.le_of_ble_eq_true rfl, Nat.le_of_ble_eq_true rfl⟩ (fun v ad' c' H locs hv hN hS => ?_)
        obtain ⟨rfl, rfl, rfl⟩ := hv
        refine W.eq (g2 := F0 m 39 ls (_ :: _)) rfl ?_
        refine lv_goto (tgt := 48) hx hb dX0_looked_39 (by decide) ?_
        refine W.widen (k := 10) (n := 1980) (by first | omega | decide) (by first | omega | decide) ?_
        exact W.iret hx hb hr (nEnd hN hS (lkP.no hx8 (oTwr_c h1 h2 hA (by decide)))) hS.2 dX0_looked_48
      · have hA : sAgn so sl (tn (nI kk)) (nI qq) i n_ = 4 := by rw [tk]; exact hA
        refine lv_aload_n hx hb dX0_looked_35 rfl (lv_at hl 1 rfl) ?_
        refine n_callUW (C := RX4) (owner := "TowerTell$Act") (x := ⟨"TowerTell$Looking", "tried", "()I"⟩) (y := yX2_tried) (As := []) (b := 40) (n := 0) SS hKo hK hKv (sX2_tried_X4S l G K hKo hK0 hKx hfl ad x si sa rn (nI kk) (nI qq) i n_ hAc 4 1980 (sX3_doneT_X4 l G K hKo hK0 hKx hfl ad x (upd si 9 0) sa rn so sl ce hSh kk hk "java/lang/NegativeArraySizeException" (nI qq) i n_ hAc (by rw [if_neg h9]; exact sX0_cellsOfS l G K hKo hK0 hKx hfl ad _ (14 + kk) qq L f hq hL ((sPic_x ⟨by omega, by omega, by omega, by omega⟩).trans hE) i n_ hn))) q691 q692 (hKw _ q693 rfl) q696 q694 q62 q697 (by decide +kernel) rfl rfl ⟨Nat.le_of_ble_eq_true rfl, Nat.le_of_ble_eq_true rfl⟩ hN hS ((sPic_x (by decide)).trans hAc) rfl rfl hl.1 rfl (Nat.le_of_ble_eq_true rfl) dX0_looked_36 ⟨Nat.le_of_ble_eq_true rfl, Nat.le_of_ble_eq_true rfl⟩ (fun v ad' c' H locs hv hN hS => ?_)
        obtain ⟨rfl, rfl, rfl⟩ := hv
        refine W.eq (g2 := F0 m 39 ls (_ :: _)) rfl ?_
        refine lv_goto (tgt := 48) hx hb dX0_looked_39 (by decide) ?_
        refine W.widen (k := 10) (n := 1980) (by first | omega | decide) (by first | omega | decide) ?_
        exact W.iret hx hb hr (nEnd hN hS (lkP.no hx8 (oTwr_c h1 h2 hA (by decide)))) hS.2 dX0_looked_48
      · have hA : sAgn so sl (tn (nI kk)) (nI qq) i n_ = 3 := by rw [tk]; exact hA
        refine lv_aload_n hx hb dX0_looked_35 rfl (lv_at hl 1 rfl) ?_
        refine n_callUW (C := RX4) (owner := "TowerTell$Act") (x := ⟨"TowerTell$Looking", "tried", "()I"⟩) (y := yX2_tried) (As := []) (b := 40) (n := 0) SS hKo hK hKv (sX2_tried_X4I l G K hKo hK0 hKx hfl ad x si sa rn (nI kk) (nI qq) i n_ hAc 4 1980 (sX3_doneT_X4 l G K hKo hK0 hKx hfl ad x (upd si 9 0) sa rn so sl ce hSh kk hk "java/lang/IndexOutOfBoundsException" (nI qq) i n_ hAc (by rw [if_neg h9]; exact sX0_cellsOfI l G K hKo hK0 hKx hfl ad _ (14 + kk) qq L f hq hL ((sPic_x ⟨by omega, by omega, by omega, by omega⟩).trans hE) i n_ hn hno ((sPic_x (by decide)).trans (hx8 81 (by decide)))))) q691 q692 (hKw _ q693 rfl) q696 q694 q62 q697 (by decide +kernel) rfl rfl ⟨Nat.le_of_ble_eq_true rfl, Nat.le_of_ble_eq_true rfl⟩ hN hS ((sPic_x (by decide)).trans hAc) rfl rfl hl.1 rfl (Nat.le_of_ble_eq_true rfl) dX0_looked_36 ⟨Nat.le_of_ble_eq_true rfl, Nat.le_of_ble_eq_true rfl⟩ (fun v ad' c' H locs hv hN hS => ?_)
        obtain ⟨rfl, rfl, rfl⟩ := hv
        refine W.eq (g2 := F0 m 39 ls (_ :: _)) rfl ?_
        refine lv_goto (tgt := 48) hx hb dX0_looked_39 (by decide) ?_
        refine W.widen (k := 10) (n := 1980) (by first | omega | decide) (by first | omega | decide) ?_
        exact W.iret hx hb hr (nEnd hN hS (lkP.no hx8 (oTwr_c h1 h2 hA (by decide)))) hS.2 dX0_looked_48
      · subst hw
        have ti : tn (nI ii) = ii := tn_nI (by omega)
        have hA : sAgn so sl (tn (nI kk)) (nI qq) (nI ii) (nI w) = 0 := by rw [tk]; exact hA
        have tw : tn (nI w) = w := tn_nI (by omega)
        have hcd : ∀ j, j < w → f (ii + j) = ce (60 * tn (nI kk) + tn (nI ii) + j) := fun j hj => by rw [tk, ti, hf (ii + j) (by omega), Nat.add_assoc]
        refine lv_aload_n hx hb dX0_looked_35 rfl (lv_at hl 1 rfl) ?_
        refine n_callUW (C := RX4) (owner := "TowerTell$Act") (x := ⟨"TowerTell$Looking", "tried", "()I"⟩) (y := yX2_tried) (As := []) (b := 40) (n := 0) SS hKo hK hKv (sX2_tried_X4 l G K hKo hK0 hKx hfl ad x si sa rn (nI kk) (nI qq) (nI ii) (nI w) hAc 10 181 (twP G ad x (upd si 9 0) sa rn (pT (fun p => ce (60 * tn (nI kk) + tn (nI ii) + p)) w)) (fun v a c h => ⟨_, h.1⟩) (sX3_done_X4 l G K hKo hK0 ad x (upd si 9 0) sa rn so sl ce hSh kk hk qq L f hq hL h9 hE ii w hiw _ hcd np kd dr kn hP nr rw_ rf_ hQ hx8 _ rfl hAc)) q691 q692 (hKw _ q693 rfl) q696 q694 q62 q697 (by decide +kernel) rfl rfl ⟨Nat.le_of_ble_eq_true rfl, Nat.le_of_ble_eq_true rfl⟩ hN hS ((sPic_x (by decide)).trans hAc) rfl rfl hl.1 rfl (Nat.le_of_ble_eq_true rfl) dX0_looked_36 ⟨Nat.le_of_ble_eq_true rfl, Nat.le_of_ble_eq_true rfl⟩ (fun v ad' c' H locs hv hN hS => ?_)
        obtain ⟨z_, hz_⟩ : ∃ z : Int32, v = some (.int z) := ⟨_, hv.1⟩
        subst hz_
        refine W.eq (g2 := F0 m 39 ls (_ :: _)) rfl ?_
        refine lv_goto (tgt := 48) hx hb dX0_looked_39 (by decide) ?_
        refine W.widen (k := 10) (n := 1980) (by first | omega | decide) (by first | omega | decide) ?_
        exact W.iret hx hb hr (nEnd hN hS (by rw [tw]; exact lkP.yes (oTwr_d h1 h2 hA (by rw [tw])) hv)) hS.2 dX0_looked_48
  · have h1 := zI_s c7
    refine lv_aload_n hx hb dX0_looked_10 rfl (lv_at hl 0 rfl) ?_
    refine lv_iconst (v := (-1)) hx hb dX0_looked_11 (by decide) ?_
    refine n_callV (C := RX0) (As := [_]) (b := 0) SS hKo hK hKv (sX0_refused l G K hKo hK0 ad x si sa rn (-1)) (cwV 1 hts (lw_V q537 q539 qs14 q57 q540) rfl rfl rfl (by decide +kernel) ⟨Nat.le_of_ble_eq_true rfl, Nat.le_of_ble_eq_true rfl⟩) hN hS sPic_0 rfl rfl hl.1 rfl (Nat.le_of_ble_eq_true rfl) dX0_looked_12 ⟨Nat.le_of_ble_eq_true rfl, Nat.le_of_ble_eq_true rfl⟩ (fun v ad' c' H locs hv hN hS => ?_)
    obtain ⟨rfl, rfl, rfl⟩ := hv
    refine W.eq (g2 := F0 m 15 ls (_ :: _)) rfl ?_
    refine W.widen (k := 10) (n := 1980) (by first | omega | decide) (by first | omega | decide) ?_
    exact W.iret hx hb hr (nEnd hN hS (lkP.no hx8 (oTwr_a h1))) hS.2 dX0_looked_15
set_option maxHeartbeats 1000000 in
set_option maxRecDepth 100000 in
theorem sX0_looked_X8 (l : Launch) (G : nG) (K : State → Prop) (hKo : nKo G K) (hK0 : ∀ U, K U → sK0 G U) (hKx : ∀ U, K U → xK G U) (hfl : l.stackTraces = false) (ad : Nat → Nat) (x : nPic) (si : AI) (sa : Nat → AI) (rn : Value) (so sl ce : AI) (hSh : sShe G ad x so sl ce) (np : Nat) (kd dr kn : AI) (hP : sPeo G ad x np kd dr kn) (nd : Nat) (hnd : si 1 = nI nd) (hnd6 : nd ≤ 6) (k q i : Int32) (mm : Nat) (hmm : mm ≤ 20) (b : Bool) (hx8 : ∀ z, 80 ≤ z → x z = none) (hAc : x 40 = actE 9 ad k q i (nI (2 * mm))) : Met l yX0_looked (ws_ yX0_looked cX0_looked 3 (some .int)) (sR 11 10 1980) (nPc G nCl K ad (sPic G x ad si sa rn) [.ref (ad 0), .ref (ad 40), .int (zI b)]) (nQ G nCl (roP G ad x si sa (oRos nd np so sl ce b k q i mm) mm (fun j => ce (60 * tn k + tn i + j)))) 10 1980 (fun q => G.2 ≤ q) := by
  refine nMet RX0 (by decide) rfl (Nat.le_of_ble_eq_true rfl) ?_
  intro p e s m below meth c ls SS hR hK hN hS hl
  obtain ⟨hx, hb, hml, hown, hts⟩ := id SS
  obtain ⟨hr, hlk, hnm⟩ := hR
  obtain ⟨hKv, hKw, hKf, hKz, hKm⟩ := hK0 s hK
  generalize s.heap = H at hN hS ⊢
  generalize ([] : List Loc) = locs at hS ⊢
  have hl : lv_has ls 3 [(0, .ref (ad 0)), (1, .ref (ad 40)), (2, .int (zI b))] := hl
  refine lv_aload_n hx hb dX0_looked_0 rfl (lv_at hl 1 rfl) ?_
  refine n_get (ci := 9) (C := RX8) (T := TX8) (N := 7) hx hb hts in_X8 hown hKv hN (40) ((sPic_x (by decide)).trans hAc) rfl 0 (by decide) q665 (fun z h => h) (rfl) dX0_looked_1 ?_
  refine n_callS (As := [_]) SS hKo hK (sX0_noSheet l G K hKo hK0 ad _ k) (va_cwS 1 hts (lw_S q533 q534 q57 q535) rfl rfl rfl (by decide +kernel) ⟨Nat.le_of_ble_eq_true rfl, Nat.le_of_ble_eq_true rfl⟩) hN hS rfl hl.1 rfl (Nat.le_of_ble_eq_true rfl) dX0_looked_4 ⟨Nat.le_of_ble_eq_true rfl, Nat.le_of_ble_eq_true rfl⟩ (fun v ad' c' H locs hv hN hS => ?_)
  obtain ⟨rfl, rfl, rfl⟩ := hv
  refine W.eq (g2 := F0 m 7 ls (_ :: _)) rfl ?_
  refine lv_if_eq (tgt := 16) hx hb dX0_looked_7 (by decide) (fun c7 => ?_) (fun c7 => ?_)
  · have h1 : sBt k 0 3 = true := zI_ns c7
    refine lv_aload_n hx hb dX0_looked_16 rfl (lv_at hl 1 rfl) ?_
    refine n_get (ci := 9) (C := RX8) (T := TX8) (N := 7) hx hb hts in_X8 hown hKv hN (40) ((sPic_x (by decide)).trans hAc) rfl 1 (by decide) q667 (fun z h => h) (rfl) dX0_looked_17 ?_
    refine lv_i2l hx hb dX0_looked_20 rfl ?_
    refine lv_lconst (v := 0) hx hb dX0_looked_21 (by decide) ?_
    refine lv_ldc2 hx hb hown (hts _ q541) dX0_looked_22 ?_
    refine n_callS (As := [_, _, _]) SS hKo hK (sX0_in l G K hKo hK0 ad _ q 0 2) (va_cwS 3 hts (lw_S q185 q186 q57 q187) rfl rfl rfl (by decide +kernel) ⟨Nat.le_of_ble_eq_true rfl, Nat.le_of_ble_eq_true rfl⟩) hN hS rfl hl.1 rfl (Nat.le_of_ble_eq_true rfl) dX0_looked_25 ⟨Nat.le_of_ble_eq_true rfl, Nat.le_of_ble_eq_true rfl⟩ (fun v ad' c' H locs hv hN hS => ?_)
    obtain ⟨rfl, rfl, rfl⟩ := hv
    refine W.eq (g2 := F0 m 28 ls (_ :: _)) rfl ?_
    refine lv_if_eq (tgt := 42) hx hb dX0_looked_28 (by decide) (fun c28 => ?_) (fun c28 => ?_)
    · have h2 := zI_0.mp c28
      have hqb : ¬ (sBt q 0 2 = true ∧ b = true) := fun z => by rw [h2] at z; cases z.1
      refine lv_aload_n hx hb dX0_looked_42 rfl (lv_at hl 0 rfl) ?_
      refine lv_bipush (v := (-2)) hx hb dX0_looked_43 (by decide) ?_
      refine n_callV (C := RX0) (As := [_]) (b := 0) SS hKo hK hKv (sX0_refused l G K hKo hK0 ad x si sa rn (-2)) (cwV 1 hts (lw_V q537 q539 qs14 q57 q540) rfl rfl rfl (by decide +kernel) ⟨Nat.le_of_ble_eq_true rfl, Nat.le_of_ble_eq_true rfl⟩) hN hS sPic_0 rfl rfl hl.1 rfl (Nat.le_of_ble_eq_true rfl) dX0_looked_45 ⟨Nat.le_of_ble_eq_true rfl, Nat.le_of_ble_eq_true rfl⟩ (fun v ad' c' H locs hv hN hS => ?_)
      obtain ⟨rfl, rfl, rfl⟩ := hv
      refine W.eq (g2 := F0 m 48 ls (_ :: _)) rfl ?_
      refine W.widen (k := 10) (n := 1980) (by first | omega | decide) (by first | omega | decide) ?_
      exact W.iret hx hb hr (nEnd hN hS (roP.no (oRos_b h1 hqb) (by decide))) hS.2 dX0_looked_48
    · have h2 := zI_n0 c28
      refine lv_iload_n hx hb dX0_looked_31 rfl (lv_at hl 2 rfl) ?_
      refine lv_if_eq (tgt := 42) hx hb dX0_looked_32 (by decide) (fun c32 => ?_) (fun c32 => ?_)
      · have hqb : ¬ (sBt q 0 2 = true ∧ b = true) := fun z => by rw [zI_0.mp c32] at z; cases z.2
        refine lv_aload_n hx hb dX0_looked_42 rfl (lv_at hl 0 rfl) ?_
        refine lv_bipush (v := (-2)) hx hb dX0_looked_43 (by decide) ?_
        refine n_callV (C := RX0) (As := [_]) (b := 0) SS hKo hK hKv (sX0_refused l G K hKo hK0 ad x si sa rn (-2)) (cwV 1 hts (lw_V q537 q539 qs14 q57 q540) rfl rfl rfl (by decide +kernel) ⟨Nat.le_of_ble_eq_true rfl, Nat.le_of_ble_eq_true rfl⟩) hN hS sPic_0 rfl rfl hl.1 rfl (Nat.le_of_ble_eq_true rfl) dX0_looked_45 ⟨Nat.le_of_ble_eq_true rfl, Nat.le_of_ble_eq_true rfl⟩ (fun v ad' c' H locs hv hN hS => ?_)
        obtain ⟨rfl, rfl, rfl⟩ := hv
        refine W.eq (g2 := F0 m 48 ls (_ :: _)) rfl ?_
        refine W.widen (k := 10) (n := 1980) (by first | omega | decide) (by first | omega | decide) ?_
        exact W.iret hx hb hr (nEnd hN hS (roP.no (oRos_b h1 hqb) (by decide))) hS.2 dX0_looked_48
      · have hb1 := zI_n0 c32
        subst hb1
        obtain ⟨kk, hkk_, rfl, tk⟩ := sBt_t 3 (by decide) h1
        obtain ⟨qq, hqq_, rfl, tq⟩ := sBt_t 2 (by decide) h2
        have hk : kk < 4 := by omega
        have hq : qq < 3 := by omega
        rcases sh_case hSh hk hq i (nI (2 * mm)) with ⟨h9, hA⟩ | ⟨q2, L, f, hq2, hne, h9, hE, hA⟩ | ⟨L, f, hL, h9, hE, hf, ⟨hn, hA⟩ | ⟨hn, hno, hA⟩ | ⟨ii, w, rfl, hw, hiw, hA⟩⟩
        · have hA : sAgn so sl (tn (nI kk)) (nI qq) i (nI (2 * mm)) = 1 := by rw [tk]; exact hA
          refine lv_aload_n hx hb dX0_looked_35 rfl (lv_at hl 1 rfl) ?_
          refine n_callUW (C := RX8) (owner := "TowerTell$Act") (x := ⟨"TowerTell$Looking", "tried", "()I"⟩) (y := yX2_tried) (As := []) (b := 40) (n := 0) SS hKo hK hKv (sX2_tried_X8N l G K hKo hK0 hKx hfl ad x si sa rn (nI kk) (nI qq) i (nI (2 * mm)) hAc 4 1980 (sX3_doneT_X8 l G K hKo hK0 hKx hfl ad x (upd si 9 0) sa rn so sl ce hSh kk hk "java/lang/NullPointerException" (nI qq) i (nI (2 * mm)) hAc (by rw [if_pos h9]; exact sX0_cellsOfN l G K hKo hK0 hKx hfl ad _ qq hq i (nI (2 * mm))))) q691 q692 (hKw _ q693 rfl) q696 q695 q62 q697 (by decide +kernel) rfl rfl ⟨Nat.le_of_ble_eq_true rfl, Nat.le_of_ble_eq_true rfl⟩ hN hS ((sPic_x (by decide)).trans hAc) rfl rfl hl.1 rfl (Nat.le_of_ble_eq_true rfl) dX0_looked_36 ⟨Nat.le_of_ble_eq_true rfl, Nat.le_of_ble_eq_true rfl⟩ (fun v ad' c' H locs hv hN hS => ?_)
          obtain ⟨rfl, rfl, rfl⟩ := hv
          refine W.eq (g2 := F0 m 39 ls (_ :: _)) rfl ?_
          refine lv_goto (tgt := 48) hx hb dX0_looked_39 (by decide) ?_
          refine W.widen (k := 10) (n := 1980) (by first | omega | decide) (by first | omega | decide) ?_
          exact W.iret hx hb hr (nEnd hN hS (roP.no (oRos_c h1 h2 hA (by decide)) (by decide))) hS.2 dX0_looked_48
        · have hA : sAgn so sl (tn (nI kk)) (nI qq) i (nI (2 * mm)) = 2 := by rw [tk]; exact hA
          refine lv_aload_n hx hb dX0_looked_35 rfl (lv_at hl 1 rfl) ?_
          refine n_callUW (C := RX8) (owner := "TowerTell$Act") (x := ⟨"TowerTell$Looking", "tried", "()I"⟩) (y := yX2_tried) (As := []) (b := 40) (n := 0) SS hKo hK hKv (sX2_tried_X8C l G K hKo hK0 hKx hfl ad x si sa rn (nI kk) (nI qq) i (nI (2 * mm)) hAc 4 1980 (sX3_doneT_X8 l G K hKo hK0 hKx hfl ad x (upd si 9 0) sa rn so sl ce hSh kk hk "java/lang/ClassCastException" (nI qq) i (nI (2 * mm)) hAc (by rw [if_neg h9]; exact sX0_cellsOfC l G K hKo hK0 hKx hfl ad _ (14 + kk) qq q2 L f hq hq2 hne ((sPic_x ⟨by omega, by omega, by omega, by omega⟩).trans hE) i (nI (2 * mm))))) q691 q692 (hKw _ q693 rfl) q696 q695 q62 q697 (by decide +kernel) rfl rfl ⟨Nat.le_of_ble_eq_true rfl, Nat.le_of_ble_eq_true rfl⟩ hN hS ((sPic_x (by decide)).trans hAc) rfl rfl hl.1 rfl (Nat.le_of_ble_eq_true rfl) dX0_looked_36 ⟨Nat.le_of_ble_eq_true rfl, Nat.le_of_ble_eq_true rfl⟩ (fun v ad' c' H locs hv hN hS => ?_)
          obtain ⟨rfl, rfl, rfl⟩ := hv
          refine W.eq (g2 := F0 m 39 ls (_ :: _)) rfl ?_
          refine lv_goto (tgt := 48) hx hb dX0_looked_39 (by decide) ?_
          refine W.widen (k := 10) (n := 1980) (by first | omega | decide) (by first | omega | decide) ?_
          exact W.iret hx hb hr (nEnd hN hS (roP.no (oRos_c h1 h2 hA (by decide)) (by decide))) hS.2 dX0_looked_48
        · have hA : sAgn so sl (tn (nI kk)) (nI qq) i (nI (2 * mm)) = 4 := by rw [tk]; exact hA
          refine lv_aload_n hx hb dX0_looked_35 rfl (lv_at hl 1 rfl) ?_
          refine n_callUW (C := RX8) (owner := "TowerTell$Act") (x := ⟨"TowerTell$Looking", "tried", "()I"⟩) (y := yX2_tried) (As := []) (b := 40) (n := 0) SS hKo hK hKv (sX2_tried_X8S l G K hKo hK0 hKx hfl ad x si sa rn (nI kk) (nI qq) i (nI (2 * mm)) hAc 4 1980 (sX3_doneT_X8 l G K hKo hK0 hKx hfl ad x (upd si 9 0) sa rn so sl ce hSh kk hk "java/lang/NegativeArraySizeException" (nI qq) i (nI (2 * mm)) hAc (by rw [if_neg h9]; exact sX0_cellsOfS l G K hKo hK0 hKx hfl ad _ (14 + kk) qq L f hq hL ((sPic_x ⟨by omega, by omega, by omega, by omega⟩).trans hE) i (nI (2 * mm)) hn))) q691 q692 (hKw _ q693 rfl) q696 q695 q62 q697 (by decide +kernel) rfl rfl ⟨Nat.le_of_ble_eq_true rfl, Nat.le_of_ble_eq_true rfl⟩ hN hS ((sPic_x (by decide)).trans hAc) rfl rfl hl.1 rfl (Nat.le_of_ble_eq_true rfl) dX0_looked_36 ⟨Nat.le_of_ble_eq_true rfl, Nat.le_of_ble_eq_true rfl⟩ (fun v ad' c' H locs hv hN hS => ?_)
          obtain ⟨rfl, rfl, rfl⟩ := hv
          refine W.eq (g2 := F0 m 39 ls (_ :: _)) rfl ?_
          refine lv_goto (tgt := 48) hx hb dX0_looked_39 (by decide) ?_
          refine W.widen (k := 10) (n := 1980) (by first | omega | decide) (by first | omega | decide) ?_
          exact W.iret hx hb hr (nEnd hN hS (roP.no (oRos_c h1 h2 hA (by decide)) (by decide))) hS.2 dX0_looked_48
        · have hA : sAgn so sl (tn (nI kk)) (nI qq) i (nI (2 * mm)) = 3 := by rw [tk]; exact hA
          refine lv_aload_n hx hb dX0_looked_35 rfl (lv_at hl 1 rfl) ?_
          refine n_callUW (C := RX8) (owner := "TowerTell$Act") (x := ⟨"TowerTell$Looking", "tried", "()I"⟩) (y := yX2_tried) (As := []) (b := 40) (n := 0) SS hKo hK hKv (sX2_tried_X8I l G K hKo hK0 hKx hfl ad x si sa rn (nI kk) (nI qq) i (nI (2 * mm)) hAc 4 1980 (sX3_doneT_X8 l G K hKo hK0 hKx hfl ad x (upd si 9 0) sa rn so sl ce hSh kk hk "java/lang/IndexOutOfBoundsException" (nI qq) i (nI (2 * mm)) hAc (by rw [if_neg h9]; exact sX0_cellsOfI l G K hKo hK0 hKx hfl ad _ (14 + kk) qq L f hq hL ((sPic_x ⟨by omega, by omega, by omega, by omega⟩).trans hE) i (nI (2 * mm)) hn hno ((sPic_x (by decide)).trans (hx8 81 (by decide)))))) q691 q692 (hKw _ q693 rfl) q696 q695 q62 q697 (by decide +kernel) rfl rfl ⟨Nat.le_of_ble_eq_true rfl, Nat.le_of_ble_eq_true rfl⟩ hN hS ((sPic_x (by decide)).trans hAc) rfl rfl hl.1 rfl (Nat.le_of_ble_eq_true rfl) dX0_looked_36 ⟨Nat.le_of_ble_eq_true rfl, Nat.le_of_ble_eq_true rfl⟩ (fun v ad' c' H locs hv hN hS => ?_)
          obtain ⟨rfl, rfl, rfl⟩ := hv
          refine W.eq (g2 := F0 m 39 ls (_ :: _)) rfl ?_
          refine lv_goto (tgt := 48) hx hb dX0_looked_39 (by decide) ?_
          refine W.widen (k := 10) (n := 1980) (by first | omega | decide) (by first | omega | decide) ?_
          exact W.iret hx hb hr (nEnd hN hS (roP.no (oRos_c h1 h2 hA (by decide)) (by decide))) hS.2 dX0_looked_48
        · have hw : w = 2 * mm := ((nI_eq (a := 2 * mm) (b := w) (by omega) (by omega)).mp hw).symm
          subst hw
          have ti : tn (nI ii) = ii := tn_nI (by omega)
          have hA : sAgn so sl (tn (nI kk)) (nI qq) (nI ii) (nI (2 * mm)) = 0 := by rw [tk]; exact hA
          have hcd : ∀ j, j < 2 * mm → f (ii + j) = ce (60 * tn (nI kk) + tn (nI ii) + j) := fun j hj => by rw [tk, ti, hf (ii + j) (by omega), Nat.add_assoc]
          refine lv_aload_n hx hb dX0_looked_35 rfl (lv_at hl 1 rfl) ?_
          refine n_callUW (C := RX8) (owner := "TowerTell$Act") (x := ⟨"TowerTell$Looking", "tried", "()I"⟩) (y := yX2_tried) (As := []) (b := 40) (n := 0) SS hKo hK hKv (sX2_tried_X8 l G K hKo hK0 hKx hfl ad x si sa rn (nI kk) (nI qq) (nI ii) (nI (2 * mm)) hAc 2 130 (riP G ad x (upd si 9 0) sa (if np = 0 then -3 else if sRow (fun j => ce (60 * tn (nI kk) + tn (nI ii) + j)) nd np 0 mm = true then 0 else -1) (2 * mm) (fun j => ce (60 * tn (nI kk) + tn (nI ii) + j))) (fun v a c h => ⟨_, h.1⟩) (sX3_done_X8 l G K hKo hK0 ad x (upd si 9 0) sa rn so sl ce hSh kk hk qq L f hq hL h9 hE ii (2 * mm) hiw _ hcd np kd dr kn hP nd ((pk_un (by decide)).trans hnd) hnd6 mm hmm rfl hx8 hAc)) q691 q692 (hKw _ q693 rfl) q696 q695 q62 q697 (by decide +kernel) rfl rfl ⟨Nat.le_of_ble_eq_true rfl, Nat.le_of_ble_eq_true rfl⟩ hN hS ((sPic_x (by decide)).trans hAc) rfl rfl hl.1 rfl (Nat.le_of_ble_eq_true rfl) dX0_looked_36 ⟨Nat.le_of_ble_eq_true rfl, Nat.le_of_ble_eq_true rfl⟩ (fun v ad' c' H locs hv hN hS => ?_)
          obtain ⟨z_, hz_⟩ : ∃ z : Int32, v = some (.int z) := ⟨_, hv.1⟩
          subst hz_
          refine W.eq (g2 := F0 m 39 ls (_ :: _)) rfl ?_
          refine lv_goto (tgt := 48) hx hb dX0_looked_39 (by decide) ?_
          refine W.widen (k := 10) (n := 1980) (by first | omega | decide) (by first | omega | decide) ?_
          exact W.iret hx hb hr (nEnd hN hS (roP.yes (oRos_d h1 h2 hA) rfl (by rw [sRow_sh (ce := ce)] at hv; exact hv))) hS.2 dX0_looked_48
  · have h1 := zI_s c7
    refine lv_aload_n hx hb dX0_looked_10 rfl (lv_at hl 0 rfl) ?_
    refine lv_iconst (v := (-1)) hx hb dX0_looked_11 (by decide) ?_
    refine n_callV (C := RX0) (As := [_]) (b := 0) SS hKo hK hKv (sX0_refused l G K hKo hK0 ad x si sa rn (-1)) (cwV 1 hts (lw_V q537 q539 qs14 q57 q540) rfl rfl rfl (by decide +kernel) ⟨Nat.le_of_ble_eq_true rfl, Nat.le_of_ble_eq_true rfl⟩) hN hS sPic_0 rfl rfl hl.1 rfl (Nat.le_of_ble_eq_true rfl) dX0_looked_12 ⟨Nat.le_of_ble_eq_true rfl, Nat.le_of_ble_eq_true rfl⟩ (fun v ad' c' H locs hv hN hS => ?_)
    obtain ⟨rfl, rfl, rfl⟩ := hv
    refine W.eq (g2 := F0 m 15 ls (_ :: _)) rfl ?_
    refine W.widen (k := 10) (n := 1980) (by first | omega | decide) (by first | omega | decide) ?_
    exact W.iret hx hb hr (nEnd hN hS (roP.no (oRos_a h1) (by decide))) hS.2 dX0_looked_15
