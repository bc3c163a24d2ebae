/-! SYSTEM: what acts of looking do: printed by wip/gen/e4.py -/
section FR
variable {G : nG} {ad ad1 : Nat → Nat} {x x1 : nPic} {si : AI} {sa : Nat → AI} {rn : Value} {H : Heap}
/-- as it was but for one name -/
def sFr (la : Nat) (ad : Nat → Nat) (x : nPic) (ad1 : Nat → Nat) (x1 : nPic) : Prop := ∀ z, z ≠ la → ad1 z = ad z ∧ x1 z = x z
theorem fr_new {la p : Nat} {e : Option va_E} (hla : la = 9 ∨ 40 ≤ la) (hN : nOk G nCl (va_up ad la p) (va_up (sPic G x ad si sa rn) la e) H) : ∃ (ad1 : Nat → Nat) (x1 : nPic), nOk G nCl ad1 (sPic G x1 ad1 si sa rn) H ∧ sFr la ad x ad1 x1 ∧ ad1 la = p ∧ x1 la = e ∧ va_up ad la p = ad1 := by
  refine ⟨va_up ad la p, va_up x la e, ?_, fun z hz => ⟨va_up_ne _ _ hz, va_up_ne _ _ hz⟩, va_up_self _ _ _, va_up_self _ _ _, rfl⟩
  rw [sPic_up ⟨by omega, by omega, by omega, by omega⟩] at hN
  rw [sPic_ad6 (ad := ad) ⟨va_up_ne _ _ (by omega), va_up_ne _ _ (by omega), va_up_ne _ _ (by omega), va_up_ne _ _ (by omega), va_up_ne _ _ (by omega), va_up_ne _ _ (by omega)⟩]
  exact hN
theorem sPeo.fr {np : Nat} {kd dr kn : AI} (h : sPeo G ad x np kd dr kn) (hf : ∀ z, z < 24 → z ≠ 9 → ad1 z = ad z ∧ x1 z = x z) : sPeo G ad1 x1 np kd dr kn := by
  obtain ⟨h4, ⟨mc, ea, h1, h2⟩, h3⟩ := h
  have e1 : sPl ad1 np = sPl ad np := by
    funext j
    unfold sPl
    by_cases hj : j < np
    · rw [if_pos hj, if_pos hj, (hf (20 + j) (by omega) (by omega)).1]
    · rw [if_neg hj, if_neg hj]
  refine ⟨h4, ⟨mc, ea, by rw [(hf 2 (by omega) (by omega)).2]; exact h1, ?_⟩, fun j hj => ?_⟩
  · rcases h2 with h2 | h2
    · exact Or.inl h2
    · refine Or.inr ⟨by rw [(hf 3 (by omega) (by omega)).1]; exact h2.1, ?_⟩
      rw [(hf 3 (by omega) (by omega)).2, e1]
      exact h2.2
  · obtain ⟨k, hk, e, hx⟩ := h3 j hj
    refine ⟨k, hk, e, ?_⟩
    rw [(hf (20 + j) (by omega) (by omega)).2, hx]
    unfold pE
    rw [(hf 0 (by omega) (by omega)).1]
theorem sRea.fr {nr : Nat} {rw_ rf_ : AI} (h : sRea G ad x nr rw_ rf_) (hf : ∀ z, z < 40 → z ≠ 9 → ad1 z = ad z ∧ x1 z = x z) : sRea G ad1 x1 nr rw_ rf_ := by
  obtain ⟨h4, ⟨mc, ea, h1, h2⟩, h3⟩ := h
  have e1 : sRl ad1 nr = sRl ad nr := by
    funext j
    unfold sRl
    by_cases hj : j < nr
    · rw [if_pos hj, if_pos hj, (hf (30 + j) (by omega) (by omega)).1]
    · rw [if_neg hj, if_neg hj]
  refine ⟨h4, ⟨mc, ea, by rw [(hf 6 (by omega) (by omega)).2]; exact h1, ?_⟩, fun j hj => ?_⟩
  · rcases h2 with h2 | h2
    · exact Or.inl h2
    · refine Or.inr ⟨by rw [(hf 7 (by omega) (by omega)).1]; exact h2.1, ?_⟩
      rw [(hf 7 (by omega) (by omega)).2, e1]
      exact h2.2
  · rw [(hf (30 + j) (by omega) (by omega)).2]
    exact h3 j hj
theorem sShe.fr {so sl ce : AI} (h : sShe G ad x so sl ce) (hf : ∀ z, 8 ≤ z → z < 18 → z ≠ 9 → ad1 z = ad z ∧ x1 z = x z) : sShe G ad1 x1 so sl ce := by
  obtain ⟨h1, h2⟩ := h
  refine ⟨?_, fun k hk => ?_⟩
  · rw [(hf 8 (by omega) (by omega) (by omega)).2, h1]
    have e1 : (fun j => if so j = -9 ∨ 4 ≤ j then none else some (ad1 (10 + j))) = fun j => if so j = -9 ∨ 4 ≤ j then none else some (ad (10 + j)) := by
      funext j
      by_cases hj : 4 ≤ j
      · rw [if_pos (Or.inr hj), if_pos (Or.inr hj)]
      · rw [(hf (10 + j) (by omega) (by omega) (by omega)).1]
    rw [e1]
  · rcases h2 k hk with h | ⟨q, L, f, g1, g2, g3, g4, g5, g6, g7⟩
    · exact Or.inl h
    · refine Or.inr ⟨q, L, f, g1, g2, g3, g4, ?_, ?_, g7⟩
      · rw [(hf (10 + k) (by omega) (by omega) (by omega)).2, (hf (14 + k) (by omega) (by omega) (by omega)).1]
        exact g5
      · rw [(hf (14 + k) (by omega) (by omega) (by omega)).2]
        exact g6
end FR
/-- a tower that was not taken: nothing but names of the act has changed -/
def twF (ad : Nat → Nat) (x : nPic) (ad' : Nat → Nat) (x' : nPic) : Prop := (∀ z, z < 80 → ¬ (z = 40 ∨ z = 41) → ad' z = ad z ∧ x' z = x z) ∧ ∀ z, 80 ≤ z → x' z = none
def twT (G : nG) (ad : Nat → Nat) (x : nPic) (ad' : Nat → Nat) (x' : nPic) (T : Bool × Nat × (Nat × AI) × (Nat × AI × AI × AI)) : Prop :=
  (∀ z, z < 80 → ¬ (z = 3 ∨ (20 ≤ z ∧ z < 24) ∨ z = 40 ∨ z = 41) → ad' z = ad z) ∧ (∀ z, z < 80 → ¬ (z = 2 ∨ z = 3 ∨ z = 6 ∨ z = 7 ∨ (20 ≤ z ∧ z < 24) ∨ z = 40 ∨ z = 41) → x' z = x z) ∧ (∀ z, 80 ≤ z → x' z = none) ∧ sPeo G ad' x' T.2.2.2.1 T.2.2.2.2.1 T.2.2.2.2.2.1 T.2.2.2.2.2.2 ∧ (∀ rw_ rf_ : AI, sRea G ad' x' 0 rw_ rf_) ∧ T.2.2.1.1 ≤ 6
theorem twT.of {G : nG} {ad ad1 ad' : Nat → Nat} {x x1 x' : nPic} {T : Bool × Nat × (Nat × AI) × (Nat × AI × AI × AI)} (hf : sFr 41 ad x ad1 x1) (h : ntQ G ad1 x1 ad' x' T) : twT G ad x ad' x' T := by
  obtain ⟨h1, h2, h3, h4, h5, h6⟩ := h
  refine ⟨fun z hz hn => ?_, fun z hz hn => ?_, h3, h4, h5, h6⟩
  · rw [h1 z hz (by omega) (by omega)]
    exact (hf z (by omega)).1
  · rw [h2 z hz (by omega) (by omega)]
    exact (hf z (by omega)).2
theorem twF.of {ad ad1 : Nat → Nat} {x x1 : nPic} (hf : sFr 41 ad x ad1 x1) (h8 : ∀ z, 80 ≤ z → x z = none) : twF ad x ad1 x1 :=
  ⟨fun z _ hn => hf z (by omega), fun z hz => ((hf z (by omega)).2).trans (h8 z hz)⟩
abbrev actE (ci : Nat) (ad : Nat → Nat) (k q i n : Int32) : Option va_E := some (.inr (ci, [.int k, .int q, .int i, .int n, .ref (ad 0), .ref (ad 0), .ref (ad 0)]))
/-- the answer of a tower's look, and what stands behind it -/
abbrev twP (G : nG) (ad : Nat → Nat) (x : nPic) (si : AI) (sa : Nat → AI) (rn : Value) (T : Bool × Nat × (Nat × AI) × (Nat × AI × AI × AI)) : Option Value → (Nat → Nat) → nPic → Prop := fun rv ad' c' =>
  rv = some (.int (if T.1 = true then nI T.2.2.2.1 else -100 - nI T.2.1)) ∧ (T.1 = false → ∃ x' : nPic, twF ad x ad' x' ∧ sPic G x' ad' si sa rn = c') ∧ (T.1 = true → ∃ x' : nPic, twT G ad x ad' x' T ∧ sPic G x' ad' (upd si 1 (nI T.2.2.1.1)) (va_up (va_up sa 1 (pTk T.2.2.1.1 T.2.2.1.2 (sa 1))) 4 (pTk 4 pZ (sa 4))) rn = c')
/-- a row of days laid: the answer, and what stands behind it -/
abbrev riP (G : nG) (ad : Nat → Nat) (x : nPic) (si : AI) (sa : Nat → AI) (z : Int32) (n : Nat) (rf : AI) : Option Value → (Nat → Nat) → nPic → Prop := fun rv ad' c' =>
  rv = some (.int z) ∧ ∃ x' : nPic, sFr 9 ad x ad' x' ∧ x' 9 = some (.inl (G.1.1 100, n, .inl rf)) ∧ sPic G x' ad' si sa (.ref (ad' 9)) = c'
set_option maxHeartbeats 1000000 in
set_option maxRecDepth 100000 in
theorem sX4_lookAt (l : Launch) (G : nG) (K : State → Prop) (hKo : nKo G K) (hK0 : ∀ U, K U → sK0 G U) (ad : Nat → Nat) (x : nPic) (si : AI) (sa : Nat → AI) (rn : Value) (np : Nat) (kd dr kn : AI) (hP : sPeo G ad x np kd dr kn) (nr : Nat) (rw_ rf_ : AI) (hQ : sRea G ad x nr rw_ rf_) (w : Nat) (cd : AI) (hn : w ≤ 60) (hRx : x 41 = some (.inl (G.1.1 100, w, .inl cd))) (hx8 : ∀ z, 80 ≤ z → x z = none) (T : Bool × Nat × (Nat × AI) × (Nat × AI × AI × AI)) (hT : pT cd w = T) (k q i n_ : Int32) (hAc : x 40 = actE 8 ad k q i n_) : Met l yX4_lookAt (ws_ yX4_lookAt cX4_lookAt 2 (some .int)) (sR 8 8 51) (nPc G nCl K ad (sPic G x ad si sa rn) [.ref (ad 40), .ref (ad 41)]) (nQ G nCl (fun rv ad' c' => rv = some (.int (if T.1 = true then nI T.2.2.2.1 else -100 - nI T.2.1)) ∧ (T.1 = false → ad = ad' ∧ sPic G x ad si sa rn = c') ∧ (T.1 = true → ∃ x' : nPic, ntQ G ad x ad' x' T ∧ sPic G x' ad' (upd si 1 (nI T.2.2.1.1)) (va_up (va_up sa 1 (pTk T.2.2.1.1 T.2.2.1.2 (sa 1))) 4 (pTk 4 pZ (sa 4))) rn = c'))) 8 51 (fun q => G.2 ≤ q) := by
  refine nMet RX4 (by decide) rfl (Nat.le_of_ble_eq_true rfl) ?_
  intro p e s m below meth c ls SS hR hK hN hS hl
  obtain ⟨hx, hb, hml, hown, hts⟩ := id SS
  obtain ⟨hr, hlk, hnm⟩ := hR
  obtain ⟨hKv, hKw, hKf, hKz, hKm⟩ := hK0 s hK
  generalize s.heap = H at hN hS ⊢
  generalize ([] : List Loc) = locs at hS ⊢
  have hl : lv_has ls 2 [(0, .ref (ad 40)), (1, .ref (ad 41))] := hl
  refine lv_aload_n hx hb dX4_lookAt_0 rfl (lv_at hl 0 rfl) ?_
  refine n_get (ci := 8) (C := RX4) (T := TX4) (N := 7) hx hb hts in_X4 hown hKv hN (40) ((sPic_x (by decide)).trans hAc) rfl 6 (by decide) q663 (fun z h => h) (rfl) dX4_lookAt_1 ?_
  refine lv_aload_n hx hb dX4_lookAt_4 rfl (lv_at hl 1 rfl) ?_
  refine n_callVN (As := [_]) (C := RX0) (b := 0) SS hKo hK hKv (sX0_newTower l G K hKo hK0 ad x si sa rn np kd dr kn hP nr rw_ rf_ hQ 41 w cd hn (by decide) (by decide) hRx hx8 T hT) (⟨va_cnB 1 hts (lw_meth q759) rfl rfl rfl (hKw _ q756 rfl) (hts _ q57) (by decide +kernel) ⟨Nat.le_of_ble_eq_true rfl, Nat.le_of_ble_eq_true rfl⟩, hts _ q758, hts _ qs19⟩) hN hS sPic_0 rfl rfl hl.1 rfl (Nat.le_of_ble_eq_true rfl) dX4_lookAt_5 ⟨Nat.le_of_ble_eq_true rfl, Nat.le_of_ble_eq_true rfl⟩ (fun v ad' c' H locs hv hN hS => ?_)
  obtain ⟨rfl, hv1, hv2⟩ := hv
  refine W.eq (g2 := F0 m 8 ls (_ :: _)) rfl ?_
  refine W.widen (k := 8) (n := 51) (by first | omega | decide) (by first | omega | decide) ?_
  exact W.iret hx hb hr (nEnd hN hS ⟨rfl, hv1, hv2⟩) hS.2 dX4_lookAt_8
set_option maxHeartbeats 1000000 in
set_option maxRecDepth 100000 in
theorem sX8_lookAt (l : Launch) (G : nG) (K : State → Prop) (hKo : nKo G K) (hK0 : ∀ U, K U → sK0 G U) (ad : Nat → Nat) (x : nPic) (si : AI) (sa : Nat → AI) (rn : Value) (np : Nat) (kd dr kn : AI) (hP : sPeo G ad x np kd dr kn) (nd : Nat) (hnd : si 1 = nI nd) (hnd6 : nd ≤ 6) (mm : Nat) (rf : AI) (hmm : mm ≤ 20) (hRx : x 9 = some (.inl (G.1.1 100, 2 * mm, .inl rf))) (k q i n_ : Int32) (hAc : x 40 = actE 9 ad k q i n_) : Met l yX8_lookAt (ws_ yX8_lookAt cX8_lookAt 2 (some .int)) (sR 3 0 0) (nPc G nCl K ad (sPic G x ad si sa rn) [.ref (ad 40), .ref (ad 9)]) (nQ G nCl (fun rv ad' c' => rv = some (.int (if np = 0 then -3 else if sRow rf nd np 0 mm = true then 0 else -1)) ∧ ad = ad' ∧ sPic G x ad si sa (.ref (ad 9)) = c')) 0 0 (fun q => G.2 ≤ q) := by
  refine nMet RX8 (by decide) rfl (Nat.le_of_ble_eq_true rfl) ?_
  intro p e s m below meth c ls SS hR hK hN hS hl
  obtain ⟨hx, hb, hml, hown, hts⟩ := id SS
  obtain ⟨hr, hlk, hnm⟩ := hR
  obtain ⟨hKv, hKw, hKf, hKz, hKm⟩ := hK0 s hK
  generalize s.heap = H at hN hS ⊢
  generalize ([] : List Loc) = locs at hS ⊢
  have hl : lv_has ls 2 [(0, .ref (ad 40)), (1, .ref (ad 9))] := hl
  refine lv_aload_n hx hb dX8_lookAt_0 rfl (lv_at hl 0 rfl) ?_
  refine n_get (ci := 9) (C := RX8) (T := TX8) (N := 7) hx hb hts in_X8 hown hKv hN (40) ((sPic_x (by decide)).trans hAc) rfl 6 (by decide) q891 (fun z h => h) (rfl) dX8_lookAt_1 ?_
  refine lv_aload_n hx hb dX8_lookAt_4 rfl (lv_at hl 1 rfl) ?_
  refine n_putN (ci := 0) (C := RX0) (T := TX0) (N := 12) hx hb hts in_X0 tyX0 tyX0_ok (va_apart (own := RX0) hts in_X0 tyX0 tyX0_ok nmX0 hKv rfl) hown hKv hN hS (0) sPic_0 rfl 11 (by decide) (hKw _ q140 rfl) (fun z h => h) rfl rfl rfl (Nat.le_of_ble_eq_true rfl) dX8_lookAt_5 (fun H locs hN hS => ?_)
  have hN := hN.congr sPic_rn
  refine lv_aload_n hx hb dX8_lookAt_8 rfl (lv_at hl 0 rfl) ?_
  refine n_get (ci := 9) (C := RX8) (T := TX8) (N := 7) hx hb hts in_X8 hown hKv hN (40) ((sPic_x (by decide)).trans hAc) rfl 6 (by decide) q891 (fun z h => h) (rfl) dX8_lookAt_9 ?_
  refine lv_aload_n hx hb dX8_lookAt_12 rfl (lv_at hl 1 rfl) ?_
  refine n_callVN (As := [_]) (C := RX0) (b := 0) SS hKo hK hKv (sX0_pairsBarred l G K hKo hK0 ad x si sa (.ref (ad 9)) np kd dr kn hP nd hnd hnd6 9 mm rf hmm (by decide) hRx) (⟨va_cnB 1 hts (lw_meth q865) rfl rfl rfl (hKw _ q862 rfl) (hts _ q57) (by decide +kernel) ⟨Nat.le_of_ble_eq_true rfl, Nat.le_of_ble_eq_true rfl⟩, hts _ q864, hts _ qs21⟩) hN hS sPic_0 rfl rfl hl.1 rfl (Nat.le_of_ble_eq_true rfl) dX8_lookAt_13 ⟨Nat.le_of_ble_eq_true rfl, Nat.le_of_ble_eq_true rfl⟩ (fun v ad' c' H locs hv hN hS => ?_)
  obtain ⟨rfl, rfl, rfl⟩ := hv
  refine W.eq (g2 := F0 m 16 ls (_ :: _)) rfl ?_
  exact W.iret hx hb hr (nEnd hN hS ⟨rfl, rfl, rfl⟩) hS.2 dX8_lookAt_16
set_option maxHeartbeats 1000000 in
set_option maxRecDepth 100000 in
theorem sX3_done_X4 (l : Launch) (G : nG) (K : State → Prop) (hKo : nKo G K) (hK0 : ∀ U, K U → sK0 G U) (ad : Nat → Nat) (x : nPic) (si : AI) (sa : Nat → AI) (rn : Value) (so sl ce : AI) (hSh : sShe G ad x so sl ce) (k : Nat) (hk : k < 4) (q L : Nat) (f : AI) (hq : q < 3) (hL : L ≤ 60) (h9 : ¬ so k = -9) (hE : x (14 + k) = some (rowE G q L f)) (i w : Nat) (hi : i + w ≤ L) (cd : AI) (hcd : ∀ j, j < w → f (i + j) = cd j) (np : Nat) (kd dr kn : AI) (hP : sPeo G ad x np kd dr kn) (nr : Nat) (rw_ rf_ : AI) (hQ : sRea G ad x nr rw_ rf_) (hx8 : ∀ z, 80 ≤ z → x z = none) (T : Bool × Nat × (Nat × AI) × (Nat × AI × AI × AI)) (hT : pT cd w = T) (hAc : x 40 = actE 8 ad (nI k) (nI q) (nI i) (nI w)) : Met l yX3_done (ws_ yX3_done cX3_done 1 (some .int)) (sR 9 10 181) (nPc G nCl K ad (sPic G x ad si sa rn) [.ref (ad 40)]) (nQ G nCl (twP G ad x si sa rn T)) 10 181 (fun q => G.2 ≤ q) := by
  refine nMet RX3 (by decide) rfl (Nat.le_of_ble_eq_true rfl) ?_
  intro p e s m below meth c ls SS hR hK hN hS hl
  obtain ⟨hx, hb, hml, hown, hts⟩ := id SS
  obtain ⟨hr, hlk, hnm⟩ := hR
  obtain ⟨hKv, hKw, hKf, hKz, hKm⟩ := hK0 s hK
  generalize s.heap = H at hN hS ⊢
  generalize ([] : List Loc) = locs at hS ⊢
  have hl : lv_has ls 1 [(0, .ref (ad 40))] := hl
  refine lv_aload_n hx hb dX3_done_0 rfl (lv_at hl 0 rfl) ?_
  refine lv_aload_n hx hb dX3_done_1 rfl (lv_at hl 0 rfl) ?_
  refine n_get (ci := 8) (C := RX4) (T := TX4) (N := 7) hx hb hts in_X4 hown hKv hN (40) ((sPic_x (by decide)).trans hAc) rfl 4 (by decide) q670 (fun z h => h) (rfl) dX3_done_2 ?_
  refine lv_aload_n hx hb dX3_done_5 rfl (lv_at hl 0 rfl) ?_
  refine n_get (ci := 8) (C := RX4) (T := TX4) (N := 7) hx hb hts in_X4 hown hKv hN (40) ((sPic_x (by decide)).trans hAc) rfl 0 (by decide) q664 (fun z h => h) (rfl) dX3_done_6 ?_
  refine n_callVNh (As := [_]) (C := RX0) (b := 0) SS hKo hK hKv (sX0_rowIn l G K hKo hK0 ad x si sa rn so sl ce hSh k hk) (⟨va_cnB 1 hts (lw_meth q639) rfl rfl rfl (hKw _ q727 rfl) (hts _ q57) (by decide +kernel) ⟨Nat.le_of_ble_eq_true rfl, Nat.le_of_ble_eq_true rfl⟩, hts _ q638, hts _ qs16⟩) hN hS sPic_0 rfl rfl hl.1 rfl (Nat.le_of_ble_eq_true rfl) dX3_done_9 ⟨Nat.le_of_ble_eq_true rfl, Nat.le_of_ble_eq_true rfl⟩ ?_
  refine n_topv (y := .ref (ad (14 + k))) (if_neg h9) ?_
  refine lv_aload_n hx hb dX3_done_12 rfl (lv_at hl 0 rfl) ?_
  refine n_get (ci := 8) (C := RX4) (T := TX4) (N := 7) hx hb hts in_X4 hown hKv hN (40) ((sPic_x (by decide)).trans hAc) rfl 1 (by decide) q666 (fun z h => h) (rfl) dX3_done_13 ?_
  refine lv_aload_n hx hb dX3_done_16 rfl (lv_at hl 0 rfl) ?_
  refine n_get (ci := 8) (C := RX4) (T := TX4) (N := 7) hx hb hts in_X4 hown hKv hN (40) ((sPic_x (by decide)).trans hAc) rfl 2 (by decide) q668 (fun z h => h) (rfl) dX3_done_17 ?_
  refine lv_aload_n hx hb dX3_done_20 rfl (lv_at hl 0 rfl) ?_
  refine n_get (ci := 8) (C := RX4) (T := TX4) (N := 7) hx hb hts in_X4 hown hKv hN (40) ((sPic_x (by decide)).trans hAc) rfl 3 (by decide) q669 (fun z h => h) (rfl) dX3_done_21 ?_
  refine n_callSN (As := [_, _, _, _]) SS hKo hK (sX0_cellsOf l G K hKo hK0 ad _ (14 + k) q L f hq hL ((sPic_x ⟨by omega, by omega, by omega, by omega⟩).trans hE) i w 41 hi (by omega) ((sPic_x (by decide)).trans (hx8 81 (by decide)))) (⟨va_cnB 4 hts (lw_meth q730) rfl rfl rfl (hKw _ q728 rfl) (hts _ q57) (by decide +kernel) ⟨Nat.le_of_ble_eq_true rfl, Nat.le_of_ble_eq_true rfl⟩, hts _ q729, trivial⟩) hN hS rfl hl.1 rfl (Nat.le_of_ble_eq_true rfl) dX3_done_24 ⟨Nat.le_of_ble_eq_true rfl, Nat.le_of_ble_eq_true rfl⟩ (fun v ad' c' H locs hv hN hS => ?_)
  obtain ⟨p24, rfl, rfl, rfl⟩ := hv
  have hN := x_ext (g := cd) hN hcd
  obtain ⟨ad1, x1, hN, hfr, hp1, hx1, -⟩ := fr_new (by omega) hN
  have hAc1 : x1 40 = actE 8 ad1 (nI k) (nI q) (nI i) (nI w) := by rw [(hfr 40 (by decide)).2, hAc]; unfold actE; rw [(hfr 0 (by decide)).1]
  refine W.eq (g2 := F0 m 27 ls (_ :: _)) rfl ?_
  refine W.eq (g2 := F0 m 27 ls [.ref (ad1 41), .ref (ad1 40)]) (by rw [hp1, (hfr 40 (by decide)).1] <;> rfl) ?_
  refine n_callU (C := RX4) (As := [_]) (b := 40) SS hKo hK hKv (sX4_lookAt l G K hKo hK0 ad1 x1 si sa rn np kd dr kn (hP.fr fun z h1 h2 => hfr z (by omega)) nr rw_ rf_ (hQ.fr fun z h1 h2 => hfr z (by omega)) w cd (by omega) hx1 (fun z hz => ((hfr z (by omega)).2).trans (hx8 z hz)) T hT (nI k) (nI q) (nI i) (nI w) hAc1) (va_cwA 1 hts (lw_U q750 q752 q753 q754 q64 q755) rfl rfl rfl (hKw _ q751 rfl) (by decide +kernel) ⟨Nat.le_of_ble_eq_true rfl, Nat.le_of_ble_eq_true rfl⟩) hN hS ((sPic_x (by decide)).trans hAc1) rfl rfl hl.1 rfl (Nat.le_of_ble_eq_true rfl) dX3_done_27 ⟨Nat.le_of_ble_eq_true rfl, Nat.le_of_ble_eq_true rfl⟩ (fun v ad' c' H locs hv hN hS => ?_)
  obtain ⟨rfl, hv1, hv2⟩ := hv
  refine W.eq (g2 := F0 m 30 ls (_ :: _)) rfl ?_
  refine W.widen (k := 10) (n := 181) (by first | omega | decide) (by first | omega | decide) ?_
  exact W.iret hx hb hr (nEnd hN hS ⟨rfl, fun z => by obtain ⟨rfl, rfl⟩ := hv1 z; exact ⟨_, twF.of hfr hx8, rfl⟩, fun z => by obtain ⟨x2, g1, g2⟩ := hv2 z; exact ⟨x2, twT.of hfr g1, g2⟩⟩) hS.2 dX3_done_30
set_option maxHeartbeats 1000000 in
set_option maxRecDepth 100000 in
theorem sX3_doneT_X4 (l : Launch) (G : nG) (K : State → Prop) (hKo : nKo G K) (hK0 : ∀ U, K U → sK0 G U) (hKx : ∀ U, K U → xK G U) (hfl : l.stackTraces = false) (ad : Nat → Nat) (x : nPic) (si : AI) (sa : Nat → AI) (rn : Value) (so sl ce : AI) (hSh : sShe G ad x so sl ce) (k : Nat) (hk : k < 4) (nm : String) (q i n_ : Int32) (hAc : x 40 = actE 8 ad (nI k) q i n_) (hM : MetT l yX0_cellsOf (ws_ yX0_cellsOf cX0_cellsOf 8 (some (.array .int))) (sR 1 4 1980) (nPc G nCl K ad (sPic G x ad si sa rn) [(if so k = -9 then .null else .ref (ad (14 + k))), .int q, .int i, .int n_]) (xQ nm G nCl ad (sPic G x ad si sa rn)) 4 1980 (fun q => G.2 ≤ q)) : MetT l yX3_done (ws_ yX3_done cX3_done 1 (some .int)) (sR 9 4 1980) (nPc G nCl K ad (sPic G x ad si sa rn) [.ref (ad 40)]) (xQ nm G nCl ad (sPic G x ad si sa rn)) 4 1980 (fun q => G.2 ≤ q) := by
  refine nMetT RX3 (by decide) rfl (Nat.le_of_ble_eq_true rfl) ?_
  intro p e s m below meth c ls SS hR hxt hadm hK hN hS hl
  obtain ⟨hx, hb, hml, hown, hts⟩ := id SS
  obtain ⟨hr, hlk, hnm⟩ := hR
  have hX := hKx s hK
  obtain ⟨hKv, hKw, hKf, hKz, hKm⟩ := hK0 s hK
  generalize s.heap = H at hN hS ⊢
  generalize ([] : List Loc) = locs at hS ⊢
  have hl : lv_has ls 1 [(0, .ref (ad 40))] := hl
  refine lv_aload_n hx hb dX3_done_0 rfl (lv_at hl 0 rfl) ?_
  refine lv_aload_n hx hb dX3_done_1 rfl (lv_at hl 0 rfl) ?_
  refine n_get (ci := 8) (C := RX4) (T := TX4) (N := 7) hx hb hts in_X4 hown hKv hN (40) ((sPic_x (by decide)).trans hAc) rfl 4 (by decide) q670 (fun z h => h) (rfl) dX3_done_2 ?_
  refine lv_aload_n hx hb dX3_done_5 rfl (lv_at hl 0 rfl) ?_
  refine n_get (ci := 8) (C := RX4) (T := TX4) (N := 7) hx hb hts in_X4 hown hKv hN (40) ((sPic_x (by decide)).trans hAc) rfl 0 (by decide) q664 (fun z h => h) (rfl) dX3_done_6 ?_
  refine n_callVNh (As := [_]) (C := RX0) (b := 0) SS hKo hK hKv (sX0_rowIn l G K hKo hK0 ad x si sa rn so sl ce hSh k hk) (⟨va_cnB 1 hts (lw_meth q639) rfl rfl rfl (hKw _ q727 rfl) (hts _ q57) (by decide +kernel) ⟨Nat.le_of_ble_eq_true rfl, Nat.le_of_ble_eq_true rfl⟩, hts _ q638, hts _ qs16⟩) hN hS sPic_0 rfl rfl hl.1 rfl (Nat.le_of_ble_eq_true rfl) dX3_done_9 ⟨Nat.le_of_ble_eq_true rfl, Nat.le_of_ble_eq_true rfl⟩ ?_
  refine lv_aload_n hx hb dX3_done_12 rfl (lv_at hl 0 rfl) ?_
  refine n_get (ci := 8) (C := RX4) (T := TX4) (N := 7) hx hb hts in_X4 hown hKv hN (40) ((sPic_x (by decide)).trans hAc) rfl 1 (by decide) q666 (fun z h => h) (rfl) dX3_done_13 ?_
  refine lv_aload_n hx hb dX3_done_16 rfl (lv_at hl 0 rfl) ?_
  refine n_get (ci := 8) (C := RX4) (T := TX4) (N := 7) hx hb hts in_X4 hown hKv hN (40) ((sPic_x (by decide)).trans hAc) rfl 2 (by decide) q668 (fun z h => h) (rfl) dX3_done_17 ?_
  refine lv_aload_n hx hb dX3_done_20 rfl (lv_at hl 0 rfl) ?_
  refine n_get (ci := 8) (C := RX4) (T := TX4) (N := 7) hx hb hts in_X4 hown hKv hN (40) ((sPic_x (by decide)).trans hAc) rfl 3 (by decide) q669 (fun z h => h) (rfl) dX3_done_21 ?_
  refine n_callSNT (As := [_, _, _, _]) SS hKo hK (hM) (⟨va_cnB 4 hts (lw_meth q730) rfl rfl rfl (hKw _ q728 rfl) (hts _ q57) (by decide +kernel) ⟨Nat.le_of_ble_eq_true rfl, Nat.le_of_ble_eq_true rfl⟩, hts _ q729, trivial⟩) hN hS rfl hl.1 rfl (Nat.le_of_ble_eq_true rfl) dX3_done_24 ⟨Nat.le_of_ble_eq_true rfl, Nat.le_of_ble_eq_true rfl⟩ (fun a_ cell_ H locs hA1 hA2 hA3 hN hS => ?_)
  exact WT.widen (k := 4) (n := 1980) (by first | decide | omega) (by first | decide | omega) (WT.out hlk (hxt _) hA1 hA2 hA3 hN hS)
set_option maxHeartbeats 1000000 in
set_option maxRecDepth 100000 in
theorem sX3_done_X8 (l : Launch) (G : nG) (K : State → Prop) (hKo : nKo G K) (hK0 : ∀ U, K U → sK0 G U) (ad : Nat → Nat) (x : nPic) (si : AI) (sa : Nat → AI) (rn : Value) (so sl ce : AI) (hSh : sShe G ad x so sl ce) (k : Nat) (hk : k < 4) (q L : Nat) (f : AI) (hq : q < 3) (hL : L ≤ 60) (h9 : ¬ so k = -9) (hE : x (14 + k) = some (rowE G q L f)) (i w : Nat) (hi : i + w ≤ L) (cd : AI) (hcd : ∀ j, j < w → f (i + j) = cd j) (np : Nat) (kd dr kn : AI) (hP : sPeo G ad x np kd dr kn) (nd : Nat) (hnd : si 1 = nI nd) (hnd6 : nd ≤ 6) (mm : Nat) (hmm : mm ≤ 20) (hw2 : w = 2 * mm) (hx8 : ∀ z, 80 ≤ z → x z = none) (hAc : x 40 = actE 9 ad (nI k) (nI q) (nI i) (nI w)) : Met l yX3_done (ws_ yX3_done cX3_done 1 (some .int)) (sR 9 2 130) (nPc G nCl K ad (sPic G x ad si sa rn) [.ref (ad 40)]) (nQ G nCl (riP G ad x si sa (if np = 0 then -3 else if sRow cd nd np 0 mm = true then 0 else -1) w cd)) 2 130 (fun q => G.2 ≤ q) := by
  refine nMet RX3 (by decide) rfl (Nat.le_of_ble_eq_true rfl) ?_
  intro p e s m below meth c ls SS hR hK hN hS hl
  obtain ⟨hx, hb, hml, hown, hts⟩ := id SS
  obtain ⟨hr, hlk, hnm⟩ := hR
  obtain ⟨hKv, hKw, hKf, hKz, hKm⟩ := hK0 s hK
  generalize s.heap = H at hN hS ⊢
  generalize ([] : List Loc) = locs at hS ⊢
  have hl : lv_has ls 1 [(0, .ref (ad 40))] := hl
  refine lv_aload_n hx hb dX3_done_0 rfl (lv_at hl 0 rfl) ?_
  refine lv_aload_n hx hb dX3_done_1 rfl (lv_at hl 0 rfl) ?_
  refine n_get (ci := 9) (C := RX8) (T := TX8) (N := 7) hx hb hts in_X8 hown hKv hN (40) ((sPic_x (by decide)).trans hAc) rfl 4 (by decide) q670 (fun z h => h) (rfl) dX3_done_2 ?_
  refine lv_aload_n hx hb dX3_done_5 rfl (lv_at hl 0 rfl) ?_
  refine n_get (ci := 9) (C := RX8) (T := TX8) (N := 7) hx hb hts in_X8 hown hKv hN (40) ((sPic_x (by decide)).trans hAc) rfl 0 (by decide) q664 (fun z h => h) (rfl) dX3_done_6 ?_
  refine n_callVNh (As := [_]) (C := RX0) (b := 0) SS hKo hK hKv (sX0_rowIn l G K hKo hK0 ad x si sa rn so sl ce hSh k hk) (⟨va_cnB 1 hts (lw_meth q639) rfl rfl rfl (hKw _ q727 rfl) (hts _ q57) (by decide +kernel) ⟨Nat.le_of_ble_eq_true rfl, Nat.le_of_ble_eq_true rfl⟩, hts _ q638, hts _ qs16⟩) hN hS sPic_0 rfl rfl hl.1 rfl (Nat.le_of_ble_eq_true rfl) dX3_done_9 ⟨Nat.le_of_ble_eq_true rfl, Nat.le_of_ble_eq_true rfl⟩ ?_
  refine n_topv (y := .ref (ad (14 + k))) (if_neg h9) ?_
  refine lv_aload_n hx hb dX3_done_12 rfl (lv_at hl 0 rfl) ?_
  refine n_get (ci := 9) (C := RX8) (T := TX8) (N := 7) hx hb hts in_X8 hown hKv hN (40) ((sPic_x (by decide)).trans hAc) rfl 1 (by decide) q666 (fun z h => h) (rfl) dX3_done_13 ?_
  refine lv_aload_n hx hb dX3_done_16 rfl (lv_at hl 0 rfl) ?_
  refine n_get (ci := 9) (C := RX8) (T := TX8) (N := 7) hx hb hts in_X8 hown hKv hN (40) ((sPic_x (by decide)).trans hAc) rfl 2 (by decide) q668 (fun z h => h) (rfl) dX3_done_17 ?_
  refine lv_aload_n hx hb dX3_done_20 rfl (lv_at hl 0 rfl) ?_
  refine n_get (ci := 9) (C := RX8) (T := TX8) (N := 7) hx hb hts in_X8 hown hKv hN (40) ((sPic_x (by decide)).trans hAc) rfl 3 (by decide) q669 (fun z h => h) (rfl) dX3_done_21 ?_
  refine n_callSN (As := [_, _, _, _]) SS hKo hK (sX0_cellsOf l G K hKo hK0 ad _ (14 + k) q L f hq hL ((sPic_x ⟨by omega, by omega, by omega, by omega⟩).trans hE) i w 9 hi (by omega) ((sPic_x (by decide)).trans (hx8 81 (by decide)))) (⟨va_cnB 4 hts (lw_meth q730) rfl rfl rfl (hKw _ q728 rfl) (hts _ q57) (by decide +kernel) ⟨Nat.le_of_ble_eq_true rfl, Nat.le_of_ble_eq_true rfl⟩, hts _ q729, trivial⟩) hN hS rfl hl.1 rfl (Nat.le_of_ble_eq_true rfl) dX3_done_24 ⟨Nat.le_of_ble_eq_true rfl, Nat.le_of_ble_eq_true rfl⟩ (fun v ad' c' H locs hv hN hS => ?_)
  obtain ⟨p24, rfl, rfl, rfl⟩ := hv
  have hN := x_ext (g := cd) hN hcd
  obtain ⟨ad1, x1, hN, hfr, hp1, hx1, -⟩ := fr_new (by omega) hN
  have hAc1 : x1 40 = actE 9 ad1 (nI k) (nI q) (nI i) (nI w) := by rw [(hfr 40 (by decide)).2, hAc]; unfold actE; rw [(hfr 0 (by decide)).1]
  refine W.eq (g2 := F0 m 27 ls (_ :: _)) rfl ?_
  refine W.eq (g2 := F0 m 27 ls [.ref (ad1 9), .ref (ad1 40)]) (by rw [hp1, (hfr 40 (by decide)).1] <;> rfl) ?_
  refine n_callU (C := RX8) (As := [_]) (b := 40) SS hKo hK hKv (sX8_lookAt l G K hKo hK0 ad1 x1 si sa rn np kd dr kn (hP.fr fun z h1 h2 => hfr z (by omega)) nd hnd hnd6 mm cd hmm (by rw [← hw2]; exact hx1) (nI k) (nI q) (nI i) (nI w) hAc1) (va_cwA 1 hts (lw_U q750 q752 q859 q860 q84 q861) rfl rfl rfl (hKw _ q751 rfl) (by decide +kernel) ⟨Nat.le_of_ble_eq_true rfl, Nat.le_of_ble_eq_true rfl⟩) hN hS ((sPic_x (by decide)).trans hAc1) rfl rfl hl.1 rfl (Nat.le_of_ble_eq_true rfl) dX3_done_27 ⟨Nat.le_of_ble_eq_true rfl, Nat.le_of_ble_eq_true rfl⟩ (fun v ad' c' H locs hv hN hS => ?_)
  obtain ⟨rfl, rfl, rfl⟩ := hv
  refine W.eq (g2 := F0 m 30 ls (_ :: _)) rfl ?_
  refine W.widen (k := 2) (n := 130) (by first | omega | decide) (by first | omega | decide) ?_
  exact W.iret hx hb hr (nEnd hN hS ⟨rfl, x1, hfr, hx1, rfl⟩) hS.2 dX3_done_30
set_option maxHeartbeats 1000000 in
set_option maxRecDepth 100000 in
theorem sX3_doneT_X8 (l : Launch) (G : nG) (K : State → Prop) (hKo : nKo G K) (hK0 : ∀ U, K U → sK0 G U) (hKx : ∀ U, K U → xK G U) (hfl : l.stackTraces = false) (ad : Nat → Nat) (x : nPic) (si : AI) (sa : Nat → AI) (rn : Value) (so sl ce : AI) (hSh : sShe G ad x so sl ce) (k : Nat) (hk : k < 4) (nm : String) (q i n_ : Int32) (hAc : x 40 = actE 9 ad (nI k) q i n_) (hM : MetT l yX0_cellsOf (ws_ yX0_cellsOf cX0_cellsOf 8 (some (.array .int))) (sR 1 4 1980) (nPc G nCl K ad (sPic G x ad si sa rn) [(if so k = -9 then .null else .ref (ad (14 + k))), .int q, .int i, .int n_]) (xQ nm G nCl ad (sPic G x ad si sa rn)) 4 1980 (fun q => G.2 ≤ q)) : MetT l yX3_done (ws_ yX3_done cX3_done 1 (some .int)) (sR 9 4 1980) (nPc G nCl K ad (sPic G x ad si sa rn) [.ref (ad 40)]) (xQ nm G nCl ad (sPic G x ad si sa rn)) 4 1980 (fun q => G.2 ≤ q) := by
  refine nMetT RX3 (by decide) rfl (Nat.le_of_ble_eq_true rfl) ?_
  intro p e s m below meth c ls SS hR hxt hadm hK hN hS hl
  obtain ⟨hx, hb, hml, hown, hts⟩ := id SS
  obtain ⟨hr, hlk, hnm⟩ := hR
  have hX := hKx s hK
  obtain ⟨hKv, hKw, hKf, hKz, hKm⟩ := hK0 s hK
  generalize s.heap = H at hN hS ⊢
  generalize ([] : List Loc) = locs at hS ⊢
  have hl : lv_has ls 1 [(0, .ref (ad 40))] := hl
  refine lv_aload_n hx hb dX3_done_0 rfl (lv_at hl 0 rfl) ?_
  refine lv_aload_n hx hb dX3_done_1 rfl (lv_at hl 0 rfl) ?_
  refine n_get (ci := 9) (C := RX8) (T := TX8) (N := 7) hx hb hts in_X8 hown hKv hN (40) ((sPic_x (by decide)).trans hAc) rfl 4 (by decide) q670 (fun z h => h) (rfl) dX3_done_2 ?_
  refine lv_aload_n hx hb dX3_done_5 rfl (lv_at hl 0 rfl) ?_
  refine n_get (ci := 9) (C := RX8) (T := TX8) (N := 7) hx hb hts in_X8 hown hKv hN (40) ((sPic_x (by decide)).trans hAc) rfl 0 (by decide) q664 (fun z h => h) (rfl) dX3_done_6 ?_
  refine n_callVNh (As := [_]) (C := RX0) (b := 0) SS hKo hK hKv (sX0_rowIn l G K hKo hK0 ad x si sa rn so sl ce hSh k hk) (⟨va_cnB 1 hts (lw_meth q639) rfl rfl rfl (hKw _ q727 rfl) (hts _ q57) (by decide +kernel) ⟨Nat.le_of_ble_eq_true rfl, Nat.le_of_ble_eq_true rfl⟩, hts _ q638, hts _ qs16⟩) hN hS sPic_0 rfl rfl hl.1 rfl (Nat.le_of_ble_eq_true rfl) dX3_done_9 ⟨Nat.le_of_ble_eq_true rfl, Nat.le_of_ble_eq_true rfl⟩ ?_
  refine lv_aload_n hx hb dX3_done_12 rfl (lv_at hl 0 rfl) ?_
  refine n_get (ci := 9) (C := RX8) (T := TX8) (N := 7) hx hb hts in_X8 hown hKv hN (40) ((sPic_x (by decide)).trans hAc) rfl 1 (by decide) q666 (fun z h => h) (rfl) dX3_done_13 ?_
  refine lv_aload_n hx hb dX3_done_16 rfl (lv_at hl 0 rfl) ?_
  refine n_get (ci := 9) (C := RX8) (T := TX8) (N := 7) hx hb hts in_X8 hown hKv hN (40) ((sPic_x (by decide)).trans hAc) rfl 2 (by decide) q668 (fun z h => h) (rfl) dX3_done_17 ?_
  refine lv_aload_n hx hb dX3_done_20 rfl (lv_at hl 0 rfl) ?_
  refine n_get (ci := 9) (C := RX8) (T := TX8) (N := 7) hx hb hts in_X8 hown hKv hN (40) ((sPic_x (by decide)).trans hAc) rfl 3 (by decide) q669 (fun z h => h) (rfl) dX3_done_21 ?_
  refine n_callSNT (As := [_, _, _, _]) SS hKo hK (hM) (⟨va_cnB 4 hts (lw_meth q730) rfl rfl rfl (hKw _ q728 rfl) (hts _ q57) (by decide +kernel) ⟨Nat.le_of_ble_eq_true rfl, Nat.le_of_ble_eq_true rfl⟩, hts _ q729, trivial⟩) hN hS rfl hl.1 rfl (Nat.le_of_ble_eq_true rfl) dX3_done_24 ⟨Nat.le_of_ble_eq_true rfl, Nat.le_of_ble_eq_true rfl⟩ (fun a_ cell_ H locs hA1 hA2 hA3 hN hS => ?_)
  exact WT.widen (k := 4) (n := 1980) (by first | decide | omega) (by first | decide | omega) (WT.out hlk (hxt _) hA1 hA2 hA3 hN hS)
