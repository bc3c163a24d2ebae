/-! THE LAW'S FIRST STEPS: printed by wip/gen/l86.py -/
section FIRST
variable {p : Program} {l : Launch} {e : Env} {s : State} {m : MethodId} {below : List Frame} {meth : Method} {c : Code} {Q : State → Prop} {b L : Nat} {xs : Nat → Int32} {G : nG}
theorem lw_world {ad1 ad2 ad3 : Nat → Nat} {c1 c2 : nPic} (h2 : ∀ z, z ≠ 50 → ad2 z = ad1 z ∧ c2 z = c1 z) (h3 : ∀ z, (z < 52 ∨ 75 ≤ z) → ad3 z = ad2 z) (hz : ∀ z, 9 ≤ z → c1 z = none) (k2 : c1 2 = some (.inr (7, [.int 0, .ref (nDea G), .int (nI 0)]))) (k6 : c1 6 = some (.inr (7, [.int 0, .ref (nDea G), .int (nI 0)]))) (k8 : c1 8 = some (qA (G.1.1 104) 4 (fun _ => none))) (hp : sPic G c1 ad1 (fun _ => 0) (fun _ _ => 0) .null = c1) : lwI G ad3 (mPic G c2 ad3 (fun _ => 0) mFa0) := by
  have e3 : ∀ z, z < 50 → ad3 z = ad1 z := fun z q => (h3 z (Or.inl (by omega))).trans (h2 z (by omega)).1
  have e4 : sPic G c2 ad3 (fun _ => 0) (fun _ _ => 0) .null = c2 := by
    rw [sPic_ad6 (ad := ad1) ⟨e3 _ (by decide), e3 _ (by decide), e3 _ (by decide), e3 _ (by decide), e3 _ (by decide), e3 _ (by decide)⟩]
    funext z
    by_cases hs : z = 0 ∨ z = 1 ∨ z = 4 ∨ z = 5
    · have e5 : c2 z = sPic G c1 ad1 (fun _ => 0) (fun _ _ => 0) .null z := by rw [hp]; exact (h2 z (by omega)).2
      rw [e5]
      rcases hs with q | q | q | q <;> subst q <;> rfl
    · exact sPic_x (by omega)
  have h9 : ∀ j, j < 4 → mFa0 2 j = -9 := by
    intro j hj
    rcases (show j = 0 ∨ j = 1 ∨ j = 2 ∨ j = 3 by omega) with q | q | q | q <;> subst q <;> rfl
  have hx : ∀ z, z < 50 → mPic G c2 ad3 (fun _ => 0) mFa0 z = c1 z := fun z q => (mPic_lo q).trans (h2 z (by omega)).2
  refine ⟨c2, fun _ => 0, fun _ => 0, fun _ _ => 0, mFa0, .null, fun _ => 0, 0, 0, 0, by rw [sm_swap, e4], ?_, ?_, ?_, ?_, by decide, rfl, rfl, rfl, rfl, rfl, rfl, rfl, fun j hj => absurd hj (by omega), fun j hj => absurd hj (by omega), fun k hk => absurd hk (by omega)⟩
  · exact ⟨by decide, ⟨0, _, (hx 2 (by decide)).trans k2, Or.inl ⟨rfl, rfl⟩⟩, fun j hj => absurd hj (by omega)⟩
  · exact ⟨by decide, ⟨0, _, (hx 6 (by decide)).trans k6, Or.inl ⟨rfl, rfl⟩⟩, fun j hj => absurd hj (by omega)⟩
  · refine ⟨?_, fun k hk => Or.inl ?_⟩
    · rw [hx 8 (by decide), k8]
      have e6 : (fun j : Nat => if mFa0 2 j = -9 ∨ 4 ≤ j then none else some (ad3 (10 + j))) = fun _ => none := by
        funext j
        by_cases q : 4 ≤ j
        · rw [if_pos (Or.inr q)]
        · rw [if_pos (Or.inl (h9 j (by omega)))]
      rw [e6]
    · exact h9 k hk
  · intro z q
    rw [mPic_hi (by omega), (h2 z (by omega)).2]
    exact hz z (by omega)
set_option maxHeartbeats 1000000 in
set_option maxRecDepth 100000 in
theorem lw_first {ls : Array Slot} (F : lwF p l m c s b L xs G) (hG : G.2 = s.heap.size) (hL : L ≤ 384) (hend : ∀ (H : Heap) (locs : List Loc) (cells slots : Nat) (ls : Array Slot), nS G s H locs → cells ≤ 705765 → slots ≤ 6954232 → W p l e room_1 s m #[.ref b] below meth c H locs cells slots Q (F0 m 1236 ls [])) (hl : lv_has ls 4 [(0, .ref b)]) : W p l e room_1 s m #[.ref b] below meth c s.heap [] 0 0 Q (F0 m 0 ls []) := by
  obtain ⟨SS, hX, hbG, hK1, hfl⟩ := id F
  obtain ⟨hx, hb, hml, hown, hts⟩ := id SS
  have hN : nOk G nCl (fun _ => 0) (fun _ => none) s.heap := ⟨fun i e h => (by cases h), fun i j h => absurd rfl h, Nat.le_of_eq hG⟩
  have hS : nS G s s.heap [] := nS.rf
  refine n_new (C := RX0) (T := TX0) (N := 12) (ci := 0) (fs := [.int 0, .int 0, .null, .null, .null, .null, .int 0, .int 0, .null, .int 0, .null, .null]) hx hb hts in_X0 tyX0 tyX0_ok hown q90 q91 q57 hK1.1.1 hN hS 0 rfl (by intro j hj; rcases (show j = 0 ∨ j = 1 ∨ j = 2 ∨ j = 3 ∨ j = 4 ∨ j = 5 ∨ j = 6 ∨ j = 7 ∨ j = 8 ∨ j = 9 ∨ j = 10 ∨ j = 11 by omega) with rfl | rfl | rfl | rfl | rfl | rfl | rfl | rfl | rfl | rfl | rfl | rfl <;> rfl) (Nat.le_of_ble_eq_true rfl) (Nat.le_of_ble_eq_true rfl) dL_law_0 (fun q0 H hN hS => ?_)
  refine lv_dup hx hb dL_law_3 rfl ?_
  obtain ⟨ad, c0, hNn, ha0, hc0, hcz⟩ : ∃ (ad : Nat → Nat) (c0 : nPic), nOk G nCl ad c0 H ∧ ad 0 = q0 ∧ c0 0 = some (.inr (0, [.int 0, .int 0, .null, .null, .null, .null, .int 0, .int 0, .null, .int 0, .null, .null])) ∧ ∀ z, z ≠ 0 → c0 z = none := ⟨_, _, hN, va_up_self _ _ _, va_up_self _ _ _, fun z hz => va_up_ne _ _ hz⟩
  subst ha0
  have hN := hNn
  refine n_callI (As := []) (b := ad 0) SS (sK1_o G) hK1 (sX0_init l G (sK1 G) (sK1_o G) (fun U h => h.1) ad c0 hc0) (cwI 0 hts (lw_meth q94) rfl rfl rfl (hts _ q57) (hts _ q92) (hts _ q93) rfl (by decide +kernel) ⟨Nat.le_of_ble_eq_true rfl, Nat.le_of_ble_eq_true rfl⟩) hN hS rfl hl.1 rfl (Nat.le_of_ble_eq_true rfl) dL_law_4 ⟨Nat.le_of_ble_eq_true rfl, Nat.le_of_ble_eq_true rfl⟩ (fun rv ad1 c1 H locs hv hN hS => ?_)
  obtain ⟨rfl, ha, hz1, k2, k6, k8, hp⟩ := hv
  refine W.eq (g2 := F0 m 7 ls [.ref (ad 0)]) rfl ?_
  rw [← ha 0 (Or.inl rfl)]
  refine lv_astore_n (lv' := [(1, _), (0, _)]) hx hb dL_law_7 rfl hl (by decide) rfl (fun ls hl => ?_)
  refine n_new (C := RX1) (T := TX1) (N := 25) (ci := 1) (fs := [.int 0, .int 0, .null, .null, .null, .int 0, .int 0, .null, .null, .null, .null, .null, .int 0, .int 0, .int 0, .null, .null, .null, .int 0, .null, .null, .int 0, .int 0, .null, .null]) hx hb hts in_X1 tyX1 tyX1_ok hown q1113 q1114 q61 hK1.1.1 hN hS 50 rfl (by intro j hj; rcases (show j = 0 ∨ j = 1 ∨ j = 2 ∨ j = 3 ∨ j = 4 ∨ j = 5 ∨ j = 6 ∨ j = 7 ∨ j = 8 ∨ j = 9 ∨ j = 10 ∨ j = 11 ∨ j = 12 ∨ j = 13 ∨ j = 14 ∨ j = 15 ∨ j = 16 ∨ j = 17 ∨ j = 18 ∨ j = 19 ∨ j = 20 ∨ j = 21 ∨ j = 22 ∨ j = 23 ∨ j = 24 by omega) with rfl | rfl | rfl | rfl | rfl | rfl | rfl | rfl | rfl | rfl | rfl | rfl | rfl | rfl | rfl | rfl | rfl | rfl | rfl | rfl | rfl | rfl | rfl | rfl | rfl <;> rfl) (Nat.le_of_ble_eq_true rfl) (Nat.le_of_ble_eq_true rfl) dL_law_8 (fun q1 H hN hS => ?_)
  refine lv_dup hx hb dL_law_11 rfl ?_
  obtain ⟨ad2, c2, hNn, ha50, hc50, h2⟩ : ∃ (ad2 : Nat → Nat) (c2 : nPic), nOk G nCl ad2 c2 H ∧ ad2 50 = q1 ∧ c2 50 = some (.inr (1, [.int 0, .int 0, .null, .null, .null, .int 0, .int 0, .null, .null, .null, .null, .null, .int 0, .int 0, .int 0, .null, .null, .null, .int 0, .null, .null, .int 0, .int 0, .null, .null])) ∧ ∀ z, z ≠ 50 → ad2 z = ad1 z ∧ c2 z = c1 z := ⟨_, _, hN, va_up_self _ _ _, va_up_self _ _ _, fun z hz => ⟨va_up_ne _ _ hz, va_up_ne _ _ hz⟩⟩
  subst ha50
  have hN := hNn
  refine n_callI (As := []) (b := ad2 50) SS (sK1_o G) hK1 (mX1_init l G (sK1 G) (sK1_o G) (fun U h => h.1) ad2 c2 hc50) (cwI 0 hts (lw_meth q1117) rfl rfl rfl (hts _ q61) (hts _ q1115) (hts _ q1116) rfl (by decide +kernel) ⟨Nat.le_of_ble_eq_true rfl, Nat.le_of_ble_eq_true rfl⟩) hN hS rfl hl.1 rfl (Nat.le_of_ble_eq_true rfl) dL_law_12 ⟨Nat.le_of_ble_eq_true rfl, Nat.le_of_ble_eq_true rfl⟩ (fun rv ad3 c3 H locs hv hN hS => ?_)
  obtain ⟨rfl, h3, rfl⟩ := hv
  refine W.eq (g2 := F0 m 15 ls [.ref (ad2 50)]) rfl ?_
  rw [← h3 50 (Or.inl (by decide))]
  refine lv_astore_n (lv' := [(2, _), (1, _), (0, _)]) hx hb dL_law_15 rfl hl (by decide) rfl (fun ls hl => ?_)
  refine lv_iconst (v := nI 0) hx hb dL_law_16 (by decide) ?_
  refine lv_istore_n (lv' := [(3, _), (2, _), (1, _), (0, _)]) hx hb dL_law_17 rfl hl (by decide) rfl (fun ls hl => ?_)
  rw [← (h2 0 (by decide)).1, ← h3 0 (Or.inl (by decide))] at hl
  exact lw_turns F hL hend 64 0 ad3 _ H locs _ _ ls (by omega) (by decide) (by decide) (by decide) hS hN (lw_world h2 h3 (fun z q => (hz1 z q).trans (hcz z (by omega))) k2 k6 k8 hp) hl
end FIRST
