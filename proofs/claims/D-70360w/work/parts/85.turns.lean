/-! THE LAW'S LOOP: printed by wip/gen/l85.py -/
section TURN
variable {p : Program} {l : Launch} {e : Env} {s : State} {m : MethodId} {below : List Frame} {meth : Method} {c : Code} {Q : State → Prop} {b L : Nat} {xs : Nat → Int32} {G : nG}
theorem lw_more {i : Nat} (hL : L ≤ 384) (hi : i ≤ 400) : nI L - 6 < nI i ↔ ¬ i + 6 ≤ L := by
  have h1 : (nI L - 6).toInt = (L : Int) - 6 := by
    rw [Int32.toInt_sub, nI_toInt (by omega), show (6 : Int32).toInt = 6 from rfl, Int.bmod_def]
    split <;> omega
  rw [Int32.lt_iff_toInt_lt, h1, nI_toInt (by omega)]
  omega
set_option maxHeartbeats 1000000 in
set_option maxRecDepth 100000 in
theorem lw_turns (F : lwF p l m c s b L xs G) (hL : L ≤ 384) (hend : ∀ (H : Heap) (locs : List Loc) (cells slots : Nat) (ls : Array Slot), nS G s H locs → cells ≤ 705765 → slots ≤ 6954232 → W p l e room_1 s m #[.ref b] below meth c H locs cells slots Q (F0 m 1236 ls [])) :
    ∀ (n i : Nat) (ad : Nat → Nat) (c0 : nPic) (H : Heap) (locs : List Loc) (cells slots : Nat) (ls : Array Slot), L ≤ i + 6 * n + 5 → i ≤ 390 → cells + 14 * n ≤ 705765 → slots + 2005 * n ≤ 6954232 → nS G s H locs → nOk G nCl ad c0 H → lwI G ad c0 → lv_has ls 4 [(3, .int (nI i)), (2, .ref (ad 50)), (1, .ref (ad 0)), (0, .ref b)] →
      W p l e room_1 s m #[.ref b] below meth c H locs cells slots Q (F0 m 18 ls []) := by
  obtain ⟨SS, hX, hbG, hK1, hfl⟩ := id F
  obtain ⟨hx, hb, hml, hown, hts⟩ := id SS
  intro n
  induction n with
  | zero =>
    intro i ad c0 H locs cells slots ls hn hi hc1 hc2 hS hN hI hl
    refine lv_iload_n hx hb dL_law_18 rfl (lv_at hl 0 rfl) ?_
    refine lv_aload_n hx hb dL_law_19 rfl (lv_at hl 3 rfl) ?_
    refine lw_len F hS dL_law_20 ?_
    refine lv_bipush (v := 6) hx hb dL_law_21 (by decide) ?_
    refine lv_isub hx hb dL_law_23 ?_
    refine lv_icmp_gt (tgt := 1236) hx hb dL_law_24 (by decide) (fun _ => ?_) (fun z => absurd ((lw_more hL (by omega)).mpr (by omega)) z)
    exact hend _ _ _ _ _ hS (by omega) (by omega)
  | succ n ih =>
    intro i ad c0 H locs cells slots ls hn hi hc1 hc2 hS hN hI hl
    refine lv_iload_n hx hb dL_law_18 rfl (lv_at hl 0 rfl) ?_
    refine lv_aload_n hx hb dL_law_19 rfl (lv_at hl 3 rfl) ?_
    refine lw_len F hS dL_law_20 ?_
    refine lv_bipush (v := 6) hx hb dL_law_21 (by decide) ?_
    refine lv_isub hx hb dL_law_23 ?_
    refine lv_icmp_gt (tgt := 1236) hx hb dL_law_24 (by decide) (fun _ => hend _ _ _ _ _ hS (by omega) (by omega)) (fun z => ?_)
    have hi6 : i + 6 ≤ L := Decidable.not_not.mp fun h => z ((lw_more hL (by omega)).mpr h)
    have hc : cells + 14 ≤ 705765 ∧ slots + 2005 ≤ 6954232 := ⟨by omega, by omega⟩
    have kk : lwK p l e s m below meth c b G ad cells slots Q ls := by
      intro ad' c' H' locs' e0 e50 hI' hN' hS'
      rw [← e0, ← e50] at hl
      refine lv_iinc (v := nI (i + 6)) (lv' := [(3, _), (2, _), (1, _), (0, _)]) hx hb dL_law_1230 hl (k := 0) rfl ((Int32.ofNat_add i 6).symm) (by decide) rfl (fun ls hl => ?_)
      refine lv_goto (tgt := 18) hx hb dL_law_1233 (by decide) ?_
      exact ih (i + 6) ad' c' H' locs' _ _ ls (by omega) (by omega) (by omega) (by omega) hS' hN' hI' hl
    refine lv_aload_n hx hb dL_law_27 rfl (lv_at hl 3 rfl) ?_
    refine lv_iload_n hx hb dL_law_28 rfl (lv_at hl 0 rfl) ?_
    refine lw_scr F hS (by omega) hL dL_law_29 ?_
    refine lv_bipush (v := 31) hx hb dL_law_30 (by decide) ?_
    refine lv_iand hx hb dL_law_32 ?_
    by_cases w0 : xs i &&& 31 = 0
    · refine lv_tableIn (tgt := 168) (off := 135) hx hb dL_law_33 (by rw [w0]; decide) (by rw [w0]; decide) (by rw [w0]; rfl) (by decide) ?_
      exact lw_a_tower F hS hl hi6 hL hN hI hc kk
    by_cases w1 : xs i &&& 31 = 1
    · refine lv_tableIn (tgt := 221) (off := 188) hx hb dL_law_33 (by rw [w1]; decide) (by rw [w1]; decide) (by rw [w1]; rfl) (by decide) ?_
      exact lw_a_ofPerson F hS hl hi6 hL hN hI hc kk
    by_cases w2 : xs i &&& 31 = 2
    · refine lv_tableIn (tgt := 254) (off := 221) hx hb dL_law_33 (by rw [w2]; decide) (by rw [w2]; decide) (by rw [w2]; rfl) (by decide) ?_
      exact lw_a_weight F hS hl hi6 hL hN hI hc kk
    by_cases w3 : xs i &&& 31 = 3
    · refine lv_tableIn (tgt := 277) (off := 244) hx hb dL_law_33 (by rw [w3]; decide) (by rw [w3]; decide) (by rw [w3]; rfl) (by decide) ?_
      exact lw_a_weigh F hS hl hi6 hL hN hI hc kk
    by_cases w4 : xs i &&& 31 = 4
    · refine lv_tableIn (tgt := 310) (off := 277) hx hb dL_law_33 (by rw [w4]; decide) (by rw [w4]; decide) (by rw [w4]; rfl) (by decide) ?_
      exact lw_a_storeys F hS hl hi6 hL hN hI hc kk
    by_cases w5 : xs i &&& 31 = 5
    · refine lv_tableIn (tgt := 343) (off := 310) hx hb dL_law_33 (by rw [w5]; decide) (by rw [w5]; decide) (by rw [w5]; rfl) (by decide) ?_
      exact lw_a_say F hS hl hi6 hL hN hI hc kk
    by_cases w6 : xs i &&& 31 = 6
    · refine lv_tableIn (tgt := 376) (off := 343) hx hb dL_law_33 (by rw [w6]; decide) (by rw [w6]; decide) (by rw [w6]; rfl) (by decide) ?_
      exact lw_a_hush F hS hl hi6 hL hN hI hc kk
    by_cases w7 : xs i &&& 31 = 7
    · refine lv_tableIn (tgt := 399) (off := 366) hx hb dL_law_33 (by rw [w7]; decide) (by rw [w7]; decide) (by rw [w7]; rfl) (by decide) ?_
      exact lw_a_landing F hS hl hi6 hL hN hI hc kk
    by_cases w8 : xs i &&& 31 = 8
    · refine lv_tableIn (tgt := 422) (off := 389) hx hb dL_law_33 (by rw [w8]; decide) (by rw [w8]; decide) (by rw [w8]; rfl) (by decide) ?_
      exact lw_a_days F hS hl hi6 hL hN hI hc kk
    by_cases w9 : xs i &&& 31 = 9
    · refine lv_tableIn (tgt := 485) (off := 452) hx hb dL_law_33 (by rw [w9]; decide) (by rw [w9]; decide) (by rw [w9]; rfl) (by decide) ?_
      exact lw_a_way F hS hl hi6 hL hN hI hc kk
    by_cases w10 : xs i &&& 31 = 10
    · refine lv_tableIn (tgt := 518) (off := 485) hx hb dL_law_33 (by rw [w10]; decide) (by rw [w10]; decide) (by rw [w10]; rfl) (by decide) ?_
      exact lw_a_kept F hS hl hi6 hL hN hI hc kk
    by_cases w11 : xs i &&& 31 = 11
    · refine lv_tableIn (tgt := 551) (off := 518) hx hb dL_law_33 (by rw [w11]; decide) (by rw [w11]; decide) (by rw [w11]; rfl) (by decide) ?_
      exact lw_a_roof F hS hl hi6 hL hN hI hc kk
    by_cases w12 : xs i &&& 31 = 12
    · refine lv_tableIn (tgt := 574) (off := 541) hx hb dL_law_33 (by rw [w12]; decide) (by rw [w12]; decide) (by rw [w12]; rfl) (by decide) ?_
      exact lw_a_safe F hS hl hi6 hL hN hI hc kk
    by_cases w13 : xs i &&& 31 = 13
    · refine lv_tableIn (tgt := 597) (off := 564) hx hb dL_law_33 (by rw [w13]; decide) (by rw [w13]; decide) (by rw [w13]; rfl) (by decide) ?_
      exact lw_a_reading F hS hl hi6 hL hN hI hc kk
    by_cases w14 : xs i &&& 31 = 14
    · refine lv_tableIn (tgt := 630) (off := 597) hx hb dL_law_33 (by rw [w14]; decide) (by rw [w14]; decide) (by rw [w14]; rfl) (by decide) ?_
      exact lw_a_back F hS hl hi6 hL hN hI hc kk
    by_cases w15 : xs i &&& 31 = 15
    · refine lv_tableIn (tgt := 653) (off := 620) hx hb dL_law_33 (by rw [w15]; decide) (by rw [w15]; decide) (by rw [w15]; rfl) (by decide) ?_
      exact lw_a_weights F hS hl hi6 hL hN hI hc kk
    by_cases w16 : xs i &&& 31 = 16
    · refine lv_tableIn (tgt := 716) (off := 683) hx hb dL_law_33 (by rw [w16]; decide) (by rw [w16]; decide) (by rw [w16]; rfl) (by decide) ?_
      exact lw_a_kinds F hS hl hi6 hL hN hI hc kk
    by_cases w17 : xs i &&& 31 = 17
    · refine lv_tableIn (tgt := 779) (off := 746) hx hb dL_law_33 (by rw [w17]; decide) (by rw [w17]; decide) (by rw [w17]; rfl) (by decide) ?_
      exact lw_a_knew F hS hl hi6 hL hN hI hc kk
    by_cases w18 : xs i &&& 31 = 18
    · refine lv_tableIn (tgt := 842) (off := 809) hx hb dL_law_33 (by rw [w18]; decide) (by rw [w18]; decide) (by rw [w18]; rfl) (by decide) ?_
      exact lw_a_odds F hS hl hi6 hL hN hI hc kk
    by_cases w19 : xs i &&& 31 = 19
    · refine lv_tableIn (tgt := 886) (off := 853) hx hb dL_law_33 (by rw [w19]; decide) (by rw [w19]; decide) (by rw [w19]; rfl) (by decide) ?_
      exact lw_a_sheet F hS hl hi6 hL hN hI hc kk
    by_cases w20 : xs i &&& 31 = 20
    · refine lv_tableIn (tgt := 929) (off := 896) hx hb dL_law_33 (by rw [w20]; decide) (by rw [w20]; decide) (by rw [w20]; rfl) (by decide) ?_
      exact lw_a_lose F hS hl hi6 hL hN hI hc kk
    by_cases w21 : xs i &&& 31 = 21
    · refine lv_tableIn (tgt := 952) (off := 919) hx hb dL_law_33 (by rw [w21]; decide) (by rw [w21]; decide) (by rw [w21]; rfl) (by decide) ?_
      exact lw_a_put F hS hl hi6 hL hN hI hc kk
    by_cases w22 : xs i &&& 31 = 22
    · refine lv_tableIn (tgt := 995) (off := 962) hx hb dL_law_33 (by rw [w22]; decide) (by rw [w22]; decide) (by rw [w22]; rfl) (by decide) ?_
      exact lw_a_cell F hS hl hi6 hL hN hI hc kk
    by_cases w23 : xs i &&& 31 = 23
    · refine lv_tableIn (tgt := 1039) (off := 1006) hx hb dL_law_33 (by rw [w23]; decide) (by rw [w23]; decide) (by rw [w23]; rfl) (by decide) ?_
      exact lw_a_copy F hS hl hi6 hL hN hI hc kk
    by_cases w24 : xs i &&& 31 = 24
    · refine lv_tableIn (tgt := 1102) (off := 1069) hx hb dL_law_33 (by rw [w24]; decide) (by rw [w24]; decide) (by rw [w24]; rfl) (by decide) ?_
      exact lw_a_tell F hS hl hi6 hL hN hI hc kk
    by_cases w25 : xs i &&& 31 = 25
    · refine lv_tableIn (tgt := 1125) (off := 1092) hx hb dL_law_33 (by rw [w25]; decide) (by rw [w25]; decide) (by rw [w25]; rfl) (by decide) ?_
      exact lw_a_greet F hS hl hi6 hL hN hI hc kk
    by_cases w26 : xs i &&& 31 = 26
    · refine lv_tableIn (tgt := 1148) (off := 1115) hx hb dL_law_33 (by rw [w26]; decide) (by rw [w26]; decide) (by rw [w26]; rfl) (by decide) ?_
      exact lw_a_as F hS hl hi6 hL hN hI hc kk
    by_cases w27 : xs i &&& 31 = 27
    · refine lv_tableIn (tgt := 1181) (off := 1148) hx hb dL_law_33 (by rw [w27]; decide) (by rw [w27]; decide) (by rw [w27]; rfl) (by decide) ?_
      exact lw_a_trace F hS hl hi6 hL hN hI hc kk
    by_cases w28 : xs i &&& 31 = 28
    · refine lv_tableIn (tgt := 1194) (off := 1161) hx hb dL_law_33 (by rw [w28]; decide) (by rw [w28]; decide) (by rw [w28]; rfl) (by decide) ?_
      exact lw_a_fault F hS hl hi6 hL hN hI hc kk
    by_cases w29 : xs i &&& 31 = 29
    · refine lv_tableIn (tgt := 1207) (off := 1174) hx hb dL_law_33 (by rw [w29]; decide) (by rw [w29]; decide) (by rw [w29]; rfl) (by decide) ?_
      exact lw_a_many F hS hl hi6 hL hN hI hc kk
    refine lv_tableOut (tgt := 1230) hx hb dL_law_33 (n_swOut 29 (by decide) (by intro k hk; rcases (show k = 0 ∨ k = 1 ∨ k = 2 ∨ k = 3 ∨ k = 4 ∨ k = 5 ∨ k = 6 ∨ k = 7 ∨ k = 8 ∨ k = 9 ∨ k = 10 ∨ k = 11 ∨ k = 12 ∨ k = 13 ∨ k = 14 ∨ k = 15 ∨ k = 16 ∨ k = 17 ∨ k = 18 ∨ k = 19 ∨ k = 20 ∨ k = 21 ∨ k = 22 ∨ k = 23 ∨ k = 24 ∨ k = 25 ∨ k = 26 ∨ k = 27 ∨ k = 28 ∨ k = 29 by omega) with rfl | rfl | rfl | rfl | rfl | rfl | rfl | rfl | rfl | rfl | rfl | rfl | rfl | rfl | rfl | rfl | rfl | rfl | rfl | rfl | rfl | rfl | rfl | rfl | rfl | rfl | rfl | rfl | rfl | rfl <;> assumption)) (by decide) ?_
    refine W.widen (k := cells + 14) (n := slots + 2005) (by omega) (by omega) ?_
    exact kk ad c0 H locs rfl rfl hI hN hS
end TURN
