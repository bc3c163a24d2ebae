/-! THE TWO MADE: printed by wip/gen/e11.py -/
def mFa0 (k : Nat) : AI := if k = 2 then upd (upd (upd (upd (fun _ => 0) 0 (-9)) 1 (-9)) 2 (-9)) 3 (-9) else fun _ => 0
set_option maxHeartbeats 8000000 in
set_option maxRecDepth 100000 in
theorem mX1_init (l : Launch) (G : nG) (K : State → Prop) (hKo : nKo G K) (hK0 : ∀ U, K U → sK0 G U) (ad : Nat → Nat) (c0 : nPic) (hP : c0 50 = some (.inr (1, [.int 0, .int 0, .null, .null, .null, .int 0, .int 0, .null, .null, .null, .null, .null, .int 0, .int 0, .int 0, .null, .null, .null, .int 0, .null, .null, .int 0, .int 0, .null, .null]))) : Met l yX1_init (ws_ yX1_init cX1_init 1 none) (sR 1 15 348) (nPc G nCl K ad c0 [.ref (ad 50)]) (nQ G nCl (fun rv ad' c' => rv = none ∧ (∀ z, (z < 52 ∨ 75 ≤ z) → ad' z = ad z) ∧ mPic G c0 ad' (fun _ => 0) mFa0 = c')) 15 348 (fun q => G.2 ≤ q) := by
  refine nMet RX1 (by decide) rfl (Nat.le_of_ble_eq_true rfl) ?_
  intro p e s m below meth c ls SS hR hK hN hS hl
  obtain ⟨hx, hb, hml, hown, hts⟩ := id SS
  obtain ⟨hr, hlk, hnm⟩ := hR
  obtain ⟨hKv, hKw, hKf, hKz, hKm⟩ := hK0 s hK
  generalize s.heap = H at hN hS ⊢
  generalize ([] : List Loc) = locs at hS ⊢
  have hl : lv_has ls 1 [(0, .ref (ad 50))] := hl
  refine lv_aload_n hx hb dX1_init_0 rfl (lv_at hl 0 rfl) ?_
  refine W.objInit hx hb (g := F0 m 1 ls _) hown (hts _ q1118) (hts _ q96) (hts _ q97) rfl (hl.1.trans hml.symm) rfl dX1_init_1 (Nat.le_of_ble_eq_true rfl) (Nat.le_of_ble_eq_true rfl) ?_
  refine lv_aload_n hx hb dX1_init_4 rfl (lv_at hl 0 rfl) ?_
  refine lv_iconst (v := 4) hx hb dX1_init_5 (by decide) ?_
  refine n_newa (atype := .int) hx hb hts q124 hKv hN hS (52) 0 rfl (4) (fun _ => rfl) (rfl) (by decide) (Nat.le_of_ble_eq_true rfl) (Nat.le_of_ble_eq_true rfl) dX1_init_6 (fun q6 H hN hS => ?_)
  refine lv_dup hx hb dX1_init_8 rfl ?_
  refine lv_iconst (v := 0) hx hb dX1_init_9 (by decide) ?_
  refine lv_bipush (v := (-9)) hx hb dX1_init_10 (rfl) ?_
  refine n_iast hx hb hKv hN hS (52) 0 rfl rfl (0) (rfl) (by decide) (by decide) dX1_init_12 (fun H locs hN hS => ?_)
  refine lv_dup hx hb dX1_init_13 rfl ?_
  refine lv_iconst (v := 1) hx hb dX1_init_14 (by decide) ?_
  refine lv_bipush (v := (-9)) hx hb dX1_init_15 (rfl) ?_
  refine n_iast hx hb hKv hN hS (52) 0 rfl rfl (1) (rfl) (by decide) (by decide) dX1_init_17 (fun H locs hN hS => ?_)
  refine lv_dup hx hb dX1_init_18 rfl ?_
  refine lv_iconst (v := 2) hx hb dX1_init_19 (by decide) ?_
  refine lv_bipush (v := (-9)) hx hb dX1_init_20 (rfl) ?_
  refine n_iast hx hb hKv hN hS (52) 0 rfl rfl (2) (rfl) (by decide) (by decide) dX1_init_22 (fun H locs hN hS => ?_)
  refine lv_dup hx hb dX1_init_23 rfl ?_
  refine lv_iconst (v := 3) hx hb dX1_init_24 (by decide) ?_
  refine lv_bipush (v := (-9)) hx hb dX1_init_25 (rfl) ?_
  refine n_iast hx hb hKv hN hS (52) 0 rfl rfl (3) (rfl) (by decide) (by decide) dX1_init_27 (fun H locs hN hS => ?_)
  refine n_putF (ci := 1) (C := RX1) (T := TX1) (N := 25) hx hb hts in_X1 tyX1 tyX1_ok (va_apart (own := RX1) hts in_X1 tyX1 tyX1_ok nmX1 hKv rfl) hown hKv hN hS (50) (by first | rfl | exact hP) rfl 2 (by decide) q1121 (fun z h => h) rfl hnm rfl rfl rfl (Nat.le_of_ble_eq_true rfl) dX1_init_28 (fun H locs hN hS => ?_)
  refine lv_aload_n hx hb dX1_init_31 rfl (lv_at hl 0 rfl) ?_
  refine lv_iconst (v := 4) hx hb dX1_init_32 (by decide) ?_
  refine n_newa (atype := .int) hx hb hts q124 hKv hN hS (53) 0 rfl (4) (fun _ => rfl) (rfl) (by decide) (Nat.le_of_ble_eq_true rfl) (Nat.le_of_ble_eq_true rfl) dX1_init_33 (fun q33 H hN hS => ?_)
  refine n_putF (ci := 1) (C := RX1) (T := TX1) (N := 25) hx hb hts in_X1 tyX1 tyX1_ok (va_apart (own := RX1) hts in_X1 tyX1 tyX1_ok nmX1 hKv rfl) hown hKv hN hS (50) (by first | rfl | exact hP) rfl 3 (by decide) q1122 (fun z h => h) rfl hnm rfl rfl rfl (Nat.le_of_ble_eq_true rfl) dX1_init_35 (fun H locs hN hS => ?_)
  refine lv_aload_n hx hb dX1_init_38 rfl (lv_at hl 0 rfl) ?_
  refine lv_sipush (v := 240) hx hb dX1_init_39 (by decide) ?_
  refine n_newa (atype := .int) hx hb hts q124 hKv hN hS (54) 0 rfl (240) (fun _ => rfl) (rfl) (by decide) (Nat.le_of_ble_eq_true rfl) (Nat.le_of_ble_eq_true rfl) dX1_init_42 (fun q42 H hN hS => ?_)
  refine n_putF (ci := 1) (C := RX1) (T := TX1) (N := 25) hx hb hts in_X1 tyX1 tyX1_ok (va_apart (own := RX1) hts in_X1 tyX1 tyX1_ok nmX1 hKv rfl) hown hKv hN hS (50) (by first | rfl | exact hP) rfl 4 (by decide) q1123 (fun z h => h) rfl hnm rfl rfl rfl (Nat.le_of_ble_eq_true rfl) dX1_init_44 (fun H locs hN hS => ?_)
  refine lv_aload_n hx hb dX1_init_47 rfl (lv_at hl 0 rfl) ?_
  refine lv_bipush (v := 6) hx hb dX1_init_48 (by decide) ?_
  refine n_newa (atype := .int) hx hb hts q124 hKv hN hS (57) 0 rfl (6) (fun _ => rfl) (rfl) (by decide) (Nat.le_of_ble_eq_true rfl) (Nat.le_of_ble_eq_true rfl) dX1_init_50 (fun q50 H hN hS => ?_)
  refine n_putF (ci := 1) (C := RX1) (T := TX1) (N := 25) hx hb hts in_X1 tyX1 tyX1_ok (va_apart (own := RX1) hts in_X1 tyX1 tyX1_ok nmX1 hKv rfl) hown hKv hN hS (50) (by first | rfl | exact hP) rfl 7 (by decide) q1126 (fun z h => h) rfl hnm rfl rfl rfl (Nat.le_of_ble_eq_true rfl) dX1_init_52 (fun H locs hN hS => ?_)
  refine lv_aload_n hx hb dX1_init_55 rfl (lv_at hl 0 rfl) ?_
  refine lv_iconst (v := 4) hx hb dX1_init_56 (by decide) ?_
  refine n_newa (atype := .int) hx hb hts q124 hKv hN hS (58) 0 rfl (4) (fun _ => rfl) (rfl) (by decide) (Nat.le_of_ble_eq_true rfl) (Nat.le_of_ble_eq_true rfl) dX1_init_57 (fun q57 H hN hS => ?_)
  refine n_putF (ci := 1) (C := RX1) (T := TX1) (N := 25) hx hb hts in_X1 tyX1 tyX1_ok (va_apart (own := RX1) hts in_X1 tyX1 tyX1_ok nmX1 hKv rfl) hown hKv hN hS (50) (by first | rfl | exact hP) rfl 8 (by decide) q1127 (fun z h => h) rfl hnm rfl rfl rfl (Nat.le_of_ble_eq_true rfl) dX1_init_59 (fun H locs hN hS => ?_)
  refine lv_aload_n hx hb dX1_init_62 rfl (lv_at hl 0 rfl) ?_
  refine lv_iconst (v := 4) hx hb dX1_init_63 (by decide) ?_
  refine n_newa (atype := .int) hx hb hts q124 hKv hN hS (59) 0 rfl (4) (fun _ => rfl) (rfl) (by decide) (Nat.le_of_ble_eq_true rfl) (Nat.le_of_ble_eq_true rfl) dX1_init_64 (fun q64 H hN hS => ?_)
  refine n_putF (ci := 1) (C := RX1) (T := TX1) (N := 25) hx hb hts in_X1 tyX1 tyX1_ok (va_apart (own := RX1) hts in_X1 tyX1 tyX1_ok nmX1 hKv rfl) hown hKv hN hS (50) (by first | rfl | exact hP) rfl 9 (by decide) q1128 (fun z h => h) rfl hnm rfl rfl rfl (Nat.le_of_ble_eq_true rfl) dX1_init_66 (fun H locs hN hS => ?_)
  refine lv_aload_n hx hb dX1_init_69 rfl (lv_at hl 0 rfl) ?_
  refine lv_iconst (v := 4) hx hb dX1_init_70 (by decide) ?_
  refine n_newa (atype := .int) hx hb hts q124 hKv hN hS (60) 0 rfl (4) (fun _ => rfl) (rfl) (by decide) (Nat.le_of_ble_eq_true rfl) (Nat.le_of_ble_eq_true rfl) dX1_init_71 (fun q71 H hN hS => ?_)
  refine n_putF (ci := 1) (C := RX1) (T := TX1) (N := 25) hx hb hts in_X1 tyX1 tyX1_ok (va_apart (own := RX1) hts in_X1 tyX1 tyX1_ok nmX1 hKv rfl) hown hKv hN hS (50) (by first | rfl | exact hP) rfl 10 (by decide) q1129 (fun z h => h) rfl hnm rfl rfl rfl (Nat.le_of_ble_eq_true rfl) dX1_init_73 (fun H locs hN hS => ?_)
  refine lv_aload_n hx hb dX1_init_76 rfl (lv_at hl 0 rfl) ?_
  refine lv_iconst (v := 4) hx hb dX1_init_77 (by decide) ?_
  refine n_newa (atype := .int) hx hb hts q124 hKv hN hS (61) 0 rfl (4) (fun _ => rfl) (rfl) (by decide) (Nat.le_of_ble_eq_true rfl) (Nat.le_of_ble_eq_true rfl) dX1_init_78 (fun q78 H hN hS => ?_)
  refine n_putF (ci := 1) (C := RX1) (T := TX1) (N := 25) hx hb hts in_X1 tyX1 tyX1_ok (va_apart (own := RX1) hts in_X1 tyX1 tyX1_ok nmX1 hKv rfl) hown hKv hN hS (50) (by first | rfl | exact hP) rfl 11 (by decide) q1130 (fun z h => h) rfl hnm rfl rfl rfl (Nat.le_of_ble_eq_true rfl) dX1_init_80 (fun H locs hN hS => ?_)
  refine lv_aload_n hx hb dX1_init_83 rfl (lv_at hl 0 rfl) ?_
  refine lv_bipush (v := 6) hx hb dX1_init_84 (by decide) ?_
  refine n_newa (atype := .int) hx hb hts q124 hKv hN hS (65) 0 rfl (6) (fun _ => rfl) (rfl) (by decide) (Nat.le_of_ble_eq_true rfl) (Nat.le_of_ble_eq_true rfl) dX1_init_86 (fun q86 H hN hS => ?_)
  refine n_putF (ci := 1) (C := RX1) (T := TX1) (N := 25) hx hb hts in_X1 tyX1 tyX1_ok (va_apart (own := RX1) hts in_X1 tyX1 tyX1_ok nmX1 hKv rfl) hown hKv hN hS (50) (by first | rfl | exact hP) rfl 15 (by decide) q1134 (fun z h => h) rfl hnm rfl rfl rfl (Nat.le_of_ble_eq_true rfl) dX1_init_88 (fun H locs hN hS => ?_)
  refine lv_aload_n hx hb dX1_init_91 rfl (lv_at hl 0 rfl) ?_
  refine lv_bipush (v := 12) hx hb dX1_init_92 (by decide) ?_
  refine n_newa (atype := .int) hx hb hts q124 hKv hN hS (66) 0 rfl (12) (fun _ => rfl) (rfl) (by decide) (Nat.le_of_ble_eq_true rfl) (Nat.le_of_ble_eq_true rfl) dX1_init_94 (fun q94 H hN hS => ?_)
  refine n_putF (ci := 1) (C := RX1) (T := TX1) (N := 25) hx hb hts in_X1 tyX1 tyX1_ok (va_apart (own := RX1) hts in_X1 tyX1 tyX1_ok nmX1 hKv rfl) hown hKv hN hS (50) (by first | rfl | exact hP) rfl 16 (by decide) q1135 (fun z h => h) rfl hnm rfl rfl rfl (Nat.le_of_ble_eq_true rfl) dX1_init_96 (fun H locs hN hS => ?_)
  refine lv_aload_n hx hb dX1_init_99 rfl (lv_at hl 0 rfl) ?_
  refine lv_iconst (v := 4) hx hb dX1_init_100 (by decide) ?_
  refine n_newa (atype := .int) hx hb hts q124 hKv hN hS (67) 0 rfl (4) (fun _ => rfl) (rfl) (by decide) (Nat.le_of_ble_eq_true rfl) (Nat.le_of_ble_eq_true rfl) dX1_init_101 (fun q101 H hN hS => ?_)
  refine n_putF (ci := 1) (C := RX1) (T := TX1) (N := 25) hx hb hts in_X1 tyX1 tyX1_ok (va_apart (own := RX1) hts in_X1 tyX1 tyX1_ok nmX1 hKv rfl) hown hKv hN hS (50) (by first | rfl | exact hP) rfl 17 (by decide) q1136 (fun z h => h) rfl hnm rfl rfl rfl (Nat.le_of_ble_eq_true rfl) dX1_init_103 (fun H locs hN hS => ?_)
  refine lv_aload_n hx hb dX1_init_106 rfl (lv_at hl 0 rfl) ?_
  refine lv_bipush (v := 20) hx hb dX1_init_107 (by decide) ?_
  refine n_newa (atype := .int) hx hb hts q124 hKv hN hS (69) 0 rfl (20) (fun _ => rfl) (rfl) (by decide) (Nat.le_of_ble_eq_true rfl) (Nat.le_of_ble_eq_true rfl) dX1_init_109 (fun q109 H hN hS => ?_)
  refine n_putF (ci := 1) (C := RX1) (T := TX1) (N := 25) hx hb hts in_X1 tyX1 tyX1_ok (va_apart (own := RX1) hts in_X1 tyX1 tyX1_ok nmX1 hKv rfl) hown hKv hN hS (50) (by first | rfl | exact hP) rfl 19 (by decide) q1138 (fun z h => h) rfl hnm rfl rfl rfl (Nat.le_of_ble_eq_true rfl) dX1_init_111 (fun H locs hN hS => ?_)
  refine lv_aload_n hx hb dX1_init_114 rfl (lv_at hl 0 rfl) ?_
  refine lv_bipush (v := 20) hx hb dX1_init_115 (by decide) ?_
  refine n_newa (atype := .int) hx hb hts q124 hKv hN hS (70) 0 rfl (20) (fun _ => rfl) (rfl) (by decide) (Nat.le_of_ble_eq_true rfl) (Nat.le_of_ble_eq_true rfl) dX1_init_117 (fun q117 H hN hS => ?_)
  refine n_putF (ci := 1) (C := RX1) (T := TX1) (N := 25) hx hb hts in_X1 tyX1 tyX1_ok (va_apart (own := RX1) hts in_X1 tyX1 tyX1_ok nmX1 hKv rfl) hown hKv hN hS (50) (by first | rfl | exact hP) rfl 20 (by decide) q1139 (fun z h => h) rfl hnm rfl rfl rfl (Nat.le_of_ble_eq_true rfl) dX1_init_119 (fun H locs hN hS => ?_)
  refine lv_aload_n hx hb dX1_init_122 rfl (lv_at hl 0 rfl) ?_
  refine lv_bipush (v := 8) hx hb dX1_init_123 (by decide) ?_
  refine n_newa (atype := .int) hx hb hts q124 hKv hN hS (73) 0 rfl (8) (fun _ => rfl) (rfl) (by decide) (Nat.le_of_ble_eq_true rfl) (Nat.le_of_ble_eq_true rfl) dX1_init_125 (fun q125 H hN hS => ?_)
  refine n_putF (ci := 1) (C := RX1) (T := TX1) (N := 25) hx hb hts in_X1 tyX1 tyX1_ok (va_apart (own := RX1) hts in_X1 tyX1 tyX1_ok nmX1 hKv rfl) hown hKv hN hS (50) (by first | rfl | exact hP) rfl 23 (by decide) q1142 (fun z h => h) rfl hnm rfl rfl rfl (Nat.le_of_ble_eq_true rfl) dX1_init_127 (fun H locs hN hS => ?_)
  refine lv_aload_n hx hb dX1_init_130 rfl (lv_at hl 0 rfl) ?_
  refine lv_bipush (v := 8) hx hb dX1_init_131 (by decide) ?_
  refine n_newa (atype := .int) hx hb hts q124 hKv hN hS (74) 0 rfl (8) (fun _ => rfl) (rfl) (by decide) (Nat.le_of_ble_eq_true rfl) (Nat.le_of_ble_eq_true rfl) dX1_init_133 (fun q133 H hN hS => ?_)
  refine n_putF (ci := 1) (C := RX1) (T := TX1) (N := 25) hx hb hts in_X1 tyX1 tyX1_ok (va_apart (own := RX1) hts in_X1 tyX1 tyX1_ok nmX1 hKv rfl) hown hKv hN hS (50) (by first | rfl | exact hP) rfl 24 (by decide) q1143 (fun z h => h) rfl hnm rfl rfl rfl (Nat.le_of_ble_eq_true rfl) dX1_init_135 (fun H locs hN hS => ?_)
  refine W.widen (k := 15) (n := 348) (by first | omega | decide) (by first | omega | decide) ?_
  exact W.vret hx hb hr (nEnd hN hS ⟨rfl, fun z hz => by rw [va_up_ne _ _ (by omega)]; rw [va_up_ne _ _ (by omega)]; rw [va_up_ne _ _ (by omega)]; rw [va_up_ne _ _ (by omega)]; rw [va_up_ne _ _ (by omega)]; rw [va_up_ne _ _ (by omega)]; rw [va_up_ne _ _ (by omega)]; rw [va_up_ne _ _ (by omega)]; rw [va_up_ne _ _ (by omega)]; rw [va_up_ne _ _ (by omega)]; rw [va_up_ne _ _ (by omega)]; rw [va_up_ne _ _ (by omega)]; rw [va_up_ne _ _ (by omega)]; rw [va_up_ne _ _ (by omega)]; rw [va_up_ne _ _ (by omega)], by
      funext i
      by_cases h50 : i = 50
      · subst h50; rfl
      by_cases h52 : i = 52
      · subst h52; rfl
      by_cases h53 : i = 53
      · subst h53; rfl
      by_cases h54 : i = 54
      · subst h54; rfl
      by_cases h57 : i = 57
      · subst h57; rfl
      by_cases h58 : i = 58
      · subst h58; rfl
      by_cases h59 : i = 59
      · subst h59; rfl
      by_cases h60 : i = 60
      · subst h60; rfl
      by_cases h61 : i = 61
      · subst h61; rfl
      by_cases h65 : i = 65
      · subst h65; rfl
      by_cases h66 : i = 66
      · subst h66; rfl
      by_cases h67 : i = 67
      · subst h67; rfl
      by_cases h69 : i = 69
      · subst h69; rfl
      by_cases h70 : i = 70
      · subst h70; rfl
      by_cases h73 : i = 73
      · subst h73; rfl
      by_cases h74 : i = 74
      · subst h74; rfl
      have hA : mA (i - 50) = false := by
        unfold mA
        split <;> first | rfl | omega
      unfold mPic
      rw [if_neg h50, hA]
      simp [va_up, h50, h52, h53, h54, h57, h58, h59, h60, h61, h65, h66, h67, h69, h70, h73, h74]⟩) hS.2 dX1_init_138
set_option maxHeartbeats 8000000 in
set_option maxRecDepth 100000 in
theorem sX0_init (l : Launch) (G : nG) (K : State → Prop) (hKo : nKo G K) (hK0 : ∀ U, K U → sK0 G U) (ad : Nat → Nat) (c0 : nPic) (hP : c0 0 = some (.inr (0, [.int 0, .int 0, .null, .null, .null, .null, .int 0, .int 0, .null, .int 0, .null, .null]))) : Met l yX0_init (ws_ yX0_init cX0_init 1 none) (sR 4 6 40) (nPc G nCl K ad c0 [.ref (ad 0)]) (nQ G nCl (fun rv ad' c' => rv = none ∧ (∀ z, (z = 0 ∨ 9 ≤ z) → ad' z = ad z) ∧ (∀ z, 9 ≤ z → c' z = c0 z) ∧ c' 2 = some (.inr (7, [.int 0, .ref (nDea G), .int (nI 0)])) ∧ c' 6 = some (.inr (7, [.int 0, .ref (nDea G), .int (nI 0)])) ∧ c' 8 = some (qA (G.1.1 104) 4 (fun _ => none)) ∧ sPic G c' ad' (fun _ => 0) (fun _ _ => 0) .null = c')) 6 40 (fun q => G.2 ≤ q) := by
  refine nMet RX0 (by decide) rfl (Nat.le_of_ble_eq_true rfl) ?_
  intro p e s m below meth c ls SS hR hK hN hS hl
  obtain ⟨hx, hb, hml, hown, hts⟩ := id SS
  obtain ⟨hr, hlk, hnm⟩ := hR
  obtain ⟨hKv, hKw, hKf, hKz, hKm⟩ := hK0 s hK
  generalize s.heap = H at hN hS ⊢
  generalize ([] : List Loc) = locs at hS ⊢
  have hl : lv_has ls 1 [(0, .ref (ad 0))] := hl
  refine lv_aload_n hx hb dX0_init_0 rfl (lv_at hl 0 rfl) ?_
  refine W.objInit hx hb (g := F0 m 1 ls _) hown (hts _ q95) (hts _ q96) (hts _ q97) rfl (hl.1.trans hml.symm) rfl dX0_init_1 (Nat.le_of_ble_eq_true rfl) (Nat.le_of_ble_eq_true rfl) ?_
  refine lv_aload_n hx hb dX0_init_4 rfl (lv_at hl 0 rfl) ?_
  refine lv_bipush (v := 6) hx hb dX0_init_5 (by decide) ?_
  refine n_newa (atype := .int) hx hb hts q124 hKv hN hS (1) 0 rfl (6) (fun _ => rfl) (rfl) (by decide) (Nat.le_of_ble_eq_true rfl) (Nat.le_of_ble_eq_true rfl) dX0_init_7 (fun q7 H hN hS => ?_)
  refine n_putF (ci := 0) (C := RX0) (T := TX0) (N := 12) hx hb hts in_X0 tyX0 tyX0_ok (va_apart (own := RX0) hts in_X0 tyX0 tyX0_ok nmX0 hKv rfl) hown hKv hN hS (0) (by first | rfl | exact hP) rfl 2 (by decide) q130 (fun z h => h) rfl hnm rfl rfl rfl (Nat.le_of_ble_eq_true rfl) dX0_init_9 (fun H locs hN hS => ?_)
  refine lv_aload_n hx hb dX0_init_12 rfl (lv_at hl 0 rfl) ?_
  refine n_new (C := RJ2) (T := TJ2) (N := 3) (ci := 7) (fs := [.int 0, .null, .int 0]) hx hb hts in_J2 tyJ2 tyJ2_ok hown q98 q99 q60 hKv hN hS (2) rfl (by intro j hj; rcases (show j = 0 ∨ j = 1 ∨ j = 2 by omega) with rfl | rfl | rfl <;> rfl) (Nat.le_of_ble_eq_true rfl) (Nat.le_of_ble_eq_true rfl) dX0_init_13 (fun q13 H hN hS => ?_)
  refine lv_dup hx hb dX0_init_16 rfl ?_
  refine n_callI (As := []) SS hKo hK (tJ2_init l G K hKo hK0 _ _ 2 0 .null 0 rfl) (cwI 0 hts (lw_meth q102) rfl rfl rfl (hts _ q60) (hts _ q100) (hts _ q101) rfl (by decide +kernel) ⟨Nat.le_of_ble_eq_true rfl, Nat.le_of_ble_eq_true rfl⟩) hN hS rfl hl.1 rfl (Nat.le_of_ble_eq_true rfl) dX0_init_17 ⟨Nat.le_of_ble_eq_true rfl, Nat.le_of_ble_eq_true rfl⟩ (fun v ad' c' H locs hv hN hS => ?_)
  obtain ⟨rfl, rfl, rfl⟩ := hv
  refine W.eq (g2 := F0 m 20 ls _) rfl ?_
  refine n_putF (ci := 0) (C := RX0) (T := TX0) (N := 12) hx hb hts in_X0 tyX0 tyX0_ok (va_apart (own := RX0) hts in_X0 tyX0 tyX0_ok nmX0 hKv rfl) hown hKv hN hS (0) (by first | rfl | exact hP) rfl 3 (by decide) q131 (fun z h => h) rfl hnm rfl rfl rfl (Nat.le_of_ble_eq_true rfl) dX0_init_20 (fun H locs hN hS => ?_)
  refine lv_aload_n hx hb dX0_init_23 rfl (lv_at hl 0 rfl) ?_
  refine lv_iconst (v := 4) hx hb dX0_init_24 (by decide) ?_
  refine n_newa (atype := .int) hx hb hts q124 hKv hN hS (4) 0 rfl (4) (fun _ => rfl) (rfl) (by decide) (Nat.le_of_ble_eq_true rfl) (Nat.le_of_ble_eq_true rfl) dX0_init_25 (fun q25 H hN hS => ?_)
  refine n_putF (ci := 0) (C := RX0) (T := TX0) (N := 12) hx hb hts in_X0 tyX0 tyX0_ok (va_apart (own := RX0) hts in_X0 tyX0 tyX0_ok nmX0 hKv rfl) hown hKv hN hS (0) (by first | rfl | exact hP) rfl 4 (by decide) q132 (fun z h => h) rfl hnm rfl rfl rfl (Nat.le_of_ble_eq_true rfl) dX0_init_27 (fun H locs hN hS => ?_)
  refine lv_aload_n hx hb dX0_init_30 rfl (lv_at hl 0 rfl) ?_
  refine lv_iconst (v := 4) hx hb dX0_init_31 (by decide) ?_
  refine n_newa (atype := .int) hx hb hts q124 hKv hN hS (5) 0 rfl (4) (fun _ => rfl) (rfl) (by decide) (Nat.le_of_ble_eq_true rfl) (Nat.le_of_ble_eq_true rfl) dX0_init_32 (fun q32 H hN hS => ?_)
  refine n_putF (ci := 0) (C := RX0) (T := TX0) (N := 12) hx hb hts in_X0 tyX0 tyX0_ok (va_apart (own := RX0) hts in_X0 tyX0 tyX0_ok nmX0 hKv rfl) hown hKv hN hS (0) (by first | rfl | exact hP) rfl 5 (by decide) q133 (fun z h => h) rfl hnm rfl rfl rfl (Nat.le_of_ble_eq_true rfl) dX0_init_34 (fun H locs hN hS => ?_)
  refine lv_aload_n hx hb dX0_init_37 rfl (lv_at hl 0 rfl) ?_
  refine n_new (C := RJ2) (T := TJ2) (N := 3) (ci := 7) (fs := [.int 0, .null, .int 0]) hx hb hts in_J2 tyJ2 tyJ2_ok hown q98 q99 q60 hKv hN hS (6) rfl (by intro j hj; rcases (show j = 0 ∨ j = 1 ∨ j = 2 by omega) with rfl | rfl | rfl <;> rfl) (Nat.le_of_ble_eq_true rfl) (Nat.le_of_ble_eq_true rfl) dX0_init_38 (fun q38 H hN hS => ?_)
  refine lv_dup hx hb dX0_init_41 rfl ?_
  refine n_callI (As := []) SS hKo hK (tJ2_init l G K hKo hK0 _ _ 6 0 .null 0 rfl) (cwI 0 hts (lw_meth q102) rfl rfl rfl (hts _ q60) (hts _ q100) (hts _ q101) rfl (by decide +kernel) ⟨Nat.le_of_ble_eq_true rfl, Nat.le_of_ble_eq_true rfl⟩) hN hS rfl hl.1 rfl (Nat.le_of_ble_eq_true rfl) dX0_init_42 ⟨Nat.le_of_ble_eq_true rfl, Nat.le_of_ble_eq_true rfl⟩ (fun v ad' c' H locs hv hN hS => ?_)
  obtain ⟨rfl, rfl, rfl⟩ := hv
  refine W.eq (g2 := F0 m 45 ls _) rfl ?_
  refine n_putF (ci := 0) (C := RX0) (T := TX0) (N := 12) hx hb hts in_X0 tyX0 tyX0_ok (va_apart (own := RX0) hts in_X0 tyX0 tyX0_ok nmX0 hKv rfl) hown hKv hN hS (0) (by first | rfl | exact hP) rfl 8 (by decide) q136 (fun z h => h) rfl hnm rfl rfl rfl (Nat.le_of_ble_eq_true rfl) dX0_init_45 (fun H locs hN hS => ?_)
  refine lv_aload_n hx hb dX0_init_48 rfl (lv_at hl 0 rfl) ?_
  refine lv_iconst (v := 4) hx hb dX0_init_49 (by decide) ?_
  refine n_anew hx hb hts hown q125 (hKw _ q126 rfl) hKv hN hS (8) 4 rfl (4) (rfl) (by decide) (Nat.le_of_ble_eq_true rfl) (Nat.le_of_ble_eq_true rfl) dX0_init_50 (fun q50 H hN hS => ?_)
  refine n_putF (ci := 0) (C := RX0) (T := TX0) (N := 12) hx hb hts in_X0 tyX0 tyX0_ok (va_apart (own := RX0) hts in_X0 tyX0 tyX0_ok nmX0 hKv rfl) hown hKv hN hS (0) (by first | rfl | exact hP) rfl 10 (by decide) q139 (fun z h => h) rfl hnm rfl rfl rfl (Nat.le_of_ble_eq_true rfl) dX0_init_53 (fun H locs hN hS => ?_)
  refine W.widen (k := 6) (n := 40) (by first | omega | decide) (by first | omega | decide) ?_
  exact W.vret hx hb hr (nEnd hN hS ⟨rfl, fun z hz => by rw [va_up_ne _ _ (by omega)]; rw [va_up_ne _ _ (by omega)]; rw [va_up_ne _ _ (by omega)]; rw [va_up_ne _ _ (by omega)]; rw [va_up_ne _ _ (by omega)]; rw [va_up_ne _ _ (by omega)], fun z hz => by simp only [va_up]; repeat rw [if_neg (by omega)], rfl, rfl, rfl, by
      funext i
      by_cases h0 : i = 0
      · subst h0; rfl
      by_cases h1 : i = 1
      · subst h1; rfl
      by_cases h4 : i = 4
      · subst h4; rfl
      by_cases h5 : i = 5
      · subst h5; rfl
      rw [sPic_x ⟨h0, h1, h4, h5⟩]⟩) hS.2 dX0_init_56
