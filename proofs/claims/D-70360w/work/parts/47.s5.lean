/-! SYSTEM: days: printed by wip/gen/s5.py -/
theorem n_half : ∀ k, k < 64 → nI (2 * k) / 2 = nI k := by decide +kernel
theorem n_inc2 (k : Nat) : nI (2 * k) + Int32.ofInt 2 = nI (2 * (k + 1)) := by
  rw [show 2 * (k + 1) = 2 * k + 1 + 1 by omega, ← nI_inc, ← nI_inc, Int32.add_assoc]
  rfl
theorem upd_67 (f : AI) (a b c : Int32) : upd (upd (upd f 6 a) 7 b) 6 c = upd (upd f 6 c) 7 b := by
  funext j
  by_cases h6 : j = 6
  · subst h6; rw [pk_us, pk_un (by decide), pk_us]
  · rw [pk_un h6]
    by_cases h7 : j = 7
    · subst h7; rw [pk_us, pk_us]
    · rw [pk_un h7, pk_un h7, pk_un h6, pk_un h6]
/-- an array is known by its cells -/
theorem arr_ext {c : ClassId} {n : Nat} {f g : AI} (h : ∀ j, j < n → f j = g j) : vp_cell c (n, .inl f) = vp_cell c (n, .inl g) := by
  show arrV c n (fun j => .int (f j)) = arrV c n (fun j => .int (g j))
  unfold arrV
  have e : (fun j : Fin n => Value.int (f j.val)) = fun j : Fin n => Value.int (g j.val) := by
    funext j
    rw [h j.val j.isLt]
  rw [e]
theorem sPic_ext4 {G : nG} {x : nPic} {ad : Nat → Nat} {si : AI} {sa : Nat → AI} {rn : Value} {H : Heap} {f g : AI} (h : nOk G nCl ad (sPic G x ad si (va_up sa 4 f) rn) H) (hfg : ∀ j, j < 4 → f j = g j) : nOk G nCl ad (sPic G x ad si (va_up sa 4 g) rn) H := by
  have key : ∀ i, i ≠ 4 → sPic G x ad si (va_up sa 4 g) rn i = sPic G x ad si (va_up sa 4 f) rn i := by
    intro i hi
    unfold sPic
    rw [if_neg hi, if_neg hi, va_up_ne sa g (by decide : (1 : Nat) ≠ 4), va_up_ne sa f (by decide : (1 : Nat) ≠ 4), va_up_ne sa g (by decide : (5 : Nat) ≠ 4), va_up_ne sa f (by decide : (5 : Nat) ≠ 4)]
  have nn : ∀ i, sPic G x ad si (va_up sa 4 g) rn i ≠ none → sPic G x ad si (va_up sa 4 f) rn i ≠ none := by
    intro i hi
    by_cases e : i = 4
    · subst e; rw [sPic_4]; exact fun z => by cases z
    · rw [← key i e]; exact hi
  refine ⟨fun i e he => ?_, fun i j hi hj hij => h.2.1 i j (nn i hi) (nn j hj) hij, h.2.2⟩
  by_cases hi : i = 4
  · subst hi
    rw [sPic_4, va_up_self] at he
    cases he
    obtain ⟨h1, h2⟩ := h.1 4 _ sPic_4
    refine ⟨?_, h2⟩
    have h1 : H[ad 4]? = some (vp_cell (G.1.1 100) (4, .inl f)) := by rw [va_up_self] at h1; exact h1
    show H[ad 4]? = some (vp_cell (G.1.1 100) (4, .inl g))
    rw [h1, arr_ext hfg]
  · rw [key i hi] at he
    exact h.1 i e he
theorem n_cpy4 {f g h : AI} (j : Nat) (hj : j < 4) : va_cpy (va_cpy f g 0 0 4) h 0 0 4 j = f j := by
  unfold va_cpy
  rw [if_pos ⟨by omega, by omega⟩, if_pos ⟨by omega, by omega⟩, Nat.sub_zero, Nat.zero_add, Nat.sub_zero, Nat.zero_add]
set_option maxHeartbeats 1000000 in
set_option maxRecDepth 100000 in
theorem sX0_goDays (l : Launch) (G : nG) (K : State → Prop) (hKo : nKo G K) (hK0 : ∀ U, K U → sK0 G U) (ad : Nat → Nat) (x : nPic) (si : AI) (sa : Nat → AI) (rn : Value) (np : Nat) (kd dr kn : AI) (hP : sPeo G ad x np kd dr kn) (nd : Nat) (hnd : si 1 = nI nd) (hnd6 : nd ≤ 6) (ra mm : Nat) (rf : AI) (wh wt : Nat → Nat) (hmm : mm ≤ 20) (hra : ra ≠ 0 ∧ ra ≠ 1 ∧ ra ≠ 4 ∧ ra ≠ 5) (hRx : x ra = some (.inl (G.1.1 100, 2 * mm, .inl rf))) (hw : ∀ k, k < mm → rf (2 * k) = nI (wh k) ∧ wh k < np ∧ rf (2 * k + 1) = nI (wt k) ∧ wt k < nd) : Met l yX0_goDays (ws_ yX0_goDays cX0_goDays 3 none) (sR 8 0 0) (nPc G nCl K ad (sPic G x ad si sa rn) [.ref (ad 0), .ref (ad ra)]) (nQ G nCl (fun rv ad' c' => rv = none ∧ ad = ad' ∧ sPic G x ad (upd (upd si 6 ((sGo (sa 1) kd (fun q => dr q &&& sMsk nd) kn nd np wh wt mm 0 (sa 4) 0).2.2)) 7 ((sGo (sa 1) kd (fun q => dr q &&& sMsk nd) kn nd np wh wt mm 0 (sa 4) 0).1)) (va_up sa 4 ((sGo (sa 1) kd (fun q => dr q &&& sMsk nd) kn nd np wh wt mm 0 (sa 4) 0).2.1)) rn = c')) 0 0 (fun q => G.2 ≤ q) := by
  refine nMet RX0 (by decide) rfl (Nat.le_of_ble_eq_true rfl) ?_
  intro p e s m below meth c ls SS hR hK hN hS hl
  obtain ⟨hx, hb, hml, hown, hts⟩ := id SS
  obtain ⟨hr, hlk, hnm⟩ := hR
  obtain ⟨hKv, hKw, hKf, hKz, hKm⟩ := hK0 s hK
  generalize s.heap = H at hN hS ⊢
  generalize ([] : List Loc) = locs at hS ⊢
  have hl : lv_has ls 3 [(0, .ref (ad 0)), (1, .ref (ad ra))] := hl
  have hnp4 := hP.1
  refine lv_aload_n hx hb dX0_goDays_0 rfl (lv_at hl 0 rfl) ?_
  refine lv_iconst (v := 0) hx hb dX0_goDays_1 (by decide) ?_
  refine n_put (ci := 0) (C := RX0) (T := TX0) (N := 12) hx hb hts in_X0 tyX0 tyX0_ok (va_apart (own := RX0) hts in_X0 tyX0 tyX0_ok nmX0 hKv rfl) hown hKv hN hS (0) sPic_0 rfl 6 (by decide) q134 (fun z h => h) rfl rfl rfl (Nat.le_of_ble_eq_true rfl) dX0_goDays_2 (fun H locs hN hS => ?_)
  have hN := hN.congr (sPic_put rfl)
  refine lv_aload_n hx hb dX0_goDays_5 rfl (lv_at hl 0 rfl) ?_
  refine lv_bipush (v := (-9)) hx hb dX0_goDays_6 (by decide) ?_
  refine n_put (ci := 0) (C := RX0) (T := TX0) (N := 12) hx hb hts in_X0 tyX0 tyX0_ok (va_apart (own := RX0) hts in_X0 tyX0 tyX0_ok nmX0 hKv rfl) hown hKv hN hS (0) sPic_0 rfl 7 (by decide) q135 (fun z h => h) rfl rfl rfl (Nat.le_of_ble_eq_true rfl) dX0_goDays_8 (fun H locs hN hS => ?_)
  have hN := hN.congr (sPic_put rfl)
  refine lv_iconst (v := nI (2 * 0)) hx hb dX0_goDays_11 (rfl) ?_
  refine lv_istore_n (lv' := [(2, _), (0, _), (1, _)]) hx hb dX0_goDays_12 rfl hl (by decide) rfl (fun ls hl => ?_)
  have hN : nOk G nCl ad (sPic G x ad (upd (upd si 6 0) 7 (-9)) (va_up sa 4 (sa 4)) rn) H := by rw [va_up_id sa 4 _ rfl]; exact hN
  have loop13 : ∀ (n : Nat) (k : Nat) (t : AI) (cg fw : Int32) (H : Heap) (locs : List Loc) (ls : Array Slot), mm + 2 ≤ n + k → ((fw = -9 ∧ k ≤ mm ∧ sGo (sa 1) kd (fun q => dr q &&& sMsk nd) kn nd np wh wt (mm - k) k t cg = sGo (sa 1) kd (fun q => dr q &&& sMsk nd) kn nd np wh wt mm 0 (sa 4) 0) ∨ (k ≤ mm + 1 ∧ (∃ q, q < 64 ∧ fw = nI q) ∧ sGo (sa 1) kd (fun q => dr q &&& sMsk nd) kn nd np wh wt mm 0 (sa 4) 0 = (fw, t, cg))) → nOk G nCl ad (sPic G x ad (upd (upd si 6 cg) 7 fw) (va_up sa 4 t) rn) H → nS G s H locs → lv_has ls 3 [(0, .ref (ad 0)), (1, .ref (ad ra)), (2, .int (nI (2 * k)))] → W p l e (sR 8 0 0) s m ([.ref (ad 0), .ref (ad ra)] : List Value).toArray below meth c H locs 0 0 (MQ below (nQ G nCl (fun rv ad' c' => rv = none ∧ ad = ad' ∧ sPic G x ad (upd (upd si 6 ((sGo (sa 1) kd (fun q => dr q &&& sMsk nd) kn nd np wh wt mm 0 (sa 4) 0).2.2)) 7 ((sGo (sa 1) kd (fun q => dr q &&& sMsk nd) kn nd np wh wt mm 0 (sa 4) 0).1)) (va_up sa 4 ((sGo (sa 1) kd (fun q => dr q &&& sMsk nd) kn nd np wh wt mm 0 (sa 4) 0).2.1)) rn = c')) ([.ref (ad 0), .ref (ad ra)] : List Value).toArray s 0 0 (fun q => G.2 ≤ q)) (F0 m 13 ls []) := by
    intro n
    induction n with
    | zero => intro k t cg fw H locs ls hfuel hs hN hS hl; exact absurd hfuel (by omega)
    | succ n ih13 =>
      intro k t cg fw H locs ls hfuel hs hN hS hl
      have hk : k ≤ mm + 1 := by rcases hs with ⟨_, h, _⟩ | ⟨h, _, _⟩ <;> omega
      refine lv_iload_n hx hb dX0_goDays_13 rfl (lv_at hl 2 rfl) ?_
      refine lv_aload_n hx hb dX0_goDays_14 rfl (lv_at hl 1 rfl) ?_
      refine n_alen hx hb hKv hN (ra) 0 ((sPic_x hra).trans hRx) rfl dX0_goDays_15 ?_
      refine lv_icmp_ge (tgt := 90) hx hb dX0_goDays_16 (by decide) (fun c16 => ?_) (fun c16 => ?_)
      · have c16 : mm ≤ k := by have := (nI_leI (a := 2 * mm) (b := 2 * k) (by omega) (by omega)).mp c16; omega
        have hR : sGo (sa 1) kd (fun q => dr q &&& sMsk nd) kn nd np wh wt mm 0 (sa 4) 0 = (fw, t, cg) := by
          rcases hs with ⟨e1, e2, e3⟩ | ⟨_, _, e3⟩
          · rw [← e3, show mm - k = 0 by omega, sGo, e1]
          · exact e3
        exact W.vret hx hb hr (nEnd hN hS ⟨rfl, rfl, by rw [hR]⟩) hS.2 dX0_goDays_90
      · have c16 : k < mm := by have := mt (nI_leI (a := 2 * mm) (b := 2 * k) (by omega) (by omega)).mpr c16; omega
        obtain ⟨w1, w2, w3, w4⟩ := hw k c16
        refine lv_aload_n hx hb dX0_goDays_19 rfl (lv_at hl 0 rfl) ?_
        refine n_get (v := .int fw) (ci := 0) (C := RX0) (T := TX0) (N := 12) hx hb hts in_X0 hown hKv hN (0) sPic_0 rfl 7 (by decide) q135 (fun z h => h) (rfl) dX0_goDays_20 ?_
        refine lv_if_ge (tgt := 90) hx hb dX0_goDays_23 (by decide) (fun c23 => ?_) (fun c23 => ?_)
        · have hR : sGo (sa 1) kd (fun q => dr q &&& sMsk nd) kn nd np wh wt mm 0 (sa 4) 0 = (fw, t, cg) := by
            rcases hs with ⟨e1, e2, e3⟩ | ⟨_, _, e3⟩
            · rw [e1] at c23; exact absurd c23 (by decide)
            · exact e3
          exact W.vret hx hb hr (nEnd hN hS ⟨rfl, rfl, by rw [hR]⟩) hS.2 dX0_goDays_90
        · obtain ⟨e1, e2, e3⟩ : fw = -9 ∧ k ≤ mm ∧ sGo (sa 1) kd (fun q => dr q &&& sMsk nd) kn nd np wh wt (mm - k) k t cg = sGo (sa 1) kd (fun q => dr q &&& sMsk nd) kn nd np wh wt mm 0 (sa 4) 0 := by
            rcases hs with h | ⟨_, ⟨q, hq, eq_⟩, _⟩
            · exact h
            · rw [eq_] at c23; exact absurd (Int32.not_lt.mp (nI_pos (n := q) (by omega))) c23
          rw [show mm - k = (mm - k - 1) + 1 by omega, sGo] at e3
          refine lv_aload_n hx hb dX0_goDays_26 rfl (lv_at hl 0 rfl) ?_
          refine n_get (ci := 0) (C := RX0) (T := TX0) (N := 12) hx hb hts in_X0 hown hKv hN (0) sPic_0 rfl 4 (by decide) q132 (fun z h => h) (rfl) dX0_goDays_27 ?_
          refine lv_aload_n hx hb dX0_goDays_30 rfl (lv_at hl 1 rfl) ?_
          refine lv_iload_n hx hb dX0_goDays_31 rfl (lv_at hl 2 rfl) ?_
          refine n_iald hx hb hKv hN (ra) 0 ((sPic_x hra).trans hRx) rfl (2 * k) (rfl) (by omega) (by omega) dX0_goDays_32 ?_
          refine n_top (y := nI (wh k)) (w1) ?_
          refine n_iald hx hb hKv hN (4) 0 sPic_4 rfl (wh k) (rfl) (by omega) (by decide) dX0_goDays_33 ?_
          refine n_top (y := t (wh k)) (rfl) ?_
          refine lv_aload_n hx hb dX0_goDays_34 rfl (lv_at hl 1 rfl) ?_
          refine lv_iload_n hx hb dX0_goDays_35 rfl (lv_at hl 2 rfl) ?_
          refine lv_iconst (v := 1) hx hb dX0_goDays_36 (by decide) ?_
          refine lv_iadd hx hb dX0_goDays_37 ?_
          refine n_top (y := nI (2 * k + 1)) (nI_inc (2 * k)) ?_
          refine n_iald hx hb hKv hN (ra) 0 ((sPic_x hra).trans hRx) rfl (2 * k + 1) (rfl) (by omega) (by omega) dX0_goDays_38 ?_
          refine n_top (y := nI (wt k)) (w3) ?_
          refine n_callS (As := [_, _]) SS hKo hK (sX0_isIn l G K hKo hK0 ad _ _ (wt k)) (va_cwS 2 hts (lw_S q231 q232 q57 q233) rfl rfl rfl (by decide +kernel) ⟨Nat.le_of_ble_eq_true rfl, Nat.le_of_ble_eq_true rfl⟩) hN hS rfl hl.1 rfl (Nat.le_of_ble_eq_true rfl) dX0_goDays_39 ⟨Nat.le_of_ble_eq_true rfl, Nat.le_of_ble_eq_true rfl⟩ (fun v ad' c' H locs hv hN hS => ?_)
          obtain ⟨rfl, rfl, rfl⟩ := hv
          refine W.eq (g2 := F0 m 42 ls (_ :: _)) rfl ?_
          refine lv_if_eq (tgt := 55) hx hb dX0_goDays_42 (by decide) (fun c42 => ?_) (fun c42 => ?_)
          · have hb0 : ¬ sBit (t (wh k)) (wt k) = 1 := by have := zI_0.mp c42; simpa using this
            rw [if_neg hb0] at e3
            have hR2 : sGo (sa 1) kd (fun q => dr q &&& sMsk nd) kn nd np wh wt (mm - (k + 1)) (k + 1) (sTel (sa 1) kd (fun q => dr q &&& sMsk nd) kn nd np t (wh k) (wt k)) (cg + zI (sCgt (sa 1) kd (fun q => dr q &&& sMsk nd) kn nd np t (wh k) (wt k))) = sGo (sa 1) kd (fun q => dr q &&& sMsk nd) kn nd np wh wt mm 0 (sa 4) 0 := by rw [show mm - (k + 1) = mm - k - 1 by omega]; exact e3
            refine lv_aload_n hx hb dX0_goDays_55 rfl (lv_at hl 0 rfl) ?_
            refine lv_dup hx hb dX0_goDays_56 rfl ?_
            refine n_get (v := .int cg) (ci := 0) (C := RX0) (T := TX0) (N := 12) hx hb hts in_X0 hown hKv hN (0) sPic_0 rfl 6 (by decide) q134 (fun z h => h) (rfl) dX0_goDays_57 ?_
            refine lv_aload_n hx hb dX0_goDays_60 rfl (lv_at hl 0 rfl) ?_
            refine lv_aload_n hx hb dX0_goDays_61 rfl (lv_at hl 1 rfl) ?_
            refine lv_iload_n hx hb dX0_goDays_62 rfl (lv_at hl 2 rfl) ?_
            refine n_iald hx hb hKv hN (ra) 0 ((sPic_x hra).trans hRx) rfl (2 * k) (rfl) (by omega) (by omega) dX0_goDays_63 ?_
            refine n_top (y := nI (wh k)) (w1) ?_
            refine lv_aload_n hx hb dX0_goDays_64 rfl (lv_at hl 1 rfl) ?_
            refine lv_iload_n hx hb dX0_goDays_65 rfl (lv_at hl 2 rfl) ?_
            refine lv_iconst (v := 1) hx hb dX0_goDays_66 (by decide) ?_
            refine lv_iadd hx hb dX0_goDays_67 ?_
            refine n_top (y := nI (2 * k + 1)) (nI_inc (2 * k)) ?_
            refine n_iald hx hb hKv hN (ra) 0 ((sPic_x hra).trans hRx) rfl (2 * k + 1) (rfl) (by omega) (by omega) dX0_goDays_68 ?_
            refine n_top (y := nI (wt k)) (w3) ?_
            refine n_callV (C := RX0) (As := [_, _]) (b := 0) SS hKo hK hKv (sX0_isCaught l G K hKo hK0 ad x (upd (upd si 6 cg) 7 fw) (va_up sa 4 t) rn np kd dr kn hP (wh k) w2 nd hnd hnd6 (wt k)) (cwV 2 hts (lw_V q275 q277 qs5 q57 q278) rfl rfl rfl (by decide +kernel) ⟨Nat.le_of_ble_eq_true rfl, Nat.le_of_ble_eq_true rfl⟩) hN hS sPic_0 rfl rfl hl.1 rfl (Nat.le_of_ble_eq_true rfl) dX0_goDays_69 ⟨Nat.le_of_ble_eq_true rfl, Nat.le_of_ble_eq_true rfl⟩ (fun v ad' c' H locs hv hN hS => ?_)
            obtain ⟨rfl, rfl, rfl⟩ := hv
            have hN : nOk G nCl ad (sPic G x ad (upd (upd si 6 cg) 7 fw) (va_up sa 4 (sTel (sa 1) kd (fun q => dr q &&& sMsk nd) kn nd np t (wh k) (wt k))) rn) H := hN.congr (congrArg (fun z => sPic G x ad (upd (upd si 6 cg) 7 fw) z rn) (va_up_up sa 4 t (sTel (sa 1) kd (fun q => dr q &&& sMsk nd) kn nd np t (wh k) (wt k))))
            refine W.eq (g2 := F0 m 72 ls (_ :: _)) rfl ?_
            refine lv_if_eq (tgt := 79) hx hb dX0_goDays_72 (by decide) (fun c72 => ?_) (fun c72 => ?_)
            · have hz : sCgt (sa 1) kd (fun q => dr q &&& sMsk nd) kn nd np t (wh k) (wt k) = false := zI_0.mp c72
              refine lv_iconst (v := 0) hx hb dX0_goDays_79 (by decide) ?_
              refine lv_iadd hx hb dX0_goDays_80 ?_
              refine n_top (y := cg + zI (sCgt (sa 1) kd (fun q => dr q &&& sMsk nd) kn nd np t (wh k) (wt k))) (by rw [hz]; rfl) ?_
              refine n_put (ci := 0) (C := RX0) (T := TX0) (N := 12) hx hb hts in_X0 tyX0 tyX0_ok (va_apart (own := RX0) hts in_X0 tyX0 tyX0_ok nmX0 hKv rfl) hown hKv hN hS (0) sPic_0 rfl 6 (by decide) q134 (fun z h => h) rfl rfl rfl (Nat.le_of_ble_eq_true rfl) dX0_goDays_81 (fun H locs hN hS => ?_)
              have hN := hN.congr (sPic_put rfl)
              rw [upd_67] at hN
              refine lv_iinc (v := nI (2 * (k + 1))) (lv' := [(2, _), (0, _), (1, _)]) hx hb dX0_goDays_84 hl (k := 2) rfl (n_inc2 k) (by decide) rfl (fun ls hl => ?_)
              refine lv_goto (tgt := 13) hx hb dX0_goDays_87 (by decide) ?_
              exact ih13 (k + 1) _ _ fw _ _ _ (by omega) (Or.inl ⟨e1, by omega, hR2⟩) hN hS (lv_sub hl [1, 2, 0] (rfl))
            · have hz : sCgt (sa 1) kd (fun q => dr q &&& sMsk nd) kn nd np t (wh k) (wt k) = true := zI_n0 c72
              refine lv_iconst (v := 1) hx hb dX0_goDays_75 (by decide) ?_
              refine lv_goto (tgt := 80) hx hb dX0_goDays_76 (by decide) ?_
              refine lv_iadd hx hb dX0_goDays_80 ?_
              refine n_top (y := cg + zI (sCgt (sa 1) kd (fun q => dr q &&& sMsk nd) kn nd np t (wh k) (wt k))) (by rw [hz]; rfl) ?_
              refine n_put (ci := 0) (C := RX0) (T := TX0) (N := 12) hx hb hts in_X0 tyX0 tyX0_ok (va_apart (own := RX0) hts in_X0 tyX0 tyX0_ok nmX0 hKv rfl) hown hKv hN hS (0) sPic_0 rfl 6 (by decide) q134 (fun z h => h) rfl rfl rfl (Nat.le_of_ble_eq_true rfl) dX0_goDays_81 (fun H locs hN hS => ?_)
              have hN := hN.congr (sPic_put rfl)
              rw [upd_67] at hN
              refine lv_iinc (v := nI (2 * (k + 1))) (lv' := [(2, _), (0, _), (1, _)]) hx hb dX0_goDays_84 hl (k := 2) rfl (n_inc2 k) (by decide) rfl (fun ls hl => ?_)
              refine lv_goto (tgt := 13) hx hb dX0_goDays_87 (by decide) ?_
              exact ih13 (k + 1) _ _ fw _ _ _ (by omega) (Or.inl ⟨e1, by omega, hR2⟩) hN hS (lv_sub hl [1, 2, 0] (rfl))
          · have hb1 : sBit (t (wh k)) (wt k) = 1 := by have := zI_n0 c42; simpa using this
            have hR1 : sGo (sa 1) kd (fun q => dr q &&& sMsk nd) kn nd np wh wt mm 0 (sa 4) 0 = (nI k, t, cg) := by rw [← e3, if_pos hb1]
            refine lv_aload_n hx hb dX0_goDays_45 rfl (lv_at hl 0 rfl) ?_
            refine lv_iload_n hx hb dX0_goDays_46 rfl (lv_at hl 2 rfl) ?_
            refine lv_iconst (v := 2) hx hb dX0_goDays_47 (by decide) ?_
            refine lv_idiv hx hb dX0_goDays_48 (by decide) ?_
            refine n_top (y := nI k) (n_half k (by omega)) ?_
            refine n_put (ci := 0) (C := RX0) (T := TX0) (N := 12) hx hb hts in_X0 tyX0 tyX0_ok (va_apart (own := RX0) hts in_X0 tyX0 tyX0_ok nmX0 hKv rfl) hown hKv hN hS (0) sPic_0 rfl 7 (by decide) q135 (fun z h => h) rfl rfl rfl (Nat.le_of_ble_eq_true rfl) dX0_goDays_49 (fun H locs hN hS => ?_)
            have hN := hN.congr (sPic_put rfl)
            rw [upd_upd] at hN
            refine lv_goto (tgt := 84) hx hb dX0_goDays_52 (by decide) ?_
            refine lv_iinc (v := nI (2 * (k + 1))) (lv' := [(2, _), (0, _), (1, _)]) hx hb dX0_goDays_84 hl (k := 2) rfl (n_inc2 k) (by decide) rfl (fun ls hl => ?_)
            refine lv_goto (tgt := 13) hx hb dX0_goDays_87 (by decide) ?_
            exact ih13 (k + 1) t cg (nI k) _ _ _ (by omega) (Or.inr ⟨by omega, ⟨k, by omega, rfl⟩, hR1⟩) hN hS (lv_sub hl [1, 2, 0] (rfl))
  exact loop13 (mm + 2) 0 (sa 4) 0 (-9) _ _ _ (by omega) (Or.inl ⟨rfl, by omega, rfl⟩) hN hS (lv_sub hl [1, 2, 0] rfl)
set_option maxHeartbeats 1000000 in
set_option maxRecDepth 100000 in
theorem sX0_daysBy (l : Launch) (G : nG) (K : State → Prop) (hKo : nKo G K) (hK0 : ∀ U, K U → sK0 G U) (ad : Nat → Nat) (x : nPic) (si : AI) (sa : Nat → AI) (rn : Value) (np : Nat) (kd dr kn : AI) (hP : sPeo G ad x np kd dr kn) (nd : Nat) (hnd : si 1 = nI nd) (hnd6 : nd ≤ 6) (ra mm : Nat) (rf : AI) (wh wt : Nat → Nat) (hmm : mm ≤ 20) (hra : ra ≠ 0 ∧ ra ≠ 1 ∧ ra ≠ 4 ∧ ra ≠ 5) (hRx : x ra = some (.inl (G.1.1 100, 2 * mm, .inl rf))) (hw : ∀ k, k < mm → rf (2 * k) = nI (wh k) ∧ wh k < np ∧ rf (2 * k + 1) = nI (wt k) ∧ wt k < nd) (a : Nat) (ha : a < 24) (hask : a < 3 ∨ 10 ≤ a) : Met l yX0_daysBy (ws_ yX0_daysBy cX0_daysBy 4 (some .int)) (sR 9 0 0) (nPc G nCl K ad (sPic G x ad si sa rn) [.ref (ad 0), .ref (ad ra), .int (nI a)]) (nQ G nCl (fun rv ad' c' => rv = some (.int (sGoA (sGo (sa 1) kd (fun q => dr q &&& sMsk nd) kn nd np wh wt mm 0 (sa 4) 0) (sa 1) kd nd np (nI a))) ∧ ad = ad' ∧ sPic G x ad (upd (upd si 6 ((sGo (sa 1) kd (fun q => dr q &&& sMsk nd) kn nd np wh wt mm 0 (sa 4) 0).2.2)) 7 ((sGo (sa 1) kd (fun q => dr q &&& sMsk nd) kn nd np wh wt mm 0 (sa 4) 0).1)) (va_up sa 5 (va_cpy (sa 4) (sa 5) 0 0 4)) rn = c')) 0 0 (fun q => G.2 ≤ q) := by
  refine nMet RX0 (by decide) rfl (Nat.le_of_ble_eq_true rfl) ?_
  intro p e s m below meth c ls SS hR hK hN hS hl
  obtain ⟨hx, hb, hml, hown, hts⟩ := id SS
  obtain ⟨hr, hlk, hnm⟩ := hR
  obtain ⟨hKv, hKw, hKf, hKz, hKm⟩ := hK0 s hK
  generalize s.heap = H at hN hS ⊢
  generalize ([] : List Loc) = locs at hS ⊢
  have hl : lv_has ls 4 [(0, .ref (ad 0)), (1, .ref (ad ra)), (2, .int (nI a))] := hl
  have hnp4 := hP.1
  refine lv_aload_n hx hb dX0_daysBy_0 rfl (lv_at hl 0 rfl) ?_
  refine n_callV (C := RX0) (As := []) (b := 0) SS hKo hK hKv (sX0_keep l G K hKo hK0 ad x si sa rn) (cwV 0 hts (lw_V q905 q907 qs24 q57 q908) rfl rfl rfl (by decide +kernel) ⟨Nat.le_of_ble_eq_true rfl, Nat.le_of_ble_eq_true rfl⟩) hN hS sPic_0 rfl rfl hl.1 rfl (Nat.le_of_ble_eq_true rfl) dX0_daysBy_1 ⟨Nat.le_of_ble_eq_true rfl, Nat.le_of_ble_eq_true rfl⟩ (fun v ad' c' H locs hv hN hS => ?_)
  obtain ⟨rfl, rfl, rfl⟩ := hv
  refine W.eq (g2 := F0 m 4 ls _) rfl ?_
  refine lv_aload_n hx hb dX0_daysBy_4 rfl (lv_at hl 0 rfl) ?_
  refine lv_aload_n hx hb dX0_daysBy_5 rfl (lv_at hl 1 rfl) ?_
  refine n_callV (C := RX0) (As := [_]) (b := 0) SS hKo hK hKv (sX0_goDays l G K hKo hK0 ad x si (va_up sa 5 (va_cpy (sa 4) (sa 5) 0 0 4)) rn np kd dr kn hP nd hnd hnd6 ra mm rf wh wt hmm hra hRx hw) (cwV 1 hts (lw_V q910 q912 qs25 q57 q913) rfl rfl rfl (by decide +kernel) ⟨Nat.le_of_ble_eq_true rfl, Nat.le_of_ble_eq_true rfl⟩) hN hS sPic_0 rfl rfl hl.1 rfl (Nat.le_of_ble_eq_true rfl) dX0_daysBy_6 ⟨Nat.le_of_ble_eq_true rfl, Nat.le_of_ble_eq_true rfl⟩ (fun v ad' c' H locs hv hN hS => ?_)
  obtain ⟨rfl, rfl, rfl⟩ := hv
  refine W.eq (g2 := F0 m 9 ls _) rfl ?_
  refine lv_aload_n hx hb dX0_daysBy_9 rfl (lv_at hl 0 rfl) ?_
  refine lv_iload_n hx hb dX0_daysBy_10 rfl (lv_at hl 2 rfl) ?_
  refine n_callV (C := RX0) (As := [_]) (b := 0) SS hKo hK hKv (sX0_thenBy l G K hKo hK0 ad x (upd (upd si 6 ((sGo (sa 1) kd (fun q => dr q &&& sMsk nd) kn nd np wh wt mm 0 (sa 4) 0).2.2)) 7 ((sGo (sa 1) kd (fun q => dr q &&& sMsk nd) kn nd np wh wt mm 0 (sa 4) 0).1)) (va_up (va_up sa 5 (va_cpy (sa 4) (sa 5) 0 0 4)) 4 (sGo (sa 1) kd (fun q => dr q &&& sMsk nd) kn nd np wh wt mm 0 (sa 4) 0).2.1) rn np kd dr kn hP nd hnd hnd6 a ha (by rcases sGo_1 (w := sa 1) (kd := kd) (dn := (fun q => dr q &&& sMsk nd)) (kn := kn) (nd := nd) (np := np) (wh := wh) (wt := wt) mm 0 (sa 4) 0 with q | ⟨q, h1, h2⟩; exact Or.inl q; exact Or.inr ⟨q, by omega, h2⟩) hask) (cwV 1 hts (lw_V q914 q916 qs26 q57 q917) rfl rfl rfl (by decide +kernel) ⟨Nat.le_of_ble_eq_true rfl, Nat.le_of_ble_eq_true rfl⟩) hN hS sPic_0 rfl rfl hl.1 rfl (Nat.le_of_ble_eq_true rfl) dX0_daysBy_11 ⟨Nat.le_of_ble_eq_true rfl, Nat.le_of_ble_eq_true rfl⟩ (fun v ad' c' H locs hv hN hS => ?_)
  obtain ⟨rfl, rfl, rfl⟩ := hv
  refine W.eq (g2 := F0 m 14 ls (_ :: _)) rfl ?_
  refine lv_istore_n (lv' := [(3, _), (0, _), (1, _), (2, _)]) hx hb dX0_daysBy_14 rfl hl (by decide) rfl (fun ls hl => ?_)
  refine lv_aload_n hx hb dX0_daysBy_15 rfl (lv_at hl 1 rfl) ?_
  refine n_callV (C := RX0) (As := []) (b := 0) SS hKo hK hKv (sX0_putBack l G K hKo hK0 ad x (upd (upd si 6 ((sGo (sa 1) kd (fun q => dr q &&& sMsk nd) kn nd np wh wt mm 0 (sa 4) 0).2.2)) 7 ((sGo (sa 1) kd (fun q => dr q &&& sMsk nd) kn nd np wh wt mm 0 (sa 4) 0).1)) (va_up (va_up sa 5 (va_cpy (sa 4) (sa 5) 0 0 4)) 4 (sGo (sa 1) kd (fun q => dr q &&& sMsk nd) kn nd np wh wt mm 0 (sa 4) 0).2.1) rn) (cwV 0 hts (lw_V q923 q925 qs28 q57 q926) rfl rfl rfl (by decide +kernel) ⟨Nat.le_of_ble_eq_true rfl, Nat.le_of_ble_eq_true rfl⟩) hN hS sPic_0 rfl rfl hl.1 rfl (Nat.le_of_ble_eq_true rfl) dX0_daysBy_16 ⟨Nat.le_of_ble_eq_true rfl, Nat.le_of_ble_eq_true rfl⟩ (fun v ad' c' H locs hv hN hS => ?_)
  obtain ⟨rfl, rfl, rfl⟩ := hv
  rw [va_up_up] at hN
  have hN := sPic_ext4 (g := sa 4) hN (fun j hj => n_cpy4 j hj)
  have hN := hN.congr (congrArg (fun z => sPic G x ad (upd (upd si 6 ((sGo (sa 1) kd (fun q => dr q &&& sMsk nd) kn nd np wh wt mm 0 (sa 4) 0).2.2)) 7 ((sGo (sa 1) kd (fun q => dr q &&& sMsk nd) kn nd np wh wt mm 0 (sa 4) 0).1)) z rn) (va_up_id (va_up sa 5 (va_cpy (sa 4) (sa 5) 0 0 4)) 4 (sa 4) rfl))
  refine W.eq (g2 := F0 m 19 ls _) rfl ?_
  refine lv_iload_n hx hb dX0_daysBy_19 rfl (lv_at hl 0 rfl) ?_
  exact W.iret hx hb hr (nEnd hN hS ⟨rfl, rfl, rfl⟩) hS.2 dX0_daysBy_20
