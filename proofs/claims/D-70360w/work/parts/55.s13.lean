/-! SYSTEM: odds; pairs barred: printed by wip/gen/s13.py -/
theorem sAll_le (dn : AI) (p : Nat) : ∀ c, sAll dn p c ≤ c := by
  intro c
  induction c with
  | zero => exact Nat.le_refl _
  | succ c ih =>
    rw [sAll]
    split <;> omega
theorem sAll_pos (dn : AI) (p : Nat) : ∀ {c : Nat}, 0 < c → 0 < sAll dn p c := by
  intro c
  induction c with
  | zero => intro h; omega
  | succ c ih =>
    intro _
    rw [sAll]
    by_cases e : c = 0
    · subst e
      have h : sTru dn p 0 = true := by
        unfold sTru
        apply decide_eq_true
        show (0 : Int32) &&& _ = 0
        exact Int32.zero_and
      rw [if_pos h]
      omega
    · have := ih (by omega)
      omega
theorem n_mod2 : ∀ k, k < 64 → nI k - nI k / 2 * 2 = nI (k % 2) := by decide +kernel
section ROWS
variable {rf : AI} {np nd mm k : Nat}
theorem row_s (hs : ∀ i, i < k → (i % 2 = 0 → sIn (rf i) np = true) ∧ (i % 2 = 1 → sIn (rf i) nd = true)) (h0 : k % 2 = 0 → sIn (rf k) np = true) (h1 : k % 2 = 1 → sIn (rf k) nd = true) : ∀ i, i < k + 1 → (i % 2 = 0 → sIn (rf i) np = true) ∧ (i % 2 = 1 → sIn (rf i) nd = true) := by
  intro i hi
  by_cases e : i = k
  · subst e; exact ⟨h0, h1⟩
  · exact hs i (by omega)
theorem row_t : ∀ {mm : Nat}, (∀ i, i < 2 * mm → (i % 2 = 0 → sIn (rf i) np = true) ∧ (i % 2 = 1 → sIn (rf i) nd = true)) → sRow rf nd np 0 mm = true := by
  intro mm
  induction mm with
  | zero => intro _; rfl
  | succ q ih =>
    intro h
    rw [sRow, ih (fun i hi => h i (by omega)), Nat.zero_add, (h (2 * q) (by omega)).1 (by omega), (h (2 * q + 1) (by omega)).2 (by omega)]
    rfl
theorem row_n0 (h : sIn (rf k) np = false) (hm : k % 2 = 0) (hk : k < 2 * mm) : sRow rf nd np 0 mm = false := by
  refine sRow_no (k := k / 2) ?_ mm (by omega)
  rw [Nat.zero_add, show 2 * (k / 2) = k by omega, h]
  rfl
theorem row_n1 (h : sIn (rf k) nd = false) (hm : k % 2 = 1) (hk : k < 2 * mm) : sRow rf nd np 0 mm = false := by
  refine sRow_no (k := k / 2) ?_ mm (by omega)
  rw [Nat.zero_add, show 2 * (k / 2) + 1 = k by omega, h, Bool.and_false]
end ROWS
set_option maxHeartbeats 1000000 in
set_option maxRecDepth 100000 in
theorem sX0_greatest0 (l : Launch) (G : nG) (K : State → Prop) (hKo : nKo G K) (hK0 : ∀ U, K U → sK0 G U) (ad : Nat → Nat) (c0 : nPic) (nn a : Nat) : Met l yX0_greatest (ws_ yX0_greatest cX0_greatest 4 (some .long)) (sR nn 0 0) (nPc G nCl K ad c0 [.long (lN a), .long (lN 0)]) (nQ G nCl (fun rv ad' c' => rv = some (.long (lN (Nat.gcd a 0))) ∧ ad = ad' ∧ c0 = c')) 0 0 (fun q => G.2 ≤ q) := by
  refine nMet RX0 (by decide) rfl (Nat.le_of_ble_eq_true rfl) ?_
  intro p e s m below meth c ls SS hR hK hN hS hl
  obtain ⟨hx, hb, hml, hown, hts⟩ := id SS
  obtain ⟨hr, hlk, hnm⟩ := hR
  obtain ⟨hKv, hKw, hKf, hKz, hKm⟩ := hK0 s hK
  generalize s.heap = H at hN hS ⊢
  generalize ([] : List Loc) = locs at hS ⊢
  have hl : lv_has ls 4 [(0, .long (lN a)), (2, .long (lN 0))] := hl
  refine lv_lload_n hx hb dX0_greatest_0 rfl (lv_at hl 1 rfl) ?_
  refine lv_lconst (v := 0) hx hb dX0_greatest_1 (by decide) ?_
  refine W.lcmp hx hb dX0_greatest_2 ?_
  refine lv_if_ne (tgt := 10) hx hb dX0_greatest_3 (by decide) (fun c3 => absurd c3 (fun z => z ((lg_cmp0 _).mpr rfl))) (fun c3 => ?_)
  refine lv_lload_n hx hb dX0_greatest_6 rfl (lv_at hl 0 rfl) ?_
  refine lv_goto (tgt := 17) hx hb dX0_greatest_7 (by decide) ?_
  exact W.lret hx hb hr (nEnd hN hS ⟨by rw [Nat.gcd_zero_right], rfl, rfl⟩) hS.2 dX0_greatest_17
set_option maxHeartbeats 1000000 in
set_option maxRecDepth 100000 in
theorem sX0_greatestS (l : Launch) (G : nG) (K : State → Prop) (hKo : nKo G K) (hK0 : ∀ U, K U → sK0 G U) (ad : Nat → Nat) (c0 : nPic) (nn : Nat) (ih : ∀ b, b ≤ nn → b ≤ 64 → ∀ a, a ≤ 64 → Met l yX0_greatest (ws_ yX0_greatest cX0_greatest 4 (some .long)) (sR nn 0 0) (nPc G nCl K ad c0 [.long (lN a), .long (lN b)]) (nQ G nCl (fun rv ad' c' => rv = some (.long (lN (Nat.gcd a b))) ∧ ad = ad' ∧ c0 = c')) 0 0 (fun q => G.2 ≤ q)) (b : Nat) (hbn : b ≤ nn + 1) (hb6 : b ≤ 64) (hb0 : 0 < b) (a : Nat) (ha6 : a ≤ 64) : Met l yX0_greatest (ws_ yX0_greatest cX0_greatest 4 (some .long)) (sR (nn + 1) 0 0) (nPc G nCl K ad c0 [.long (lN a), .long (lN b)]) (nQ G nCl (fun rv ad' c' => rv = some (.long (lN (Nat.gcd a b))) ∧ ad = ad' ∧ c0 = c')) 0 0 (fun q => G.2 ≤ q) := by
  refine nMet RX0 (by decide) rfl (Nat.le_of_ble_eq_true rfl) ?_
  intro p e s m below meth c ls SS hR hK hN hS hl
  obtain ⟨hx, hb, hml, hown, hts⟩ := id SS
  obtain ⟨hr, hlk, hnm⟩ := hR
  obtain ⟨hKv, hKw, hKf, hKz, hKm⟩ := hK0 s hK
  generalize s.heap = H at hN hS ⊢
  generalize ([] : List Loc) = locs at hS ⊢
  have hl : lv_has ls 4 [(0, .long (lN a)), (2, .long (lN b))] := hl
  refine lv_lload_n hx hb dX0_greatest_0 rfl (lv_at hl 1 rfl) ?_
  refine lv_lconst (v := 0) hx hb dX0_greatest_1 (by decide) ?_
  refine W.lcmp hx hb dX0_greatest_2 ?_
  refine lv_if_ne (tgt := 10) hx hb dX0_greatest_3 (by decide) (fun c3 => ?_) (fun c3 => absurd c3 (fun z => by have := (pk_lEQ (b := 0) (by omega) (by omega)).mp ((lg_cmp0 _).mp z); omega))
  refine lv_lload_n hx hb dX0_greatest_10 rfl (lv_at hl 1 rfl) ?_
  refine lv_lload_n hx hb dX0_greatest_11 rfl (lv_at hl 0 rfl) ?_
  refine lv_lload_n hx hb dX0_greatest_12 rfl (lv_at hl 1 rfl) ?_
  refine lv_lrem hx hb dX0_greatest_13 (fun z => by have := (pk_lEQ (b := 0) (by omega) (by omega)).mp z; omega) ?_
  refine n_topl (y := lN (a % b)) (pk_lRem (by omega) hb0 (by omega)) ?_
  refine n_callS (As := [_, _]) SS hKo hK (ih (a % b) (by have := Nat.mod_lt a hb0; omega) (by have := Nat.mod_lt a hb0; omega) b hb6) (va_cwS 2 hts (lw_S q439 q440 q57 q441) rfl rfl rfl (by decide +kernel) ⟨by show nn + 12 + 1 ≤ nn + 1 + 12; omega, by show 8 + (4 + 11) + (11000 + 64 * (nn + 1)) ≤ 11000 + 64 * (nn + 1 + 1); omega⟩) hN hS rfl hl.1 rfl (Nat.le_of_ble_eq_true rfl) dX0_greatest_14 ⟨Nat.le_of_ble_eq_true rfl, Nat.le_of_ble_eq_true rfl⟩ (fun v ad' c' H locs hv hN hS => ?_)
  obtain ⟨rfl, rfl, rfl⟩ := hv
  refine W.eq (g2 := F0 m 17 ls (_ :: _)) rfl ?_
  exact W.lret hx hb hr (nEnd hN hS ⟨by rw [Nat.gcd_comm b (a % b), ← Nat.gcd_rec b a, Nat.gcd_comm b a], rfl, rfl⟩) hS.2 dX0_greatest_17
theorem sX0_greatest (l : Launch) (G : nG) (K : State → Prop) (hKo : nKo G K) (hK0 : ∀ U, K U → sK0 G U) (ad : Nat → Nat) (c0 : nPic) : ∀ nn : Nat, ∀ b, b ≤ nn → b ≤ 64 → ∀ a, a ≤ 64 → Met l yX0_greatest (ws_ yX0_greatest cX0_greatest 4 (some .long)) (sR nn 0 0) (nPc G nCl K ad c0 [.long (lN a), .long (lN b)]) (nQ G nCl (fun rv ad' c' => rv = some (.long (lN (Nat.gcd a b))) ∧ ad = ad' ∧ c0 = c')) 0 0 (fun q => G.2 ≤ q) := by
  intro nn
  induction nn with
  | zero =>
    intro b hb _ a _
    rw [show b = 0 by omega]
    exact sX0_greatest0 l G K hKo hK0 ad c0 0 a
  | succ nn ih =>
    intro b hb h6 a ha
    by_cases e : b = 0
    · rw [e]
      exact sX0_greatest0 l G K hKo hK0 ad c0 (nn + 1) a
    · exact sX0_greatestS l G K hKo hK0 ad c0 nn ih b hb h6 (by omega) a ha
set_option maxHeartbeats 1000000 in
set_option maxRecDepth 100000 in
theorem sX0_odds (l : Launch) (G : nG) (K : State → Prop) (hKo : nKo G K) (hK0 : ∀ U, K U → sK0 G U) (ad : Nat → Nat) (x : nPic) (si : AI) (sa : Nat → AI) (rn : Value) (p_ f_ a_ : Int32) (np : Nat) (kd dr kn : AI) (hP : sPeo G ad x np kd dr kn) (nd : Nat) (hnd : si 1 = nI nd) (hnd6 : nd ≤ 6) : Met l yX0_odds (ws_ yX0_odds cX0_odds 8 (some .long)) (sR 66 0 0) (nPc G nCl K ad (sPic G x ad si sa rn) [.ref (ad 0), .int p_, .int f_, .int a_]) (nQ G nCl (fun rv ad' c' => rv = some (.long (oOds nd np (sa 1) kd (fun q => dr q &&& sMsk nd) p_ f_ a_)) ∧ ad = ad' ∧ sPic G x ad si sa rn = c')) 0 0 (fun q => G.2 ≤ q) := by
  refine nMet RX0 (by decide) rfl (Nat.le_of_ble_eq_true rfl) ?_
  intro p e s m below meth c ls SS hR hK hN hS hl
  obtain ⟨hx, hb, hml, hown, hts⟩ := id SS
  obtain ⟨hr, hlk, hnm⟩ := hR
  obtain ⟨hKv, hKw, hKf, hKz, hKm⟩ := hK0 s hK
  generalize s.heap = H at hN hS ⊢
  generalize ([] : List Loc) = locs at hS ⊢
  have hl : lv_has ls 8 [(0, .ref (ad 0)), (1, .int p_), (2, .int f_), (3, .int a_)] := hl
  have hnp4 := hP.1
  have hp2 := p2_64 hnd6
  have hp0 := Nat.two_pow_pos nd
  by_cases h1 : sIn p_ np = true
  · obtain ⟨j, hj, rfl, tj⟩ := sIn_t (by omega) h1
    refine lv_aload_n hx hb dX0_odds_0 rfl (lv_at hl 0 rfl) ?_
    refine lv_iload_n hx hb dX0_odds_1 rfl (lv_at hl 1 rfl) ?_
    refine n_callV (C := RX0) (As := [_]) (b := 0) SS hKo hK hKv (sX0_noPerson l G K hKo hK0 ad x si sa rn _ np kd dr kn hP) (cwV 1 hts (lw_V q171 q173 qs0 q57 q174) rfl rfl rfl (by decide +kernel) ⟨Nat.le_of_ble_eq_true rfl, Nat.le_of_ble_eq_true rfl⟩) hN hS sPic_0 rfl rfl hl.1 rfl (Nat.le_of_ble_eq_true rfl) dX0_odds_2 ⟨Nat.le_of_ble_eq_true rfl, Nat.le_of_ble_eq_true rfl⟩ (fun v ad' c' H locs hv hN hS => ?_)
    obtain ⟨rfl, rfl, rfl⟩ := hv
    refine W.eq (g2 := F0 m 5 ls (_ :: _)) rfl ?_
    refine n_top (y := 0) (by rw [h1]; rfl) ?_
    refine lv_if_ne (tgt := 22) hx hb dX0_odds_5 (by decide) (fun c5 => absurd c5 (fun z => z rfl)) (fun c5 => ?_)
    refine lv_iload_n hx hb dX0_odds_8 rfl (lv_at hl 2 rfl) ?_
    refine lv_if_lt (tgt := 22) hx hb dX0_odds_9 (by decide) (fun c9 => ?_) (fun c9 => ?_)
    · have hf : f_ < 0 := c9
      have hno : ¬ (sIn (nI j) np = true ∧ ¬ f_ < 0 ∧ sBt a_ 0 1 = true) := fun z => z.2.1 hf
      refine lv_ldc2 hx hb hown (hts _ q438) dX0_odds_22 ?_
      exact W.lret hx hb hr (nEnd hN hS ⟨by unfold oOds; rw [if_neg hno]; rfl, rfl, rfl⟩) hS.2 dX0_odds_25
    · have hf : ¬ f_ < 0 := c9
      refine lv_iload_n hx hb dX0_odds_12 rfl (lv_at hl 3 rfl) ?_
      refine lv_i2l hx hb dX0_odds_13 rfl ?_
      refine lv_lconst (v := 0) hx hb dX0_odds_14 (by decide) ?_
      refine lv_lconst (v := 1) hx hb dX0_odds_15 (by decide) ?_
      refine n_callS (As := [_, _, _]) SS hKo hK (sX0_in l G K hKo hK0 ad _ a_ 0 1) (va_cwS 3 hts (lw_S q185 q186 q57 q187) rfl rfl rfl (by decide +kernel) ⟨Nat.le_of_ble_eq_true rfl, Nat.le_of_ble_eq_true rfl⟩) hN hS rfl hl.1 rfl (Nat.le_of_ble_eq_true rfl) dX0_odds_16 ⟨Nat.le_of_ble_eq_true rfl, Nat.le_of_ble_eq_true rfl⟩ (fun v ad' c' H locs hv hN hS => ?_)
      obtain ⟨rfl, rfl, rfl⟩ := hv
      refine W.eq (g2 := F0 m 19 ls (_ :: _)) rfl ?_
      refine lv_if_ne (tgt := 26) hx hb dX0_odds_19 (by decide) (fun c19 => ?_) (fun c19 => ?_)
      · have ha := zI_n0 c19
        refine lv_aload_n hx hb dX0_odds_26 rfl (lv_at hl 0 rfl) ?_
        refine lv_iload_n hx hb dX0_odds_27 rfl (lv_at hl 1 rfl) ?_
        refine n_callV (C := RX0) (As := [_]) (b := 0) SS hKo hK hKv (sX0_truthsOf l G K hKo hK0 ad x si sa rn np kd dr kn hP j hj nd hnd hnd6) (cwV 1 hts (lw_V q219 q221 qs1 q57 q222) rfl rfl rfl (by decide +kernel) ⟨Nat.le_of_ble_eq_true rfl, Nat.le_of_ble_eq_true rfl⟩) hN hS sPic_0 rfl rfl hl.1 rfl (Nat.le_of_ble_eq_true rfl) dX0_odds_28 ⟨Nat.le_of_ble_eq_true rfl, Nat.le_of_ble_eq_true rfl⟩ (fun v ad' c' H locs hv hN hS => ?_)
        obtain ⟨rfl, rfl, rfl⟩ := hv
        refine W.eq (g2 := F0 m 31 ls (_ :: _)) rfl ?_
        refine lv_istore (lv' := [(4, _), (0, _), (1, _), (2, _), (3, _)]) hx hb dX0_odds_31 hl (by decide) rfl (fun ls hl => ?_)
        refine lv_iconst (v := nI 0) hx hb dX0_odds_33 (rfl) ?_
        refine lv_istore (lv' := [(5, _), (4, _), (0, _), (1, _), (2, _), (3, _)]) hx hb dX0_odds_34 hl (by decide) rfl (fun ls hl => ?_)
        refine lv_iconst (v := nI 0) hx hb dX0_odds_36 (rfl) ?_
        refine lv_istore (lv' := [(6, _), (5, _), (4, _), (0, _), (1, _), (2, _), (3, _)]) hx hb dX0_odds_37 hl (by decide) rfl (fun ls hl => ?_)
        refine lv_iconst (v := nI 0) hx hb dX0_odds_39 (rfl) ?_
        refine lv_istore (lv' := [(7, _), (6, _), (5, _), (4, _), (0, _), (1, _), (2, _), (3, _)]) hx hb dX0_odds_40 hl (by decide) rfl (fun ls hl => ?_)
        have loop42 : ∀ (n : Nat) (s_ : Nat) (H : Heap) (locs : List Loc) (ls : Array Slot), 2 ^ nd + 1 ≤ n + s_ → s_ ≤ 2 ^ nd → nOk G nCl ad (sPic G x ad si sa rn) H → nS G s H locs → lv_has ls 8 [(0, .ref (ad 0)), (1, .int (nI j)), (2, .int f_), (3, .int a_), (4, .int (dr j &&& sMsk nd)), (5, .int (nI (sAll (fun q => dr q &&& sMsk nd) j s_))), (6, .int (nI (sMany (sa 1) kd (fun q => dr q &&& sMsk nd) nd j f_ s_))), (7, .int (nI s_))] → W p l e (sR 66 0 0) s m ([.ref (ad 0), .int (nI j), .int f_, .int a_] : List Value).toArray below meth c H locs 0 0 (MQ below (nQ G nCl (fun rv ad' c' => rv = some (.long (oOds nd np (sa 1) kd (fun q => dr q &&& sMsk nd) (nI j) f_ a_)) ∧ ad = ad' ∧ sPic G x ad si sa rn = c')) ([.ref (ad 0), .int (nI j), .int f_, .int a_] : List Value).toArray s 0 0 (fun q => G.2 ≤ q)) (F0 m 42 ls []) := by
          intro n
          induction n with
          | zero => intro s_ H locs ls hfuel hs_ hN hS hl; exact absurd hfuel (by omega)
          | succ n ih42 =>
            intro s_ H locs ls hfuel hs_ hN hS hl
            refine lv_iload hx hb dX0_odds_42 (lv_at hl 7 rfl) ?_
            refine lv_iconst (v := 1) hx hb dX0_odds_44 (by decide) ?_
            refine lv_aload_n hx hb dX0_odds_45 rfl (lv_at hl 0 rfl) ?_
            refine n_get (v := .int (nI nd)) (ci := 0) (C := RX0) (T := TX0) (N := 12) hx hb hts in_X0 hown hKv hN (0) sPic_0 rfl 1 (by decide) q129 (fun z h => h) (by rw [← hnd]; rfl) dX0_odds_46 ?_
            refine lv_ishl hx hb dX0_odds_49 ?_
            refine n_top (y := nI (2 ^ nd)) (sPw_nI (by omega)) ?_
            refine lv_icmp_ge (tgt := 93) hx hb dX0_odds_50 (by decide) (fun c50 => ?_) (fun c50 => ?_)
            · have c50 : 2 ^ nd ≤ s_ := (nI_leI (by omega) (by omega)).mp c50
              have es : s_ = 2 ^ nd := by omega
              rw [es] at hl
              have g1 := sMany_le (sa 1) kd (fun q => dr q &&& sMsk nd) nd j f_ (2 ^ nd)
              have g2 := sAll_le (fun q => dr q &&& sMsk nd) j (2 ^ nd)
              have g3 := sAll_pos (fun q => dr q &&& sMsk nd) j hp0
              have g4 := Nat.gcd_pos_of_pos_left (sMany (sa 1) kd (fun q => dr q &&& sMsk nd) nd j f_ (2 ^ nd)) g3
              have g5 := Nat.gcd_le_left (sMany (sa 1) kd (fun q => dr q &&& sMsk nd) nd j f_ (2 ^ nd)) g3
              refine lv_iload_n hx hb dX0_odds_93 rfl (lv_at hl 3 rfl) ?_
              refine lv_if_ne (tgt := 102) hx hb dX0_odds_94 (by decide) (fun c94 => ?_) (fun c94 => ?_)
              · refine lv_iload hx hb dX0_odds_102 (lv_at hl 5 rfl) ?_
                refine lv_i2l (v := lN (sAll (fun q => dr q &&& sMsk nd) j (2 ^ nd))) hx hb dX0_odds_104 (nI_l (by omega)) ?_
                refine lv_iload hx hb dX0_odds_105 (lv_at hl 5 rfl) ?_
                refine lv_i2l (v := lN (sAll (fun q => dr q &&& sMsk nd) j (2 ^ nd))) hx hb dX0_odds_107 (nI_l (by omega)) ?_
                refine lv_iload hx hb dX0_odds_108 (lv_at hl 6 rfl) ?_
                refine lv_i2l (v := lN (sMany (sa 1) kd (fun q => dr q &&& sMsk nd) nd j f_ (2 ^ nd))) hx hb dX0_odds_110 (nI_l (by omega)) ?_
                refine n_callS (As := [_, _]) SS hKo hK (sX0_greatest l G K hKo hK0 ad _ 64 (sMany (sa 1) kd (fun q => dr q &&& sMsk nd) nd j f_ (2 ^ nd)) (by omega) (by omega) (sAll (fun q => dr q &&& sMsk nd) j (2 ^ nd)) (by omega)) (va_cwS 2 hts (lw_S q439 q440 q57 q441) rfl rfl rfl (by decide +kernel) ⟨Nat.le_of_ble_eq_true rfl, Nat.le_of_ble_eq_true rfl⟩) hN hS rfl hl.1 rfl (Nat.le_of_ble_eq_true rfl) dX0_odds_111 ⟨Nat.le_of_ble_eq_true rfl, Nat.le_of_ble_eq_true rfl⟩ (fun v ad' c' H locs hv hN hS => ?_)
                obtain ⟨rfl, rfl, rfl⟩ := hv
                refine W.eq (g2 := F0 m 114 ls (_ :: _)) rfl ?_
                refine lv_ldiv hx hb dX0_odds_114 (fun z => by have := (pk_lEQ (b := 0) (by omega) (by omega)).mp z; omega) ?_
                refine n_topl (y := lN (sAll (fun q => dr q &&& sMsk nd) j (2 ^ nd) / Nat.gcd (sAll (fun q => dr q &&& sMsk nd) j (2 ^ nd)) (sMany (sa 1) kd (fun q => dr q &&& sMsk nd) nd j f_ (2 ^ nd)))) (pk_lDiv (by omega) (by omega) (by omega)) ?_
                exact W.lret hx hb hr (nEnd hN hS ⟨by unfold oOds; rw [if_pos ⟨h1, hf, ha⟩, tn, tj, if_neg c94, Nat.gcd_comm], rfl, rfl⟩) hS.2 dX0_odds_115
              · refine lv_iload hx hb dX0_odds_97 (lv_at hl 6 rfl) ?_
                refine lv_goto (tgt := 104) hx hb dX0_odds_99 (by decide) ?_
                refine lv_i2l (v := lN (sMany (sa 1) kd (fun q => dr q &&& sMsk nd) nd j f_ (2 ^ nd))) hx hb dX0_odds_104 (nI_l (by omega)) ?_
                refine lv_iload hx hb dX0_odds_105 (lv_at hl 5 rfl) ?_
                refine lv_i2l (v := lN (sAll (fun q => dr q &&& sMsk nd) j (2 ^ nd))) hx hb dX0_odds_107 (nI_l (by omega)) ?_
                refine lv_iload hx hb dX0_odds_108 (lv_at hl 6 rfl) ?_
                refine lv_i2l (v := lN (sMany (sa 1) kd (fun q => dr q &&& sMsk nd) nd j f_ (2 ^ nd))) hx hb dX0_odds_110 (nI_l (by omega)) ?_
                refine n_callS (As := [_, _]) SS hKo hK (sX0_greatest l G K hKo hK0 ad _ 64 (sMany (sa 1) kd (fun q => dr q &&& sMsk nd) nd j f_ (2 ^ nd)) (by omega) (by omega) (sAll (fun q => dr q &&& sMsk nd) j (2 ^ nd)) (by omega)) (va_cwS 2 hts (lw_S q439 q440 q57 q441) rfl rfl rfl (by decide +kernel) ⟨Nat.le_of_ble_eq_true rfl, Nat.le_of_ble_eq_true rfl⟩) hN hS rfl hl.1 rfl (Nat.le_of_ble_eq_true rfl) dX0_odds_111 ⟨Nat.le_of_ble_eq_true rfl, Nat.le_of_ble_eq_true rfl⟩ (fun v ad' c' H locs hv hN hS => ?_)
                obtain ⟨rfl, rfl, rfl⟩ := hv
                refine W.eq (g2 := F0 m 114 ls (_ :: _)) rfl ?_
                refine lv_ldiv hx hb dX0_odds_114 (fun z => by have := (pk_lEQ (b := 0) (by omega) (by omega)).mp z; omega) ?_
                refine n_topl (y := lN (sMany (sa 1) kd (fun q => dr q &&& sMsk nd) nd j f_ (2 ^ nd) / Nat.gcd (sAll (fun q => dr q &&& sMsk nd) j (2 ^ nd)) (sMany (sa 1) kd (fun q => dr q &&& sMsk nd) nd j f_ (2 ^ nd)))) (pk_lDiv (by omega) (by omega) (by omega)) ?_
                exact W.lret hx hb hr (nEnd hN hS ⟨by unfold oOds; rw [if_pos ⟨h1, hf, ha⟩, tn, tj, if_pos (by simpa using c94), Nat.gcd_comm], rfl, rfl⟩) hS.2 dX0_odds_115
            · have c50 : s_ < 2 ^ nd := by have := mt (nI_leI (a := 2 ^ nd) (b := s_) (by omega) (by omega)).mpr c50; omega
              refine lv_iload hx hb dX0_odds_53 (lv_at hl 7 rfl) ?_
              refine lv_iload hx hb dX0_odds_55 (lv_at hl 4 rfl) ?_
              refine lv_iconst (v := (-1)) hx hb dX0_odds_57 (by decide) ?_
              refine lv_ixor hx hb dX0_odds_58 ?_
              refine lv_iand hx hb dX0_odds_59 ?_
              refine lv_if_ne (tgt := 87) hx hb dX0_odds_60 (by decide) (fun c60 => ?_) (fun c60 => ?_)
              · have hT : sTru (fun q => dr q &&& sMsk nd) j s_ = false := decide_eq_false c60
                have ek1 : sAll (fun q => dr q &&& sMsk nd) j (s_ + 1) = sAll (fun q => dr q &&& sMsk nd) j s_ := by rw [sAll, hT]; rfl
                have ek2 : sMany (sa 1) kd (fun q => dr q &&& sMsk nd) nd j f_ (s_ + 1) = sMany (sa 1) kd (fun q => dr q &&& sMsk nd) nd j f_ s_ := by rw [sMany, if_neg (fun z => by rw [hT] at z; exact absurd z.1 (by simp))]; rfl
                rw [← ek1, ← ek2] at hl
                refine lv_iinc (v := nI (s_ + 1)) (lv' := [(7, _), (0, _), (1, _), (2, _), (3, _), (4, _), (5, _), (6, _)]) hx hb dX0_odds_87 hl (k := 7) rfl (nI_inc s_) (by decide) rfl (fun ls hl => ?_)
                refine lv_goto (tgt := 42) hx hb dX0_odds_90 (by decide) ?_
                exact ih42 (s_ + 1) _ _ _ (by omega) (by omega) hN hS (lv_sub hl [1, 2, 3, 4, 5, 6, 7, 0] (rfl))
              · have hT : sTru (fun q => dr q &&& sMsk nd) j s_ = true := decide_eq_true c60
                have ek1 : sAll (fun q => dr q &&& sMsk nd) j (s_ + 1) = sAll (fun q => dr q &&& sMsk nd) j s_ + 1 := by rw [sAll, hT]; rfl
                refine lv_iinc (v := nI (sAll (fun q => dr q &&& sMsk nd) j (s_ + 1))) (lv' := [(5, _), (0, _), (1, _), (2, _), (3, _), (4, _), (6, _), (7, _)]) hx hb dX0_odds_63 hl (k := 5) rfl (by rw [ek1]; exact nI_inc _) (by decide) rfl (fun ls hl => ?_)
                refine lv_iload hx hb dX0_odds_66 (lv_at hl 6 rfl) ?_
                refine lv_aload_n hx hb dX0_odds_68 rfl (lv_at hl 1 rfl) ?_
                refine lv_iload_n hx hb dX0_odds_69 rfl (lv_at hl 2 rfl) ?_
                refine lv_iload hx hb dX0_odds_70 (lv_at hl 7 rfl) ?_
                refine n_callV (C := RX0) (As := [_, _]) (b := 0) SS hKo hK hKv (sX0_risesBy l G K hKo hK0 ad x si sa rn np kd dr kn hP j hj nd hnd hnd6 (nI s_)) (cwV 2 hts (lw_V q227 q229 qs3 q57 q230) rfl rfl rfl (by decide +kernel) ⟨Nat.le_of_ble_eq_true rfl, Nat.le_of_ble_eq_true rfl⟩) hN hS sPic_0 rfl rfl hl.1 rfl (Nat.le_of_ble_eq_true rfl) dX0_odds_72 ⟨Nat.le_of_ble_eq_true rfl, Nat.le_of_ble_eq_true rfl⟩ (fun v ad' c' H locs hv hN hS => ?_)
                obtain ⟨rfl, rfl, rfl⟩ := hv
                refine W.eq (g2 := F0 m 75 ls (_ :: _)) rfl ?_
                refine lv_iload_n hx hb dX0_odds_75 rfl (lv_at hl 3 rfl) ?_
                refine lv_icmp_lt (tgt := 83) hx hb dX0_odds_76 (by decide) (fun c76 => ?_) (fun c76 => ?_)
                · have ek2 : sMany (sa 1) kd (fun q => dr q &&& sMsk nd) nd j f_ (s_ + 1) = sMany (sa 1) kd (fun q => dr q &&& sMsk nd) nd j f_ s_ := by rw [sMany, if_neg (fun z => z.2 c76)]; rfl
                  refine lv_iconst (v := 0) hx hb dX0_odds_83 (by decide) ?_
                  refine lv_iadd hx hb dX0_odds_84 ?_
                  refine n_top (y := nI (sMany (sa 1) kd (fun q => dr q &&& sMsk nd) nd j f_ (s_ + 1))) (by rw [ek2]; exact nI_add _ 0) ?_
                  refine lv_istore (lv' := [(6, _), (5, _), (0, _), (1, _), (2, _), (3, _), (4, _), (7, _)]) hx hb dX0_odds_85 hl (by decide) rfl (fun ls hl => ?_)
                  refine lv_iinc (v := nI (s_ + 1)) (lv' := [(7, _), (6, _), (5, _), (0, _), (1, _), (2, _), (3, _), (4, _)]) hx hb dX0_odds_87 hl (k := 7) rfl (nI_inc s_) (by decide) rfl (fun ls hl => ?_)
                  refine lv_goto (tgt := 42) hx hb dX0_odds_90 (by decide) ?_
                  exact ih42 (s_ + 1) _ _ _ (by omega) (by omega) hN hS (lv_sub hl [3, 4, 5, 6, 7, 2, 1, 0] (rfl))
                · have ek2 : sMany (sa 1) kd (fun q => dr q &&& sMsk nd) nd j f_ (s_ + 1) = sMany (sa 1) kd (fun q => dr q &&& sMsk nd) nd j f_ s_ + 1 := by rw [sMany, if_pos ⟨hT, c76⟩]
                  refine lv_iconst (v := 1) hx hb dX0_odds_79 (by decide) ?_
                  refine lv_goto (tgt := 84) hx hb dX0_odds_80 (by decide) ?_
                  refine lv_iadd hx hb dX0_odds_84 ?_
                  refine n_top (y := nI (sMany (sa 1) kd (fun q => dr q &&& sMsk nd) nd j f_ (s_ + 1))) (by rw [ek2]; exact nI_1 _) ?_
                  refine lv_istore (lv' := [(6, _), (5, _), (0, _), (1, _), (2, _), (3, _), (4, _), (7, _)]) hx hb dX0_odds_85 hl (by decide) rfl (fun ls hl => ?_)
                  refine lv_iinc (v := nI (s_ + 1)) (lv' := [(7, _), (6, _), (5, _), (0, _), (1, _), (2, _), (3, _), (4, _)]) hx hb dX0_odds_87 hl (k := 7) rfl (nI_inc s_) (by decide) rfl (fun ls hl => ?_)
                  refine lv_goto (tgt := 42) hx hb dX0_odds_90 (by decide) ?_
                  exact ih42 (s_ + 1) _ _ _ (by omega) (by omega) hN hS (lv_sub hl [3, 4, 5, 6, 7, 2, 1, 0] (rfl))
        exact loop42 (2 ^ nd + 1) 0 _ _ _ (by omega) (by omega) hN hS (lv_sub hl [4, 5, 6, 7, 3, 2, 1, 0] rfl)
      · have ha := zI_0.mp c19
        have hno : ¬ (sIn (nI j) np = true ∧ ¬ f_ < 0 ∧ sBt a_ 0 1 = true) := fun z => by rw [ha] at z; exact absurd z.2.2 (by simp)
        refine lv_ldc2 hx hb hown (hts _ q438) dX0_odds_22 ?_
        exact W.lret hx hb hr (nEnd hN hS ⟨by unfold oOds; rw [if_neg hno]; rfl, rfl, rfl⟩) hS.2 dX0_odds_25
  · have h1 : sIn p_ np = false := by simpa using h1
    refine lv_aload_n hx hb dX0_odds_0 rfl (lv_at hl 0 rfl) ?_
    refine lv_iload_n hx hb dX0_odds_1 rfl (lv_at hl 1 rfl) ?_
    refine n_callV (C := RX0) (As := [_]) (b := 0) SS hKo hK hKv (sX0_noPerson l G K hKo hK0 ad x si sa rn _ np kd dr kn hP) (cwV 1 hts (lw_V q171 q173 qs0 q57 q174) rfl rfl rfl (by decide +kernel) ⟨Nat.le_of_ble_eq_true rfl, Nat.le_of_ble_eq_true rfl⟩) hN hS sPic_0 rfl rfl hl.1 rfl (Nat.le_of_ble_eq_true rfl) dX0_odds_2 ⟨Nat.le_of_ble_eq_true rfl, Nat.le_of_ble_eq_true rfl⟩ (fun v ad' c' H locs hv hN hS => ?_)
    obtain ⟨rfl, rfl, rfl⟩ := hv
    refine W.eq (g2 := F0 m 5 ls (_ :: _)) rfl ?_
    refine n_top (y := 1) (by rw [h1]; rfl) ?_
    refine lv_if_ne (tgt := 22) hx hb dX0_odds_5 (by decide) (fun c5 => ?_) (fun c5 => absurd c5 (by decide))
    refine lv_ldc2 hx hb hown (hts _ q438) dX0_odds_22 ?_
    exact W.lret hx hb hr (nEnd hN hS ⟨by unfold oOds; rw [if_neg (fun z => by rw [h1] at z; exact absurd z.1 (by simp))]; rfl, rfl, rfl⟩) hS.2 dX0_odds_25
set_option maxHeartbeats 1000000 in
set_option maxRecDepth 100000 in
theorem sX0_pairsBarred (l : Launch) (G : nG) (K : State → Prop) (hKo : nKo G K) (hK0 : ∀ U, K U → sK0 G U) (ad : Nat → Nat) (x : nPic) (si : AI) (sa : Nat → AI) (rn : Value) (np : Nat) (kd dr kn : AI) (hP : sPeo G ad x np kd dr kn) (nd : Nat) (hnd : si 1 = nI nd) (hnd6 : nd ≤ 6) (ra mm : Nat) (rf : AI) (hmm : mm ≤ 20) (hra : ra ≠ 0 ∧ ra ≠ 1 ∧ ra ≠ 4 ∧ ra ≠ 5) (hRx : x ra = some (.inl (G.1.1 100, 2 * mm, .inl rf))) : Met l yX0_pairsBarred (ws_ yX0_pairsBarred cX0_pairsBarred 3 (some .int)) (sR 2 0 0) (nPc G nCl K ad (sPic G x ad si sa rn) [.ref (ad 0), .ref (ad ra)]) (nQ G nCl (fun rv ad' c' => rv = some (.int (if np = 0 then -3 else if sRow rf nd np 0 mm = true then 0 else -1)) ∧ ad = ad' ∧ sPic G x ad si sa rn = c')) 0 0 (fun q => G.2 ≤ q) := by
  refine nMet RX0 (by decide) rfl (Nat.le_of_ble_eq_true rfl) ?_
  intro p e s m below meth c ls SS hR hK hN hS hl
  obtain ⟨hx, hb, hml, hown, hts⟩ := id SS
  obtain ⟨hr, hlk, hnm⟩ := hR
  obtain ⟨hKv, hKw, hKf, hKz, hKm⟩ := hK0 s hK
  generalize s.heap = H at hN hS ⊢
  generalize ([] : List Loc) = locs at hS ⊢
  have hl : lv_has ls 3 [(0, .ref (ad 0)), (1, .ref (ad ra))] := hl
  have hnp4 := hP.1
  refine lv_aload_n hx hb dX0_pairsBarred_0 rfl (lv_at hl 0 rfl) ?_
  refine n_callV (C := RX0) (As := []) (b := 0) SS hKo hK hKv (sX0_noTower l G K hKo hK0 ad x si sa rn np kd dr kn hP) (cwV 0 hts (lw_V q291 q293 qs7 q57 q294) rfl rfl rfl (by decide +kernel) ⟨Nat.le_of_ble_eq_true rfl, Nat.le_of_ble_eq_true rfl⟩) hN hS sPic_0 rfl rfl hl.1 rfl (Nat.le_of_ble_eq_true rfl) dX0_pairsBarred_1 ⟨Nat.le_of_ble_eq_true rfl, Nat.le_of_ble_eq_true rfl⟩ (fun v ad' c' H locs hv hN hS => ?_)
  obtain ⟨rfl, rfl, rfl⟩ := hv
  refine W.eq (g2 := F0 m 4 ls (_ :: _)) rfl ?_
  refine lv_if_eq (tgt := 10) hx hb dX0_pairsBarred_4 (by decide) (fun c4 => ?_) (fun c4 => ?_)
  · have h0 : ¬ np = 0 := by simpa using zI_0.mp c4
    refine lv_iconst (v := nI 0) hx hb dX0_pairsBarred_10 (rfl) ?_
    refine lv_istore_n (lv' := [(2, _), (0, _), (1, _)]) hx hb dX0_pairsBarred_11 rfl hl (by decide) rfl (fun ls hl => ?_)
    have loop12 : ∀ (n : Nat) (k : Nat) (H : Heap) (locs : List Loc) (ls : Array Slot), 2 * mm + 1 ≤ n + k → k ≤ 2 * mm → (∀ i, i < k → (i % 2 = 0 → sIn (rf i) np = true) ∧ (i % 2 = 1 → sIn (rf i) nd = true)) → nOk G nCl ad (sPic G x ad si sa rn) H → nS G s H locs → lv_has ls 3 [(0, .ref (ad 0)), (1, .ref (ad ra)), (2, .int (nI k))] → W p l e (sR 2 0 0) s m ([.ref (ad 0), .ref (ad ra)] : List Value).toArray below meth c H locs 0 0 (MQ below (nQ G nCl (fun rv ad' c' => rv = some (.int (if np = 0 then -3 else if sRow rf nd np 0 mm = true then 0 else -1)) ∧ ad = ad' ∧ sPic G x ad si sa rn = c')) ([.ref (ad 0), .ref (ad ra)] : List Value).toArray s 0 0 (fun q => G.2 ≤ q)) (F0 m 12 ls []) := by
      intro n
      induction n with
      | zero => intro k H locs ls hfuel hk hs hN hS hl; exact absurd hfuel (by omega)
      | succ n ih12 =>
        intro k H locs ls hfuel hk hs hN hS hl
        refine lv_iload_n hx hb dX0_pairsBarred_12 rfl (lv_at hl 2 rfl) ?_
        refine lv_aload_n hx hb dX0_pairsBarred_13 rfl (lv_at hl 1 rfl) ?_
        refine n_alen hx hb hKv hN (ra) 0 ((sPic_x hra).trans hRx) rfl dX0_pairsBarred_14 ?_
        refine lv_icmp_ge (tgt := 55) hx hb dX0_pairsBarred_15 (by decide) (fun c15 => ?_) (fun c15 => ?_)
        · have c15 : 2 * mm ≤ k := (nI_leI (by omega) (by omega)).mp c15
          have ek : k = 2 * mm := by omega
          rw [ek] at hs
          refine lv_iconst (v := 0) hx hb dX0_pairsBarred_55 (by decide) ?_
          exact W.iret hx hb hr (nEnd hN hS ⟨by rw [if_neg h0, row_t hs]; rfl, rfl, rfl⟩) hS.2 dX0_pairsBarred_56
        · have c15 : k < 2 * mm := by have := mt (nI_leI (a := 2 * mm) (b := k) (by omega) (by omega)).mpr c15; omega
          refine lv_iload_n hx hb dX0_pairsBarred_18 rfl (lv_at hl 2 rfl) ?_
          refine lv_iconst (v := 2) hx hb dX0_pairsBarred_19 (by decide) ?_
          refine lv_irem hx hb dX0_pairsBarred_20 (by decide) ?_
          refine n_top (y := nI (k % 2)) (n_mod2 k (by omega)) ?_
          refine lv_if_ne (tgt := 37) hx hb dX0_pairsBarred_21 (by decide) (fun c21 => ?_) (fun c21 => ?_)
          · have hm : k % 2 = 1 := by have : ¬ k % 2 = 0 := (fun z => c21 (by rw [z]; rfl)); omega
            refine lv_aload_n hx hb dX0_pairsBarred_37 rfl (lv_at hl 0 rfl) ?_
            refine lv_aload_n hx hb dX0_pairsBarred_38 rfl (lv_at hl 1 rfl) ?_
            refine lv_iload_n hx hb dX0_pairsBarred_39 rfl (lv_at hl 2 rfl) ?_
            refine n_iald hx hb hKv hN (ra) 0 ((sPic_x hra).trans hRx) rfl (k) (rfl) (by omega) (by omega) dX0_pairsBarred_40 ?_
            refine n_callV (C := RX0) (As := [_]) (b := 0) SS hKo hK hKv (sX0_noDeed l G K hKo hK0 ad x si sa rn _ nd hnd hnd6) (cwV 1 hts (lw_V q258 q260 qs4 q57 q261) rfl rfl rfl (by decide +kernel) ⟨Nat.le_of_ble_eq_true rfl, Nat.le_of_ble_eq_true rfl⟩) hN hS sPic_0 rfl rfl hl.1 rfl (Nat.le_of_ble_eq_true rfl) dX0_pairsBarred_41 ⟨Nat.le_of_ble_eq_true rfl, Nat.le_of_ble_eq_true rfl⟩ (fun v ad' c' H locs hv hN hS => ?_)
            obtain ⟨rfl, rfl, rfl⟩ := hv
            refine W.eq (g2 := F0 m 44 ls (_ :: _)) rfl ?_
            refine lv_if_eq (tgt := 49) hx hb dX0_pairsBarred_44 (by decide) (fun c44 => ?_) (fun c44 => ?_)
            · have h1 : sIn (rf k) nd = true := by simpa using zI_0.mp c44
              have hs1 : (∀ i, i < k + 1 → (i % 2 = 0 → sIn (rf i) np = true) ∧ (i % 2 = 1 → sIn (rf i) nd = true)) := row_s hs (fun z => by omega) (fun _ => h1)
              refine lv_iinc (v := nI (k + 1)) (lv' := [(2, _), (0, _), (1, _)]) hx hb dX0_pairsBarred_49 hl (k := 2) rfl (nI_inc k) (by decide) rfl (fun ls hl => ?_)
              refine lv_goto (tgt := 12) hx hb dX0_pairsBarred_52 (by decide) ?_
              exact ih12 (k + 1) _ _ _ (by omega) (by omega) hs1 hN hS (lv_sub hl [1, 2, 0] (rfl))
            · have h1 : sIn (rf k) nd = false := by simpa using zI_n0 c44
              have hF : sRow rf nd np 0 mm = false := row_n1 h1 hm (by omega)
              refine lv_iconst (v := (-1)) hx hb dX0_pairsBarred_47 (by decide) ?_
              exact W.iret hx hb hr (nEnd hN hS ⟨by rw [if_neg h0, hF]; rfl, rfl, rfl⟩) hS.2 dX0_pairsBarred_48
          · have hm : k % 2 = 0 := by have c21 : nI (k % 2) = nI 0 := c21; exact (nI_eq (by omega) (by omega)).mp c21
            refine lv_aload_n hx hb dX0_pairsBarred_24 rfl (lv_at hl 0 rfl) ?_
            refine lv_aload_n hx hb dX0_pairsBarred_25 rfl (lv_at hl 1 rfl) ?_
            refine lv_iload_n hx hb dX0_pairsBarred_26 rfl (lv_at hl 2 rfl) ?_
            refine n_iald hx hb hKv hN (ra) 0 ((sPic_x hra).trans hRx) rfl (k) (rfl) (by omega) (by omega) dX0_pairsBarred_27 ?_
            refine n_callV (C := RX0) (As := [_]) (b := 0) SS hKo hK hKv (sX0_noPerson l G K hKo hK0 ad x si sa rn _ np kd dr kn hP) (cwV 1 hts (lw_V q171 q173 qs0 q57 q174) rfl rfl rfl (by decide +kernel) ⟨Nat.le_of_ble_eq_true rfl, Nat.le_of_ble_eq_true rfl⟩) hN hS sPic_0 rfl rfl hl.1 rfl (Nat.le_of_ble_eq_true rfl) dX0_pairsBarred_28 ⟨Nat.le_of_ble_eq_true rfl, Nat.le_of_ble_eq_true rfl⟩ (fun v ad' c' H locs hv hN hS => ?_)
            obtain ⟨rfl, rfl, rfl⟩ := hv
            refine W.eq (g2 := F0 m 31 ls (_ :: _)) rfl ?_
            refine lv_if_eq (tgt := 49) hx hb dX0_pairsBarred_31 (by decide) (fun c31 => ?_) (fun c31 => ?_)
            · have h1 : sIn (rf k) np = true := by simpa using zI_0.mp c31
              have hs1 : (∀ i, i < k + 1 → (i % 2 = 0 → sIn (rf i) np = true) ∧ (i % 2 = 1 → sIn (rf i) nd = true)) := row_s hs (fun _ => h1) (fun z => by omega)
              refine lv_iinc (v := nI (k + 1)) (lv' := [(2, _), (0, _), (1, _)]) hx hb dX0_pairsBarred_49 hl (k := 2) rfl (nI_inc k) (by decide) rfl (fun ls hl => ?_)
              refine lv_goto (tgt := 12) hx hb dX0_pairsBarred_52 (by decide) ?_
              exact ih12 (k + 1) _ _ _ (by omega) (by omega) hs1 hN hS (lv_sub hl [1, 2, 0] (rfl))
            · have h1 : sIn (rf k) np = false := by simpa using zI_n0 c31
              have hF : sRow rf nd np 0 mm = false := row_n0 h1 hm (by omega)
              refine lv_goto (tgt := 47) hx hb dX0_pairsBarred_34 (by decide) ?_
              refine lv_iconst (v := (-1)) hx hb dX0_pairsBarred_47 (by decide) ?_
              exact W.iret hx hb hr (nEnd hN hS ⟨by rw [if_neg h0, hF]; rfl, rfl, rfl⟩) hS.2 dX0_pairsBarred_48
    exact loop12 (2 * mm + 1) 0 _ _ _ (by omega) (by omega) (fun i hi => by omega) hN hS (lv_sub hl [1, 2, 0] rfl)
  · have h0 : np = 0 := by simpa using zI_n0 c4
    refine lv_bipush (v := (-3)) hx hb dX0_pairsBarred_7 (by decide) ?_
    exact W.iret hx hb hr (nEnd hN hS ⟨by rw [if_pos h0], rfl, rfl⟩) hS.2 dX0_pairsBarred_9
