/-! SYSTEM: printed by wip/gen/s6.py -/
theorem n_and64 : ∀ a, a < 64 → ∀ b, b < 64 → nI a &&& nI b = nI (a &&& b) := by decide +kernel
theorem sKept_in (w kd dn : AI) (nd p : Nat) (f : Int32) : ∀ s, s ≤ 64 → sKept w kd dn nd p f s = -9 ∨ ∃ j, j < 64 ∧ sKept w kd dn nd p f s = nI j := by
  intro s
  induction s with
  | zero => intro _; exact Or.inl rfl
  | succ s ih =>
    intro hs
    rw [sKept]
    split
    · split
      · exact Or.inr ⟨s, by omega, rfl⟩
      · rcases ih (by omega) with q | ⟨j, hj, q⟩
        · rename_i h; exact absurd q h
        · rw [q, n_and64 j hj s (by omega)]
          exact Or.inr ⟨_, Nat.lt_of_le_of_lt Nat.and_le_left hj, rfl⟩
    · exact ih (by omega)
set_option maxHeartbeats 1000000 in
set_option maxRecDepth 100000 in
theorem sX0_refused (l : Launch) (G : nG) (K : State → Prop) (hKo : nKo G K) (hK0 : ∀ U, K U → sK0 G U) (ad : Nat → Nat) (x : nPic) (si : AI) (sa : Nat → AI) (rn : Value) (z : Int32) : Met l yX0_refused (ws_ yX0_refused cX0_refused 2 (some .int)) (sR 0 0 0) (nPc G nCl K ad (sPic G x ad si sa rn) [.ref (ad 0), .int z]) (nQ G nCl (fun rv ad' c' => rv = some (.int z) ∧ ad = ad' ∧ sPic G x ad (upd si 9 0) sa rn = c')) 0 0 (fun q => G.2 ≤ q) := by
  refine nMet RX0 (by decide) rfl (Nat.le_of_ble_eq_true rfl) ?_
  intro p e s m below meth c ls SS hR hK hN hS hl
  obtain ⟨hx, hb, hml, hown, hts⟩ := id SS
  obtain ⟨hr, hlk, hnm⟩ := hR
  obtain ⟨hKv, hKw, hKf, hKz, hKm⟩ := hK0 s hK
  generalize s.heap = H at hN hS ⊢
  generalize ([] : List Loc) = locs at hS ⊢
  have hl : lv_has ls 2 [(0, .ref (ad 0)), (1, .int z)] := hl
  refine lv_aload_n hx hb dX0_refused_0 rfl (lv_at hl 0 rfl) ?_
  refine lv_iconst (v := 0) hx hb dX0_refused_1 (by decide) ?_
  refine n_put (ci := 0) (C := RX0) (T := TX0) (N := 12) hx hb hts in_X0 tyX0 tyX0_ok (va_apart (own := RX0) hts in_X0 tyX0 tyX0_ok nmX0 hKv rfl) hown hKv hN hS (0) sPic_0 rfl 9 (by decide) q138 (fun z h => h) rfl rfl rfl (Nat.le_of_ble_eq_true rfl) dX0_refused_2 (fun H locs hN hS => ?_)
  have hN := hN.congr (sPic_put rfl)
  refine lv_iload_n hx hb dX0_refused_5 rfl (lv_at hl 1 rfl) ?_
  exact W.iret hx hb hr (nEnd hN hS ⟨rfl, rfl, rfl⟩) hS.2 dX0_refused_6
set_option maxHeartbeats 1000000 in
set_option maxRecDepth 100000 in
theorem sX0_fails (l : Launch) (G : nG) (K : State → Prop) (hKo : nKo G K) (hK0 : ∀ U, K U → sK0 G U) (ad : Nat → Nat) (x : nPic) (si : AI) (sa : Nat → AI) (rn : Value) (z : Int32) : Met l yX0_fails (ws_ yX0_fails cX0_fails 2 (some .int)) (sR 0 0 0) (nPc G nCl K ad (sPic G x ad si sa rn) [.ref (ad 0), .int z]) (nQ G nCl (fun rv ad' c' => rv = some (.int (-10 - z)) ∧ ad = ad' ∧ sPic G x ad (upd si 9 z) sa rn = c')) 0 0 (fun q => G.2 ≤ q) := by
  refine nMet RX0 (by decide) rfl (Nat.le_of_ble_eq_true rfl) ?_
  intro p e s m below meth c ls SS hR hK hN hS hl
  obtain ⟨hx, hb, hml, hown, hts⟩ := id SS
  obtain ⟨hr, hlk, hnm⟩ := hR
  obtain ⟨hKv, hKw, hKf, hKz, hKm⟩ := hK0 s hK
  generalize s.heap = H at hN hS ⊢
  generalize ([] : List Loc) = locs at hS ⊢
  have hl : lv_has ls 2 [(0, .ref (ad 0)), (1, .int z)] := hl
  refine lv_aload_n hx hb dX0_fails_0 rfl (lv_at hl 0 rfl) ?_
  refine lv_iload_n hx hb dX0_fails_1 rfl (lv_at hl 1 rfl) ?_
  refine n_put (ci := 0) (C := RX0) (T := TX0) (N := 12) hx hb hts in_X0 tyX0 tyX0_ok (va_apart (own := RX0) hts in_X0 tyX0 tyX0_ok nmX0 hKv rfl) hown hKv hN hS (0) sPic_0 rfl 9 (by decide) q138 (fun z h => h) rfl rfl rfl (Nat.le_of_ble_eq_true rfl) dX0_fails_2 (fun H locs hN hS => ?_)
  have hN := hN.congr (sPic_put rfl)
  refine lv_bipush (v := (-10)) hx hb dX0_fails_5 (by decide) ?_
  refine lv_iload_n hx hb dX0_fails_7 rfl (lv_at hl 1 rfl) ?_
  refine lv_isub hx hb dX0_fails_8 ?_
  exact W.iret hx hb hr (nEnd hN hS ⟨rfl, rfl, rfl⟩) hS.2 dX0_fails_9
set_option maxHeartbeats 1000000 in
set_option maxRecDepth 100000 in
theorem sX0_failsLong (l : Launch) (G : nG) (K : State → Prop) (hKo : nKo G K) (hK0 : ∀ U, K U → sK0 G U) (ad : Nat → Nat) (x : nPic) (si : AI) (sa : Nat → AI) (rn : Value) (z : Int32) : Met l yX0_failsLong (ws_ yX0_failsLong cX0_failsLong 2 (some .long)) (sR 0 0 0) (nPc G nCl K ad (sPic G x ad si sa rn) [.ref (ad 0), .int z]) (nQ G nCl (fun rv ad' c' => rv = some (.long LOST) ∧ ad = ad' ∧ sPic G x ad (upd si 9 z) sa rn = c')) 0 0 (fun q => G.2 ≤ q) := by
  refine nMet RX0 (by decide) rfl (Nat.le_of_ble_eq_true rfl) ?_
  intro p e s m below meth c ls SS hR hK hN hS hl
  obtain ⟨hx, hb, hml, hown, hts⟩ := id SS
  obtain ⟨hr, hlk, hnm⟩ := hR
  obtain ⟨hKv, hKw, hKf, hKz, hKm⟩ := hK0 s hK
  generalize s.heap = H at hN hS ⊢
  generalize ([] : List Loc) = locs at hS ⊢
  have hl : lv_has ls 2 [(0, .ref (ad 0)), (1, .int z)] := hl
  refine lv_aload_n hx hb dX0_failsLong_0 rfl (lv_at hl 0 rfl) ?_
  refine lv_iload_n hx hb dX0_failsLong_1 rfl (lv_at hl 1 rfl) ?_
  refine n_put (ci := 0) (C := RX0) (T := TX0) (N := 12) hx hb hts in_X0 tyX0 tyX0_ok (va_apart (own := RX0) hts in_X0 tyX0 tyX0_ok nmX0 hKv rfl) hown hKv hN hS (0) sPic_0 rfl 9 (by decide) q138 (fun z h => h) rfl rfl rfl (Nat.le_of_ble_eq_true rfl) dX0_failsLong_2 (fun H locs hN hS => ?_)
  have hN := hN.congr (sPic_put rfl)
  refine lv_ldc2 hx hb hown (hts _ q438) dX0_failsLong_5 ?_
  exact W.lret hx hb hr (nEnd hN hS ⟨rfl, rfl, rfl⟩) hS.2 dX0_failsLong_8
set_option maxHeartbeats 1000000 in
set_option maxRecDepth 100000 in
theorem sX0_noSheet (l : Launch) (G : nG) (K : State → Prop) (hKo : nKo G K) (hK0 : ∀ U, K U → sK0 G U) (ad : Nat → Nat) (c0 : nPic) (z : Int32) : Met l yX0_noSheet (ws_ yX0_noSheet cX0_noSheet 1 (some .boolean)) (sR 1 0 0) (nPc G nCl K ad c0 [.int z]) (nQ G nCl (fun rv ad' c' => rv = some (.int (zI (!sBt z 0 3))) ∧ ad = ad' ∧ c0 = c')) 0 0 (fun q => G.2 ≤ q) := by
  refine nMet RX0 (by decide) rfl (Nat.le_of_ble_eq_true rfl) ?_
  intro p e s m below meth c ls SS hR hK hN hS hl
  obtain ⟨hx, hb, hml, hown, hts⟩ := id SS
  obtain ⟨hr, hlk, hnm⟩ := hR
  obtain ⟨hKv, hKw, hKf, hKz, hKm⟩ := hK0 s hK
  generalize s.heap = H at hN hS ⊢
  generalize ([] : List Loc) = locs at hS ⊢
  have hl : lv_has ls 1 [(0, .int z)] := hl
  refine lv_iload_n hx hb dX0_noSheet_0 rfl (lv_at hl 0 rfl) ?_
  refine lv_i2l hx hb dX0_noSheet_1 rfl ?_
  refine lv_lconst (v := 0) hx hb dX0_noSheet_2 (by decide) ?_
  refine lv_ldc2 hx hb hown (hts _ q536) dX0_noSheet_3 ?_
  refine n_callS (As := [_, _, _]) SS hKo hK (sX0_in l G K hKo hK0 ad _ z 0 3) (va_cwS 3 hts (lw_S q185 q186 q57 q187) rfl rfl rfl (by decide +kernel) ⟨Nat.le_of_ble_eq_true rfl, Nat.le_of_ble_eq_true rfl⟩) hN hS rfl hl.1 rfl (Nat.le_of_ble_eq_true rfl) dX0_noSheet_6 ⟨Nat.le_of_ble_eq_true rfl, Nat.le_of_ble_eq_true rfl⟩ (fun v ad' c' H locs hv hN hS => ?_)
  obtain ⟨rfl, rfl, rfl⟩ := hv
  refine W.eq (g2 := F0 m 9 ls (_ :: _)) rfl ?_
  refine lv_if_ne (tgt := 16) hx hb dX0_noSheet_9 (by decide) (fun c9 => ?_) (fun c9 => ?_)
  · have c9 := zI_n0 c9
    refine lv_iconst (v := 0) hx hb dX0_noSheet_16 (by decide) ?_
    exact W.zret hx hb hr (rfl) (nEnd hN hS ⟨by rw [c9]; rfl, rfl, rfl⟩) hS.2 dX0_noSheet_17
  · have c9 := zI_0.mp c9
    refine lv_iconst (v := 1) hx hb dX0_noSheet_12 (by decide) ?_
    refine lv_goto (tgt := 17) hx hb dX0_noSheet_13 (by decide) ?_
    exact W.zret hx hb hr (rfl) (nEnd hN hS ⟨by rw [c9]; rfl, rfl, rfl⟩) hS.2 dX0_noSheet_17
set_option maxHeartbeats 1000000 in
set_option maxRecDepth 100000 in
theorem sX0_kept (l : Launch) (G : nG) (K : State → Prop) (hKo : nKo G K) (hK0 : ∀ U, K U → sK0 G U) (ad : Nat → Nat) (x : nPic) (si : AI) (sa : Nat → AI) (rn : Value) (p_ f_ : Int32) (np : Nat) (kd dr kn : AI) (hP : sPeo G ad x np kd dr kn) (nd : Nat) (hnd : si 1 = nI nd) (hnd6 : nd ≤ 6) : Met l yX0_kept (ws_ yX0_kept cX0_kept 6 (some .int)) (sR 6 0 0) (nPc G nCl K ad (sPic G x ad si sa rn) [.ref (ad 0), .int p_, .int f_]) (nQ G nCl (fun rv ad' c' => rv = some (.int (oKpt nd np (sa 1) kd (fun q => dr q &&& sMsk nd) p_ f_)) ∧ ad = ad' ∧ sPic G x ad si sa rn = c')) 0 0 (fun q => G.2 ≤ q) := by
  refine nMet RX0 (by decide) rfl (Nat.le_of_ble_eq_true rfl) ?_
  intro p e s m below meth c ls SS hR hK hN hS hl
  obtain ⟨hx, hb, hml, hown, hts⟩ := id SS
  obtain ⟨hr, hlk, hnm⟩ := hR
  obtain ⟨hKv, hKw, hKf, hKz, hKm⟩ := hK0 s hK
  generalize s.heap = H at hN hS ⊢
  generalize ([] : List Loc) = locs at hS ⊢
  have hl : lv_has ls 6 [(0, .ref (ad 0)), (1, .int p_), (2, .int f_)] := hl
  have hnp4 := hP.1
  have hp2 := p2_64 hnd6
  have hp0 := Nat.two_pow_pos nd
  by_cases h1 : sIn p_ np = true
  · obtain ⟨j, hj, rfl, tj⟩ := sIn_t (by omega) h1
    refine lv_aload_n hx hb dX0_kept_0 rfl (lv_at hl 0 rfl) ?_
    refine lv_iload_n hx hb dX0_kept_1 rfl (lv_at hl 1 rfl) ?_
    refine n_callV (C := RX0) (As := [_]) (b := 0) SS hKo hK hKv (sX0_noPerson l G K hKo hK0 ad x si sa rn _ np kd dr kn hP) (cwV 1 hts (lw_V q171 q173 qs0 q57 q174) rfl rfl rfl (by decide +kernel) ⟨Nat.le_of_ble_eq_true rfl, Nat.le_of_ble_eq_true rfl⟩) hN hS sPic_0 rfl rfl hl.1 rfl (Nat.le_of_ble_eq_true rfl) dX0_kept_2 ⟨Nat.le_of_ble_eq_true rfl, Nat.le_of_ble_eq_true rfl⟩ (fun v ad' c' H locs hv hN hS => ?_)
    obtain ⟨rfl, rfl, rfl⟩ := hv
    refine W.eq (g2 := F0 m 5 ls (_ :: _)) rfl ?_
    refine n_top (y := 0) (by rw [h1]; rfl) ?_
    refine lv_if_eq (tgt := 10) hx hb dX0_kept_5 (by decide) (fun c5 => ?_) (fun c5 => absurd c5 (fun z => z rfl))
    refine lv_iload_n hx hb dX0_kept_10 rfl (lv_at hl 2 rfl) ?_
    refine lv_if_ge (tgt := 17) hx hb dX0_kept_11 (by decide) (fun c11 => ?_) (fun c11 => ?_)
    · have hf : ¬ f_ < 0 := by simpa using c11
      refine lv_aload_n hx hb dX0_kept_17 rfl (lv_at hl 0 rfl) ?_
      refine lv_iload_n hx hb dX0_kept_18 rfl (lv_at hl 1 rfl) ?_
      refine n_callV (C := RX0) (As := [_]) (b := 0) SS hKo hK hKv (sX0_truthsOf l G K hKo hK0 ad x si sa rn np kd dr kn hP j hj nd hnd hnd6) (cwV 1 hts (lw_V q219 q221 qs1 q57 q222) rfl rfl rfl (by decide +kernel) ⟨Nat.le_of_ble_eq_true rfl, Nat.le_of_ble_eq_true rfl⟩) hN hS sPic_0 rfl rfl hl.1 rfl (Nat.le_of_ble_eq_true rfl) dX0_kept_19 ⟨Nat.le_of_ble_eq_true rfl, Nat.le_of_ble_eq_true rfl⟩ (fun v ad' c' H locs hv hN hS => ?_)
      obtain ⟨rfl, rfl, rfl⟩ := hv
      refine W.eq (g2 := F0 m 22 ls (_ :: _)) rfl ?_
      refine lv_istore_n (lv' := [(3, _), (0, _), (1, _), (2, _)]) hx hb dX0_kept_22 rfl hl (by decide) rfl (fun ls hl => ?_)
      refine lv_bipush (v := (-9)) hx hb dX0_kept_23 (by decide) ?_
      refine lv_istore (lv' := [(4, _), (3, _), (0, _), (1, _), (2, _)]) hx hb dX0_kept_25 hl (by decide) rfl (fun ls hl => ?_)
      refine lv_iconst (v := nI 0) hx hb dX0_kept_27 (rfl) ?_
      refine lv_istore (lv' := [(5, _), (4, _), (3, _), (0, _), (1, _), (2, _)]) hx hb dX0_kept_28 hl (by decide) rfl (fun ls hl => ?_)
      have loop30 : ∀ (n : Nat) (s_ : Nat) (H : Heap) (locs : List Loc) (ls : Array Slot), 2 ^ nd + 1 ≤ n + s_ → s_ ≤ 2 ^ nd → nOk G nCl ad (sPic G x ad si sa rn) H → nS G s H locs → lv_has ls 6 [(0, .ref (ad 0)), (1, .int (nI j)), (2, .int f_), (3, .int (dr j &&& sMsk nd)), (4, .int (sKept (sa 1) kd (fun q => dr q &&& sMsk nd) nd j f_ s_)), (5, .int (nI s_))] → W p l e (sR 6 0 0) s m ([.ref (ad 0), .int (nI j), .int f_] : List Value).toArray below meth c H locs 0 0 (MQ below (nQ G nCl (fun rv ad' c' => rv = some (.int (oKpt nd np (sa 1) kd (fun q => dr q &&& sMsk nd) (nI j) f_)) ∧ ad = ad' ∧ sPic G x ad si sa rn = c')) ([.ref (ad 0), .int (nI j), .int f_] : List Value).toArray s 0 0 (fun q => G.2 ≤ q)) (F0 m 30 ls []) := by
        intro n
        induction n with
        | zero => intro s_ H locs ls hfuel hs_ hN hS hl; exact absurd hfuel (by omega)
        | succ n ih30 =>
          intro s_ H locs ls hfuel hs_ hN hS hl
          refine lv_iload hx hb dX0_kept_30 (lv_at hl 5 rfl) ?_
          refine lv_iconst (v := 1) hx hb dX0_kept_32 (by decide) ?_
          refine lv_aload_n hx hb dX0_kept_33 rfl (lv_at hl 0 rfl) ?_
          refine n_get (v := .int (nI nd)) (ci := 0) (C := RX0) (T := TX0) (N := 12) hx hb hts in_X0 hown hKv hN (0) sPic_0 rfl 1 (by decide) q129 (fun z h => h) (by rw [← hnd]; rfl) dX0_kept_34 ?_
          refine lv_ishl hx hb dX0_kept_37 ?_
          refine n_top (y := nI (2 ^ nd)) (sPw_nI (by omega)) ?_
          refine lv_icmp_ge (tgt := 84) hx hb dX0_kept_38 (by decide) (fun c38 => ?_) (fun c38 => ?_)
          · have c38 : 2 ^ nd ≤ s_ := (nI_leI (by omega) (by omega)).mp c38
            have es : s_ = 2 ^ nd := by omega
            refine lv_iload hx hb dX0_kept_84 (lv_at hl 4 rfl) ?_
            exact W.iret hx hb hr (nEnd hN hS ⟨by unfold oKpt; rw [if_pos h1, if_neg hf, tn, tj, es], rfl, rfl⟩) hS.2 dX0_kept_86
          · have c38 : s_ < 2 ^ nd := by have := mt (nI_leI (a := 2 ^ nd) (b := s_) (by omega) (by omega)).mpr c38; omega
            refine lv_iload hx hb dX0_kept_41 (lv_at hl 5 rfl) ?_
            refine lv_iload_n hx hb dX0_kept_43 rfl (lv_at hl 3 rfl) ?_
            refine lv_iconst (v := (-1)) hx hb dX0_kept_44 (by decide) ?_
            refine lv_ixor hx hb dX0_kept_45 ?_
            refine lv_iand hx hb dX0_kept_46 ?_
            refine lv_if_ne (tgt := 78) hx hb dX0_kept_47 (by decide) (fun c47 => ?_) (fun c47 => ?_)
            · have hT : sTru (fun q => dr q &&& sMsk nd) j s_ = false := decide_eq_false c47
              have ek : sKept (sa 1) kd (fun q => dr q &&& sMsk nd) nd j f_ (s_ + 1) = sKept (sa 1) kd (fun q => dr q &&& sMsk nd) nd j f_ s_ := by rw [sKept, hT]; rfl
              rw [← ek] at hl
              refine lv_iinc (v := nI (s_ + 1)) (lv' := [(5, _), (0, _), (1, _), (2, _), (3, _), (4, _)]) hx hb dX0_kept_78 hl (k := 5) rfl (nI_inc s_) (by decide) rfl (fun ls hl => ?_)
              refine lv_goto (tgt := 30) hx hb dX0_kept_81 (by decide) ?_
              exact ih30 (s_ + 1) _ _ _ (by omega) (by omega) hN hS (lv_sub hl [1, 2, 3, 4, 5, 0] (rfl))
            · have hT : sTru (fun q => dr q &&& sMsk nd) j s_ = true := decide_eq_true c47
              refine lv_aload_n hx hb dX0_kept_50 rfl (lv_at hl 0 rfl) ?_
              refine lv_iload_n hx hb dX0_kept_51 rfl (lv_at hl 1 rfl) ?_
              refine lv_iload hx hb dX0_kept_52 (lv_at hl 5 rfl) ?_
              refine n_callV (C := RX0) (As := [_, _]) (b := 0) SS hKo hK hKv (sX0_risesBy l G K hKo hK0 ad x si sa rn np kd dr kn hP j hj nd hnd hnd6 (nI s_)) (cwV 2 hts (lw_V q227 q229 qs3 q57 q230) rfl rfl rfl (by decide +kernel) ⟨Nat.le_of_ble_eq_true rfl, Nat.le_of_ble_eq_true rfl⟩) hN hS sPic_0 rfl rfl hl.1 rfl (Nat.le_of_ble_eq_true rfl) dX0_kept_54 ⟨Nat.le_of_ble_eq_true rfl, Nat.le_of_ble_eq_true rfl⟩ (fun v ad' c' H locs hv hN hS => ?_)
              obtain ⟨rfl, rfl, rfl⟩ := hv
              refine W.eq (g2 := F0 m 57 ls (_ :: _)) rfl ?_
              refine lv_iload_n hx hb dX0_kept_57 rfl (lv_at hl 2 rfl) ?_
              refine lv_icmp_ne (tgt := 78) hx hb dX0_kept_58 (by decide) (fun c58 => ?_) (fun c58 => ?_)
              · have ek : sKept (sa 1) kd (fun q => dr q &&& sMsk nd) nd j f_ (s_ + 1) = sKept (sa 1) kd (fun q => dr q &&& sMsk nd) nd j f_ s_ := by rw [sKept, hT, decide_eq_false c58]; rfl
                rw [← ek] at hl
                refine lv_iinc (v := nI (s_ + 1)) (lv' := [(5, _), (0, _), (1, _), (2, _), (3, _), (4, _)]) hx hb dX0_kept_78 hl (k := 5) rfl (nI_inc s_) (by decide) rfl (fun ls hl => ?_)
                refine lv_goto (tgt := 30) hx hb dX0_kept_81 (by decide) ?_
                exact ih30 (s_ + 1) _ _ _ (by omega) (by omega) hN hS (lv_sub hl [1, 2, 3, 4, 5, 0] (rfl))
              · refine lv_iload hx hb dX0_kept_61 (lv_at hl 4 rfl) ?_
                refine lv_if_ge (tgt := 71) hx hb dX0_kept_63 (by decide) (fun c63 => ?_) (fun c63 => ?_)
                · have hk9 : ¬ sKept (sa 1) kd (fun q => dr q &&& sMsk nd) nd j f_ s_ = -9 := fun z => by rw [z] at c63; exact absurd c63 (by decide)
                  have ek : sKept (sa 1) kd (fun q => dr q &&& sMsk nd) nd j f_ (s_ + 1) = (sKept (sa 1) kd (fun q => dr q &&& sMsk nd) nd j f_ s_ &&& nI s_) := by rw [sKept, hT, decide_eq_true c58, Bool.and_self, if_pos rfl, if_neg hk9]
                  refine lv_iload hx hb dX0_kept_71 (lv_at hl 4 rfl) ?_
                  refine lv_iload hx hb dX0_kept_73 (lv_at hl 5 rfl) ?_
                  refine lv_iand hx hb dX0_kept_75 ?_
                  refine n_top (y := sKept (sa 1) kd (fun q => dr q &&& sMsk nd) nd j f_ (s_ + 1)) ek.symm ?_
                  refine lv_istore (lv' := [(4, _), (0, _), (1, _), (2, _), (3, _), (5, _)]) hx hb dX0_kept_76 hl (by decide) rfl (fun ls hl => ?_)
                  refine lv_iinc (v := nI (s_ + 1)) (lv' := [(5, _), (4, _), (0, _), (1, _), (2, _), (3, _)]) hx hb dX0_kept_78 hl (k := 5) rfl (nI_inc s_) (by decide) rfl (fun ls hl => ?_)
                  refine lv_goto (tgt := 30) hx hb dX0_kept_81 (by decide) ?_
                  exact ih30 (s_ + 1) _ _ _ (by omega) (by omega) hN hS (lv_sub hl [2, 3, 4, 5, 1, 0] (rfl))
                · have hk9 : sKept (sa 1) kd (fun q => dr q &&& sMsk nd) nd j f_ s_ = -9 := by
                    rcases sKept_in (sa 1) kd (fun q => dr q &&& sMsk nd) nd j f_ s_ (by omega) with q | ⟨q, hq, eq_⟩
                    · exact q
                    · rw [eq_] at c63; exact absurd (Int32.not_lt.mp (nI_pos (n := q) (by omega))) c63
                  have ek : sKept (sa 1) kd (fun q => dr q &&& sMsk nd) nd j f_ (s_ + 1) = nI s_ := by rw [sKept, hT, decide_eq_true c58, Bool.and_self, if_pos rfl, if_pos hk9]
                  refine lv_iload hx hb dX0_kept_66 (lv_at hl 5 rfl) ?_
                  refine lv_goto (tgt := 76) hx hb dX0_kept_68 (by decide) ?_
                  refine n_top (y := sKept (sa 1) kd (fun q => dr q &&& sMsk nd) nd j f_ (s_ + 1)) ek.symm ?_
                  refine lv_istore (lv' := [(4, _), (0, _), (1, _), (2, _), (3, _), (5, _)]) hx hb dX0_kept_76 hl (by decide) rfl (fun ls hl => ?_)
                  refine lv_iinc (v := nI (s_ + 1)) (lv' := [(5, _), (4, _), (0, _), (1, _), (2, _), (3, _)]) hx hb dX0_kept_78 hl (k := 5) rfl (nI_inc s_) (by decide) rfl (fun ls hl => ?_)
                  refine lv_goto (tgt := 30) hx hb dX0_kept_81 (by decide) ?_
                  exact ih30 (s_ + 1) _ _ _ (by omega) (by omega) hN hS (lv_sub hl [2, 3, 4, 5, 1, 0] (rfl))
      exact loop30 (2 ^ nd + 1) 0 _ _ _ (by omega) (by omega) hN hS (lv_sub hl [3, 4, 5, 2, 1, 0] rfl)
    · have hf : f_ < 0 := by simpa using c11
      refine lv_bipush (v := (-2)) hx hb dX0_kept_14 (by decide) ?_
      exact W.iret hx hb hr (nEnd hN hS ⟨by unfold oKpt; rw [if_pos h1, if_pos hf], rfl, rfl⟩) hS.2 dX0_kept_16
  · have h1 : sIn p_ np = false := by simpa using h1
    refine lv_aload_n hx hb dX0_kept_0 rfl (lv_at hl 0 rfl) ?_
    refine lv_iload_n hx hb dX0_kept_1 rfl (lv_at hl 1 rfl) ?_
    refine n_callV (C := RX0) (As := [_]) (b := 0) SS hKo hK hKv (sX0_noPerson l G K hKo hK0 ad x si sa rn _ np kd dr kn hP) (cwV 1 hts (lw_V q171 q173 qs0 q57 q174) rfl rfl rfl (by decide +kernel) ⟨Nat.le_of_ble_eq_true rfl, Nat.le_of_ble_eq_true rfl⟩) hN hS sPic_0 rfl rfl hl.1 rfl (Nat.le_of_ble_eq_true rfl) dX0_kept_2 ⟨Nat.le_of_ble_eq_true rfl, Nat.le_of_ble_eq_true rfl⟩ (fun v ad' c' H locs hv hN hS => ?_)
    obtain ⟨rfl, rfl, rfl⟩ := hv
    refine W.eq (g2 := F0 m 5 ls (_ :: _)) rfl ?_
    refine n_top (y := 1) (by rw [h1]; rfl) ?_
    refine lv_if_eq (tgt := 10) hx hb dX0_kept_5 (by decide) (fun c5 => absurd c5 (by decide)) (fun c5 => ?_)
    refine lv_iconst (v := (-1)) hx hb dX0_kept_8 (by decide) ?_
    exact W.iret hx hb hr (nEnd hN hS ⟨by unfold oKpt; rw [h1]; rfl, rfl, rfl⟩) hS.2 dX0_kept_9
