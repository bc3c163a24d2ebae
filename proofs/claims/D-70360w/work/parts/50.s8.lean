/-! SYSTEM: weights tried: printed by wip/gen/s8.py -/
theorem n_up515 (sa : Nat → AI) (k5 w k : AI) : va_up (va_up (va_up sa 5 k5) 1 w) 5 k = va_up (va_up sa 5 k) 1 w := va_up_up2 sa (by decide) k5 w k
set_option maxHeartbeats 1000000 in
set_option maxRecDepth 100000 in
theorem sX0_weightsBy (l : Launch) (G : nG) (K : State → Prop) (hKo : nKo G K) (hK0 : ∀ U, K U → sK0 G U) (ad : Nat → Nat) (x : nPic) (si : AI) (sa : Nat → AI) (rn : Value) (np : Nat) (kd dr kn : AI) (hP : sPeo G ad x np kd dr kn) (nd : Nat) (hnd : si 1 = nI nd) (hnd6 : nd ≤ 6) (ra mm : Nat) (rf : AI) (wh wt : Nat → Nat) (hmm : mm ≤ 20) (hra : ra ≠ 0 ∧ ra ≠ 1 ∧ ra ≠ 4 ∧ ra ≠ 5) (hRx : x ra = some (.inl (G.1.1 100, 2 * mm, .inl rf))) (hw : ∀ k, k < mm → rf (2 * k) = nI (wh k) ∧ wh k < np ∧ rf (2 * k + 1) = nI (wt k) ∧ wt k < nd) (nr : Nat) (rw_ rf_ : AI) (hQ : sRea G ad x nr rw_ rf_) (hrw : ∀ k, k < nr → ∃ q, q < np ∧ rw_ k = nI q) (d : Nat) (hd : d < nd) : Met l yX0_weightsBy (ws_ yX0_weightsBy cX0_weightsBy 6 (some .int)) (sR 10 0 0) (nPc G nCl K ad (sPic G x ad si sa rn) [.ref (ad 0), .ref (ad ra), .int (nI d)]) (nQ G nCl (fun rv ad' c' => ∃ (cg fw : Int32) (k5 : AI), rv = some (.int (sSet (fun v => sSo (upd (sa 1) d v) kd (fun q => dr q &&& sMsk nd) kn (sa 4) nd np nr wh wt mm rw_ rf_) 1 9)) ∧ ad = ad' ∧ sPic G x ad (upd (upd si 6 cg) 7 fw) (va_up sa 5 k5) rn = c')) 0 0 (fun q => G.2 ≤ q) := by
  refine nMet RX0 (by decide) rfl (Nat.le_of_ble_eq_true rfl) ?_
  intro p e s m below meth c ls SS hR hK hN hS hl
  obtain ⟨hx, hb, hml, hown, hts⟩ := id SS
  obtain ⟨hr, hlk, hnm⟩ := hR
  obtain ⟨hKv, hKw, hKf, hKz, hKm⟩ := hK0 s hK
  generalize s.heap = H at hN hS ⊢
  generalize ([] : List Loc) = locs at hS ⊢
  have hl : lv_has ls 6 [(0, .ref (ad 0)), (1, .ref (ad ra)), (2, .int (nI d))] := hl
  have hnp4 := hP.1
  refine lv_aload_n hx hb dX0_weightsBy_0 rfl (lv_at hl 0 rfl) ?_
  refine n_get (ci := 0) (C := RX0) (T := TX0) (N := 12) hx hb hts in_X0 hown hKv hN (0) sPic_0 rfl 2 (by decide) q130 (fun z h => h) (rfl) dX0_weightsBy_1 ?_
  refine lv_iload_n hx hb dX0_weightsBy_4 rfl (lv_at hl 2 rfl) ?_
  refine n_iald hx hb hKv hN (1) 0 sPic_1 rfl (d) (rfl) (by omega) (by decide) dX0_weightsBy_5 ?_
  refine lv_istore_n (lv' := [(3, _), (0, _), (1, _), (2, _)]) hx hb dX0_weightsBy_6 rfl hl (by decide) rfl (fun ls hl => ?_)
  refine lv_iconst (v := 0) hx hb dX0_weightsBy_7 (by decide) ?_
  refine lv_istore (lv' := [(4, _), (3, _), (0, _), (1, _), (2, _)]) hx hb dX0_weightsBy_8 hl (by decide) rfl (fun ls hl => ?_)
  refine lv_iconst (v := nI (1 + 0)) hx hb dX0_weightsBy_10 (rfl) ?_
  refine lv_istore (lv' := [(5, _), (4, _), (3, _), (0, _), (1, _), (2, _)]) hx hb dX0_weightsBy_11 hl (by decide) rfl (fun ls hl => ?_)
  have hN : nOk G nCl ad (sPic G x ad (upd (upd si 6 (si 6)) 7 (si 7)) (va_up (va_up sa 5 (sa 5)) 1 (upd (sa 1) d (sa 1 d))) rn) H := by rw [va_up_id sa 5 _ rfl, upd_self (sa 1) d _ rfl, va_up_id sa 1 _ rfl, upd_self si 6 _ rfl, upd_self si 7 _ rfl]; exact hN
  have loop13 : ∀ (n : Nat) (i : Nat) (cg fw : Int32) (k5 : AI) (wv : Int32) (H : Heap) (locs : List Loc) (ls : Array Slot), 10 ≤ n + i → i ≤ 9 → nOk G nCl ad (sPic G x ad (upd (upd si 6 cg) 7 fw) (va_up (va_up sa 5 k5) 1 (upd (sa 1) d wv)) rn) H → nS G s H locs → lv_has ls 6 [(0, .ref (ad 0)), (1, .ref (ad ra)), (2, .int (nI d)), (3, .int (sa 1 d)), (4, .int (sSet (fun v => sSo (upd (sa 1) d v) kd (fun q => dr q &&& sMsk nd) kn (sa 4) nd np nr wh wt mm rw_ rf_) 1 i)), (5, .int (nI (1 + i)))] → W p l e (sR 10 0 0) s m ([.ref (ad 0), .ref (ad ra), .int (nI d)] : List Value).toArray below meth c H locs 0 0 (MQ below (nQ G nCl (fun rv ad' c' => ∃ (cg fw : Int32) (k5 : AI), rv = some (.int (sSet (fun v => sSo (upd (sa 1) d v) kd (fun q => dr q &&& sMsk nd) kn (sa 4) nd np nr wh wt mm rw_ rf_) 1 9)) ∧ ad = ad' ∧ sPic G x ad (upd (upd si 6 cg) 7 fw) (va_up sa 5 k5) rn = c')) ([.ref (ad 0), .ref (ad ra), .int (nI d)] : List Value).toArray s 0 0 (fun q => G.2 ≤ q)) (F0 m 13 ls []) := by
    intro n
    induction n with
    | zero => intro i cg fw k5 wv H locs ls hfuel hi hN hS hl; exact absurd hfuel (by omega)
    | succ n ih13 =>
      intro i cg fw k5 wv H locs ls hfuel hi hN hS hl
      refine lv_iload hx hb dX0_weightsBy_13 (lv_at hl 5 rfl) ?_
      refine lv_bipush (v := 9) hx hb dX0_weightsBy_15 (by decide) ?_
      refine lv_icmp_gt (tgt := 55) hx hb dX0_weightsBy_17 (by decide) (fun c17 => ?_) (fun c17 => ?_)
      · have c17 : 9 < 1 + i := (nI_ltI (a := 9) (b := 1 + i) (by omega) (by omega)).mp c17
        have ei : i = 9 := by omega
        refine lv_aload_n hx hb dX0_weightsBy_55 rfl (lv_at hl 0 rfl) ?_
        refine n_get (ci := 0) (C := RX0) (T := TX0) (N := 12) hx hb hts in_X0 hown hKv hN (0) sPic_0 rfl 2 (by decide) q130 (fun z h => h) (rfl) dX0_weightsBy_56 ?_
        refine lv_iload_n hx hb dX0_weightsBy_59 rfl (lv_at hl 2 rfl) ?_
        refine lv_iload_n hx hb dX0_weightsBy_60 rfl (lv_at hl 3 rfl) ?_
        refine n_iast hx hb hKv hN hS (1) 0 sPic_1 rfl (d) (rfl) (by omega) (by decide) dX0_weightsBy_61 (fun H locs hN hS => ?_)
        have hN := hN.congr sPic_s1
        rw [va_up_up] at hN
        have hN : nOk G nCl ad (sPic G x ad (upd (upd si 6 cg) 7 fw) (va_up sa 5 k5) rn) H := by rw [← va_up_id (va_up sa 5 k5) 1 (sa 1) rfl, ← upd_self (sa 1) d (sa 1 d) rfl, ← upd_upd (sa 1) d wv]; exact hN
        refine lv_iload hx hb dX0_weightsBy_62 (lv_at hl 4 rfl) ?_
        exact W.iret hx hb hr (nEnd hN hS ⟨_, _, _, by rw [ei], rfl, rfl⟩) hS.2 dX0_weightsBy_64
      · have c17 : 1 + i ≤ 9 := by have := mt (nI_ltI (a := 9) (b := 1 + i) (by omega) (by omega)).mpr c17; omega
        refine lv_aload_n hx hb dX0_weightsBy_20 rfl (lv_at hl 0 rfl) ?_
        refine n_get (ci := 0) (C := RX0) (T := TX0) (N := 12) hx hb hts in_X0 hown hKv hN (0) sPic_0 rfl 2 (by decide) q130 (fun z h => h) (rfl) dX0_weightsBy_21 ?_
        refine lv_iload_n hx hb dX0_weightsBy_24 rfl (lv_at hl 2 rfl) ?_
        refine lv_iload hx hb dX0_weightsBy_25 (lv_at hl 5 rfl) ?_
        refine n_iast hx hb hKv hN hS (1) 0 sPic_1 rfl (d) (rfl) (by omega) (by decide) dX0_weightsBy_27 (fun H locs hN hS => ?_)
        have hN := hN.congr sPic_s1
        rw [va_up_up] at hN
        have hN : nOk G nCl ad (sPic G x ad (upd (upd si 6 cg) 7 fw) (va_up (va_up sa 5 k5) 1 (upd (sa 1) d (nI (1 + i)))) rn) H := by rw [← upd_upd (sa 1) d wv]; exact hN
        refine lv_iload hx hb dX0_weightsBy_28 (lv_at hl 4 rfl) ?_
        refine lv_aload_n hx hb dX0_weightsBy_30 rfl (lv_at hl 0 rfl) ?_
        refine lv_aload_n hx hb dX0_weightsBy_31 rfl (lv_at hl 1 rfl) ?_
        refine n_callV (C := RX0) (As := [_]) (b := 0) SS hKo hK hKv (sX0_areSo l G K hKo hK0 ad x (upd (upd si 6 cg) 7 fw) (va_up (va_up sa 5 k5) 1 (upd (sa 1) d (nI (1 + i)))) rn np kd dr kn hP nd hnd hnd6 ra mm rf wh wt hmm hra hRx hw nr rw_ rf_ hQ hrw) (cwV 1 hts (lw_V q935 q937 qs30 q57 q938) rfl rfl rfl (by decide +kernel) ⟨Nat.le_of_ble_eq_true rfl, Nat.le_of_ble_eq_true rfl⟩) hN hS sPic_0 rfl rfl hl.1 rfl (Nat.le_of_ble_eq_true rfl) dX0_weightsBy_32 ⟨Nat.le_of_ble_eq_true rfl, Nat.le_of_ble_eq_true rfl⟩ (fun v ad' c' H locs hv hN hS => ?_)
        obtain ⟨rfl, rfl, rfl⟩ := hv
        rw [upd_67, upd_upd] at hN
        have hN := hN.congr (congrArg (fun z => sPic G x ad _ z rn) (n_up515 sa k5 _ _))
        refine W.eq (g2 := F0 m 35 ls (_ :: _)) rfl ?_
        refine lv_if_eq (tgt := 45) hx hb dX0_weightsBy_35 (by decide) (fun c35 => ?_) (fun c35 => ?_)
        · have hz : sSo (upd (sa 1) d (nI (1 + i))) kd (fun q => dr q &&& sMsk nd) kn (sa 4) nd np nr wh wt mm rw_ rf_ = false := zI_0.mp c35
          refine lv_iconst (v := 0) hx hb dX0_weightsBy_45 (by decide) ?_
          refine lv_ior hx hb dX0_weightsBy_46 ?_
          refine n_top (y := sSet (fun v => sSo (upd (sa 1) d v) kd (fun q => dr q &&& sMsk nd) kn (sa 4) nd np nr wh wt mm rw_ rf_) 1 (i + 1)) (by rw [sSet, if_neg (by rw [hz]; simp)]) ?_
          refine lv_istore (lv' := [(4, _), (0, _), (1, _), (2, _), (3, _), (5, _)]) hx hb dX0_weightsBy_47 hl (by decide) rfl (fun ls hl => ?_)
          refine lv_iinc (v := nI (1 + (i + 1))) (lv' := [(5, _), (4, _), (0, _), (1, _), (2, _), (3, _)]) hx hb dX0_weightsBy_49 hl (k := 5) rfl (nI_inc (1 + i)) (by decide) rfl (fun ls hl => ?_)
          refine lv_goto (tgt := 13) hx hb dX0_weightsBy_52 (by decide) ?_
          exact ih13 (i + 1) _ _ _ _ _ _ _ (by omega) (by omega) hN hS (lv_sub hl [2, 3, 4, 5, 1, 0] (rfl))
        · have hz : sSo (upd (sa 1) d (nI (1 + i))) kd (fun q => dr q &&& sMsk nd) kn (sa 4) nd np nr wh wt mm rw_ rf_ = true := zI_n0 c35
          refine lv_iconst (v := 1) hx hb dX0_weightsBy_38 (by decide) ?_
          refine lv_iload hx hb dX0_weightsBy_39 (lv_at hl 5 rfl) ?_
          refine lv_ishl hx hb dX0_weightsBy_41 ?_
          refine lv_goto (tgt := 46) hx hb dX0_weightsBy_42 (by decide) ?_
          refine lv_ior hx hb dX0_weightsBy_46 ?_
          refine n_top (y := sSet (fun v => sSo (upd (sa 1) d v) kd (fun q => dr q &&& sMsk nd) kn (sa 4) nd np nr wh wt mm rw_ rf_) 1 (i + 1)) (by rw [sSet, if_pos hz]; rfl) ?_
          refine lv_istore (lv' := [(4, _), (0, _), (1, _), (2, _), (3, _), (5, _)]) hx hb dX0_weightsBy_47 hl (by decide) rfl (fun ls hl => ?_)
          refine lv_iinc (v := nI (1 + (i + 1))) (lv' := [(5, _), (4, _), (0, _), (1, _), (2, _), (3, _)]) hx hb dX0_weightsBy_49 hl (k := 5) rfl (nI_inc (1 + i)) (by decide) rfl (fun ls hl => ?_)
          refine lv_goto (tgt := 13) hx hb dX0_weightsBy_52 (by decide) ?_
          exact ih13 (i + 1) _ _ _ _ _ _ _ (by omega) (by omega) hN hS (lv_sub hl [2, 3, 4, 5, 1, 0] (rfl))
  exact loop13 10 0 (si 6) (si 7) (sa 5) (sa 1 d) _ _ _ (by omega) (by omega) hN hS (lv_sub hl [3, 4, 5, 2, 1, 0] rfl)
