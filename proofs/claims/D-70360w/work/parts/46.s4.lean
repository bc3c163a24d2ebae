/-! SYSTEM: printed by wip/gen/s4.py -/
theorem n_mod : ∀ a, a < 24 → nI a % 10 = nI (a % 10) ∧ nI a - nI a / 10 * 10 = nI (a % 10) := by decide +kernel
theorem n_a10 : ∀ a, 10 ≤ a → a < 24 → ¬ nI a = 0 ∧ ¬ nI a = 2 := by
  intro a h1 h2
  exact ⟨fun z => by have := (nI_eq (a := a) (b := 0) (by omega) (by omega)).mp z; omega, fun z => by have := (nI_eq (a := a) (b := 2) (by omega) (by omega)).mp z; omega⟩
theorem n_a2 (a : Nat) (h : a < 10) (hk : a < 3 ∨ 10 ≤ a) (h0 : ¬ nI a = 0) (h1 : ¬ nI a = 1) : nI a = 2 := by
  rcases (show a = 0 ∨ a = 1 ∨ a = 2 by omega) with e | e | e <;> subst e
  · exact absurd rfl h0
  · exact absurd rfl h1
  · rfl
set_option maxHeartbeats 1000000 in
set_option maxRecDepth 100000 in
theorem sX0_highestNow (l : Launch) (G : nG) (K : State → Prop) (hKo : nKo G K) (hK0 : ∀ U, K U → sK0 G U) (ad : Nat → Nat) (x : nPic) (si : AI) (sa : Nat → AI) (rn : Value) (np : Nat) (kd dr kn : AI) (hP : sPeo G ad x np kd dr kn) (nd : Nat) (hnd : si 1 = nI nd) (hnd6 : nd ≤ 6) : Met l yX0_highestNow (ws_ yX0_highestNow cX0_highestNow 3 (some .int)) (sR 6 0 0) (nPc G nCl K ad (sPic G x ad si sa rn) [.ref (ad 0)]) (nQ G nCl (fun rv ad' c' => rv = some (.int (sTop (sa 1) kd (sa 4) nd np)) ∧ ad = ad' ∧ sPic G x ad si sa rn = c')) 0 0 (fun q => G.2 ≤ q) := by
  refine nMet RX0 (by decide) rfl (Nat.le_of_ble_eq_true rfl) ?_
  intro p e s m below meth c ls SS hR hK hN hS hl
  obtain ⟨hx, hb, hml, hown, hts⟩ := id SS
  obtain ⟨hr, hlk, hnm⟩ := hR
  obtain ⟨hKv, hKw, hKf, hKz, hKm⟩ := hK0 s hK
  generalize s.heap = H at hN hS ⊢
  generalize ([] : List Loc) = locs at hS ⊢
  have hl : lv_has ls 3 [(0, .ref (ad 0))] := hl
  obtain ⟨mc_, ea, hL⟩ := hP.list
  have hL : (sPic G x ad si sa rn) 2 = _ := hL
  have hnp4 := hP.1
  refine lv_iconst (v := 0) hx hb dX0_highestNow_0 (by decide) ?_
  refine lv_istore_n (lv' := [(1, _), (0, _)]) hx hb dX0_highestNow_1 rfl hl (by decide) rfl (fun ls hl => ?_)
  refine lv_iconst (v := nI 0) hx hb dX0_highestNow_2 (rfl) ?_
  refine lv_istore_n (lv' := [(2, _), (1, _), (0, _)]) hx hb dX0_highestNow_3 rfl hl (by decide) rfl (fun ls hl => ?_)
  have loop4 : ∀ (n : Nat) (i : Nat) (H : Heap) (locs : List Loc) (ls : Array Slot), np + 1 ≤ n + i → i ≤ np → nOk G nCl ad (sPic G x ad si sa rn) H → nS G s H locs → lv_has ls 3 [(0, .ref (ad 0)), (1, .int (sTop (sa 1) kd (sa 4) nd i)), (2, .int (nI i))] → W p l e (sR 6 0 0) s m ([.ref (ad 0)] : List Value).toArray below meth c H locs 0 0 (MQ below (nQ G nCl (fun rv ad' c' => rv = some (.int (sTop (sa 1) kd (sa 4) nd np)) ∧ ad = ad' ∧ sPic G x ad si sa rn = c')) ([.ref (ad 0)] : List Value).toArray s 0 0 (fun q => G.2 ≤ q)) (F0 m 4 ls []) := by
    intro n
    induction n with
    | zero => intro i H locs ls hfuel hi_ hN hS hl; exact absurd hfuel (by omega)
    | succ n ih4 =>
      intro i H locs ls hfuel hi_ hN hS hl
      refine lv_iload_n hx hb dX0_highestNow_4 rfl (lv_at hl 2 rfl) ?_
      refine lv_aload_n hx hb dX0_highestNow_5 rfl (lv_at hl 0 rfl) ?_
      refine n_get (ci := 0) (C := RX0) (T := TX0) (N := 12) hx hb hts in_X0 hown hKv hN (0) sPic_0 rfl 3 (by decide) q131 (fun z h => h) (rfl) dX0_highestNow_6 ?_
      refine n_callF (As := []) (C := RJ2) (b := 2) SS hKo hK hKv (tJ2_size l G K hKo hK0 ad _ 2 mc_ ea np hL) (va_cwF 0 hts (lw_F q176 q180 q182 q60 q184) rfl rfl rfl (hKf (RJ2, ⟨"java/util/List", "size", "()I"⟩, ⟨"java/util/ArrayList", "size", "()I"⟩) (List.mem_of_getElem? (i := 0) rfl)) (by decide +kernel) ⟨Nat.le_of_ble_eq_true rfl, Nat.le_of_ble_eq_true rfl⟩) hN hS hL rfl rfl hl.1 rfl (Nat.le_of_ble_eq_true rfl) dX0_highestNow_9 ⟨Nat.le_of_ble_eq_true rfl, Nat.le_of_ble_eq_true rfl⟩ (fun v ad' c' H locs hv hN hS => ?_)
      obtain ⟨rfl, rfl, rfl⟩ := hv
      refine W.eq (g2 := F0 m 14 ls (_ :: _)) rfl ?_
      refine lv_icmp_ge (tgt := 33) hx hb dX0_highestNow_14 (by decide) (fun c14 => ?_) (fun c14 => ?_)
      · have c14 : np ≤ i := (nI_leI (by omega) (by omega)).mp c14
        have ei : i = np := by omega
        refine lv_iload_n hx hb dX0_highestNow_33 rfl (lv_at hl 1 rfl) ?_
        exact W.iret hx hb hr (nEnd hN hS ⟨by rw [ei], rfl, rfl⟩) hS.2 dX0_highestNow_34
      · have hi : i < np := by have := mt (nI_leI (a := np) (b := i) (by omega) (by omega)).mpr c14; omega
        refine lv_iload_n hx hb dX0_highestNow_17 rfl (lv_at hl 1 rfl) ?_
        refine lv_aload_n hx hb dX0_highestNow_18 rfl (lv_at hl 0 rfl) ?_
        refine lv_iload_n hx hb dX0_highestNow_19 rfl (lv_at hl 2 rfl) ?_
        refine n_callV (C := RX0) (As := [_]) (b := 0) SS hKo hK hKv (sX0_floorOf l G K hKo hK0 ad x si sa rn np kd dr kn hP i hi nd hnd hnd6) (cwV 1 hts (lw_V q223 q225 qs2 q57 q226) rfl rfl rfl (by decide +kernel) ⟨Nat.le_of_ble_eq_true rfl, Nat.le_of_ble_eq_true rfl⟩) hN hS sPic_0 rfl rfl hl.1 rfl (Nat.le_of_ble_eq_true rfl) dX0_highestNow_20 ⟨Nat.le_of_ble_eq_true rfl, Nat.le_of_ble_eq_true rfl⟩ (fun v ad' c' H locs hv hN hS => ?_)
        obtain ⟨rfl, rfl, rfl⟩ := hv
        refine W.eq (g2 := F0 m 23 ls (_ :: _)) rfl ?_
        refine va_mmax hx hb (hml.trans hl.1.symm) hown (hts _ q922) (hts _ q371) (hts _ q76) (hts _ q372) (Nat.le_of_ble_eq_true rfl) (Nat.le_of_ble_eq_true rfl) (by first | decide | omega) (by first | decide | omega | (show _ ≤ 10; omega)) dX0_highestNow_23 ?_
        refine n_top (y := sTop (sa 1) kd (sa 4) nd (i + 1)) rfl ?_
        refine lv_istore_n (lv' := [(1, _), (0, _), (2, _)]) hx hb dX0_highestNow_26 rfl hl (by decide) rfl (fun ls hl => ?_)
        refine lv_iinc (v := nI (i + 1)) (lv' := [(2, _), (1, _), (0, _)]) hx hb dX0_highestNow_27 hl (k := 2) rfl (nI_inc i) (by decide) rfl (fun ls hl => ?_)
        refine lv_goto (tgt := 4) hx hb dX0_highestNow_30 (by decide) ?_
        exact ih4 (i + 1) _ _ _ (by omega) (by omega) hN hS (lv_sub hl [2, 1, 0] (rfl))
  exact loop4 (np + 1) 0 _ _ _ (by omega) (by omega) hN hS (lv_sub hl [2, 1, 0] rfl)
set_option maxHeartbeats 1000000 in
set_option maxRecDepth 100000 in
theorem sX0_landing (l : Launch) (G : nG) (K : State → Prop) (hKo : nKo G K) (hK0 : ∀ U, K U → sK0 G U) (ad : Nat → Nat) (x : nPic) (si : AI) (sa : Nat → AI) (rn : Value) (f_ : Int32) (np : Nat) (kd dr kn : AI) (hP : sPeo G ad x np kd dr kn) (nd : Nat) (hnd : si 1 = nI nd) (hnd6 : nd ≤ 6) : Met l yX0_landing (ws_ yX0_landing cX0_landing 4 (some .int)) (sR 6 0 0) (nPc G nCl K ad (sPic G x ad si sa rn) [.ref (ad 0), .int f_]) (nQ G nCl (fun rv ad' c' => rv = some (.int (oLnd nd np (sa 1) kd (sa 4) f_)) ∧ ad = ad' ∧ sPic G x ad si sa rn = c')) 0 0 (fun q => G.2 ≤ q) := by
  refine nMet RX0 (by decide) rfl (Nat.le_of_ble_eq_true rfl) ?_
  intro p e s m below meth c ls SS hR hK hN hS hl
  obtain ⟨hx, hb, hml, hown, hts⟩ := id SS
  obtain ⟨hr, hlk, hnm⟩ := hR
  obtain ⟨hKv, hKw, hKf, hKz, hKm⟩ := hK0 s hK
  generalize s.heap = H at hN hS ⊢
  generalize ([] : List Loc) = locs at hS ⊢
  have hl : lv_has ls 4 [(0, .ref (ad 0)), (1, .int f_)] := hl
  obtain ⟨mc_, ea, hL⟩ := hP.list
  have hL : (sPic G x ad si sa rn) 2 = _ := hL
  have hnp4 := hP.1
  refine lv_aload_n hx hb dX0_landing_0 rfl (lv_at hl 0 rfl) ?_
  refine n_callV (C := RX0) (As := []) (b := 0) SS hKo hK hKv (sX0_noTower l G K hKo hK0 ad x si sa rn np kd dr kn hP) (cwV 0 hts (lw_V q291 q293 qs7 q57 q294) rfl rfl rfl (by decide +kernel) ⟨Nat.le_of_ble_eq_true rfl, Nat.le_of_ble_eq_true rfl⟩) hN hS sPic_0 rfl rfl hl.1 rfl (Nat.le_of_ble_eq_true rfl) dX0_landing_1 ⟨Nat.le_of_ble_eq_true rfl, Nat.le_of_ble_eq_true rfl⟩ (fun v ad' c' H locs hv hN hS => ?_)
  obtain ⟨rfl, rfl, rfl⟩ := hv
  refine W.eq (g2 := F0 m 4 ls (_ :: _)) rfl ?_
  refine lv_if_eq (tgt := 10) hx hb dX0_landing_4 (by decide) (fun c4 => ?_) (fun c4 => ?_)
  · have hz : ¬ np = 0 := by have := zI_0.mp c4; simpa using this
    refine lv_iload_n hx hb dX0_landing_10 rfl (lv_at hl 1 rfl) ?_
    refine lv_if_ge (tgt := 17) hx hb dX0_landing_11 (by decide) (fun c11 => ?_) (fun c11 => ?_)
    · have hf : ¬ f_ < 0 := by simpa using c11
      refine lv_iconst (v := 0) hx hb dX0_landing_17 (by decide) ?_
      refine lv_istore_n (lv' := [(2, _), (0, _), (1, _)]) hx hb dX0_landing_18 rfl hl (by decide) rfl (fun ls hl => ?_)
      refine lv_iconst (v := nI 0) hx hb dX0_landing_19 (rfl) ?_
      refine lv_istore_n (lv' := [(3, _), (2, _), (0, _), (1, _)]) hx hb dX0_landing_20 rfl hl (by decide) rfl (fun ls hl => ?_)
      have loop21 : ∀ (n : Nat) (i : Nat) (H : Heap) (locs : List Loc) (ls : Array Slot), np + 1 ≤ n + i → i ≤ np → nOk G nCl ad (sPic G x ad si sa rn) H → nS G s H locs → lv_has ls 4 [(0, .ref (ad 0)), (1, .int f_), (2, .int (sLand (sa 1) kd (sa 4) nd f_ i)), (3, .int (nI i))] → W p l e (sR 6 0 0) s m ([.ref (ad 0), .int f_] : List Value).toArray below meth c H locs 0 0 (MQ below (nQ G nCl (fun rv ad' c' => rv = some (.int (oLnd nd np (sa 1) kd (sa 4) f_)) ∧ ad = ad' ∧ sPic G x ad si sa rn = c')) ([.ref (ad 0), .int f_] : List Value).toArray s 0 0 (fun q => G.2 ≤ q)) (F0 m 21 ls []) := by
        intro n
        induction n with
        | zero => intro i H locs ls hfuel hi_ hN hS hl; exact absurd hfuel (by omega)
        | succ n ih21 =>
          intro i H locs ls hfuel hi_ hN hS hl
          refine lv_iload_n hx hb dX0_landing_21 rfl (lv_at hl 3 rfl) ?_
          refine lv_aload_n hx hb dX0_landing_22 rfl (lv_at hl 0 rfl) ?_
          refine n_get (ci := 0) (C := RX0) (T := TX0) (N := 12) hx hb hts in_X0 hown hKv hN (0) sPic_0 rfl 3 (by decide) q131 (fun z h => h) (rfl) dX0_landing_23 ?_
          refine n_callF (As := []) (C := RJ2) (b := 2) SS hKo hK hKv (tJ2_size l G K hKo hK0 ad _ 2 mc_ ea np hL) (va_cwF 0 hts (lw_F q176 q180 q182 q60 q184) rfl rfl rfl (hKf (RJ2, ⟨"java/util/List", "size", "()I"⟩, ⟨"java/util/ArrayList", "size", "()I"⟩) (List.mem_of_getElem? (i := 0) rfl)) (by decide +kernel) ⟨Nat.le_of_ble_eq_true rfl, Nat.le_of_ble_eq_true rfl⟩) hN hS hL rfl rfl hl.1 rfl (Nat.le_of_ble_eq_true rfl) dX0_landing_26 ⟨Nat.le_of_ble_eq_true rfl, Nat.le_of_ble_eq_true rfl⟩ (fun v ad' c' H locs hv hN hS => ?_)
          obtain ⟨rfl, rfl, rfl⟩ := hv
          refine W.eq (g2 := F0 m 31 ls (_ :: _)) rfl ?_
          refine lv_icmp_ge (tgt := 59) hx hb dX0_landing_31 (by decide) (fun c31 => ?_) (fun c31 => ?_)
          · have c31 : np ≤ i := (nI_leI (by omega) (by omega)).mp c31
            have ei : i = np := by omega
            refine lv_iload_n hx hb dX0_landing_59 rfl (lv_at hl 2 rfl) ?_
            exact W.iret hx hb hr (nEnd hN hS ⟨by unfold oLnd; rw [if_neg hz, if_neg hf, ei], rfl, rfl⟩) hS.2 dX0_landing_60
          · have hi : i < np := by have := mt (nI_leI (a := np) (b := i) (by omega) (by omega)).mpr c31; omega
            refine lv_iload_n hx hb dX0_landing_34 rfl (lv_at hl 2 rfl) ?_
            refine lv_aload_n hx hb dX0_landing_35 rfl (lv_at hl 0 rfl) ?_
            refine lv_iload_n hx hb dX0_landing_36 rfl (lv_at hl 3 rfl) ?_
            refine n_callV (C := RX0) (As := [_]) (b := 0) SS hKo hK hKv (sX0_floorOf l G K hKo hK0 ad x si sa rn np kd dr kn hP i hi nd hnd hnd6) (cwV 1 hts (lw_V q223 q225 qs2 q57 q226) rfl rfl rfl (by decide +kernel) ⟨Nat.le_of_ble_eq_true rfl, Nat.le_of_ble_eq_true rfl⟩) hN hS sPic_0 rfl rfl hl.1 rfl (Nat.le_of_ble_eq_true rfl) dX0_landing_37 ⟨Nat.le_of_ble_eq_true rfl, Nat.le_of_ble_eq_true rfl⟩ (fun v ad' c' H locs hv hN hS => ?_)
            obtain ⟨rfl, rfl, rfl⟩ := hv
            refine W.eq (g2 := F0 m 40 ls (_ :: _)) rfl ?_
            refine lv_iload_n hx hb dX0_landing_40 rfl (lv_at hl 1 rfl) ?_
            refine lv_icmp_ne (tgt := 50) hx hb dX0_landing_41 (by decide) (fun c41 => ?_) (fun c41 => ?_)
            · refine lv_iconst (v := 0) hx hb dX0_landing_50 (by decide) ?_
              refine lv_ior hx hb dX0_landing_51 ?_
              refine n_top (y := sLand (sa 1) kd (sa 4) nd f_ (i + 1)) (by rw [sLand, if_neg c41]) ?_
              refine lv_istore_n (lv' := [(2, _), (0, _), (1, _), (3, _)]) hx hb dX0_landing_52 rfl hl (by decide) rfl (fun ls hl => ?_)
              refine lv_iinc (v := nI (i + 1)) (lv' := [(3, _), (2, _), (0, _), (1, _)]) hx hb dX0_landing_53 hl (k := 3) rfl (nI_inc i) (by decide) rfl (fun ls hl => ?_)
              refine lv_goto (tgt := 21) hx hb dX0_landing_56 (by decide) ?_
              exact ih21 (i + 1) _ _ _ (by omega) (by omega) hN hS (lv_sub hl [2, 3, 1, 0] (rfl))
            · refine lv_iconst (v := 1) hx hb dX0_landing_44 (by decide) ?_
              refine lv_iload_n hx hb dX0_landing_45 rfl (lv_at hl 3 rfl) ?_
              refine lv_ishl hx hb dX0_landing_46 ?_
              refine lv_goto (tgt := 51) hx hb dX0_landing_47 (by decide) ?_
              refine lv_ior hx hb dX0_landing_51 ?_
              refine n_top (y := sLand (sa 1) kd (sa 4) nd f_ (i + 1)) (by rw [sLand, if_pos c41]; rfl) ?_
              refine lv_istore_n (lv' := [(2, _), (0, _), (1, _), (3, _)]) hx hb dX0_landing_52 rfl hl (by decide) rfl (fun ls hl => ?_)
              refine lv_iinc (v := nI (i + 1)) (lv' := [(3, _), (2, _), (0, _), (1, _)]) hx hb dX0_landing_53 hl (k := 3) rfl (nI_inc i) (by decide) rfl (fun ls hl => ?_)
              refine lv_goto (tgt := 21) hx hb dX0_landing_56 (by decide) ?_
              exact ih21 (i + 1) _ _ _ (by omega) (by omega) hN hS (lv_sub hl [2, 3, 1, 0] (rfl))
      exact loop21 (np + 1) 0 _ _ _ (by omega) (by omega) hN hS (lv_sub hl [2, 3, 1, 0] rfl)
    · have hf : f_ < 0 := by simpa using c11
      refine lv_bipush (v := (-2)) hx hb dX0_landing_14 (by decide) ?_
      exact W.iret hx hb hr (nEnd hN hS ⟨by unfold oLnd; rw [if_neg hz, if_pos hf], rfl, rfl⟩) hS.2 dX0_landing_16
  · have hz : np = 0 := by have := zI_n0 c4; simpa using this
    refine lv_bipush (v := (-3)) hx hb dX0_landing_7 (by decide) ?_
    exact W.iret hx hb hr (nEnd hN hS ⟨by unfold oLnd; rw [if_pos hz], rfl, rfl⟩) hS.2 dX0_landing_9
set_option maxHeartbeats 1000000 in
set_option maxRecDepth 100000 in
theorem sX0_many (l : Launch) (G : nG) (K : State → Prop) (hKo : nKo G K) (hK0 : ∀ U, K U → sK0 G U) (ad : Nat → Nat) (x : nPic) (si : AI) (sa : Nat → AI) (rn : Value) (a_ : Int32) (np : Nat) (kd dr kn : AI) (hP : sPeo G ad x np kd dr kn) (nd : Nat) (hnd : si 1 = nI nd) (hnd6 : nd ≤ 6) (nr : Nat) (mr : Int32) (er : Value) (hR : x 6 = some (.inr (7, [.int mr, er, .int (nI nr)]))) : Met l yX0_many (ws_ yX0_many cX0_many 2 (some .int)) (sR 1 0 0) (nPc G nCl K ad (sPic G x ad si sa rn) [.ref (ad 0), .int a_]) (nQ G nCl (fun rv ad' c' => rv = some (.int (oMny nd np nr a_)) ∧ ad = ad' ∧ sPic G x ad si sa rn = c')) 0 0 (fun q => G.2 ≤ q) := by
  refine nMet RX0 (by decide) rfl (Nat.le_of_ble_eq_true rfl) ?_
  intro p e s m below meth c ls SS hR hK hN hS hl
  obtain ⟨hx, hb, hml, hown, hts⟩ := id SS
  obtain ⟨hr, hlk, hnm⟩ := hR
  obtain ⟨hKv, hKw, hKf, hKz, hKm⟩ := hK0 s hK
  generalize s.heap = H at hN hS ⊢
  generalize ([] : List Loc) = locs at hS ⊢
  have hl : lv_has ls 2 [(0, .ref (ad 0)), (1, .int a_)] := hl
  obtain ⟨mc_, ea, hL⟩ := hP.list
  have hL : (sPic G x ad si sa rn) 2 = _ := hL
  have hnp4 := hP.1
  have hR : (sPic G x ad si sa rn) 6 = _ := hR
  refine lv_iload_n hx hb dX0_many_0 rfl (lv_at hl 1 rfl) ?_
  by_cases w0 : a_ = 0
  · refine lv_tableIn (tgt := 28) (off := 27) hx hb dX0_many_1 (by rw [w0]; decide) (by rw [w0]; decide) (by rw [w0]; rfl) (by decide) ?_
    refine lv_aload_n hx hb dX0_many_28 rfl (lv_at hl 0 rfl) ?_
    refine n_get (ci := 0) (C := RX0) (T := TX0) (N := 12) hx hb hts in_X0 hown hKv hN (0) sPic_0 rfl 3 (by decide) q131 (fun z h => h) (rfl) dX0_many_29 ?_
    refine n_callF (As := []) (C := RJ2) (b := 2) SS hKo hK hKv (tJ2_size l G K hKo hK0 ad _ 2 mc_ ea np hL) (va_cwF 0 hts (lw_F q176 q180 q182 q60 q184) rfl rfl rfl (hKf (RJ2, ⟨"java/util/List", "size", "()I"⟩, ⟨"java/util/ArrayList", "size", "()I"⟩) (List.mem_of_getElem? (i := 0) rfl)) (by decide +kernel) ⟨Nat.le_of_ble_eq_true rfl, Nat.le_of_ble_eq_true rfl⟩) hN hS hL rfl rfl hl.1 rfl (Nat.le_of_ble_eq_true rfl) dX0_many_32 ⟨Nat.le_of_ble_eq_true rfl, Nat.le_of_ble_eq_true rfl⟩ (fun v ad' c' H locs hv hN hS => ?_)
    obtain ⟨rfl, rfl, rfl⟩ := hv
    refine W.eq (g2 := F0 m 37 ls (_ :: _)) rfl ?_
    exact W.iret hx hb hr (nEnd hN hS ⟨by unfold oMny; rw [if_pos w0], rfl, rfl⟩) hS.2 dX0_many_37
  by_cases w1 : a_ = 1
  · refine lv_tableIn (tgt := 38) (off := 37) hx hb dX0_many_1 (by rw [w1]; decide) (by rw [w1]; decide) (by rw [w1]; rfl) (by decide) ?_
    refine lv_aload_n hx hb dX0_many_38 rfl (lv_at hl 0 rfl) ?_
    refine n_get (v := .int (nI nd)) (ci := 0) (C := RX0) (T := TX0) (N := 12) hx hb hts in_X0 hown hKv hN (0) sPic_0 rfl 1 (by decide) q129 (fun z h => h) (by rw [← hnd]; rfl) dX0_many_39 ?_
    exact W.iret hx hb hr (nEnd hN hS ⟨by unfold oMny; rw [if_neg w0, if_pos w1], rfl, rfl⟩) hS.2 dX0_many_42
  by_cases w2 : a_ = 2
  · refine lv_tableIn (tgt := 43) (off := 42) hx hb dX0_many_1 (by rw [w2]; decide) (by rw [w2]; decide) (by rw [w2]; rfl) (by decide) ?_
    refine lv_aload_n hx hb dX0_many_43 rfl (lv_at hl 0 rfl) ?_
    refine n_get (ci := 0) (C := RX0) (T := TX0) (N := 12) hx hb hts in_X0 hown hKv hN (0) sPic_0 rfl 8 (by decide) q136 (fun z h => h) (rfl) dX0_many_44 ?_
    refine n_callF (As := []) (C := RJ2) (b := 6) SS hKo hK hKv (tJ2_size l G K hKo hK0 ad _ 6 mr er nr hR) (va_cwF 0 hts (lw_F q176 q180 q182 q60 q184) rfl rfl rfl (hKf (RJ2, ⟨"java/util/List", "size", "()I"⟩, ⟨"java/util/ArrayList", "size", "()I"⟩) (List.mem_of_getElem? (i := 0) rfl)) (by decide +kernel) ⟨Nat.le_of_ble_eq_true rfl, Nat.le_of_ble_eq_true rfl⟩) hN hS hR rfl rfl hl.1 rfl (Nat.le_of_ble_eq_true rfl) dX0_many_47 ⟨Nat.le_of_ble_eq_true rfl, Nat.le_of_ble_eq_true rfl⟩ (fun v ad' c' H locs hv hN hS => ?_)
    obtain ⟨rfl, rfl, rfl⟩ := hv
    refine W.eq (g2 := F0 m 52 ls (_ :: _)) rfl ?_
    exact W.iret hx hb hr (nEnd hN hS ⟨by unfold oMny; rw [if_neg w0, if_neg w1, if_pos w2], rfl, rfl⟩) hS.2 dX0_many_52
  refine lv_tableOut (tgt := 53) hx hb dX0_many_1 (n_swOut 2 (by decide) (by intro k hk; rcases (show k = 0 ∨ k = 1 ∨ k = 2 by omega) with rfl | rfl | rfl <;> assumption)) (by decide) ?_
  refine lv_bipush (v := (-2)) hx hb dX0_many_53 (by decide) ?_
  exact W.iret hx hb hr (nEnd hN hS ⟨by unfold oMny; rw [if_neg w0, if_neg w1, if_neg w2], rfl, rfl⟩) hS.2 dX0_many_55
set_option maxHeartbeats 1000000 in
set_option maxRecDepth 100000 in
theorem sX0_thenBy (l : Launch) (G : nG) (K : State → Prop) (hKo : nKo G K) (hK0 : ∀ U, K U → sK0 G U) (ad : Nat → Nat) (x : nPic) (si : AI) (sa : Nat → AI) (rn : Value) (np : Nat) (kd dr kn : AI) (hP : sPeo G ad x np kd dr kn) (nd : Nat) (hnd : si 1 = nI nd) (hnd6 : nd ≤ 6) (a : Nat) (ha : a < 24) (hfw : si 7 = -9 ∨ ∃ q, q < 64 ∧ si 7 = nI q) (hask : a < 3 ∨ 10 ≤ a) : Met l yX0_thenBy (ws_ yX0_thenBy cX0_thenBy 3 (some .int)) (sR 7 0 0) (nPc G nCl K ad (sPic G x ad si sa rn) [.ref (ad 0), .int (nI a)]) (nQ G nCl (fun rv ad' c' => rv = some (.int (sGoA (si 7, sa 4, si 6) (sa 1) kd nd np (nI a))) ∧ ad = ad' ∧ sPic G x ad si sa rn = c')) 0 0 (fun q => G.2 ≤ q) := by
  refine nMet RX0 (by decide) rfl (Nat.le_of_ble_eq_true rfl) ?_
  intro p e s m below meth c ls SS hR hK hN hS hl
  obtain ⟨hx, hb, hml, hown, hts⟩ := id SS
  obtain ⟨hr, hlk, hnm⟩ := hR
  obtain ⟨hKv, hKw, hKf, hKz, hKm⟩ := hK0 s hK
  generalize s.heap = H at hN hS ⊢
  generalize ([] : List Loc) = locs at hS ⊢
  have hl : lv_has ls 3 [(0, .ref (ad 0)), (1, .int (nI a))] := hl
  have hnp4 := hP.1
  refine lv_iload_n hx hb dX0_thenBy_0 rfl (lv_at hl 1 rfl) ?_
  refine lv_iconst (v := 1) hx hb dX0_thenBy_1 (by decide) ?_
  refine lv_icmp_ne (tgt := 10) hx hb dX0_thenBy_2 (by decide) (fun c2 => ?_) (fun c2 => ?_)
  · have ha1 : ¬ nI a = 1 := c2
    refine lv_aload_n hx hb dX0_thenBy_10 rfl (lv_at hl 0 rfl) ?_
    refine n_get (ci := 0) (C := RX0) (T := TX0) (N := 12) hx hb hts in_X0 hown hKv hN (0) sPic_0 rfl 7 (by decide) q135 (fun z h => h) (rfl) dX0_thenBy_11 ?_
    refine lv_if_lt (tgt := 25) hx hb dX0_thenBy_14 (by decide) (fun c14 => ?_) (fun c14 => ?_)
    · have hneg : si 7 = -9 := by rcases hfw with q | ⟨q, hq, e⟩; exact q; rw [e] at c14; exact absurd c14 (nI_pos (by omega))
      refine lv_iload_n hx hb dX0_thenBy_25 rfl (lv_at hl 1 rfl) ?_
      refine lv_bipush (v := 10) hx hb dX0_thenBy_26 (by decide) ?_
      refine lv_icmp_ge (tgt := 47) hx hb dX0_thenBy_28 (by decide) (fun c28 => ?_) (fun c28 => ?_)
      · have h10 : 10 ≤ a := (nI_leI (a := 10) (by omega) (by omega)).mp c28
        refine lv_iload_n hx hb dX0_thenBy_47 rfl (lv_at hl 1 rfl) ?_
        refine lv_bipush (v := 10) hx hb dX0_thenBy_48 (by decide) ?_
        refine lv_irem hx hb dX0_thenBy_50 (by decide) ?_
        refine n_top (y := nI (a % 10)) ((n_mod a ha).2) ?_
        refine lv_istore_n (lv' := [(2, _), (0, _), (1, _)]) hx hb dX0_thenBy_51 rfl hl (by decide) rfl (fun ls hl => ?_)
        refine lv_aload_n hx hb dX0_thenBy_52 rfl (lv_at hl 1 rfl) ?_
        refine lv_iload_n hx hb dX0_thenBy_53 rfl (lv_at hl 0 rfl) ?_
        refine n_callV (C := RX0) (As := [_]) (b := 0) SS hKo hK hKv (sX0_noPerson l G K hKo hK0 ad x si sa rn _ np kd dr kn hP) (cwV 1 hts (lw_V q171 q173 qs0 q57 q174) rfl rfl rfl (by decide +kernel) ⟨Nat.le_of_ble_eq_true rfl, Nat.le_of_ble_eq_true rfl⟩) hN hS sPic_0 rfl rfl hl.1 rfl (Nat.le_of_ble_eq_true rfl) dX0_thenBy_54 ⟨Nat.le_of_ble_eq_true rfl, Nat.le_of_ble_eq_true rfl⟩ (fun v ad' c' H locs hv hN hS => ?_)
        obtain ⟨rfl, rfl, rfl⟩ := hv
        refine W.eq (g2 := F0 m 57 ls (_ :: _)) rfl ?_
        refine lv_if_eq (tgt := 65) hx hb dX0_thenBy_57 (by decide) (fun c57 => ?_) (fun c57 => ?_)
        · have hz : sIn (nI (a % 10)) np = true := by have := zI_0.mp c57; simpa using this
          obtain ⟨j, hj, ej, tj⟩ := sIn_t (by omega) hz
          have ej : a % 10 = j := (nI_eq (by omega) (by omega)).mp ej
          refine lv_iload_n hx hb dX0_thenBy_65 rfl (lv_at hl 2 rfl) ?_
          refine lv_bipush (v := 20) hx hb dX0_thenBy_66 (by decide) ?_
          refine lv_icmp_ge (tgt := 79) hx hb dX0_thenBy_68 (by decide) (fun c68 => ?_) (fun c68 => ?_)
          · have h20 : ¬ nI a < 20 := by have := (nI_leI (a := 20) (by omega) (by omega)).mp c68; exact nI_nlt (a := a) (b := 20) this (by omega)
            subst ej
            refine lv_aload_n hx hb dX0_thenBy_79 rfl (lv_at hl 1 rfl) ?_
            refine n_get (ci := 0) (C := RX0) (T := TX0) (N := 12) hx hb hts in_X0 hown hKv hN (0) sPic_0 rfl 4 (by decide) q132 (fun z h => h) (rfl) dX0_thenBy_80 ?_
            refine lv_iload_n hx hb dX0_thenBy_83 rfl (lv_at hl 0 rfl) ?_
            refine n_iald hx hb hKv hN (4) 0 sPic_4 rfl (a % 10) (rfl) (by omega) (by decide) dX0_thenBy_84 ?_
            exact W.iret hx hb hr (nEnd hN hS ⟨by unfold sGoA sTd; rw [if_neg ha1, if_pos hneg, if_neg (n_a10 a h10 ha).1, if_neg (n_a10 a h10 ha).2, (n_mod a ha).2, if_pos hz, if_neg h20, tn, tj], rfl, rfl⟩) hS.2 dX0_thenBy_85
          · have h20 : a < 20 := by have := mt (nI_leI (a := 20) (b := a) (by omega) (by omega)).mpr c68; omega
            have h20 : nI a < 20 := show nI a < nI 20 from nI_lt h20 (by decide)
            subst ej
            refine lv_aload_n hx hb dX0_thenBy_71 rfl (lv_at hl 1 rfl) ?_
            refine lv_iload_n hx hb dX0_thenBy_72 rfl (lv_at hl 0 rfl) ?_
            refine n_callV (C := RX0) (As := [_]) (b := 0) SS hKo hK hKv (sX0_floorOf l G K hKo hK0 ad x si sa rn np kd dr kn hP (a % 10) hj nd hnd hnd6) (cwV 1 hts (lw_V q223 q225 qs2 q57 q226) rfl rfl rfl (by decide +kernel) ⟨Nat.le_of_ble_eq_true rfl, Nat.le_of_ble_eq_true rfl⟩) hN hS sPic_0 rfl rfl hl.1 rfl (Nat.le_of_ble_eq_true rfl) dX0_thenBy_73 ⟨Nat.le_of_ble_eq_true rfl, Nat.le_of_ble_eq_true rfl⟩ (fun v ad' c' H locs hv hN hS => ?_)
            obtain ⟨rfl, rfl, rfl⟩ := hv
            refine W.eq (g2 := F0 m 76 ls (_ :: _)) rfl ?_
            refine lv_goto (tgt := 85) hx hb dX0_thenBy_76 (by decide) ?_
            exact W.iret hx hb hr (nEnd hN hS ⟨by unfold sGoA sTd; rw [if_neg ha1, if_pos hneg, if_neg (n_a10 a h10 ha).1, if_neg (n_a10 a h10 ha).2, (n_mod a ha).2, if_pos hz, if_pos h20, tn, tj], rfl, rfl⟩) hS.2 dX0_thenBy_85
        · have hz : sIn (nI (a % 10)) np = false := by have := zI_n0 c57; simpa using this
          refine lv_bipush (v := (-9)) hx hb dX0_thenBy_60 (by decide) ?_
          refine lv_goto (tgt := 85) hx hb dX0_thenBy_62 (by decide) ?_
          exact W.iret hx hb hr (nEnd hN hS ⟨by unfold sGoA sTd; rw [if_neg ha1, if_pos hneg, if_neg (n_a10 a h10 ha).1, if_neg (n_a10 a h10 ha).2, (n_mod a ha).2, hz]; rfl, rfl, rfl⟩) hS.2 dX0_thenBy_85
      · have h10 : a < 10 := by have := mt (nI_leI (a := 10) (b := a) (by omega) (by omega)).mpr c28; omega
        refine lv_iload_n hx hb dX0_thenBy_31 rfl (lv_at hl 1 rfl) ?_
        refine lv_if_ne (tgt := 42) hx hb dX0_thenBy_32 (by decide) (fun c32 => ?_) (fun c32 => ?_)
        · have ha0 : ¬ nI a = 0 := c32
          refine lv_aload_n hx hb dX0_thenBy_42 rfl (lv_at hl 0 rfl) ?_
          refine n_callV (C := RX0) (As := []) (b := 0) SS hKo hK hKv (sX0_highestNow l G K hKo hK0 ad x si sa rn np kd dr kn hP nd hnd hnd6) (cwV 0 hts (lw_V q918 q920 qs27 q57 q921) rfl rfl rfl (by decide +kernel) ⟨Nat.le_of_ble_eq_true rfl, Nat.le_of_ble_eq_true rfl⟩) hN hS sPic_0 rfl rfl hl.1 rfl (Nat.le_of_ble_eq_true rfl) dX0_thenBy_43 ⟨Nat.le_of_ble_eq_true rfl, Nat.le_of_ble_eq_true rfl⟩ (fun v ad' c' H locs hv hN hS => ?_)
          obtain ⟨rfl, rfl, rfl⟩ := hv
          refine W.eq (g2 := F0 m 46 ls (_ :: _)) rfl ?_
          exact W.iret hx hb hr (nEnd hN hS ⟨by unfold sGoA sTd; rw [if_neg ha1, if_pos hneg, if_neg ha0, if_pos (n_a2 a h10 hask ha0 ha1)], rfl, rfl⟩) hS.2 dX0_thenBy_46
        · have ha0 : nI a = 0 := c32
          refine lv_aload_n hx hb dX0_thenBy_35 rfl (lv_at hl 0 rfl) ?_
          refine n_get (ci := 0) (C := RX0) (T := TX0) (N := 12) hx hb hts in_X0 hown hKv hN (0) sPic_0 rfl 6 (by decide) q134 (fun z h => h) (rfl) dX0_thenBy_36 ?_
          refine lv_goto (tgt := 46) hx hb dX0_thenBy_39 (by decide) ?_
          exact W.iret hx hb hr (nEnd hN hS ⟨by unfold sGoA sTd; rw [if_neg ha1, if_pos hneg, if_pos ha0], rfl, rfl⟩) hS.2 dX0_thenBy_46
    · have hneg : ¬ si 7 = -9 := fun z => c14 (by rw [z]; decide)
      refine lv_bipush (v := (-100)) hx hb dX0_thenBy_17 (by decide) ?_
      refine lv_aload_n hx hb dX0_thenBy_19 rfl (lv_at hl 0 rfl) ?_
      refine n_get (ci := 0) (C := RX0) (T := TX0) (N := 12) hx hb hts in_X0 hown hKv hN (0) sPic_0 rfl 7 (by decide) q135 (fun z h => h) (rfl) dX0_thenBy_20 ?_
      refine lv_isub hx hb dX0_thenBy_23 ?_
      exact W.iret hx hb hr (nEnd hN hS ⟨by unfold sGoA; rw [if_neg ha1, if_neg hneg], rfl, rfl⟩) hS.2 dX0_thenBy_24
  · have ha1 : nI a = 1 := c2
    refine lv_aload_n hx hb dX0_thenBy_5 rfl (lv_at hl 0 rfl) ?_
    refine n_get (ci := 0) (C := RX0) (T := TX0) (N := 12) hx hb hts in_X0 hown hKv hN (0) sPic_0 rfl 7 (by decide) q135 (fun z h => h) (rfl) dX0_thenBy_6 ?_
    exact W.iret hx hb hr (nEnd hN hS ⟨by unfold sGoA; rw [if_pos ha1], rfl, rfl⟩) hS.2 dX0_thenBy_9
