/-! SYSTEM: readings; printed by wip/gen/s7.py -/
def sRl (ad : Nat → Nat) (nr : Nat) : Nat → Option Nat := fun j => if j < nr then some (ad (30 + j)) else none
theorem sRl_at {ad : Nat → Nat} {nr j : Nat} (hj : j < nr) : va_rf (sRl ad nr j) = .ref (ad (30 + j)) := by
  unfold sRl
  rw [if_pos hj]
  rfl
theorem zI_a1 (b : Bool) : zI b &&& 1 = zI b := by cases b <;> decide
def sRea (G : nG) (ad : Nat → Nat) (x : nPic) (nr : Nat) (rw_ rf_ : AI) : Prop :=
  nr ≤ 8 ∧ (∃ (mc : Int32) (ea : Value), x 6 = some (.inr (7, [.int mc, ea, .int (nI nr)])) ∧ ((nr = 0 ∧ ea = .ref (nDea G)) ∨ (ea = .ref (ad 7) ∧ x 7 = some (qA (G.1.1 103) 10 (sRl ad nr))))) ∧
    ∀ j, j < nr → x (30 + j) = some (.inr (5, [.int (rw_ j), .int (rf_ j)]))
set_option maxHeartbeats 1000000 in
set_option maxRecDepth 100000 in
theorem sX0_areSo (l : Launch) (G : nG) (K : State → Prop) (hKo : nKo G K) (hK0 : ∀ U, K U → sK0 G U) (ad : Nat → Nat) (x : nPic) (si : AI) (sa : Nat → AI) (rn : Value) (np : Nat) (kd dr kn : AI) (hP : sPeo G ad x np kd dr kn) (nd : Nat) (hnd : si 1 = nI nd) (hnd6 : nd ≤ 6) (ra mm : Nat) (rf : AI) (wh wt : Nat → Nat) (hmm : mm ≤ 20) (hra : ra ≠ 0 ∧ ra ≠ 1 ∧ ra ≠ 4 ∧ ra ≠ 5) (hRx : x ra = some (.inl (G.1.1 100, 2 * mm, .inl rf))) (hw : ∀ k, k < mm → rf (2 * k) = nI (wh k) ∧ wh k < np ∧ rf (2 * k + 1) = nI (wt k) ∧ wt k < nd) (nr : Nat) (rw_ rf_ : AI) (hQ : sRea G ad x nr rw_ rf_) (hrw : ∀ k, k < nr → ∃ q, q < np ∧ rw_ k = nI q) : Met l yX0_areSo (ws_ yX0_areSo cX0_areSo 4 (some .boolean)) (sR 9 0 0) (nPc G nCl K ad (sPic G x ad si sa rn) [.ref (ad 0), .ref (ad ra)]) (nQ G nCl (fun rv ad' c' => rv = some (.int (zI (sSo (sa 1) kd (fun q => dr q &&& sMsk nd) kn (sa 4) nd np nr wh wt mm rw_ rf_))) ∧ ad = ad' ∧ sPic G x ad (upd (upd si 6 ((sGo (sa 1) kd (fun q => dr q &&& sMsk nd) kn nd np wh wt mm 0 (sa 4) 0).2.2)) 7 ((sGo (sa 1) kd (fun q => dr q &&& sMsk nd) kn nd np wh wt mm 0 (sa 4) 0).1)) (va_up sa 5 (va_cpy (sa 4) (sa 5) 0 0 4)) rn = c')) 0 0 (fun q => G.2 ≤ q) := by
  refine nMet RX0 (by decide) rfl (Nat.le_of_ble_eq_true rfl) ?_
  intro p e s m below meth c ls SS hR hK hN hS hl
  obtain ⟨hx, hb, hml, hown, hts⟩ := id SS
  obtain ⟨hr, hlk, hnm⟩ := hR
  obtain ⟨hKv, hKw, hKf, hKz, hKm⟩ := hK0 s hK
  generalize s.heap = H at hN hS ⊢
  generalize ([] : List Loc) = locs at hS ⊢
  have hl : lv_has ls 4 [(0, .ref (ad 0)), (1, .ref (ad ra))] := hl
  have hnp4 := hP.1
  obtain ⟨hr8, ⟨mcr, er, hRl, hor⟩, hrs⟩ := hQ
  refine lv_aload_n hx hb dX0_areSo_0 rfl (lv_at hl 0 rfl) ?_
  refine n_callV (C := RX0) (As := []) (b := 0) SS hKo hK hKv (sX0_keep l G K hKo hK0 ad x si sa rn) (cwV 0 hts (lw_V q905 q907 qs24 q57 q908) rfl rfl rfl (by decide +kernel) ⟨Nat.le_of_ble_eq_true rfl, Nat.le_of_ble_eq_true rfl⟩) hN hS sPic_0 rfl rfl hl.1 rfl (Nat.le_of_ble_eq_true rfl) dX0_areSo_1 ⟨Nat.le_of_ble_eq_true rfl, Nat.le_of_ble_eq_true rfl⟩ (fun v ad' c' H locs hv hN hS => ?_)
  obtain ⟨rfl, rfl, rfl⟩ := hv
  refine W.eq (g2 := F0 m 4 ls _) rfl ?_
  refine lv_aload_n hx hb dX0_areSo_4 rfl (lv_at hl 0 rfl) ?_
  refine lv_aload_n hx hb dX0_areSo_5 rfl (lv_at hl 1 rfl) ?_
  refine n_callV (C := RX0) (As := [_]) (b := 0) SS hKo hK hKv (sX0_goDays l G K hKo hK0 ad x si (va_up sa 5 (va_cpy (sa 4) (sa 5) 0 0 4)) rn np kd dr kn hP nd hnd hnd6 ra mm rf wh wt hmm hra hRx hw) (cwV 1 hts (lw_V q910 q912 qs25 q57 q913) rfl rfl rfl (by decide +kernel) ⟨Nat.le_of_ble_eq_true rfl, Nat.le_of_ble_eq_true rfl⟩) hN hS sPic_0 rfl rfl hl.1 rfl (Nat.le_of_ble_eq_true rfl) dX0_areSo_6 ⟨Nat.le_of_ble_eq_true rfl, Nat.le_of_ble_eq_true rfl⟩ (fun v ad' c' H locs hv hN hS => ?_)
  obtain ⟨rfl, rfl, rfl⟩ := hv
  refine W.eq (g2 := F0 m 9 ls _) rfl ?_
  refine lv_aload_n hx hb dX0_areSo_9 rfl (lv_at hl 0 rfl) ?_
  refine n_get (v := .int (sGo (sa 1) kd (fun q => dr q &&& sMsk nd) kn nd np wh wt mm 0 (sa 4) 0).1) (ci := 0) (C := RX0) (T := TX0) (N := 12) hx hb hts in_X0 hown hKv hN (0) sPic_0 rfl 7 (by decide) q135 (fun z h => h) (rfl) dX0_areSo_10 ?_
  refine lv_if_ge (tgt := 20) hx hb dX0_areSo_13 (by decide) (fun c13 => ?_) (fun c13 => ?_)
  · have hz : decide ((sGo (sa 1) kd (fun q => dr q &&& sMsk nd) kn nd np wh wt mm 0 (sa 4) 0).1 = -9) = false := decide_eq_false (fun z => by rw [z] at c13; exact absurd c13 (by decide))
    refine lv_iconst (v := 0) hx hb dX0_areSo_20 (by decide) ?_
    refine n_top (y := zI (decide ((sGo (sa 1) kd (fun q => dr q &&& sMsk nd) kn nd np wh wt mm 0 (sa 4) 0).1 = -9) && sRds (sa 1) kd (sGo (sa 1) kd (fun q => dr q &&& sMsk nd) kn nd np wh wt mm 0 (sa 4) 0).2.1 nd rw_ rf_ 0)) (by rw [hz]; rfl) ?_
    refine lv_istore_n (lv' := [(2, _), (0, _), (1, _)]) hx hb dX0_areSo_21 rfl hl (by decide) rfl (fun ls hl => ?_)
    refine lv_iconst (v := nI 0) hx hb dX0_areSo_22 (rfl) ?_
    refine lv_istore_n (lv' := [(3, _), (2, _), (0, _), (1, _)]) hx hb dX0_areSo_23 rfl hl (by decide) rfl (fun ls hl => ?_)
    have loop24 : ∀ (n : Nat) (k : Nat) (H : Heap) (locs : List Loc) (ls : Array Slot), nr + 1 ≤ n + k → k ≤ nr → nOk G nCl ad (sPic G x ad (upd (upd si 6 ((sGo (sa 1) kd (fun q => dr q &&& sMsk nd) kn nd np wh wt mm 0 (sa 4) 0).2.2)) 7 ((sGo (sa 1) kd (fun q => dr q &&& sMsk nd) kn nd np wh wt mm 0 (sa 4) 0).1)) (va_up (va_up sa 5 (va_cpy (sa 4) (sa 5) 0 0 4)) 4 (sGo (sa 1) kd (fun q => dr q &&& sMsk nd) kn nd np wh wt mm 0 (sa 4) 0).2.1) rn) H → nS G s H locs → lv_has ls 4 [(0, .ref (ad 0)), (1, .ref (ad ra)), (2, .int (zI (decide ((sGo (sa 1) kd (fun q => dr q &&& sMsk nd) kn nd np wh wt mm 0 (sa 4) 0).1 = -9) && sRds (sa 1) kd (sGo (sa 1) kd (fun q => dr q &&& sMsk nd) kn nd np wh wt mm 0 (sa 4) 0).2.1 nd rw_ rf_ k))), (3, .int (nI k))] → W p l e (sR 9 0 0) s m ([.ref (ad 0), .ref (ad ra)] : List Value).toArray below meth c H locs 0 0 (MQ below (nQ G nCl (fun rv ad' c' => rv = some (.int (zI (sSo (sa 1) kd (fun q => dr q &&& sMsk nd) kn (sa 4) nd np nr wh wt mm rw_ rf_))) ∧ ad = ad' ∧ sPic G x ad (upd (upd si 6 ((sGo (sa 1) kd (fun q => dr q &&& sMsk nd) kn nd np wh wt mm 0 (sa 4) 0).2.2)) 7 ((sGo (sa 1) kd (fun q => dr q &&& sMsk nd) kn nd np wh wt mm 0 (sa 4) 0).1)) (va_up sa 5 (va_cpy (sa 4) (sa 5) 0 0 4)) rn = c')) ([.ref (ad 0), .ref (ad ra)] : List Value).toArray s 0 0 (fun q => G.2 ≤ q)) (F0 m 24 ls []) := by
      intro n
      induction n with
      | zero => intro k H locs ls hfuel hk_ hN hS hl; exact absurd hfuel (by omega)
      | succ n ih24 =>
        intro k H locs ls hfuel hk_ hN hS hl
        refine lv_iload_n hx hb dX0_areSo_24 rfl (lv_at hl 3 rfl) ?_
        refine lv_aload_n hx hb dX0_areSo_25 rfl (lv_at hl 0 rfl) ?_
        refine n_get (ci := 0) (C := RX0) (T := TX0) (N := 12) hx hb hts in_X0 hown hKv hN (0) sPic_0 rfl 8 (by decide) q136 (fun z h => h) (rfl) dX0_areSo_26 ?_
        refine n_callF (As := []) (C := RJ2) (b := 6) SS hKo hK hKv (tJ2_size l G K hKo hK0 ad _ 6 mcr er nr ((sPic_x (by decide)).trans hRl)) (va_cwF 0 hts (lw_F q176 q180 q182 q60 q184) rfl rfl rfl (hKf (RJ2, ⟨"java/util/List", "size", "()I"⟩, ⟨"java/util/ArrayList", "size", "()I"⟩) (List.mem_of_getElem? (i := 0) rfl)) (by decide +kernel) ⟨Nat.le_of_ble_eq_true rfl, Nat.le_of_ble_eq_true rfl⟩) hN hS ((sPic_x (by decide)).trans hRl) rfl rfl hl.1 rfl (Nat.le_of_ble_eq_true rfl) dX0_areSo_29 ⟨Nat.le_of_ble_eq_true rfl, Nat.le_of_ble_eq_true rfl⟩ (fun v ad' c' H locs hv hN hS => ?_)
        obtain ⟨rfl, rfl, rfl⟩ := hv
        refine W.eq (g2 := F0 m 34 ls (_ :: _)) rfl ?_
        refine lv_icmp_ge (tgt := 90) hx hb dX0_areSo_34 (by decide) (fun c34 => ?_) (fun c34 => ?_)
        · have c34 : nr ≤ k := (nI_leI (by omega) (by omega)).mp c34
          have ek : k = nr := by omega
          refine lv_aload_n hx hb dX0_areSo_90 rfl (lv_at hl 0 rfl) ?_
          refine n_callV (C := RX0) (As := []) (b := 0) SS hKo hK hKv (sX0_putBack l G K hKo hK0 ad x (upd (upd si 6 ((sGo (sa 1) kd (fun q => dr q &&& sMsk nd) kn nd np wh wt mm 0 (sa 4) 0).2.2)) 7 ((sGo (sa 1) kd (fun q => dr q &&& sMsk nd) kn nd np wh wt mm 0 (sa 4) 0).1)) (va_up (va_up sa 5 (va_cpy (sa 4) (sa 5) 0 0 4)) 4 (sGo (sa 1) kd (fun q => dr q &&& sMsk nd) kn nd np wh wt mm 0 (sa 4) 0).2.1) rn) (cwV 0 hts (lw_V q923 q925 qs28 q57 q926) rfl rfl rfl (by decide +kernel) ⟨Nat.le_of_ble_eq_true rfl, Nat.le_of_ble_eq_true rfl⟩) hN hS sPic_0 rfl rfl hl.1 rfl (Nat.le_of_ble_eq_true rfl) dX0_areSo_91 ⟨Nat.le_of_ble_eq_true rfl, Nat.le_of_ble_eq_true rfl⟩ (fun v ad' c' H locs hv hN hS => ?_)
          obtain ⟨rfl, rfl, rfl⟩ := hv
          rw [va_up_up] at hN
          have hN := sPic_ext4 (g := sa 4) hN (fun j hj => n_cpy4 j hj)
          have hN := hN.congr (congrArg (fun z => sPic G x ad (upd (upd si 6 ((sGo (sa 1) kd (fun q => dr q &&& sMsk nd) kn nd np wh wt mm 0 (sa 4) 0).2.2)) 7 ((sGo (sa 1) kd (fun q => dr q &&& sMsk nd) kn nd np wh wt mm 0 (sa 4) 0).1)) z rn) (va_up_id (va_up sa 5 (va_cpy (sa 4) (sa 5) 0 0 4)) 4 (sa 4) rfl))
          refine W.eq (g2 := F0 m 94 ls _) rfl ?_
          refine lv_iload_n hx hb dX0_areSo_94 rfl (lv_at hl 2 rfl) ?_
          exact W.zret hx hb hr (zI_nar _) (nEnd hN hS ⟨by rw [ek]; rfl, rfl, rfl⟩) hS.2 dX0_areSo_95
        · have hk : k < nr := by have := mt (nI_leI (a := nr) (b := k) (by omega) (by omega)).mpr c34; omega
          have hrd := hrs k hk
          obtain ⟨q, hq, eq_⟩ := hrw k hk
          have tq : tn (rw_ k) = q := by rw [eq_]; exact tn_nI (by omega)
          obtain ⟨e1, hRA⟩ : er = .ref (ad 7) ∧ x 7 = some (qA (G.1.1 103) 10 (sRl ad nr)) := by
            rcases hor with ⟨e, _⟩ | h
            · omega
            · exact h
          rw [e1] at hRl
          refine lv_iload_n hx hb dX0_areSo_37 rfl (lv_at hl 2 rfl) ?_
          refine lv_aload_n hx hb dX0_areSo_38 rfl (lv_at hl 0 rfl) ?_
          refine lv_aload_n hx hb dX0_areSo_39 rfl (lv_at hl 0 rfl) ?_
          refine n_get (ci := 0) (C := RX0) (T := TX0) (N := 12) hx hb hts in_X0 hown hKv hN (0) sPic_0 rfl 8 (by decide) q136 (fun z h => h) (rfl) dX0_areSo_40 ?_
          refine lv_iload_n hx hb dX0_areSo_43 rfl (lv_at hl 3 rfl) ?_
          refine n_callF (As := [_]) (C := RJ2) (b := 6) SS hKo hK hKv (tJ2_get l G K hKo hK0 ad _ 6 7 mcr nr 10 (sRl ad nr) ((sPic_x (by decide)).trans hRl) ((sPic_x (by decide)).trans hRA) (by decide) k hk (by omega)) (va_cwF 1 hts (lw_F q189 q192 q194 q60 q196) rfl rfl rfl (hKf (RJ2, ⟨"java/util/List", "get", "(I)Ljava/lang/Object;"⟩, ⟨"java/util/ArrayList", "get", "(I)Ljava/lang/Object;"⟩) (List.mem_of_getElem? (i := 1) rfl)) (by decide +kernel) ⟨Nat.le_of_ble_eq_true rfl, Nat.le_of_ble_eq_true rfl⟩) hN hS ((sPic_x (by decide)).trans hRl) rfl rfl hl.1 rfl (Nat.le_of_ble_eq_true rfl) dX0_areSo_44 ⟨Nat.le_of_ble_eq_true rfl, Nat.le_of_ble_eq_true rfl⟩ (fun v ad' c' H locs hv hN hS => ?_)
          obtain ⟨rfl, rfl, rfl⟩ := hv
          refine W.eq (g2 := F0 m 49 ls (_ :: _)) rfl ?_
          refine n_topv (y := .ref (ad (30 + k))) (sRl_at hk) ?_
          refine va_castE hx hb hown (hts _ q331) (n_recv hKv hN ((sPic_x ⟨by omega, by omega, by omega, by omega⟩).trans hrd) (C := RX9) rfl) dX0_areSo_49 ?_
          refine n_getN (v := .int (nI q)) (ci := 5) (C := RX9) (T := TX9) (N := 2) hx hb hts in_X9 hown hKv hN (30 + k) ((sPic_x ⟨by omega, by omega, by omega, by omega⟩).trans hrd) rfl 0 (by decide) (hKw _ q338 rfl) (fun z h => h) (by rw [← eq_]; rfl) dX0_areSo_52 ?_
          refine n_callV (C := RX0) (As := [_]) (b := 0) SS hKo hK hKv (sX0_floorOf l G K hKo hK0 ad x (upd (upd si 6 ((sGo (sa 1) kd (fun q => dr q &&& sMsk nd) kn nd np wh wt mm 0 (sa 4) 0).2.2)) 7 ((sGo (sa 1) kd (fun q => dr q &&& sMsk nd) kn nd np wh wt mm 0 (sa 4) 0).1)) (va_up (va_up sa 5 (va_cpy (sa 4) (sa 5) 0 0 4)) 4 (sGo (sa 1) kd (fun q => dr q &&& sMsk nd) kn nd np wh wt mm 0 (sa 4) 0).2.1) rn np kd dr kn hP q hq nd hnd hnd6) (cwV 1 hts (lw_V q223 q225 qs2 q57 q226) rfl rfl rfl (by decide +kernel) ⟨Nat.le_of_ble_eq_true rfl, Nat.le_of_ble_eq_true rfl⟩) hN hS sPic_0 rfl rfl hl.1 rfl (Nat.le_of_ble_eq_true rfl) dX0_areSo_55 ⟨Nat.le_of_ble_eq_true rfl, Nat.le_of_ble_eq_true rfl⟩ (fun v ad' c' H locs hv hN hS => ?_)
          obtain ⟨rfl, rfl, rfl⟩ := hv
          refine W.eq (g2 := F0 m 58 ls (_ :: _)) rfl ?_
          refine lv_aload_n hx hb dX0_areSo_58 rfl (lv_at hl 0 rfl) ?_
          refine n_get (ci := 0) (C := RX0) (T := TX0) (N := 12) hx hb hts in_X0 hown hKv hN (0) sPic_0 rfl 8 (by decide) q136 (fun z h => h) (rfl) dX0_areSo_59 ?_
          refine lv_iload_n hx hb dX0_areSo_62 rfl (lv_at hl 3 rfl) ?_
          refine n_callF (As := [_]) (C := RJ2) (b := 6) SS hKo hK hKv (tJ2_get l G K hKo hK0 ad _ 6 7 mcr nr 10 (sRl ad nr) ((sPic_x (by decide)).trans hRl) ((sPic_x (by decide)).trans hRA) (by decide) k hk (by omega)) (va_cwF 1 hts (lw_F q189 q192 q194 q60 q196) rfl rfl rfl (hKf (RJ2, ⟨"java/util/List", "get", "(I)Ljava/lang/Object;"⟩, ⟨"java/util/ArrayList", "get", "(I)Ljava/lang/Object;"⟩) (List.mem_of_getElem? (i := 1) rfl)) (by decide +kernel) ⟨Nat.le_of_ble_eq_true rfl, Nat.le_of_ble_eq_true rfl⟩) hN hS ((sPic_x (by decide)).trans hRl) rfl rfl hl.1 rfl (Nat.le_of_ble_eq_true rfl) dX0_areSo_63 ⟨Nat.le_of_ble_eq_true rfl, Nat.le_of_ble_eq_true rfl⟩ (fun v ad' c' H locs hv hN hS => ?_)
          obtain ⟨rfl, rfl, rfl⟩ := hv
          refine W.eq (g2 := F0 m 68 ls (_ :: _)) rfl ?_
          refine n_topv (y := .ref (ad (30 + k))) (sRl_at hk) ?_
          refine va_castE hx hb hown (hts _ q331) (n_recv hKv hN ((sPic_x ⟨by omega, by omega, by omega, by omega⟩).trans hrd) (C := RX9) rfl) dX0_areSo_68 ?_
          refine n_getN (v := .int (rf_ k)) (ci := 5) (C := RX9) (T := TX9) (N := 2) hx hb hts in_X9 hown hKv hN (30 + k) ((sPic_x ⟨by omega, by omega, by omega, by omega⟩).trans hrd) rfl 1 (by decide) (hKw _ q340 rfl) (fun z h => h) (rfl) dX0_areSo_71 ?_
          refine lv_icmp_ne (tgt := 81) hx hb dX0_areSo_74 (by decide) (fun c74 => ?_) (fun c74 => ?_)
          · have c74 : ¬ sFl (sa 1) kd q ((sGo (sa 1) kd (fun q => dr q &&& sMsk nd) kn nd np wh wt mm 0 (sa 4) 0).2.1 q) nd = rf_ k := c74
            have ea : zI (decide ((sGo (sa 1) kd (fun q => dr q &&& sMsk nd) kn nd np wh wt mm 0 (sa 4) 0).1 = -9) && sRds (sa 1) kd (sGo (sa 1) kd (fun q => dr q &&& sMsk nd) kn nd np wh wt mm 0 (sa 4) 0).2.1 nd rw_ rf_ k) &&& 0 = zI (decide ((sGo (sa 1) kd (fun q => dr q &&& sMsk nd) kn nd np wh wt mm 0 (sa 4) 0).1 = -9) && sRds (sa 1) kd (sGo (sa 1) kd (fun q => dr q &&& sMsk nd) kn nd np wh wt mm 0 (sa 4) 0).2.1 nd rw_ rf_ (k + 1)) := by rw [sRds, tq, decide_eq_false c74]; cases (decide ((sGo (sa 1) kd (fun q => dr q &&& sMsk nd) kn nd np wh wt mm 0 (sa 4) 0).1 = -9) && sRds (sa 1) kd (sGo (sa 1) kd (fun q => dr q &&& sMsk nd) kn nd np wh wt mm 0 (sa 4) 0).2.1 nd rw_ rf_ k) <;> simp [zI]
            refine lv_iconst (v := 0) hx hb dX0_areSo_81 (by decide) ?_
            refine lv_iand hx hb dX0_areSo_82 ?_
            refine n_top (y := zI (decide ((sGo (sa 1) kd (fun q => dr q &&& sMsk nd) kn nd np wh wt mm 0 (sa 4) 0).1 = -9) && sRds (sa 1) kd (sGo (sa 1) kd (fun q => dr q &&& sMsk nd) kn nd np wh wt mm 0 (sa 4) 0).2.1 nd rw_ rf_ (k + 1))) (ea) ?_
            refine lv_istore_n (lv' := [(2, _), (0, _), (1, _), (3, _)]) hx hb dX0_areSo_83 rfl hl (by decide) rfl (fun ls hl => ?_)
            refine lv_iinc (v := nI (k + 1)) (lv' := [(3, _), (2, _), (0, _), (1, _)]) hx hb dX0_areSo_84 hl (k := 3) rfl (nI_inc k) (by decide) rfl (fun ls hl => ?_)
            refine lv_goto (tgt := 24) hx hb dX0_areSo_87 (by decide) ?_
            exact ih24 (k + 1) _ _ _ (by omega) (by omega) hN hS (lv_sub hl [2, 3, 1, 0] (rfl))
          · have c74 : sFl (sa 1) kd q ((sGo (sa 1) kd (fun q => dr q &&& sMsk nd) kn nd np wh wt mm 0 (sa 4) 0).2.1 q) nd = rf_ k := c74
            have ea : zI (decide ((sGo (sa 1) kd (fun q => dr q &&& sMsk nd) kn nd np wh wt mm 0 (sa 4) 0).1 = -9) && sRds (sa 1) kd (sGo (sa 1) kd (fun q => dr q &&& sMsk nd) kn nd np wh wt mm 0 (sa 4) 0).2.1 nd rw_ rf_ k) &&& 1 = zI (decide ((sGo (sa 1) kd (fun q => dr q &&& sMsk nd) kn nd np wh wt mm 0 (sa 4) 0).1 = -9) && sRds (sa 1) kd (sGo (sa 1) kd (fun q => dr q &&& sMsk nd) kn nd np wh wt mm 0 (sa 4) 0).2.1 nd rw_ rf_ (k + 1)) := by rw [sRds, tq, decide_eq_true c74, Bool.and_true]; exact zI_a1 _
            refine lv_iconst (v := 1) hx hb dX0_areSo_77 (by decide) ?_
            refine lv_goto (tgt := 82) hx hb dX0_areSo_78 (by decide) ?_
            refine lv_iand hx hb dX0_areSo_82 ?_
            refine n_top (y := zI (decide ((sGo (sa 1) kd (fun q => dr q &&& sMsk nd) kn nd np wh wt mm 0 (sa 4) 0).1 = -9) && sRds (sa 1) kd (sGo (sa 1) kd (fun q => dr q &&& sMsk nd) kn nd np wh wt mm 0 (sa 4) 0).2.1 nd rw_ rf_ (k + 1))) (ea) ?_
            refine lv_istore_n (lv' := [(2, _), (0, _), (1, _), (3, _)]) hx hb dX0_areSo_83 rfl hl (by decide) rfl (fun ls hl => ?_)
            refine lv_iinc (v := nI (k + 1)) (lv' := [(3, _), (2, _), (0, _), (1, _)]) hx hb dX0_areSo_84 hl (k := 3) rfl (nI_inc k) (by decide) rfl (fun ls hl => ?_)
            refine lv_goto (tgt := 24) hx hb dX0_areSo_87 (by decide) ?_
            exact ih24 (k + 1) _ _ _ (by omega) (by omega) hN hS (lv_sub hl [2, 3, 1, 0] (rfl))
    exact loop24 (nr + 1) 0 _ _ _ (by omega) (by omega) hN hS (lv_sub hl [2, 3, 1, 0] rfl)
  · have hz : decide ((sGo (sa 1) kd (fun q => dr q &&& sMsk nd) kn nd np wh wt mm 0 (sa 4) 0).1 = -9) = true := by
      rcases sGo_1 (w := sa 1) (kd := kd) (dn := (fun q => dr q &&& sMsk nd)) (kn := kn) (nd := nd) (np := np) (wh := wh) (wt := wt) mm 0 (sa 4) 0 with q | ⟨q, h1, h2⟩
      · exact decide_eq_true q
      · rw [h2] at c13; exact absurd (Int32.not_lt.mp (nI_pos (n := q) (by omega))) c13
    refine lv_iconst (v := 1) hx hb dX0_areSo_16 (by decide) ?_
    refine lv_goto (tgt := 21) hx hb dX0_areSo_17 (by decide) ?_
    refine n_top (y := zI (decide ((sGo (sa 1) kd (fun q => dr q &&& sMsk nd) kn nd np wh wt mm 0 (sa 4) 0).1 = -9) && sRds (sa 1) kd (sGo (sa 1) kd (fun q => dr q &&& sMsk nd) kn nd np wh wt mm 0 (sa 4) 0).2.1 nd rw_ rf_ 0)) (by rw [hz]; rfl) ?_
    refine lv_istore_n (lv' := [(2, _), (0, _), (1, _)]) hx hb dX0_areSo_21 rfl hl (by decide) rfl (fun ls hl => ?_)
    refine lv_iconst (v := nI 0) hx hb dX0_areSo_22 (rfl) ?_
    refine lv_istore_n (lv' := [(3, _), (2, _), (0, _), (1, _)]) hx hb dX0_areSo_23 rfl hl (by decide) rfl (fun ls hl => ?_)
    have loop24 : ∀ (n : Nat) (k : Nat) (H : Heap) (locs : List Loc) (ls : Array Slot), nr + 1 ≤ n + k → k ≤ nr → nOk G nCl ad (sPic G x ad (upd (upd si 6 ((sGo (sa 1) kd (fun q => dr q &&& sMsk nd) kn nd np wh wt mm 0 (sa 4) 0).2.2)) 7 ((sGo (sa 1) kd (fun q => dr q &&& sMsk nd) kn nd np wh wt mm 0 (sa 4) 0).1)) (va_up (va_up sa 5 (va_cpy (sa 4) (sa 5) 0 0 4)) 4 (sGo (sa 1) kd (fun q => dr q &&& sMsk nd) kn nd np wh wt mm 0 (sa 4) 0).2.1) rn) H → nS G s H locs → lv_has ls 4 [(0, .ref (ad 0)), (1, .ref (ad ra)), (2, .int (zI (decide ((sGo (sa 1) kd (fun q => dr q &&& sMsk nd) kn nd np wh wt mm 0 (sa 4) 0).1 = -9) && sRds (sa 1) kd (sGo (sa 1) kd (fun q => dr q &&& sMsk nd) kn nd np wh wt mm 0 (sa 4) 0).2.1 nd rw_ rf_ k))), (3, .int (nI k))] → W p l e (sR 9 0 0) s m ([.ref (ad 0), .ref (ad ra)] : List Value).toArray below meth c H locs 0 0 (MQ below (nQ G nCl (fun rv ad' c' => rv = some (.int (zI (sSo (sa 1) kd (fun q => dr q &&& sMsk nd) kn (sa 4) nd np nr wh wt mm rw_ rf_))) ∧ ad = ad' ∧ sPic G x ad (upd (upd si 6 ((sGo (sa 1) kd (fun q => dr q &&& sMsk nd) kn nd np wh wt mm 0 (sa 4) 0).2.2)) 7 ((sGo (sa 1) kd (fun q => dr q &&& sMsk nd) kn nd np wh wt mm 0 (sa 4) 0).1)) (va_up sa 5 (va_cpy (sa 4) (sa 5) 0 0 4)) rn = c')) ([.ref (ad 0), .ref (ad ra)] : List Value).toArray s 0 0 (fun q => G.2 ≤ q)) (F0 m 24 ls []) := by
      intro n
      induction n with
      | zero => intro k H locs ls hfuel hk_ hN hS hl; exact absurd hfuel (by omega)
      | succ n ih24 =>
        intro k H locs ls hfuel hk_ hN hS hl
        refine lv_iload_n hx hb dX0_areSo_24 rfl (lv_at hl 3 rfl) ?_
        refine lv_aload_n hx hb dX0_areSo_25 rfl (lv_at hl 0 rfl) ?_
        refine n_get (ci := 0) (C := RX0) (T := TX0) (N := 12) hx hb hts in_X0 hown hKv hN (0) sPic_0 rfl 8 (by decide) q136 (fun z h => h) (rfl) dX0_areSo_26 ?_
        refine n_callF (As := []) (C := RJ2) (b := 6) SS hKo hK hKv (tJ2_size l G K hKo hK0 ad _ 6 mcr er nr ((sPic_x (by decide)).trans hRl)) (va_cwF 0 hts (lw_F q176 q180 q182 q60 q184) rfl rfl rfl (hKf (RJ2, ⟨"java/util/List", "size", "()I"⟩, ⟨"java/util/ArrayList", "size", "()I"⟩) (List.mem_of_getElem? (i := 0) rfl)) (by decide +kernel) ⟨Nat.le_of_ble_eq_true rfl, Nat.le_of_ble_eq_true rfl⟩) hN hS ((sPic_x (by decide)).trans hRl) rfl rfl hl.1 rfl (Nat.le_of_ble_eq_true rfl) dX0_areSo_29 ⟨Nat.le_of_ble_eq_true rfl, Nat.le_of_ble_eq_true rfl⟩ (fun v ad' c' H locs hv hN hS => ?_)
        obtain ⟨rfl, rfl, rfl⟩ := hv
        refine W.eq (g2 := F0 m 34 ls (_ :: _)) rfl ?_
        refine lv_icmp_ge (tgt := 90) hx hb dX0_areSo_34 (by decide) (fun c34 => ?_) (fun c34 => ?_)
        · have c34 : nr ≤ k := (nI_leI (by omega) (by omega)).mp c34
          have ek : k = nr := by omega
          refine lv_aload_n hx hb dX0_areSo_90 rfl (lv_at hl 0 rfl) ?_
          refine n_callV (C := RX0) (As := []) (b := 0) SS hKo hK hKv (sX0_putBack l G K hKo hK0 ad x (upd (upd si 6 ((sGo (sa 1) kd (fun q => dr q &&& sMsk nd) kn nd np wh wt mm 0 (sa 4) 0).2.2)) 7 ((sGo (sa 1) kd (fun q => dr q &&& sMsk nd) kn nd np wh wt mm 0 (sa 4) 0).1)) (va_up (va_up sa 5 (va_cpy (sa 4) (sa 5) 0 0 4)) 4 (sGo (sa 1) kd (fun q => dr q &&& sMsk nd) kn nd np wh wt mm 0 (sa 4) 0).2.1) rn) (cwV 0 hts (lw_V q923 q925 qs28 q57 q926) rfl rfl rfl (by decide +kernel) ⟨Nat.le_of_ble_eq_true rfl, Nat.le_of_ble_eq_true rfl⟩) hN hS sPic_0 rfl rfl hl.1 rfl (Nat.le_of_ble_eq_true rfl) dX0_areSo_91 ⟨Nat.le_of_ble_eq_true rfl, Nat.le_of_ble_eq_true rfl⟩ (fun v ad' c' H locs hv hN hS => ?_)
          obtain ⟨rfl, rfl, rfl⟩ := hv
          rw [va_up_up] at hN
          have hN := sPic_ext4 (g := sa 4) hN (fun j hj => n_cpy4 j hj)
          have hN := hN.congr (congrArg (fun z => sPic G x ad (upd (upd si 6 ((sGo (sa 1) kd (fun q => dr q &&& sMsk nd) kn nd np wh wt mm 0 (sa 4) 0).2.2)) 7 ((sGo (sa 1) kd (fun q => dr q &&& sMsk nd) kn nd np wh wt mm 0 (sa 4) 0).1)) z rn) (va_up_id (va_up sa 5 (va_cpy (sa 4) (sa 5) 0 0 4)) 4 (sa 4) rfl))
          refine W.eq (g2 := F0 m 94 ls _) rfl ?_
          refine lv_iload_n hx hb dX0_areSo_94 rfl (lv_at hl 2 rfl) ?_
          exact W.zret hx hb hr (zI_nar _) (nEnd hN hS ⟨by rw [ek]; rfl, rfl, rfl⟩) hS.2 dX0_areSo_95
        · have hk : k < nr := by have := mt (nI_leI (a := nr) (b := k) (by omega) (by omega)).mpr c34; omega
          have hrd := hrs k hk
          obtain ⟨q, hq, eq_⟩ := hrw k hk
          have tq : tn (rw_ k) = q := by rw [eq_]; exact tn_nI (by omega)
          obtain ⟨e1, hRA⟩ : er = .ref (ad 7) ∧ x 7 = some (qA (G.1.1 103) 10 (sRl ad nr)) := by
            rcases hor with ⟨e, _⟩ | h
            · omega
            · exact h
          rw [e1] at hRl
          refine lv_iload_n hx hb dX0_areSo_37 rfl (lv_at hl 2 rfl) ?_
          refine lv_aload_n hx hb dX0_areSo_38 rfl (lv_at hl 0 rfl) ?_
          refine lv_aload_n hx hb dX0_areSo_39 rfl (lv_at hl 0 rfl) ?_
          refine n_get (ci := 0) (C := RX0) (T := TX0) (N := 12) hx hb hts in_X0 hown hKv hN (0) sPic_0 rfl 8 (by decide) q136 (fun z h => h) (rfl) dX0_areSo_40 ?_
          refine lv_iload_n hx hb dX0_areSo_43 rfl (lv_at hl 3 rfl) ?_
          refine n_callF (As := [_]) (C := RJ2) (b := 6) SS hKo hK hKv (tJ2_get l G K hKo hK0 ad _ 6 7 mcr nr 10 (sRl ad nr) ((sPic_x (by decide)).trans hRl) ((sPic_x (by decide)).trans hRA) (by decide) k hk (by omega)) (va_cwF 1 hts (lw_F q189 q192 q194 q60 q196) rfl rfl rfl (hKf (RJ2, ⟨"java/util/List", "get", "(I)Ljava/lang/Object;"⟩, ⟨"java/util/ArrayList", "get", "(I)Ljava/lang/Object;"⟩) (List.mem_of_getElem? (i := 1) rfl)) (by decide +kernel) ⟨Nat.le_of_ble_eq_true rfl, Nat.le_of_ble_eq_true rfl⟩) hN hS ((sPic_x (by decide)).trans hRl) rfl rfl hl.1 rfl (Nat.le_of_ble_eq_true rfl) dX0_areSo_44 ⟨Nat.le_of_ble_eq_true rfl, Nat.le_of_ble_eq_true rfl⟩ (fun v ad' c' H locs hv hN hS => ?_)
          obtain ⟨rfl, rfl, rfl⟩ := hv
          refine W.eq (g2 := F0 m 49 ls (_ :: _)) rfl ?_
          refine n_topv (y := .ref (ad (30 + k))) (sRl_at hk) ?_
          refine va_castE hx hb hown (hts _ q331) (n_recv hKv hN ((sPic_x ⟨by omega, by omega, by omega, by omega⟩).trans hrd) (C := RX9) rfl) dX0_areSo_49 ?_
          refine n_getN (v := .int (nI q)) (ci := 5) (C := RX9) (T := TX9) (N := 2) hx hb hts in_X9 hown hKv hN (30 + k) ((sPic_x ⟨by omega, by omega, by omega, by omega⟩).trans hrd) rfl 0 (by decide) (hKw _ q338 rfl) (fun z h => h) (by rw [← eq_]; rfl) dX0_areSo_52 ?_
          refine n_callV (C := RX0) (As := [_]) (b := 0) SS hKo hK hKv (sX0_floorOf l G K hKo hK0 ad x (upd (upd si 6 ((sGo (sa 1) kd (fun q => dr q &&& sMsk nd) kn nd np wh wt mm 0 (sa 4) 0).2.2)) 7 ((sGo (sa 1) kd (fun q => dr q &&& sMsk nd) kn nd np wh wt mm 0 (sa 4) 0).1)) (va_up (va_up sa 5 (va_cpy (sa 4) (sa 5) 0 0 4)) 4 (sGo (sa 1) kd (fun q => dr q &&& sMsk nd) kn nd np wh wt mm 0 (sa 4) 0).2.1) rn np kd dr kn hP q hq nd hnd hnd6) (cwV 1 hts (lw_V q223 q225 qs2 q57 q226) rfl rfl rfl (by decide +kernel) ⟨Nat.le_of_ble_eq_true rfl, Nat.le_of_ble_eq_true rfl⟩) hN hS sPic_0 rfl rfl hl.1 rfl (Nat.le_of_ble_eq_true rfl) dX0_areSo_55 ⟨Nat.le_of_ble_eq_true rfl, Nat.le_of_ble_eq_true rfl⟩ (fun v ad' c' H locs hv hN hS => ?_)
          obtain ⟨rfl, rfl, rfl⟩ := hv
          refine W.eq (g2 := F0 m 58 ls (_ :: _)) rfl ?_
          refine lv_aload_n hx hb dX0_areSo_58 rfl (lv_at hl 0 rfl) ?_
          refine n_get (ci := 0) (C := RX0) (T := TX0) (N := 12) hx hb hts in_X0 hown hKv hN (0) sPic_0 rfl 8 (by decide) q136 (fun z h => h) (rfl) dX0_areSo_59 ?_
          refine lv_iload_n hx hb dX0_areSo_62 rfl (lv_at hl 3 rfl) ?_
          refine n_callF (As := [_]) (C := RJ2) (b := 6) SS hKo hK hKv (tJ2_get l G K hKo hK0 ad _ 6 7 mcr nr 10 (sRl ad nr) ((sPic_x (by decide)).trans hRl) ((sPic_x (by decide)).trans hRA) (by decide) k hk (by omega)) (va_cwF 1 hts (lw_F q189 q192 q194 q60 q196) rfl rfl rfl (hKf (RJ2, ⟨"java/util/List", "get", "(I)Ljava/lang/Object;"⟩, ⟨"java/util/ArrayList", "get", "(I)Ljava/lang/Object;"⟩) (List.mem_of_getElem? (i := 1) rfl)) (by decide +kernel) ⟨Nat.le_of_ble_eq_true rfl, Nat.le_of_ble_eq_true rfl⟩) hN hS ((sPic_x (by decide)).trans hRl) rfl rfl hl.1 rfl (Nat.le_of_ble_eq_true rfl) dX0_areSo_63 ⟨Nat.le_of_ble_eq_true rfl, Nat.le_of_ble_eq_true rfl⟩ (fun v ad' c' H locs hv hN hS => ?_)
          obtain ⟨rfl, rfl, rfl⟩ := hv
          refine W.eq (g2 := F0 m 68 ls (_ :: _)) rfl ?_
          refine n_topv (y := .ref (ad (30 + k))) (sRl_at hk) ?_
          refine va_castE hx hb hown (hts _ q331) (n_recv hKv hN ((sPic_x ⟨by omega, by omega, by omega, by omega⟩).trans hrd) (C := RX9) rfl) dX0_areSo_68 ?_
          refine n_getN (v := .int (rf_ k)) (ci := 5) (C := RX9) (T := TX9) (N := 2) hx hb hts in_X9 hown hKv hN (30 + k) ((sPic_x ⟨by omega, by omega, by omega, by omega⟩).trans hrd) rfl 1 (by decide) (hKw _ q340 rfl) (fun z h => h) (rfl) dX0_areSo_71 ?_
          refine lv_icmp_ne (tgt := 81) hx hb dX0_areSo_74 (by decide) (fun c74 => ?_) (fun c74 => ?_)
          · have c74 : ¬ sFl (sa 1) kd q ((sGo (sa 1) kd (fun q => dr q &&& sMsk nd) kn nd np wh wt mm 0 (sa 4) 0).2.1 q) nd = rf_ k := c74
            have ea : zI (decide ((sGo (sa 1) kd (fun q => dr q &&& sMsk nd) kn nd np wh wt mm 0 (sa 4) 0).1 = -9) && sRds (sa 1) kd (sGo (sa 1) kd (fun q => dr q &&& sMsk nd) kn nd np wh wt mm 0 (sa 4) 0).2.1 nd rw_ rf_ k) &&& 0 = zI (decide ((sGo (sa 1) kd (fun q => dr q &&& sMsk nd) kn nd np wh wt mm 0 (sa 4) 0).1 = -9) && sRds (sa 1) kd (sGo (sa 1) kd (fun q => dr q &&& sMsk nd) kn nd np wh wt mm 0 (sa 4) 0).2.1 nd rw_ rf_ (k + 1)) := by rw [sRds, tq, decide_eq_false c74]; cases (decide ((sGo (sa 1) kd (fun q => dr q &&& sMsk nd) kn nd np wh wt mm 0 (sa 4) 0).1 = -9) && sRds (sa 1) kd (sGo (sa 1) kd (fun q => dr q &&& sMsk nd) kn nd np wh wt mm 0 (sa 4) 0).2.1 nd rw_ rf_ k) <;> simp [zI]
            refine lv_iconst (v := 0) hx hb dX0_areSo_81 (by decide) ?_
            refine lv_iand hx hb dX0_areSo_82 ?_
            refine n_top (y := zI (decide ((sGo (sa 1) kd (fun q => dr q &&& sMsk nd) kn nd np wh wt mm 0 (sa 4) 0).1 = -9) && sRds (sa 1) kd (sGo (sa 1) kd (fun q => dr q &&& sMsk nd) kn nd np wh wt mm 0 (sa 4) 0).2.1 nd rw_ rf_ (k + 1))) (ea) ?_
            refine lv_istore_n (lv' := [(2, _), (0, _), (1, _), (3, _)]) hx hb dX0_areSo_83 rfl hl (by decide) rfl (fun ls hl => ?_)
            refine lv_iinc (v := nI (k + 1)) (lv' := [(3, _), (2, _), (0, _), (1, _)]) hx hb dX0_areSo_84 hl (k := 3) rfl (nI_inc k) (by decide) rfl (fun ls hl => ?_)
            refine lv_goto (tgt := 24) hx hb dX0_areSo_87 (by decide) ?_
            exact ih24 (k + 1) _ _ _ (by omega) (by omega) hN hS (lv_sub hl [2, 3, 1, 0] (rfl))
          · have c74 : sFl (sa 1) kd q ((sGo (sa 1) kd (fun q => dr q &&& sMsk nd) kn nd np wh wt mm 0 (sa 4) 0).2.1 q) nd = rf_ k := c74
            have ea : zI (decide ((sGo (sa 1) kd (fun q => dr q &&& sMsk nd) kn nd np wh wt mm 0 (sa 4) 0).1 = -9) && sRds (sa 1) kd (sGo (sa 1) kd (fun q => dr q &&& sMsk nd) kn nd np wh wt mm 0 (sa 4) 0).2.1 nd rw_ rf_ k) &&& 1 = zI (decide ((sGo (sa 1) kd (fun q => dr q &&& sMsk nd) kn nd np wh wt mm 0 (sa 4) 0).1 = -9) && sRds (sa 1) kd (sGo (sa 1) kd (fun q => dr q &&& sMsk nd) kn nd np wh wt mm 0 (sa 4) 0).2.1 nd rw_ rf_ (k + 1)) := by rw [sRds, tq, decide_eq_true c74, Bool.and_true]; exact zI_a1 _
            refine lv_iconst (v := 1) hx hb dX0_areSo_77 (by decide) ?_
            refine lv_goto (tgt := 82) hx hb dX0_areSo_78 (by decide) ?_
            refine lv_iand hx hb dX0_areSo_82 ?_
            refine n_top (y := zI (decide ((sGo (sa 1) kd (fun q => dr q &&& sMsk nd) kn nd np wh wt mm 0 (sa 4) 0).1 = -9) && sRds (sa 1) kd (sGo (sa 1) kd (fun q => dr q &&& sMsk nd) kn nd np wh wt mm 0 (sa 4) 0).2.1 nd rw_ rf_ (k + 1))) (ea) ?_
            refine lv_istore_n (lv' := [(2, _), (0, _), (1, _), (3, _)]) hx hb dX0_areSo_83 rfl hl (by decide) rfl (fun ls hl => ?_)
            refine lv_iinc (v := nI (k + 1)) (lv' := [(3, _), (2, _), (0, _), (1, _)]) hx hb dX0_areSo_84 hl (k := 3) rfl (nI_inc k) (by decide) rfl (fun ls hl => ?_)
            refine lv_goto (tgt := 24) hx hb dX0_areSo_87 (by decide) ?_
            exact ih24 (k + 1) _ _ _ (by omega) (by omega) hN hS (lv_sub hl [2, 3, 1, 0] (rfl))
    exact loop24 (nr + 1) 0 _ _ _ (by omega) (by omega) hN hS (lv_sub hl [2, 3, 1, 0] rfl)
