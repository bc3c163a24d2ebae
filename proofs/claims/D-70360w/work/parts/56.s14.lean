/-! SYSTEM: reading, back: printed by wip/gen/s14.py -/
theorem sRl_j {ad : Nat → Nat} {nr j : Nat} (hj : j < nr) : sRl ad nr j = some (ad (30 + j)) := by
  unfold sRl
  rw [if_pos hj]
theorem sRea.own {G : nG} {ad : Nat → Nat} {x : nPic} {nr : Nat} {rw_ rf_ : AI} (h : sRea G ad x nr rw_ rf_) {j : Nat} (hj : j < nr) : ∃ mc : Int32, x 6 = some (.inr (7, [.int mc, .ref (ad 7), .int (nI nr)])) ∧ x 7 = some (qA (G.1.1 103) 10 (sRl ad nr)) := by
  obtain ⟨-, ⟨mc, ea, h1, h2⟩, -⟩ := h
  rcases h2 with ⟨e, -⟩ | ⟨e, h3⟩
  · omega
  · subst e
    exact ⟨mc, h1, h3⟩
section REA
variable {G : nG} {x : nPic} {ad ad2 : Nat → Nat} {nr j : Nat} {f_ : Int32} {rw_ rf_ : AI} {si : AI} {sa : Nat → AI} {rn : Value} {H : Heap} {mcr : Int32} {er : Value}
theorem rea_new {ad3 : Nat → Nat} {mc3 : Int32} (hQ : sRea G ad x nr rw_ rf_) (h8 : nr < 8) (had : ∀ z, z ≠ 7 → z ≠ 30 + nr → ad3 z = ad z) : sRea G ad3 (va_up (va_up (va_up x (30 + nr) (some (.inr (5, [.int (nI j), .int f_])))) 6 (some (.inr (7, [.int mc3, .ref (ad3 7), .int (nI (nr + 1))])))) 7 (some (qA (G.1.1 103) 10 (sRl ad3 (nr + 1))))) (nr + 1) (upd rw_ nr (nI j)) (upd rf_ nr f_) := by
  refine ⟨by omega, ⟨mc3, .ref (ad3 7), by rw [va_up_ne _ _ (by decide), va_up_self], Or.inr ⟨rfl, va_up_self _ _ _⟩⟩, fun i hi => ?_⟩
  rw [va_up_ne _ _ (by omega), va_up_ne _ _ (by omega)]
  by_cases e : i = nr
  · subst e
    rw [va_up_self, pk_us, pk_us]
  · rw [va_up_ne _ _ (by omega), pk_un e, pk_un e]
    exact hQ.2.2 i (by omega)
theorem sRl_new {ad3 : Nat → Nat} (had : ∀ z, z ≠ 7 → z ≠ 30 + nr → ad3 z = ad z) (h8 : nr < 8) : va_up (sRl ad nr) nr (some (ad3 (30 + nr))) = sRl ad3 (nr + 1) := by
  funext z
  unfold sRl
  by_cases hz : z = nr
  · subst hz
    rw [va_up_self, if_pos (by omega)]
  · rw [va_up_ne _ _ hz]
    by_cases hn : z < nr
    · rw [if_pos hn, if_pos (by omega), had (30 + z) (by omega) (by omega)]
    · rw [if_neg hn, if_neg (by omega)]
theorem rea_add (h : nOk G nCl ad2 (va_up (va_up (sPic G (va_up x (30 + nr) (some (.inr (5, [.int (nI j), .int f_])))) ad2 si sa rn) 6 (some (.inr (7, [.int (mcr + 1), .ref (ad2 7), .int (nI (nr + 1))])))) 7 (some (qA (G.1.1 103) 10 (va_up (sRl ad nr) nr (some (ad2 (30 + nr))))))) H) (hQ : sRea G ad x nr rw_ rf_) (_he : er = .ref (ad 7)) (_hA : x 7 = some (qA (G.1.1 103) 10 (sRl ad nr))) (h8 : nr < 8) (had2 : ∀ z, z ≠ 30 + nr → ad2 z = ad z) :
    ∃ (ad3 : Nat → Nat) (x3 : nPic) (mc3 : Int32) (ea3 : Value), nOk G nCl ad3 (sPic G x3 ad3 si sa rn) H ∧ x3 6 = some (.inr (7, [.int mc3, ea3, .int (nI (nr + 1))])) ∧ sRea G ad3 x3 (nr + 1) (upd rw_ nr (nI j)) (upd rf_ nr f_) ∧ (∀ z, z ≠ 7 → z ≠ 30 + nr → ad3 z = ad z) ∧ (∀ z, z ≠ 6 → z ≠ 7 → z ≠ 30 + nr → x3 z = x z) := by
  have had : ∀ z, z ≠ 7 → z ≠ 30 + nr → ad2 z = ad z := fun z _ h2 => had2 z h2
  rw [sPic_up (by decide), sPic_up (by decide), sRl_new had h8] at h
  refine ⟨ad2, _, mcr + 1, .ref (ad2 7), h, ?_, rea_new hQ h8 had, had, fun z h1 h2 h3 => ?_⟩
  · rw [va_up_ne _ _ (by decide), va_up_self]
  · rw [va_up_ne _ _ h2, va_up_ne _ _ h1, va_up_ne _ _ h3]
theorem rea_addZ {q : Nat} (h : nOk G nCl (va_up ad2 7 q) (va_up (va_up (sPic G (va_up x (30 + nr) (some (.inr (5, [.int (nI j), .int f_])))) ad2 si sa rn) 6 (some (.inr (7, [.int (mcr + 1), .ref q, .int 1])))) 7 (some (qA (G.1.1 103) 10 (va_up (fun _ => none) 0 (some (ad2 (30 + nr))))))) H) (hQ : sRea G ad x nr rw_ rf_) (h0 : nr = 0) (had2 : ∀ z, z ≠ 30 + nr → ad2 z = ad z) :
    ∃ (ad3 : Nat → Nat) (x3 : nPic) (mc3 : Int32) (ea3 : Value), nOk G nCl ad3 (sPic G x3 ad3 si sa rn) H ∧ x3 6 = some (.inr (7, [.int mc3, ea3, .int (nI (nr + 1))])) ∧ sRea G ad3 x3 (nr + 1) (upd rw_ nr (nI j)) (upd rf_ nr f_) ∧ (∀ z, z ≠ 7 → z ≠ 30 + nr → ad3 z = ad z) ∧ (∀ z, z ≠ 6 → z ≠ 7 → z ≠ 30 + nr → x3 z = x z) := by
  have had : ∀ z, z ≠ 7 → z ≠ 30 + nr → va_up ad2 7 q z = ad z := fun z h1 h2 => by rw [va_up_ne _ _ h1]; exact had2 z h2
  have e1 : va_up (fun _ => none) 0 (some (ad2 (30 + nr))) = sRl (va_up ad2 7 q) (nr + 1) := by
    rw [← sRl_new had (by omega), va_up_ne ad2 q (by omega)]
    subst h0
    congr 1
  have e2 : (.int 1 : Value) = .int (nI (nr + 1)) := by rw [h0]; rfl
  have e3 : va_up ad2 7 q 7 = q := va_up_self _ _ _
  have e4 : sPic G (va_up x (30 + nr) (some (.inr (5, [.int (nI j), .int f_])))) (va_up ad2 7 q) si sa rn = sPic G (va_up x (30 + nr) (some (.inr (5, [.int (nI j), .int f_])))) ad2 si sa rn := by
    funext i
    unfold sPic sF
    rw [va_up_ne ad2 q (by decide), va_up_ne ad2 q (by decide), va_up_ne ad2 q (by decide), va_up_ne ad2 q (by decide), va_up_ne ad2 q (by decide), va_up_ne ad2 q (by decide)]
  rw [← e4, sPic_up (by decide), sPic_up (by decide), e1, e2] at h
  have hn := rea_new (j := j) (f_ := f_) (mc3 := mcr + 1) hQ (by omega) had
  rw [e3] at hn
  refine ⟨va_up ad2 7 q, _, mcr + 1, .ref q, h, ?_, hn, had, fun z h1 h2 h3 => ?_⟩
  · rw [va_up_ne _ _ (by decide), va_up_self]
  · rw [va_up_ne _ _ h2, va_up_ne _ _ h1, va_up_ne _ _ h3]
theorem rea_rm {x1 : nPic} {r : Nat} {mc1 : Int32} (h : nOk G nCl ad (va_up (va_up (sPic G x1 ad si sa rn) 6 (some (.inr (7, [.int (mc1 + 1), .ref (ad 7), .int (nI r)])))) 7 (some (qA (G.1.1 103) 10 (va_up (sRl ad (r + 1)) r none)))) H) (hQ : sRea G ad x1 (r + 1) rw_ rf_) (_hR : x1 6 = some (.inr (7, [.int mc1, .ref (ad 7), .int (nI (r + 1))]))) (hx : ∀ z, z ≠ 6 → z ≠ 7 → x1 z = x z) :
    ∃ x2 : nPic, nOk G nCl ad (sPic G x2 ad si sa rn) H ∧ sRea G ad x2 r rw_ rf_ ∧ (∀ z, z ≠ 6 → z ≠ 7 → x2 z = x z) := by
  have e : va_up (sRl ad (r + 1)) r none = sRl ad r := by
    funext z
    unfold sRl
    by_cases hz : z = r
    · subst hz
      rw [va_up_self, if_neg (by omega)]
    · rw [va_up_ne _ _ hz]
      by_cases hn : z < r
      · rw [if_pos hn, if_pos (by omega)]
      · rw [if_neg hn, if_neg (by omega)]
  rw [sPic_up (by decide), sPic_up (by decide), e] at h
  have h8 := hQ.1
  refine ⟨_, h, ⟨by omega, ⟨mc1 + 1, .ref (ad 7), by rw [va_up_ne _ _ (by decide), va_up_self], Or.inr ⟨rfl, va_up_self _ _ _⟩⟩, fun i hi => ?_⟩, fun z h1 h2 => ?_⟩
  · rw [va_up_ne _ _ (by omega), va_up_ne _ _ (by omega)]
    exact hQ.2.2 i (by omega)
  · rw [va_up_ne _ _ h2, va_up_ne _ _ h1]
    exact hx z h1 h2
end REA
set_option maxHeartbeats 1000000 in
set_option maxRecDepth 100000 in
theorem sX0_reading (l : Launch) (G : nG) (K : State → Prop) (hKo : nKo G K) (hK0 : ∀ U, K U → sK0 G U) (ad : Nat → Nat) (x : nPic) (si : AI) (sa : Nat → AI) (rn : Value) (p_ f_ : Int32) (np : Nat) (kd dr kn : AI) (hP : sPeo G ad x np kd dr kn) (nr : Nat) (rw_ rf_ : AI) (hQ : sRea G ad x nr rw_ rf_) : Met l yX0_reading (ws_ yX0_reading cX0_reading 3 (some .int)) (sR 5 2 12) (nPc G nCl K ad (sPic G x ad si sa rn) [.ref (ad 0), .int p_, .int f_]) (nQ G nCl (fun rv ad' c' => ∃ x' : nPic, rv = some (.int (oRdg np nr rw_ rf_ p_ f_).1) ∧ (∀ z, z ≠ 7 → z ≠ 30 + nr → ad' z = ad z) ∧ (∀ z, z ≠ 6 → z ≠ 7 → z ≠ 30 + nr → x' z = x z) ∧ sRea G ad' x' (oRdg np nr rw_ rf_ p_ f_).2.1 (oRdg np nr rw_ rf_ p_ f_).2.2.1 (oRdg np nr rw_ rf_ p_ f_).2.2.2 ∧ sPic G x' ad' si sa rn = c')) 2 12 (fun q => G.2 ≤ q) := by
  refine nMet RX0 (by decide) rfl (Nat.le_of_ble_eq_true rfl) ?_
  intro p e s m below meth c ls SS hR hK hN hS hl
  obtain ⟨hx, hb, hml, hown, hts⟩ := id SS
  obtain ⟨hr, hlk, hnm⟩ := hR
  obtain ⟨hKv, hKw, hKf, hKz, hKm⟩ := hK0 s hK
  generalize s.heap = H at hN hS ⊢
  generalize ([] : List Loc) = locs at hS ⊢
  have hl : lv_has ls 3 [(0, .ref (ad 0)), (1, .int p_), (2, .int f_)] := hl
  have hnp4 := hP.1
  obtain ⟨hr8, ⟨mcr, er, hRl, hor⟩, hrs⟩ := id hQ
  have hRc : (sPic G x ad si sa rn) 6 = _ := (sPic_x (by decide)).trans hRl
  by_cases h1 : sIn p_ np = true
  · obtain ⟨j, hj, rfl, tj⟩ := sIn_t (by omega) h1
    refine lv_aload_n hx hb dX0_reading_0 rfl (lv_at hl 0 rfl) ?_
    refine lv_iload_n hx hb dX0_reading_1 rfl (lv_at hl 1 rfl) ?_
    refine n_callV (C := RX0) (As := [_]) (b := 0) SS hKo hK hKv (sX0_noPerson l G K hKo hK0 ad x si sa rn _ np kd dr kn hP) (cwV 1 hts (lw_V q171 q173 qs0 q57 q174) rfl rfl rfl (by decide +kernel) ⟨Nat.le_of_ble_eq_true rfl, Nat.le_of_ble_eq_true rfl⟩) hN hS sPic_0 rfl rfl hl.1 rfl (Nat.le_of_ble_eq_true rfl) dX0_reading_2 ⟨Nat.le_of_ble_eq_true rfl, Nat.le_of_ble_eq_true rfl⟩ (fun v ad' c' H locs hv hN hS => ?_)
    obtain ⟨rfl, rfl, rfl⟩ := hv
    refine W.eq (g2 := F0 m 5 ls (_ :: _)) rfl ?_
    refine n_top (y := 0) (by rw [h1]; rfl) ?_
    refine lv_if_eq (tgt := 10) hx hb dX0_reading_5 (by decide) (fun c5 => ?_) (fun c5 => absurd c5 (fun z => z rfl))
    refine lv_iload_n hx hb dX0_reading_10 rfl (lv_at hl 2 rfl) ?_
    refine lv_i2l hx hb dX0_reading_11 rfl ?_
    refine lv_lconst (v := 0) hx hb dX0_reading_12 (by decide) ?_
    refine lv_ldc2 hx hb hown (hts _ q330) dX0_reading_13 ?_
    refine n_callS (As := [_, _, _]) SS hKo hK (sX0_in l G K hKo hK0 ad _ f_ 0 99) (va_cwS 3 hts (lw_S q185 q186 q57 q187) rfl rfl rfl (by decide +kernel) ⟨Nat.le_of_ble_eq_true rfl, Nat.le_of_ble_eq_true rfl⟩) hN hS rfl hl.1 rfl (Nat.le_of_ble_eq_true rfl) dX0_reading_16 ⟨Nat.le_of_ble_eq_true rfl, Nat.le_of_ble_eq_true rfl⟩ (fun v ad' c' H locs hv hN hS => ?_)
    obtain ⟨rfl, rfl, rfl⟩ := hv
    refine W.eq (g2 := F0 m 19 ls (_ :: _)) rfl ?_
    refine lv_if_ne (tgt := 25) hx hb dX0_reading_19 (by decide) (fun c19 => ?_) (fun c19 => ?_)
    · have hf := zI_n0 c19
      refine lv_aload_n hx hb dX0_reading_25 rfl (lv_at hl 0 rfl) ?_
      refine n_get (ci := 0) (C := RX0) (T := TX0) (N := 12) hx hb hts in_X0 hown hKv hN (0) sPic_0 rfl 8 (by decide) q136 (fun z h => h) (rfl) dX0_reading_26 ?_
      refine n_callF (As := []) (C := RJ2) (b := 6) SS hKo hK hKv (tJ2_size l G K hKo hK0 ad _ 6 mcr er nr hRc) (va_cwF 0 hts (lw_F q176 q180 q182 q60 q184) rfl rfl rfl (hKf (RJ2, ⟨"java/util/List", "size", "()I"⟩, ⟨"java/util/ArrayList", "size", "()I"⟩) (List.mem_of_getElem? (i := 0) rfl)) (by decide +kernel) ⟨Nat.le_of_ble_eq_true rfl, Nat.le_of_ble_eq_true rfl⟩) hN hS hRc rfl rfl hl.1 rfl (Nat.le_of_ble_eq_true rfl) dX0_reading_29 ⟨Nat.le_of_ble_eq_true rfl, Nat.le_of_ble_eq_true rfl⟩ (fun v ad' c' H locs hv hN hS => ?_)
      obtain ⟨rfl, rfl, rfl⟩ := hv
      refine W.eq (g2 := F0 m 34 ls (_ :: _)) rfl ?_
      refine lv_bipush (v := 8) hx hb dX0_reading_34 (by decide) ?_
      refine lv_icmp_ne (tgt := 42) hx hb dX0_reading_36 (by decide) (fun c36 => ?_) (fun c36 => ?_)
      · have h8 : ¬ nr = 8 := fun z => c36 (by rw [z]; rfl)
        refine lv_aload_n hx hb dX0_reading_42 rfl (lv_at hl 0 rfl) ?_
        refine n_get (ci := 0) (C := RX0) (T := TX0) (N := 12) hx hb hts in_X0 hown hKv hN (0) sPic_0 rfl 8 (by decide) q136 (fun z h => h) (rfl) dX0_reading_43 ?_
        refine n_new (C := RX9) (T := TX9) (N := 2) (ci := 5) (fs := [.int 0, .int 0]) hx hb hts in_X9 tyX9 tyX9_ok hown q331 q332 q86 hKv hN hS (30 + nr) rfl (by intro j hj; rcases (show j = 0 ∨ j = 1 by omega) with rfl | rfl <;> rfl) (Nat.le_of_ble_eq_true rfl) (Nat.le_of_ble_eq_true rfl) dX0_reading_46 (fun q46 H hN hS => ?_)
        obtain ⟨ad2, e2⟩ : ∃ ad2, ad2 = va_up ad (30 + nr) q46 := ⟨_, rfl⟩
        have had2 : ∀ z, z ≠ 30 + nr → ad2 z = ad z := fun z hz => by rw [e2]; exact va_up_ne ad _ hz
        have hq2 : ad2 (30 + nr) = q46 := by rw [e2]; exact va_up_self _ _ _
        have hN : nOk G nCl ad2 (sPic G (va_up x (30 + nr) (some (.inr (5, [.int 0, .int 0])))) ad2 si sa rn) H := by rw [sPic_ad (ad := ad) (fun z hz => had2 z (by omega)), ← sPic_up ⟨by omega, by omega, by omega, by omega⟩]; exact e2 ▸ hN
        rw [← had2 0 (by omega)] at hl
        refine W.eq (g2 := F0 m 49 ls [.ref (ad2 (30 + nr)), .ref (ad2 6)]) (by rw [hq2, had2 6 (by omega)] <;> rfl) ?_
        refine lv_dup hx hb dX0_reading_49 rfl ?_
        refine lv_iload_n hx hb dX0_reading_50 rfl (lv_at hl 1 rfl) ?_
        refine lv_iload_n hx hb dX0_reading_51 rfl (lv_at hl 2 rfl) ?_
        refine n_callI (As := [_, _]) SS hKo hK (tX9_init l G K hKo hK0 ad2 _ (30 + nr) _ _ ((sPic_x ⟨by omega, by omega, by omega, by omega⟩).trans (va_up_self x (30 + nr) (some (.inr (5, [.int 0, .int 0]))))) (nI j) f_) (cwI 2 hts (lw_meth q335) rfl rfl rfl (hts _ q86) (hts _ q333) (hts _ q334) rfl (by decide +kernel) ⟨Nat.le_of_ble_eq_true rfl, Nat.le_of_ble_eq_true rfl⟩) hN hS rfl hl.1 rfl (Nat.le_of_ble_eq_true rfl) dX0_reading_52 ⟨Nat.le_of_ble_eq_true rfl, Nat.le_of_ble_eq_true rfl⟩ (fun v ad' c' H locs hv hN hS => ?_)
        obtain ⟨rfl, rfl, rfl⟩ := hv
        have hN : nOk G nCl ad2 (sPic G (va_up x (30 + nr) (some (.inr (5, [.int (nI j), .int f_])))) ad2 si sa rn) H := by rw [sPic_up ⟨by omega, by omega, by omega, by omega⟩, va_up_up] at hN; exact hN
        refine W.eq (g2 := F0 m 55 ls _) rfl ?_
        have hE2 : nEl (sPic G (va_up x (30 + nr) (some (.inr (5, [.int (nI j), .int f_])))) ad2 si sa rn) (30 + nr) := ⟨5, _, (sPic_x ⟨by omega, by omega, by omega, by omega⟩).trans (va_up_self x (30 + nr) (some (.inr (5, [.int (nI j), .int f_])))), rfl⟩
        rcases hor with hor | hor
        · have hRc : (sPic G (va_up x (30 + nr) (some (.inr (5, [.int (nI j), .int f_])))) ad2 si sa rn) 6 = some (.inr (7, [.int mcr, .ref (nDea G), .int 0])) := by rw [sPic_x (by decide), va_up_ne _ _ (by omega), hRl, hor.1, hor.2]; rfl
          refine n_callF (As := [_]) (C := RJ2) (b := 6) SS hKo hK hKv (tJ2_addZ l G K hKo hK0 ad2 _ 6 mcr hRc 7 (30 + nr) (by decide) (by omega) (by omega) hE2) (va_cwF 1 hts (lw_F q347 q350 q352 q60 q354) rfl rfl rfl (hKf (RJ2, ⟨"java/util/List", "add", "(Ljava/lang/Object;)Z"⟩, ⟨"java/util/ArrayList", "add", "(Ljava/lang/Object;)Z"⟩) (List.mem_of_getElem? (i := 3) rfl)) (by decide +kernel) ⟨Nat.le_of_ble_eq_true rfl, Nat.le_of_ble_eq_true rfl⟩) hN hS hRc rfl rfl hl.1 rfl (Nat.le_of_ble_eq_true rfl) dX0_reading_55 ⟨Nat.le_of_ble_eq_true rfl, Nat.le_of_ble_eq_true rfl⟩ (fun v ad' c' H locs hv hN hS => ?_)
          obtain ⟨q, rfl, rfl, rfl⟩ := hv
          obtain ⟨ad3, x3, mc3, ea3, hN, hx36, hQ3, hz3, hxx⟩ := rea_addZ (j := j) hN hQ hor.1 had2
          refine W.eq (g2 := F0 m 60 ls (_ :: _)) rfl ?_
          rw [had2 0 (by omega)] at hl
          have hRc : (sPic G x3 ad3 si sa rn) 6 = some (.inr (7, [.int mc3, ea3, .int (nI (nr + 1))])) := (sPic_x (by decide)).trans hx36
          rw [← hz3 0 (by omega) (by omega)] at hl
          refine W.eq (g2 := F0 m 60 ls [.int 1]) rfl ?_
          refine lv_pop hx hb dX0_reading_60 rfl ?_
          refine lv_aload_n hx hb dX0_reading_61 rfl (lv_at hl 0 rfl) ?_
          refine n_get (ci := 0) (C := RX0) (T := TX0) (N := 12) hx hb hts in_X0 hown hKv hN (0) sPic_0 rfl 8 (by decide) q136 (fun z h => h) (rfl) dX0_reading_62 ?_
          refine n_callF (As := []) (C := RJ2) (b := 6) SS hKo hK hKv (tJ2_size l G K hKo hK0 ad3 _ 6 mc3 ea3 (nr + 1) hRc) (va_cwF 0 hts (lw_F q176 q180 q182 q60 q184) rfl rfl rfl (hKf (RJ2, ⟨"java/util/List", "size", "()I"⟩, ⟨"java/util/ArrayList", "size", "()I"⟩) (List.mem_of_getElem? (i := 0) rfl)) (by decide +kernel) ⟨Nat.le_of_ble_eq_true rfl, Nat.le_of_ble_eq_true rfl⟩) hN hS hRc rfl rfl hl.1 rfl (Nat.le_of_ble_eq_true rfl) dX0_reading_65 ⟨Nat.le_of_ble_eq_true rfl, Nat.le_of_ble_eq_true rfl⟩ (fun v ad' c' H locs hv hN hS => ?_)
          obtain ⟨rfl, rfl, rfl⟩ := hv
          refine W.eq (g2 := F0 m 70 ls (_ :: _)) rfl ?_
          refine lv_iconst (v := 1) hx hb dX0_reading_70 (by decide) ?_
          refine lv_isub hx hb dX0_reading_71 ?_
          refine n_top (y := nI nr) (nI_pred nr) ?_
          refine W.widen (k := 2) (n := 12) (by first | omega | decide) (by first | omega | decide) ?_
          exact W.iret hx hb hr (nEnd hN hS ⟨x3, by unfold oRdg; rw [if_pos h1, if_pos hf, if_neg h8], hz3, hxx, by unfold oRdg; rw [if_pos h1, if_pos hf, if_neg h8]; exact hQ3, rfl⟩) hS.2 dX0_reading_72
        · have hRc : (sPic G (va_up x (30 + nr) (some (.inr (5, [.int (nI j), .int f_])))) ad2 si sa rn) 6 = some (.inr (7, [.int mcr, .ref (ad2 7), .int (nI nr)])) := by rw [sPic_x (by decide), va_up_ne _ _ (by omega), hRl, hor.1, had2 7 (by omega)]
          have hA2 : (sPic G (va_up x (30 + nr) (some (.inr (5, [.int (nI j), .int f_])))) ad2 si sa rn) 7 = some (qA (G.1.1 103) 10 (sRl ad nr)) := by rw [sPic_x (by decide), va_up_ne _ _ (by omega), hor.2]
          refine n_callF (As := [_]) (C := RJ2) (b := 6) SS hKo hK hKv (tJ2_add l G K hKo hK0 ad2 _ 6 7 mcr nr 10 (sRl ad nr) hRc hA2 (by decide) (30 + nr) (by decide) (by omega) (by omega) hE2) (va_cwF 1 hts (lw_F q347 q350 q352 q60 q354) rfl rfl rfl (hKf (RJ2, ⟨"java/util/List", "add", "(Ljava/lang/Object;)Z"⟩, ⟨"java/util/ArrayList", "add", "(Ljava/lang/Object;)Z"⟩) (List.mem_of_getElem? (i := 3) rfl)) (by decide +kernel) ⟨Nat.le_of_ble_eq_true rfl, Nat.le_of_ble_eq_true rfl⟩) hN hS hRc rfl rfl hl.1 rfl (Nat.le_of_ble_eq_true rfl) dX0_reading_55 ⟨Nat.le_of_ble_eq_true rfl, Nat.le_of_ble_eq_true rfl⟩ (fun v ad' c' H locs hv hN hS => ?_)
          obtain ⟨rfl, rfl, rfl⟩ := hv
          obtain ⟨ad3, x3, mc3, ea3, hN, hx36, hQ3, hz3, hxx⟩ := rea_add (j := j) hN hQ hor.1 hor.2 (by omega) had2
          refine W.eq (g2 := F0 m 60 ls (_ :: _)) rfl ?_
          rw [had2 0 (by omega)] at hl
          have hRc : (sPic G x3 ad3 si sa rn) 6 = some (.inr (7, [.int mc3, ea3, .int (nI (nr + 1))])) := (sPic_x (by decide)).trans hx36
          rw [← hz3 0 (by omega) (by omega)] at hl
          refine W.eq (g2 := F0 m 60 ls [.int 1]) rfl ?_
          refine lv_pop hx hb dX0_reading_60 rfl ?_
          refine lv_aload_n hx hb dX0_reading_61 rfl (lv_at hl 0 rfl) ?_
          refine n_get (ci := 0) (C := RX0) (T := TX0) (N := 12) hx hb hts in_X0 hown hKv hN (0) sPic_0 rfl 8 (by decide) q136 (fun z h => h) (rfl) dX0_reading_62 ?_
          refine n_callF (As := []) (C := RJ2) (b := 6) SS hKo hK hKv (tJ2_size l G K hKo hK0 ad3 _ 6 mc3 ea3 (nr + 1) hRc) (va_cwF 0 hts (lw_F q176 q180 q182 q60 q184) rfl rfl rfl (hKf (RJ2, ⟨"java/util/List", "size", "()I"⟩, ⟨"java/util/ArrayList", "size", "()I"⟩) (List.mem_of_getElem? (i := 0) rfl)) (by decide +kernel) ⟨Nat.le_of_ble_eq_true rfl, Nat.le_of_ble_eq_true rfl⟩) hN hS hRc rfl rfl hl.1 rfl (Nat.le_of_ble_eq_true rfl) dX0_reading_65 ⟨Nat.le_of_ble_eq_true rfl, Nat.le_of_ble_eq_true rfl⟩ (fun v ad' c' H locs hv hN hS => ?_)
          obtain ⟨rfl, rfl, rfl⟩ := hv
          refine W.eq (g2 := F0 m 70 ls (_ :: _)) rfl ?_
          refine lv_iconst (v := 1) hx hb dX0_reading_70 (by decide) ?_
          refine lv_isub hx hb dX0_reading_71 ?_
          refine n_top (y := nI nr) (nI_pred nr) ?_
          refine W.widen (k := 2) (n := 12) (by first | omega | decide) (by first | omega | decide) ?_
          exact W.iret hx hb hr (nEnd hN hS ⟨x3, by unfold oRdg; rw [if_pos h1, if_pos hf, if_neg h8], hz3, hxx, by unfold oRdg; rw [if_pos h1, if_pos hf, if_neg h8]; exact hQ3, rfl⟩) hS.2 dX0_reading_72
      · have h8 : nr = 8 := (nI_eq (a := nr) (b := 8) (by omega) (by omega)).mp c36
        refine lv_bipush (v := (-4)) hx hb dX0_reading_39 (by decide) ?_
        refine W.widen (k := 2) (n := 12) (by first | omega | decide) (by first | omega | decide) ?_
        exact W.iret hx hb hr (nEnd hN hS ⟨x, by unfold oRdg; rw [if_pos h1, if_pos hf, if_pos h8], fun _ _ _ => rfl, fun _ _ _ _ => rfl, by unfold oRdg; rw [if_pos h1, if_pos hf, if_pos h8]; exact hQ, rfl⟩) hS.2 dX0_reading_41
    · have hf := zI_0.mp c19
      refine lv_bipush (v := (-2)) hx hb dX0_reading_22 (by decide) ?_
      refine W.widen (k := 2) (n := 12) (by first | omega | decide) (by first | omega | decide) ?_
      exact W.iret hx hb hr (nEnd hN hS ⟨x, by unfold oRdg; rw [if_pos h1, hf]; rfl, fun _ _ _ => rfl, fun _ _ _ _ => rfl, by unfold oRdg; rw [if_pos h1, hf]; exact hQ, rfl⟩) hS.2 dX0_reading_24
  · have h1 : sIn p_ np = false := by simpa using h1
    refine lv_aload_n hx hb dX0_reading_0 rfl (lv_at hl 0 rfl) ?_
    refine lv_iload_n hx hb dX0_reading_1 rfl (lv_at hl 1 rfl) ?_
    refine n_callV (C := RX0) (As := [_]) (b := 0) SS hKo hK hKv (sX0_noPerson l G K hKo hK0 ad x si sa rn _ np kd dr kn hP) (cwV 1 hts (lw_V q171 q173 qs0 q57 q174) rfl rfl rfl (by decide +kernel) ⟨Nat.le_of_ble_eq_true rfl, Nat.le_of_ble_eq_true rfl⟩) hN hS sPic_0 rfl rfl hl.1 rfl (Nat.le_of_ble_eq_true rfl) dX0_reading_2 ⟨Nat.le_of_ble_eq_true rfl, Nat.le_of_ble_eq_true rfl⟩ (fun v ad' c' H locs hv hN hS => ?_)
    obtain ⟨rfl, rfl, rfl⟩ := hv
    refine W.eq (g2 := F0 m 5 ls (_ :: _)) rfl ?_
    refine n_top (y := 1) (by rw [h1]; rfl) ?_
    refine lv_if_eq (tgt := 10) hx hb dX0_reading_5 (by decide) (fun c5 => absurd c5 (by decide)) (fun c5 => ?_)
    refine lv_iconst (v := (-1)) hx hb dX0_reading_8 (by decide) ?_
    refine W.widen (k := 2) (n := 12) (by first | omega | decide) (by first | omega | decide) ?_
    exact W.iret hx hb hr (nEnd hN hS ⟨x, by unfold oRdg; rw [h1]; rfl, fun _ _ _ => rfl, fun _ _ _ _ => rfl, by unfold oRdg; rw [h1]; exact hQ, rfl⟩) hS.2 dX0_reading_9
set_option maxHeartbeats 1000000 in
set_option maxRecDepth 100000 in
theorem sX0_back (l : Launch) (G : nG) (K : State → Prop) (hKo : nKo G K) (hK0 : ∀ U, K U → sK0 G U) (ad : Nat → Nat) (x : nPic) (si : AI) (sa : Nat → AI) (rn : Value) (k_ : Int32) (nr : Nat) (rw_ rf_ : AI) (hQ : sRea G ad x nr rw_ rf_) : Met l yX0_back (ws_ yX0_back cX0_back 3 (some .int)) (sR 3 0 0) (nPc G nCl K ad (sPic G x ad si sa rn) [.ref (ad 0), .int k_]) (nQ G nCl (fun rv ad' c' => ∃ x' : nPic, rv = some (.int (oBck nr k_).1) ∧ ad = ad' ∧ (∀ z, z ≠ 6 → z ≠ 7 → x' z = x z) ∧ sRea G ad x' (oBck nr k_).2 rw_ rf_ ∧ sPic G x' ad si sa rn = c')) 0 0 (fun q => G.2 ≤ q) := by
  refine nMet RX0 (by decide) rfl (Nat.le_of_ble_eq_true rfl) ?_
  intro p e s m below meth c ls SS hR hK hN hS hl
  obtain ⟨hx, hb, hml, hown, hts⟩ := id SS
  obtain ⟨hr, hlk, hnm⟩ := hR
  obtain ⟨hKv, hKw, hKf, hKz, hKm⟩ := hK0 s hK
  generalize s.heap = H at hN hS ⊢
  generalize ([] : List Loc) = locs at hS ⊢
  have hl : lv_has ls 3 [(0, .ref (ad 0)), (1, .int k_)] := hl
  obtain ⟨hr8, ⟨mcr, er, hRl, hor⟩, hrs⟩ := id hQ
  have hRc : (sPic G x ad si sa rn) 6 = _ := (sPic_x (by decide)).trans hRl
  refine lv_iload_n hx hb dX0_back_0 rfl (lv_at hl 1 rfl) ?_
  refine lv_i2l hx hb dX0_back_1 rfl ?_
  refine lv_lconst (v := 0) hx hb dX0_back_2 (by decide) ?_
  refine lv_aload_n hx hb dX0_back_3 rfl (lv_at hl 0 rfl) ?_
  refine n_get (ci := 0) (C := RX0) (T := TX0) (N := 12) hx hb hts in_X0 hown hKv hN (0) sPic_0 rfl 8 (by decide) q136 (fun z h => h) (rfl) dX0_back_4 ?_
  refine n_callF (As := []) (C := RJ2) (b := 6) SS hKo hK hKv (tJ2_size l G K hKo hK0 ad _ 6 mcr er nr hRc) (va_cwF 0 hts (lw_F q176 q180 q182 q60 q184) rfl rfl rfl (hKf (RJ2, ⟨"java/util/List", "size", "()I"⟩, ⟨"java/util/ArrayList", "size", "()I"⟩) (List.mem_of_getElem? (i := 0) rfl)) (by decide +kernel) ⟨Nat.le_of_ble_eq_true rfl, Nat.le_of_ble_eq_true rfl⟩) hN hS hRc rfl rfl hl.1 rfl (Nat.le_of_ble_eq_true rfl) dX0_back_7 ⟨Nat.le_of_ble_eq_true rfl, Nat.le_of_ble_eq_true rfl⟩ (fun v ad' c' H locs hv hN hS => ?_)
  obtain ⟨rfl, rfl, rfl⟩ := hv
  refine W.eq (g2 := F0 m 12 ls (_ :: _)) rfl ?_
  refine lv_i2l hx hb dX0_back_12 rfl ?_
  refine n_callS (As := [_, _, _]) SS hKo hK (sX0_in l G K hKo hK0 ad _ k_ 0 (nI nr)) (va_cwS 3 hts (lw_S q185 q186 q57 q187) rfl rfl rfl (by decide +kernel) ⟨Nat.le_of_ble_eq_true rfl, Nat.le_of_ble_eq_true rfl⟩) hN hS rfl hl.1 rfl (Nat.le_of_ble_eq_true rfl) dX0_back_13 ⟨Nat.le_of_ble_eq_true rfl, Nat.le_of_ble_eq_true rfl⟩ (fun v ad' c' H locs hv hN hS => ?_)
  obtain ⟨rfl, rfl, rfl⟩ := hv
  refine W.eq (g2 := F0 m 16 ls (_ :: _)) rfl ?_
  refine lv_if_ne (tgt := 22) hx hb dX0_back_16 (by decide) (fun c16 => ?_) (fun c16 => ?_)
  · have hb1 := zI_n0 c16
    obtain ⟨kk, hkk, rfl, tk⟩ := sBt_t nr (by omega) hb1
    refine lv_iconst (v := nI 0) hx hb dX0_back_22 (rfl) ?_
    refine lv_istore_n (lv' := [(2, _), (0, _), (1, _)]) hx hb dX0_back_23 rfl hl (by decide) rfl (fun ls hl => ?_)
    have loop24 : ∀ (n : Nat) (i : Nat) (x1 : nPic) (H : Heap) (locs : List Loc) (ls : Array Slot), kk + 1 ≤ n + i → i ≤ kk → sRea G ad x1 (nr - i) rw_ rf_ → (∀ z, z ≠ 6 → z ≠ 7 → x1 z = x z) → nOk G nCl ad (sPic G x1 ad si sa rn) H → nS G s H locs → lv_has ls 3 [(0, .ref (ad 0)), (1, .int (nI kk)), (2, .int (nI i))] → W p l e (sR 3 0 0) s m ([.ref (ad 0), .int (nI kk)] : List Value).toArray below meth c H locs 0 0 (MQ below (nQ G nCl (fun rv ad' c' => ∃ x' : nPic, rv = some (.int (oBck nr (nI kk)).1) ∧ ad = ad' ∧ (∀ z, z ≠ 6 → z ≠ 7 → x' z = x z) ∧ sRea G ad x' (oBck nr (nI kk)).2 rw_ rf_ ∧ sPic G x' ad si sa rn = c')) ([.ref (ad 0), .int (nI kk)] : List Value).toArray s 0 0 (fun q => G.2 ≤ q)) (F0 m 24 ls []) := by
      intro n
      induction n with
      | zero => intro i x1 H locs ls hfuel hi hQ1 hx1 hN hS hl; exact absurd hfuel (by omega)
      | succ n ih24 =>
        intro i x1 H locs ls hfuel hi hQ1 hx1 hN hS hl
        refine lv_iload_n hx hb dX0_back_24 rfl (lv_at hl 2 rfl) ?_
        refine lv_iload_n hx hb dX0_back_25 rfl (lv_at hl 1 rfl) ?_
        refine lv_icmp_ge (tgt := 56) hx hb dX0_back_26 (by decide) (fun c26 => ?_) (fun c26 => ?_)
        · have c26 : kk ≤ i := (nI_leI (by omega) (by omega)).mp c26
          have ei : i = kk := by omega
          obtain ⟨-, ⟨mc1, er1, hR1, -⟩, -⟩ := id hQ1
          have hRc : (sPic G x1 ad si sa rn) 6 = _ := (sPic_x (by decide)).trans hR1
          refine lv_aload_n hx hb dX0_back_56 rfl (lv_at hl 0 rfl) ?_
          refine n_get (ci := 0) (C := RX0) (T := TX0) (N := 12) hx hb hts in_X0 hown hKv hN (0) sPic_0 rfl 8 (by decide) q136 (fun z h => h) (rfl) dX0_back_57 ?_
          refine n_callF (As := []) (C := RJ2) (b := 6) SS hKo hK hKv (tJ2_size l G K hKo hK0 ad _ 6 mc1 er1 (nr - i) hRc) (va_cwF 0 hts (lw_F q176 q180 q182 q60 q184) rfl rfl rfl (hKf (RJ2, ⟨"java/util/List", "size", "()I"⟩, ⟨"java/util/ArrayList", "size", "()I"⟩) (List.mem_of_getElem? (i := 0) rfl)) (by decide +kernel) ⟨Nat.le_of_ble_eq_true rfl, Nat.le_of_ble_eq_true rfl⟩) hN hS hRc rfl rfl hl.1 rfl (Nat.le_of_ble_eq_true rfl) dX0_back_60 ⟨Nat.le_of_ble_eq_true rfl, Nat.le_of_ble_eq_true rfl⟩ (fun v ad' c' H locs hv hN hS => ?_)
          obtain ⟨rfl, rfl, rfl⟩ := hv
          refine W.eq (g2 := F0 m 65 ls (_ :: _)) rfl ?_
          exact W.iret hx hb hr (nEnd hN hS ⟨x1, by unfold oBck; rw [if_pos hb1, tk, ei], rfl, hx1, by unfold oBck; rw [if_pos hb1, tk, ← ei]; exact hQ1, rfl⟩) hS.2 dX0_back_65
        · have c26 : i < kk := by have := mt (nI_leI (a := kk) (b := i) (by omega) (by omega)).mpr c26; omega
          obtain ⟨r, er_⟩ : ∃ r, nr - i = r + 1 := ⟨nr - i - 1, by omega⟩
          rw [er_] at hQ1
          obtain ⟨mc1, hR1, hA1_⟩ := hQ1.own (j := r) (by omega)
          have hRc : (sPic G x1 ad si sa rn) 6 = _ := (sPic_x (by decide)).trans hR1
          have hA1 : (sPic G x1 ad si sa rn) 7 = _ := (sPic_x (by decide)).trans hA1_
          have e1_ : nr - (i + 1) = r := by omega
          refine lv_aload_n hx hb dX0_back_29 rfl (lv_at hl 0 rfl) ?_
          refine n_get (ci := 0) (C := RX0) (T := TX0) (N := 12) hx hb hts in_X0 hown hKv hN (0) sPic_0 rfl 8 (by decide) q136 (fun z h => h) (rfl) dX0_back_30 ?_
          refine lv_aload_n hx hb dX0_back_33 rfl (lv_at hl 0 rfl) ?_
          refine n_get (ci := 0) (C := RX0) (T := TX0) (N := 12) hx hb hts in_X0 hown hKv hN (0) sPic_0 rfl 8 (by decide) q136 (fun z h => h) (rfl) dX0_back_34 ?_
          refine n_callF (As := []) (C := RJ2) (b := 6) SS hKo hK hKv (tJ2_size l G K hKo hK0 ad _ 6 mc1 _ (r + 1) hRc) (va_cwF 0 hts (lw_F q176 q180 q182 q60 q184) rfl rfl rfl (hKf (RJ2, ⟨"java/util/List", "size", "()I"⟩, ⟨"java/util/ArrayList", "size", "()I"⟩) (List.mem_of_getElem? (i := 0) rfl)) (by decide +kernel) ⟨Nat.le_of_ble_eq_true rfl, Nat.le_of_ble_eq_true rfl⟩) hN hS hRc rfl rfl hl.1 rfl (Nat.le_of_ble_eq_true rfl) dX0_back_37 ⟨Nat.le_of_ble_eq_true rfl, Nat.le_of_ble_eq_true rfl⟩ (fun v ad' c' H locs hv hN hS => ?_)
          obtain ⟨rfl, rfl, rfl⟩ := hv
          refine W.eq (g2 := F0 m 42 ls (_ :: _)) rfl ?_
          refine lv_iconst (v := 1) hx hb dX0_back_42 (by decide) ?_
          refine lv_isub hx hb dX0_back_43 ?_
          refine n_top (y := nI r) (nI_pred r) ?_
          refine n_callF (As := [_]) (C := RJ2) (b := 6) SS hKo hK hKv (tJ2_remove l G K hKo hK0 ad _ 6 7 mc1 r 10 (sRl ad (r + 1)) hRc hA1 (by decide) (by decide) (by omega) (ad (30 + r)) (sRl_j (by omega))) (va_cwF 1 hts (lw_F q421 q424 q426 q60 q428) rfl rfl rfl (hKf (RJ2, ⟨"java/util/List", "remove", "(I)Ljava/lang/Object;"⟩, ⟨"java/util/ArrayList", "remove", "(I)Ljava/lang/Object;"⟩) (List.mem_of_getElem? (i := 6) rfl)) (by decide +kernel) ⟨Nat.le_of_ble_eq_true rfl, Nat.le_of_ble_eq_true rfl⟩) hN hS hRc rfl rfl hl.1 rfl (Nat.le_of_ble_eq_true rfl) dX0_back_44 ⟨Nat.le_of_ble_eq_true rfl, Nat.le_of_ble_eq_true rfl⟩ (fun v ad' c' H locs hv hN hS => ?_)
          obtain ⟨rfl, rfl, rfl⟩ := hv
          obtain ⟨x2, hN, hQ2, hx2⟩ := rea_rm hN hQ1 hR1 hx1
          refine W.eq (g2 := F0 m 49 ls (_ :: _)) rfl ?_
          rw [← e1_] at hQ2
          refine lv_pop hx hb dX0_back_49 rfl ?_
          refine lv_iinc (v := nI (i + 1)) (lv' := [(2, _), (0, _), (1, _)]) hx hb dX0_back_50 hl (k := 2) rfl (nI_inc i) (by decide) rfl (fun ls hl => ?_)
          refine lv_goto (tgt := 24) hx hb dX0_back_53 (by decide) ?_
          exact ih24 (i + 1) x2 _ _ _ (by omega) (by omega) hQ2 hx2 hN hS (lv_sub hl [1, 2, 0] (rfl))
    exact loop24 (kk + 1) 0 x _ _ _ (by omega) (by omega) hQ (fun _ _ _ => rfl) hN hS (lv_sub hl [1, 2, 0] rfl)
  · have hb1 := zI_0.mp c16
    refine lv_bipush (v := (-2)) hx hb dX0_back_19 (by decide) ?_
    exact W.iret hx hb hr (nEnd hN hS ⟨x, by unfold oBck; rw [hb1]; rfl, rfl, fun _ _ _ => rfl, by unfold oBck; rw [hb1]; exact hQ, rfl⟩) hS.2 dX0_back_21
