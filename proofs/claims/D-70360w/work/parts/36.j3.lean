/-! JDK: changing a list: printed by wip/gen/j3.py -/
set_option maxHeartbeats 4000000 in
set_option maxRecDepth 100000 in
theorem tJ2_add_2 (l : Launch) (G : nG) (K : State → Prop) (hKo : nKo G K) (hK0 : ∀ U, K U → sK0 G U) (ad : Nat → Nat) (c0 : nPic) (li la : Nat) (mc_ : Int32) (n cap : Nat) (f : Nat → Option Nat) (hL : c0 li = some (.inr (7, [.int mc_, .ref (ad la), .int (nI n)]))) (hA : c0 la = some (qA (G.1.1 103) cap f)) (hcap : cap < 2 ^ 31) (el : Nat) (hne : li ≠ la) (hn : n < cap) (hE : nEl c0 el) : Met l yJ2_add_2 (ws_ yJ2_add_2 cJ2_add_2 4 none) (sR 0 0 0) (nPc G nCl K ad c0 [.ref (ad li), .ref (ad el), .ref (ad la), .int (nI n)]) (nQ G nCl (fun rv ad' c' => rv = none ∧ ad = ad' ∧ va_up (va_up c0 li (some (.inr (7, [.int mc_, .ref (ad la), .int (nI (n + 1))])))) la (some (qA (G.1.1 103) cap (va_up f n (some (ad el))))) = c')) 0 0 (fun q => G.2 ≤ q) := by
  refine nMet RJ2 (by decide) rfl (Nat.le_of_ble_eq_true rfl) ?_
  intro p e s m below meth c ls SS hR hK hN hS hl
  obtain ⟨hx, hb, hml, hown, hts⟩ := id SS
  obtain ⟨hr, hlk, hnm⟩ := hR
  obtain ⟨hKv, hKw, hKf, hKz, hKm⟩ := hK0 s hK
  generalize s.heap = H at hN hS ⊢
  generalize ([] : List Loc) = locs at hS ⊢
  have hl : lv_has ls 4 [(0, .ref (ad li)), (1, .ref (ad el)), (2, .ref (ad la)), (3, .int (nI n))] := hl
  refine lv_iload_n hx hb dJ2_add_2_0 rfl (lv_at hl 3 rfl) ?_
  refine lv_aload_n hx hb dJ2_add_2_1 rfl (lv_at hl 2 rfl) ?_
  refine n_alen hx hb hKv hN (la) 3 hA rfl dJ2_add_2_2 ?_
  refine lv_icmp_ne (tgt := 11) hx hb dJ2_add_2_3 (by decide) (fun c3 => ?_) (fun c3 => absurd c3 (fun z => by have := (nI_eq (by omega) (by omega)).mp z; omega))
  refine lv_aload_n hx hb dJ2_add_2_11 rfl (lv_at hl 2 rfl) ?_
  refine lv_iload_n hx hb dJ2_add_2_12 rfl (lv_at hl 3 rfl) ?_
  refine lv_aload_n hx hb dJ2_add_2_13 rfl (lv_at hl 1 rfl) ?_
  refine n_aast hx hb hKv hN hS (la) 3 hA rfl (n_any (hK0 s hK) hN hE) (n) (rfl) (by omega) (hcap) dJ2_add_2_14 (fun H locs hN hS => ?_)
  have hL := (va_up_ne c0 (some (qA (G.1.1 103) cap (va_up f n (some (ad el))))) hne).trans hL
  refine lv_aload_n hx hb dJ2_add_2_15 rfl (lv_at hl 0 rfl) ?_
  refine lv_iload_n hx hb dJ2_add_2_16 rfl (lv_at hl 3 rfl) ?_
  refine lv_iconst (v := 1) hx hb dJ2_add_2_17 (by decide) ?_
  refine lv_iadd hx hb dJ2_add_2_18 ?_
  refine n_top (y := nI (n + 1)) (nI_inc n) ?_
  refine n_put (ci := 7) (C := RJ2) (T := TJ2) (N := 3) hx hb hts in_J2 tyJ2 tyJ2_ok (va_apart (own := RJ2) hts in_J2 tyJ2 tyJ2_ok nmJ2 hKv rfl) hown hKv hN hS (li) hL rfl 2 (by decide) q113 (fun z h => h) rfl rfl rfl (Nat.le_of_ble_eq_true rfl) dJ2_add_2_19 (fun H locs hN hS => ?_)
  exact W.vret hx hb hr (nEnd hN hS ⟨rfl, rfl, va_up_cm _ hne _ _⟩) hS.2 dJ2_add_2_22
set_option maxHeartbeats 4000000 in
set_option maxRecDepth 100000 in
theorem tJ2_add (l : Launch) (G : nG) (K : State → Prop) (hKo : nKo G K) (hK0 : ∀ U, K U → sK0 G U) (ad : Nat → Nat) (c0 : nPic) (li la : Nat) (mc_ : Int32) (n cap : Nat) (f : Nat → Option Nat) (hL : c0 li = some (.inr (7, [.int mc_, .ref (ad la), .int (nI n)]))) (hA : c0 la = some (qA (G.1.1 103) cap f)) (hcap : cap < 2 ^ 31) (el : Nat) (hne : li ≠ la) (hel : el ≠ li) (hn : n < cap) (hE : nEl c0 el) : Met l yJ2_add (ws_ yJ2_add cJ2_add 2 (some .boolean)) (sR 1 0 0) (nPc G nCl K ad c0 [.ref (ad li), .ref (ad el)]) (nQ G nCl (fun rv ad' c' => rv = some (.int 1) ∧ ad = ad' ∧ va_up (va_up c0 li (some (.inr (7, [.int (mc_ + 1), .ref (ad la), .int (nI (n + 1))])))) la (some (qA (G.1.1 103) cap (va_up f n (some (ad el))))) = c')) 0 0 (fun q => G.2 ≤ q) := by
  refine nMet RJ2 (by decide) rfl (Nat.le_of_ble_eq_true rfl) ?_
  intro p e s m below meth c ls SS hR hK hN hS hl
  obtain ⟨hx, hb, hml, hown, hts⟩ := id SS
  obtain ⟨hr, hlk, hnm⟩ := hR
  obtain ⟨hKv, hKw, hKf, hKz, hKm⟩ := hK0 s hK
  generalize s.heap = H at hN hS ⊢
  generalize ([] : List Loc) = locs at hS ⊢
  have hl : lv_has ls 2 [(0, .ref (ad li)), (1, .ref (ad el))] := hl
  refine lv_aload_n hx hb dJ2_add_0 rfl (lv_at hl 0 rfl) ?_
  refine lv_dup hx hb dJ2_add_1 rfl ?_
  refine n_get (ci := 7) (C := RJ2) (T := TJ2) (N := 3) hx hb hts in_J2 hown hKv hN (li) hL rfl 0 (by decide) q115 (fun z h => u_same (hts _ q116) z h) (rfl) dJ2_add_2 ?_
  refine lv_iconst (v := 1) hx hb dJ2_add_5 (by decide) ?_
  refine lv_iadd hx hb dJ2_add_6 ?_
  refine n_put (ci := 7) (C := RJ2) (T := TJ2) (N := 3) hx hb hts in_J2 tyJ2 tyJ2_ok (va_apart (own := RJ2) hts in_J2 tyJ2 tyJ2_ok nmJ2 hKv rfl) hown hKv hN hS (li) hL rfl 0 (by decide) q115 (fun z h => u_same (hts _ q116) z h) rfl rfl rfl (Nat.le_of_ble_eq_true rfl) dJ2_add_7 (fun H locs hN hS => ?_)
  have hL : va_up c0 li (some (.inr (7, [.int (mc_ + 1), .ref (ad la), .int (nI n)]))) li = _ := va_up_self _ _ _
  have hA := (va_up_ne c0 (some (.inr (7, [.int (mc_ + 1), .ref (ad la), .int (nI n)]))) (Ne.symm hne)).trans hA
  have hE : nEl (va_up c0 li (some (.inr (7, [.int (mc_ + 1), .ref (ad la), .int (nI n)])))) el := by obtain ⟨ce, fs, h1, h2⟩ := hE; exact ⟨ce, fs, (va_up_ne c0 _ hel).trans h1, h2⟩
  refine lv_aload_n hx hb dJ2_add_10 rfl (lv_at hl 0 rfl) ?_
  refine lv_aload_n hx hb dJ2_add_11 rfl (lv_at hl 1 rfl) ?_
  refine lv_aload_n hx hb dJ2_add_12 rfl (lv_at hl 0 rfl) ?_
  refine n_get (ci := 7) (C := RJ2) (T := TJ2) (N := 3) hx hb hts in_J2 hown hKv hN (li) hL rfl 1 (by decide) q112 (fun z h => h) (rfl) dJ2_add_13 ?_
  refine lv_aload_n hx hb dJ2_add_16 rfl (lv_at hl 0 rfl) ?_
  refine n_get (ci := 7) (C := RJ2) (T := TJ2) (N := 3) hx hb hts in_J2 hown hKv hN (li) hL rfl 2 (by decide) q113 (fun z h => h) (rfl) dJ2_add_17 ?_
  refine n_callV (C := RJ2) (As := [_, _, _]) (b := li) SS hKo hK hKv (tJ2_add_2 l G K hKo hK0 ad _ li la (mc_ + 1) n cap f hL hA hcap el hne hn hE) (cwV 3 hts (lw_V q355 q357 qs8 q60 q358) rfl rfl rfl (by decide +kernel) ⟨Nat.le_of_ble_eq_true rfl, Nat.le_of_ble_eq_true rfl⟩) hN hS hL rfl rfl hl.1 rfl (Nat.le_of_ble_eq_true rfl) dJ2_add_20 ⟨Nat.le_of_ble_eq_true rfl, Nat.le_of_ble_eq_true rfl⟩ (fun v ad' c' H locs hv hN hS => ?_)
  obtain ⟨rfl, rfl, rfl⟩ := hv
  refine W.eq (g2 := F0 m 23 ls _) rfl ?_
  refine lv_iconst (v := 1) hx hb dJ2_add_23 (by decide) ?_
  exact W.zret hx hb hr (rfl) (nEnd hN hS ⟨rfl, rfl, by rw [va_up_up]⟩) hS.2 dJ2_add_24
set_option maxHeartbeats 4000000 in
set_option maxRecDepth 100000 in
theorem tJ2_add_2Z (l : Launch) (G : nG) (K : State → Prop) (hKo : nKo G K) (hK0 : ∀ U, K U → sK0 G U) (ad : Nat → Nat) (c0 : nPic) (li : Nat) (mc_ : Int32) (hL : c0 li = some (.inr (7, [.int mc_, .ref (nDea G), .int 0]))) (la el : Nat) (hne : li ≠ la) (hel : el ≠ li) (hea : el ≠ la) (hE : nEl c0 el) : Met l yJ2_add_2 (ws_ yJ2_add_2 cJ2_add_2 4 none) (sR 3 1 10) (nPc G nCl K ad c0 [.ref (ad li), .ref (ad el), .ref (nDea G), .int 0]) (nQ G nCl (fun rv ad' c' => ∃ q : Nat, rv = none ∧ va_up ad la q = ad' ∧ va_up (va_up c0 li (some (.inr (7, [.int mc_, .ref q, .int 1])))) la (some (qA (G.1.1 103) 10 (va_up (fun _ => none) 0 (some (ad el))))) = c')) 1 10 (fun q => G.2 ≤ q) := by
  refine nMet RJ2 (by decide) rfl (Nat.le_of_ble_eq_true rfl) ?_
  intro p e s m below meth c ls SS hR hK hN hS hl
  obtain ⟨hx, hb, hml, hown, hts⟩ := id SS
  obtain ⟨hr, hlk, hnm⟩ := hR
  obtain ⟨hKv, hKw, hKf, hKz, hKm⟩ := hK0 s hK
  generalize s.heap = H at hN hS ⊢
  generalize ([] : List Loc) = locs at hS ⊢
  have hl : lv_has ls 4 [(0, .ref (ad li)), (1, .ref (ad el)), (2, .ref (nDea G)), (3, .int 0)] := hl
  refine lv_iload_n hx hb dJ2_add_2_0 rfl (lv_at hl 3 rfl) ?_
  refine lv_aload_n hx hb dJ2_add_2_1 rfl (lv_at hl 2 rfl) ?_
  refine n_alenZ hx hb hKv hKz hS dJ2_add_2_2 ?_
  refine lv_icmp_ne (tgt := 11) hx hb dJ2_add_2_3 (by decide) (fun c3 => absurd c3 (fun z => z rfl)) (fun c3 => ?_)
  refine lv_aload_n hx hb dJ2_add_2_6 rfl (lv_at hl 0 rfl) ?_
  refine n_callV (C := RJ2) (As := []) (b := li) SS hKo hK hKv (tJ2_growZ l G K hKo hK0 ad c0 li mc_ 0 hL la hne (by decide)) (cwV 0 hts (lw_V q359 q361 qs9 q60 q362) rfl rfl rfl (by decide +kernel) ⟨Nat.le_of_ble_eq_true rfl, Nat.le_of_ble_eq_true rfl⟩) hN hS hL rfl rfl hl.1 rfl (Nat.le_of_ble_eq_true rfl) dJ2_add_2_7 ⟨Nat.le_of_ble_eq_true rfl, Nat.le_of_ble_eq_true rfl⟩ (fun v ad' c' H locs hv hN hS => ?_)
  obtain ⟨q, rfl, rfl, rfl⟩ := hv
  have ea_ := va_up_ne ad q hne
  have eb_ := va_up_ne ad q hea
  have ec_ := va_up_self ad la q
  rw [← ea_, ← eb_] at hl
  have hL : (va_up (va_up c0 li (some (.inr (7, [.int mc_, .ref q, .int (nI 0)])))) la (some (qA (G.1.1 103) 10 (fun _ => none)))) li = _ := (va_up_ne _ _ hne).trans (va_up_self c0 li (some (.inr (7, [.int mc_, .ref q, .int (nI 0)]))))
  have hA : (va_up (va_up c0 li (some (.inr (7, [.int mc_, .ref q, .int (nI 0)])))) la (some (qA (G.1.1 103) 10 (fun _ => none)))) la = _ := va_up_self _ _ _
  have hE : nEl (va_up (va_up c0 li (some (.inr (7, [.int mc_, .ref q, .int (nI 0)])))) la (some (qA (G.1.1 103) 10 (fun _ => none)))) el := by obtain ⟨ce, fs, h1, h2⟩ := hE; exact ⟨ce, fs, (va_up_ne _ _ hea).trans ((va_up_ne c0 _ hel).trans h1), h2⟩
  refine W.eq (g2 := F0 m 10 ls [.ref (va_up ad la q la)]) (by rw [ec_] <;> rfl) ?_
  have hcap : 10 < 2 ^ 31 := by decide
  refine W.eq (g2 := F0 m 10 ls (_ :: _)) rfl ?_
  refine lv_astore_n (lv' := [(2, _), (0, _), (1, _), (3, _)]) hx hb dJ2_add_2_10 rfl hl (by decide) rfl (fun ls hl => ?_)
  refine lv_aload_n hx hb dJ2_add_2_11 rfl (lv_at hl 0 rfl) ?_
  refine lv_iload_n hx hb dJ2_add_2_12 rfl (lv_at hl 3 rfl) ?_
  refine lv_aload_n hx hb dJ2_add_2_13 rfl (lv_at hl 2 rfl) ?_
  refine n_aast hx hb hKv hN hS (la) 3 hA rfl (n_any (hK0 s hK) hN hE) (0) (rfl) (by decide) (hcap) dJ2_add_2_14 (fun H locs hN hS => ?_)
  have hL := (va_up_ne (va_up (va_up c0 li (some (.inr (7, [.int mc_, .ref q, .int (nI 0)])))) la (some (qA (G.1.1 103) 10 (fun _ => none)))) (some (qA (G.1.1 103) 10 (va_up (fun _ => none) 0 (some (va_up ad la q el))))) hne).trans hL
  refine lv_aload_n hx hb dJ2_add_2_15 rfl (lv_at hl 1 rfl) ?_
  refine lv_iload_n hx hb dJ2_add_2_16 rfl (lv_at hl 3 rfl) ?_
  refine lv_iconst (v := 1) hx hb dJ2_add_2_17 (by decide) ?_
  refine lv_iadd hx hb dJ2_add_2_18 ?_
  refine n_top (y := 1) (by decide) ?_
  refine n_put (ci := 7) (C := RJ2) (T := TJ2) (N := 3) hx hb hts in_J2 tyJ2 tyJ2_ok (va_apart (own := RJ2) hts in_J2 tyJ2 tyJ2_ok nmJ2 hKv rfl) hown hKv hN hS (li) hL rfl 2 (by decide) q113 (fun z h => h) rfl rfl rfl (Nat.le_of_ble_eq_true rfl) dJ2_add_2_19 (fun H locs hN hS => ?_)
  refine W.widen (k := 1) (n := 10) (by first | omega | decide) (by first | omega | decide) ?_
  exact W.vret hx hb hr (nEnd hN hS ⟨q, rfl, rfl, by rw [eb_, va_up_up, va_up_cm _ (Ne.symm hne), va_up_up]; rfl⟩) hS.2 dJ2_add_2_22
set_option maxHeartbeats 4000000 in
set_option maxRecDepth 100000 in
theorem tJ2_addZ (l : Launch) (G : nG) (K : State → Prop) (hKo : nKo G K) (hK0 : ∀ U, K U → sK0 G U) (ad : Nat → Nat) (c0 : nPic) (li : Nat) (mc_ : Int32) (hL : c0 li = some (.inr (7, [.int mc_, .ref (nDea G), .int 0]))) (la el : Nat) (hne : li ≠ la) (hel : el ≠ li) (hea : el ≠ la) (hE : nEl c0 el) : Met l yJ2_add (ws_ yJ2_add cJ2_add 2 (some .boolean)) (sR 4 1 10) (nPc G nCl K ad c0 [.ref (ad li), .ref (ad el)]) (nQ G nCl (fun rv ad' c' => ∃ q : Nat, rv = some (.int 1) ∧ va_up ad la q = ad' ∧ va_up (va_up c0 li (some (.inr (7, [.int (mc_ + 1), .ref q, .int 1])))) la (some (qA (G.1.1 103) 10 (va_up (fun _ => none) 0 (some (ad el))))) = c')) 1 10 (fun q => G.2 ≤ q) := by
  refine nMet RJ2 (by decide) rfl (Nat.le_of_ble_eq_true rfl) ?_
  intro p e s m below meth c ls SS hR hK hN hS hl
  obtain ⟨hx, hb, hml, hown, hts⟩ := id SS
  obtain ⟨hr, hlk, hnm⟩ := hR
  obtain ⟨hKv, hKw, hKf, hKz, hKm⟩ := hK0 s hK
  generalize s.heap = H at hN hS ⊢
  generalize ([] : List Loc) = locs at hS ⊢
  have hl : lv_has ls 2 [(0, .ref (ad li)), (1, .ref (ad el))] := hl
  refine lv_aload_n hx hb dJ2_add_0 rfl (lv_at hl 0 rfl) ?_
  refine lv_dup hx hb dJ2_add_1 rfl ?_
  refine n_get (ci := 7) (C := RJ2) (T := TJ2) (N := 3) hx hb hts in_J2 hown hKv hN (li) hL rfl 0 (by decide) q115 (fun z h => u_same (hts _ q116) z h) (rfl) dJ2_add_2 ?_
  refine lv_iconst (v := 1) hx hb dJ2_add_5 (by decide) ?_
  refine lv_iadd hx hb dJ2_add_6 ?_
  refine n_put (ci := 7) (C := RJ2) (T := TJ2) (N := 3) hx hb hts in_J2 tyJ2 tyJ2_ok (va_apart (own := RJ2) hts in_J2 tyJ2 tyJ2_ok nmJ2 hKv rfl) hown hKv hN hS (li) hL rfl 0 (by decide) q115 (fun z h => u_same (hts _ q116) z h) rfl rfl rfl (Nat.le_of_ble_eq_true rfl) dJ2_add_7 (fun H locs hN hS => ?_)
  have hL : va_up c0 li (some (.inr (7, [.int (mc_ + 1), .ref (nDea G), .int 0]))) li = _ := va_up_self _ _ _
  have hE : nEl (va_up c0 li (some (.inr (7, [.int (mc_ + 1), .ref (nDea G), .int 0])))) el := by obtain ⟨ce, fs, h1, h2⟩ := hE; exact ⟨ce, fs, (va_up_ne c0 _ hel).trans h1, h2⟩
  refine lv_aload_n hx hb dJ2_add_10 rfl (lv_at hl 0 rfl) ?_
  refine lv_aload_n hx hb dJ2_add_11 rfl (lv_at hl 1 rfl) ?_
  refine lv_aload_n hx hb dJ2_add_12 rfl (lv_at hl 0 rfl) ?_
  refine n_get (ci := 7) (C := RJ2) (T := TJ2) (N := 3) hx hb hts in_J2 hown hKv hN (li) hL rfl 1 (by decide) q112 (fun z h => h) (rfl) dJ2_add_13 ?_
  refine lv_aload_n hx hb dJ2_add_16 rfl (lv_at hl 0 rfl) ?_
  refine n_get (ci := 7) (C := RJ2) (T := TJ2) (N := 3) hx hb hts in_J2 hown hKv hN (li) hL rfl 2 (by decide) q113 (fun z h => h) (rfl) dJ2_add_17 ?_
  refine n_callV (C := RJ2) (As := [_, _, _]) (b := li) SS hKo hK hKv (tJ2_add_2Z l G K hKo hK0 ad _ li (mc_ + 1) hL la el hne hel hea hE) (cwV 3 hts (lw_V q355 q357 qs8 q60 q358) rfl rfl rfl (by decide +kernel) ⟨Nat.le_of_ble_eq_true rfl, Nat.le_of_ble_eq_true rfl⟩) hN hS hL rfl rfl hl.1 rfl (Nat.le_of_ble_eq_true rfl) dJ2_add_20 ⟨Nat.le_of_ble_eq_true rfl, Nat.le_of_ble_eq_true rfl⟩ (fun v ad' c' H locs hv hN hS => ?_)
  obtain ⟨q, rfl, rfl, rfl⟩ := hv
  refine W.eq (g2 := F0 m 23 ls _) rfl ?_
  refine lv_iconst (v := 1) hx hb dJ2_add_23 (by decide) ?_
  refine W.widen (k := 1) (n := 10) (by first | omega | decide) (by first | omega | decide) ?_
  exact W.zret hx hb hr (rfl) (nEnd hN hS ⟨q, rfl, rfl, by rw [va_up_up]⟩) hS.2 dJ2_add_24
set_option maxHeartbeats 4000000 in
set_option maxRecDepth 100000 in
theorem tJ2_set (l : Launch) (G : nG) (K : State → Prop) (hKo : nKo G K) (hK0 : ∀ U, K U → sK0 G U) (ad : Nat → Nat) (c0 : nPic) (li la : Nat) (mc_ : Int32) (n cap : Nat) (f : Nat → Option Nat) (hL : c0 li = some (.inr (7, [.int mc_, .ref (ad la), .int (nI n)]))) (hA : c0 la = some (qA (G.1.1 103) cap f)) (hcap : cap < 2 ^ 31) (j el : Nat) (hj : j < n) (hnc : n ≤ cap) (hE : nEl c0 el) (old : Nat) (hf : f j = some old) : Met l yJ2_set (ws_ yJ2_set cJ2_set 4 (some (.object "java/lang/Object"))) (sR 2 0 0) (nPc G nCl K ad c0 [.ref (ad li), .int (nI j), .ref (ad el)]) (nQ G nCl (fun rv ad' c' => rv = some (.ref old) ∧ ad = ad' ∧ va_up c0 la (some (qA (G.1.1 103) cap (va_up f j (some (ad el))))) = c')) 0 0 (fun q => G.2 ≤ q) := by
  refine nMet RJ2 (by decide) rfl (Nat.le_of_ble_eq_true rfl) ?_
  intro p e s m below meth c ls SS hR hK hN hS hl
  obtain ⟨hx, hb, hml, hown, hts⟩ := id SS
  obtain ⟨hr, hlk, hnm⟩ := hR
  obtain ⟨hKv, hKw, hKf, hKz, hKm⟩ := hK0 s hK
  generalize s.heap = H at hN hS ⊢
  generalize ([] : List Loc) = locs at hS ⊢
  have hl : lv_has ls 4 [(0, .ref (ad li)), (1, .int (nI j)), (2, .ref (ad el))] := hl
  refine lv_iload_n hx hb dJ2_set_0 rfl (lv_at hl 1 rfl) ?_
  refine lv_aload_n hx hb dJ2_set_1 rfl (lv_at hl 0 rfl) ?_
  refine n_get (ci := 7) (C := RJ2) (T := TJ2) (N := 3) hx hb hts in_J2 hown hKv hN (li) hL rfl 2 (by decide) q113 (fun z h => h) (rfl) dJ2_set_2 ?_
  refine n_callS (As := [_, _]) SS hKo hK (tJ16_checkIndex l G K hKo hK0 ad c0 j n hj (by omega)) (va_cwS 2 hts (lw_S q197 q198 q82 q199) rfl rfl rfl (by decide +kernel) ⟨Nat.le_of_ble_eq_true rfl, Nat.le_of_ble_eq_true rfl⟩) hN hS rfl hl.1 rfl (Nat.le_of_ble_eq_true rfl) dJ2_set_5 ⟨Nat.le_of_ble_eq_true rfl, Nat.le_of_ble_eq_true rfl⟩ (fun v ad' c' H locs hv hN hS => ?_)
  obtain ⟨rfl, rfl, rfl⟩ := hv
  refine W.eq (g2 := F0 m 8 ls (_ :: _)) rfl ?_
  refine lv_pop hx hb dJ2_set_8 rfl ?_
  refine lv_aload_n hx hb dJ2_set_9 rfl (lv_at hl 0 rfl) ?_
  refine lv_iload_n hx hb dJ2_set_10 rfl (lv_at hl 1 rfl) ?_
  refine n_callV (C := RJ2) (As := [_]) (b := li) SS hKo hK hKv (tJ2_elementData l G K hKo hK0 ad c0 li la mc_ n cap f hL hA hcap j (by omega)) (cwV 1 hts (lw_V q203 q204 q205 q60 q206) rfl rfl rfl (by decide +kernel) ⟨Nat.le_of_ble_eq_true rfl, Nat.le_of_ble_eq_true rfl⟩) hN hS hL rfl rfl hl.1 rfl (Nat.le_of_ble_eq_true rfl) dJ2_set_11 ⟨Nat.le_of_ble_eq_true rfl, Nat.le_of_ble_eq_true rfl⟩ (fun v ad' c' H locs hv hN hS => ?_)
  obtain ⟨rfl, rfl, rfl⟩ := hv
  refine W.eq (g2 := F0 m 14 ls (_ :: _)) rfl ?_
  refine n_topv (y := .ref old) (by rw [hf]; rfl) ?_
  refine lv_astore_n (lv' := [(3, _), (0, _), (1, _), (2, _)]) hx hb dJ2_set_14 rfl hl (by decide) rfl (fun ls hl => ?_)
  refine lv_aload_n hx hb dJ2_set_15 rfl (lv_at hl 1 rfl) ?_
  refine n_get (ci := 7) (C := RJ2) (T := TJ2) (N := 3) hx hb hts in_J2 hown hKv hN (li) hL rfl 1 (by decide) q112 (fun z h => h) (rfl) dJ2_set_16 ?_
  refine lv_iload_n hx hb dJ2_set_19 rfl (lv_at hl 2 rfl) ?_
  refine lv_aload_n hx hb dJ2_set_20 rfl (lv_at hl 3 rfl) ?_
  refine n_aast hx hb hKv hN hS (la) 3 hA rfl (n_any (hK0 s hK) hN hE) (j) (rfl) (by omega) (hcap) dJ2_set_21 (fun H locs hN hS => ?_)
  refine lv_aload_n hx hb dJ2_set_22 rfl (lv_at hl 0 rfl) ?_
  exact W.aret hx hb hr (Or.inl ⟨_, rfl⟩) (Or.inr ⟨_, rfl⟩) (nEnd hN hS ⟨rfl, rfl, rfl⟩) hS.2 dJ2_set_23
set_option maxHeartbeats 4000000 in
set_option maxRecDepth 100000 in
theorem tJ2_clear (l : Launch) (G : nG) (K : State → Prop) (hKo : nKo G K) (hK0 : ∀ U, K U → sK0 G U) (ad : Nat → Nat) (c0 : nPic) (li la : Nat) (mc_ : Int32) (sz cap : Nat) (f : Nat → Option Nat) (hL : c0 li = some (.inr (7, [.int mc_, .ref (ad la), .int (nI sz)]))) (hA : c0 la = some (qA (G.1.1 103) cap f)) (hcap : cap < 2 ^ 31) (hne : li ≠ la) (hnc : sz ≤ cap) : Met l yJ2_clear (ws_ yJ2_clear cJ2_clear 4 none) (sR 0 0 0) (nPc G nCl K ad c0 [.ref (ad li)]) (nQ G nCl (fun rv ad' c' => rv = none ∧ ad = ad' ∧ va_up (va_up c0 li (some (.inr (7, [.int (mc_ + 1), .ref (ad la), .int 0])))) la (some (qA (G.1.1 103) cap (fun j => if j < sz then none else f j))) = c')) 0 0 (fun q => G.2 ≤ q) := by
  refine nMet RJ2 (by decide) rfl (Nat.le_of_ble_eq_true rfl) ?_
  intro p e s m below meth c ls SS hR hK hN hS hl
  obtain ⟨hx, hb, hml, hown, hts⟩ := id SS
  obtain ⟨hr, hlk, hnm⟩ := hR
  obtain ⟨hKv, hKw, hKf, hKz, hKm⟩ := hK0 s hK
  generalize s.heap = H at hN hS ⊢
  generalize ([] : List Loc) = locs at hS ⊢
  have hl : lv_has ls 4 [(0, .ref (ad li))] := hl
  refine lv_aload_n hx hb dJ2_clear_0 rfl (lv_at hl 0 rfl) ?_
  refine lv_dup hx hb dJ2_clear_1 rfl ?_
  refine n_get (ci := 7) (C := RJ2) (T := TJ2) (N := 3) hx hb hts in_J2 hown hKv hN (li) hL rfl 0 (by decide) q115 (fun z h => u_same (hts _ q116) z h) (rfl) dJ2_clear_2 ?_
  refine lv_iconst (v := 1) hx hb dJ2_clear_5 (by decide) ?_
  refine lv_iadd hx hb dJ2_clear_6 ?_
  refine n_put (ci := 7) (C := RJ2) (T := TJ2) (N := 3) hx hb hts in_J2 tyJ2 tyJ2_ok (va_apart (own := RJ2) hts in_J2 tyJ2 tyJ2_ok nmJ2 hKv rfl) hown hKv hN hS (li) hL rfl 0 (by decide) q115 (fun z h => u_same (hts _ q116) z h) rfl rfl rfl (Nat.le_of_ble_eq_true rfl) dJ2_clear_7 (fun H locs hN hS => ?_)
  have hL : va_up c0 li (some (.inr (7, [.int (mc_ + 1), .ref (ad la), .int (nI sz)]))) li = _ := va_up_self _ _ _
  refine lv_aload_n hx hb dJ2_clear_10 rfl (lv_at hl 0 rfl) ?_
  refine n_get (ci := 7) (C := RJ2) (T := TJ2) (N := 3) hx hb hts in_J2 hown hKv hN (li) hL rfl 1 (by decide) q112 (fun z h => h) (rfl) dJ2_clear_11 ?_
  refine lv_astore_n (lv' := [(1, _), (0, _)]) hx hb dJ2_clear_14 rfl hl (by decide) rfl (fun ls hl => ?_)
  refine lv_aload_n hx hb dJ2_clear_15 rfl (lv_at hl 1 rfl) ?_
  refine n_get (ci := 7) (C := RJ2) (T := TJ2) (N := 3) hx hb hts in_J2 hown hKv hN (li) hL rfl 2 (by decide) q113 (fun z h => h) (rfl) dJ2_clear_16 ?_
  refine lv_istore_n (lv' := [(2, _), (1, _), (0, _)]) hx hb dJ2_clear_19 rfl hl (by decide) rfl (fun ls hl => ?_)
  refine lv_aload_n hx hb dJ2_clear_20 rfl (lv_at hl 2 rfl) ?_
  refine lv_iconst (v := 0) hx hb dJ2_clear_21 (by decide) ?_
  refine lv_dup_x1 hx hb dJ2_clear_22 rfl rfl ?_
  refine n_put (ci := 7) (C := RJ2) (T := TJ2) (N := 3) hx hb hts in_J2 tyJ2 tyJ2_ok (va_apart (own := RJ2) hts in_J2 tyJ2 tyJ2_ok nmJ2 hKv rfl) hown hKv hN hS (li) hL rfl 2 (by decide) q113 (fun z h => h) rfl rfl rfl (Nat.le_of_ble_eq_true rfl) dJ2_clear_23 (fun H locs hN hS => ?_)
  have hA : va_up (va_up c0 li (some (.inr (7, [.int (mc_ + 1), .ref (ad la), .int (nI sz)])))) li (some (.inr (7, [.int (mc_ + 1), .ref (ad la), .int 0]))) la = _ := (va_up_ne _ _ (Ne.symm hne)).trans ((va_up_ne c0 _ (Ne.symm hne)).trans hA)
  rw [va_up_up] at hA
  have hN := hN.congr (va_up_up c0 li _ (some (.inr (7, [.int (mc_ + 1), .ref (ad la), .int 0]))))
  have hN := hN.congr (va_up_id _ la _ hA).symm
  clear hA
  refine lv_istore_n (lv' := [(3, _), (2, _), (1, _), (0, _)]) hx hb dJ2_clear_26 rfl hl (by decide) rfl (fun ls hl => ?_)
  have loop27 : ∀ (n : Nat) (k : Nat) (H : Heap) (locs : List Loc) (ls : Array Slot), sz + 1 ≤ n + k → k ≤ sz → nOk G nCl ad (va_up (va_up c0 li (some (.inr (7, [.int (mc_ + 1), .ref (ad la), .int 0])))) la (some (qA (G.1.1 103) cap (fun j => if j < k then none else f j)))) H → nS G s H locs → lv_has ls 4 [(0, .ref (ad li)), (1, .ref (ad la)), (2, .int (nI sz)), (3, .int (nI k))] → W p l e (sR 0 0 0) s m ([.ref (ad li)] : List Value).toArray below meth c H locs 0 0 (MQ below (nQ G nCl (fun rv ad' c' => rv = none ∧ ad = ad' ∧ va_up (va_up c0 li (some (.inr (7, [.int (mc_ + 1), .ref (ad la), .int 0])))) la (some (qA (G.1.1 103) cap (fun j => if j < sz then none else f j))) = c')) ([.ref (ad li)] : List Value).toArray s 0 0 (fun q => G.2 ≤ q)) (F0 m 27 ls []) := by
    intro n
    induction n with
    | zero => intro k H locs ls hfuel hk hN hS hl; exact absurd hfuel (by omega)
    | succ n ih27 =>
      intro k H locs ls hfuel hk hN hS hl
      have hA := va_up_self (va_up c0 li (some (.inr (7, [.int (mc_ + 1), .ref (ad la), .int 0])))) la (some (qA (G.1.1 103) cap (fun j => if j < k then none else f j)))
      refine lv_iload_n hx hb dJ2_clear_27 rfl (lv_at hl 3 rfl) ?_
      refine lv_iload_n hx hb dJ2_clear_28 rfl (lv_at hl 2 rfl) ?_
      refine lv_icmp_ge (tgt := 42) hx hb dJ2_clear_29 (by decide) (fun c29 => ?_) (fun c29 => ?_)
      · have c29 : sz ≤ k := nI_leI (by omega) (by omega) |>.mp c29
        have ek : k = sz := by omega
        rw [ek] at hN
        exact W.vret hx hb hr (nEnd hN hS ⟨rfl, rfl, rfl⟩) hS.2 dJ2_clear_42
      · have c29 : k < sz := by have := mt (nI_leI (a := sz) (b := k) (by omega) (by omega)).mpr c29; omega
        refine lv_aload_n hx hb dJ2_clear_32 rfl (lv_at hl 1 rfl) ?_
        refine lv_iload_n hx hb dJ2_clear_33 rfl (lv_at hl 3 rfl) ?_
        refine lv_null hx hb dJ2_clear_34 ?_
        refine n_aastN hx hb hKv hN hS (la) 3 hA rfl (k) (rfl) (by omega) (hcap) dJ2_clear_35 (fun H locs hN hS => ?_)
        have hN := hN.congr (va_up_up _ la _ _)
        rw [n_clr] at hN
        refine lv_iinc (v := nI (k + 1)) (lv' := [(3, _), (0, _), (1, _), (2, _)]) hx hb dJ2_clear_36 hl (k := 3) rfl (nI_inc k) (by decide) rfl (fun ls hl => ?_)
        refine lv_goto (tgt := 27) hx hb dJ2_clear_39 (by decide) ?_
        exact ih27 (k + 1) _ _ _ (by omega) (by omega) hN hS (lv_sub hl [1, 2, 3, 0] (rfl))
  exact loop27 (sz + 1) 0 _ _ _ (by omega) (by omega) hN hS (lv_sub hl [3, 2, 1, 0] rfl)
