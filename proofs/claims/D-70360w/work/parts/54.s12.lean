/-! SYSTEM: kinds tried: printed by wip/gen/s12.py -/
theorem sPic_ad {G : nG} {x : nPic} {ad ad' : Nat → Nat} {si : AI} {sa : Nat → AI} {rn : Value} (h : ∀ z, z < 20 → ad' z = ad z) : sPic G x ad' si sa rn = sPic G x ad si sa rn := by
  funext i
  unfold sPic sF
  rw [h 1 (by decide), h 2 (by decide), h 4 (by decide), h 5 (by decide), h 6 (by decide), h 8 (by decide)]
theorem sPic_i {G : nG} {x x' : nPic} {ad : Nat → Nat} {si : AI} {sa : Nat → AI} {rn : Value} {i : Nat} (h : i = 0 ∨ i = 1 ∨ i = 4 ∨ i = 5) : sPic G x ad si sa rn i = sPic G x' ad si sa rn i := by
  rcases h with h | h | h | h <;> subst h <;> rfl
theorem pE_ad {ad ad' : Nat → Nat} (h : ad' 0 = ad 0) (k : Nat) (a b c : Int32) : pE ad' k a b c = pE ad k a b c := by unfold pE; rw [h]
theorem nEl_P {c0 : nPic} {ad : Nat → Nat} {i k : Nat} {a b c : Int32} (hk : k < 3) (h : c0 i = some (pE ad k a b c)) : nEl c0 i :=
  ⟨2 + k, _, h, by rcases (show k = 0 ∨ k = 1 ∨ k = 2 by omega) with z | z | z <;> subst z <;> rfl⟩
/-- the people while another one stands at the place j: the one that was is under the name 80 -/
def kX (G : nG) (x : nPic) (ad1 ad : Nat → Nat) (np j k : Nat) (a b : Int32) (o_ : Nat) (ej : Option va_E) : nPic := va_up (va_up (va_up x 80 (some (pE ad1 k (nI j) a b))) 3 (some (qA (G.1.1 103) 10 (va_up (sPl ad np) j (some o_))))) (20 + j) ej
section KX
variable {G : nG} {x : nPic} {ad1 ad2 ad : Nat → Nat} {np j k : Nat} {a b : Int32} {o_ : Nat} {ej : Option va_E} {si : AI} {sa : Nat → AI} {rn : Value} {H : Heap}
theorem kX_x {i : Nat} (h1 : i ≠ 80) (h2 : i ≠ 3) (h3 : i ≠ 20 + j) : kX G x ad1 ad np j k a b o_ ej i = x i := by
  rw [kX, va_up_ne _ _ h3, va_up_ne _ _ h2, va_up_ne _ _ h1]
theorem kX_2 {mc_ : Int32} {v : Value} (hj : j < 4) (h3 : ad1 3 = ad 3) (h : x 2 = some (.inr (7, [.int mc_, .ref (ad 3), v]))) : sPic G (kX G x ad1 ad np j k a b o_ ej) ad1 si sa rn 2 = some (.inr (7, [.int mc_, .ref (ad1 3), v])) := by
  rw [sPic_x (by decide), kX_x (by decide) (by decide) (by omega), h, h3]
theorem kX_3 (hj : j < 4) : sPic G (kX G x ad1 ad np j k a b o_ ej) ad1 si sa rn 3 = some (qA (G.1.1 103) 10 (va_up (sPl ad np) j (some o_))) := by
  rw [sPic_x (by decide), kX, va_up_ne _ _ (by omega), va_up_self]
theorem kX_80 (hj : j < 4) : sPic G (kX G x ad1 ad np j k a b o_ ej) ad1 si sa rn 80 = some (pE ad1 k (nI j) a b) := by
  rw [sPic_x (by decide), kX, va_up_ne _ _ (by omega), va_up_ne _ _ (by decide), va_up_self]
theorem kX_j (hj : j < 4) : sPic G (kX G x ad1 ad np j k a b o_ ej) ad1 si sa rn (20 + j) = ej := by
  rw [sPic_x ⟨by omega, by omega, by omega, by omega⟩, kX, va_up_self]
theorem kX_new {e1 : Nat} {u v w : Int32} (h : nOk G nCl ad2 (va_up (sPic G (kX G x ad1 ad np j k a b o_ ej) ad1 si sa rn) (20 + j) (some (pE ad1 e1 u v w))) H) (hj : j < 4) (had2 : ∀ z, z ≠ 20 + j → ad2 z = ad1 z) : nOk G nCl ad2 (sPic G (kX G x ad2 ad np j k a b o_ (some (pE ad2 e1 u v w))) ad2 si sa rn) H := by
  have e0 : ad2 0 = ad1 0 := had2 0 (by omega)
  rw [sPic_up ⟨by omega, by omega, by omega, by omega⟩, kX, va_up_up] at h
  rw [sPic_ad (ad := ad1) (fun z hz => had2 z (by omega)), kX, pE_ad e0, pE_ad e0]
  exact h
theorem kX_set {e : Option va_E} (h : nOk G nCl ad2 (va_up (sPic G (kX G x ad2 ad np j k a b o_ e) ad2 si sa rn) 3 (some (qA (G.1.1 103) 10 (va_up (va_up (sPl ad np) j (some o_)) j (some (ad2 (20 + j))))))) H) (hj : j < 4) : nOk G nCl ad2 (sPic G (kX G x ad2 ad np j k a b (ad2 (20 + j)) e) ad2 si sa rn) H := by
  rw [sPic_up (by decide), va_up_up, kX, va_up_cm _ (by omega), va_up_up] at h
  exact h
theorem sPl_j {np j : Nat} (hj : j < np) : sPl ad np j = some (ad (20 + j)) := by
  unfold sPl
  rw [if_pos hj]
theorem kX_in (h : nOk G nCl ad (sPic G x ad si sa rn) H) (hX : x (20 + j) = some (pE ad k (nI j) a b)) (hA : x 3 = some (qA (G.1.1 103) 10 (sPl ad np))) (hjn : j < np) (hj : j < 4) (had : ∀ z, z ≠ 80 → z ≠ 20 + j → ad1 z = ad z) (h80 : ad1 80 = ad (20 + j)) : nOk G nCl ad1 (sPic G (kX G x ad1 ad np j k a b (ad (20 + j)) none) ad1 si sa rn) H := by
  have e0 : ad1 0 = ad 0 := had 0 (by decide) (by omega)
  rw [sPic_ad (ad := ad) (fun z hz => had z (by omega) (by omega))]
  have kj : ∀ z, sPic G (kX G x ad1 ad np j k a b (ad (20 + j)) none) ad si sa rn z ≠ none → z ≠ 20 + j := by
    intro z hz e
    subst e
    exact hz (by rw [sPic_x ⟨by omega, by omega, by omega, by omega⟩, kX, va_up_self])
  refine nOk.ren (fun z => if z = 80 then 20 + j else z) h (fun i e he => ?_) (fun i i2 hi hi2 hij => ?_)
  · have h2 := kj i (by rw [he]; simp)
    by_cases h1 : i = 80
    · subst h1
      rw [sPic_x (by decide), kX, va_up_ne _ _ (by omega), va_up_ne _ _ (by decide), va_up_self, pE_ad e0] at he
      show sPic G x ad si sa rn (if 80 = 80 then 20 + j else 80) = some e ∧ ad1 80 = ad (if 80 = 80 then 20 + j else 80)
      rw [if_pos rfl, sPic_x ⟨by omega, by omega, by omega, by omega⟩, hX]
      exact ⟨he, h80⟩
    · show sPic G x ad si sa rn (if i = 80 then 20 + j else i) = some e ∧ ad1 i = ad (if i = 80 then 20 + j else i)
      rw [if_neg h1]
      refine ⟨?_, had i h1 h2⟩
      rw [← he]
      by_cases hs : i = 0 ∨ i = 1 ∨ i = 4 ∨ i = 5
      · exact sPic_i hs
      · rw [sPic_x (by omega), sPic_x (by omega)]
        by_cases h3 : i = 3
        · subst h3
          rw [kX, va_up_ne _ _ h2, va_up_self, hA, va_up_id _ _ _ (sPl_j hjn)]
        · rw [kX_x h1 h3 h2]
  · have g1 := kj i hi
    have g2 := kj i2 hi2
    have hij : (if i = 80 then 20 + j else i) = (if i2 = 80 then 20 + j else i2) := hij
    split at hij <;> split at hij <;> omega
theorem kX_out (h : nOk G nCl ad1 (va_up (sPic G (kX G x ad1 ad np j k a b o_ ej) ad1 si sa rn) 3 (some (qA (G.1.1 103) 10 (va_up (va_up (sPl ad np) j (some o_)) j (some (ad1 80)))))) H) (hX : x (20 + j) = some (pE ad k (nI j) a b)) (hA : x 3 = some (qA (G.1.1 103) 10 (sPl ad np))) (hjn : j < np) (hj : j < 4) (had : ∀ z, z ≠ 80 → z ≠ 20 + j → ad1 z = ad z) (h80 : ad1 80 = ad (20 + j)) (hx80 : x 80 = none) : nOk G nCl ad (sPic G x ad si sa rn) H := by
  have e0 : ad1 0 = ad 0 := had 0 (by decide) (by omega)
  rw [sPic_up (by decide), va_up_up, h80, va_up_id _ _ _ (sPl_j hjn), kX, va_up_cm _ (by omega), va_up_up, ← hA, sPic_ad (ad := ad) (fun z hz => had z (by omega) (by omega))] at h
  have k8 : ∀ z, sPic G x ad si sa rn z ≠ none → z ≠ 80 := by
    intro z hz e
    subst e
    exact hz (by rw [sPic_x (by decide), hx80])
  refine nOk.ren (fun z => if z = 20 + j then 80 else z) h (fun i e he => ?_) (fun i i2 hi hi2 hij => ?_)
  · have h2 := k8 i (by rw [he]; simp)
    by_cases h1 : i = 20 + j
    · subst h1
      rw [sPic_x ⟨by omega, by omega, by omega, by omega⟩, hX] at he
      show sPic G _ ad si sa rn (if 20 + j = 20 + j then 80 else 20 + j) = some e ∧ ad (20 + j) = ad1 (if 20 + j = 20 + j then 80 else 20 + j)
      rw [if_pos rfl, sPic_x (by decide), va_up_ne _ _ (by omega), va_up_ne _ _ (by decide), va_up_self, pE_ad e0]
      exact ⟨he, h80.symm⟩
    · show sPic G _ ad si sa rn (if i = 20 + j then 80 else i) = some e ∧ ad i = ad1 (if i = 20 + j then 80 else i)
      rw [if_neg h1]
      refine ⟨?_, (had i h2 h1).symm⟩
      rw [← he]
      by_cases hs : i = 0 ∨ i = 1 ∨ i = 4 ∨ i = 5
      · exact sPic_i hs
      · rw [sPic_x (by omega), sPic_x (by omega), va_up_ne _ _ h1]
        by_cases h3 : i = 3
        · subst h3
          rw [va_up_self]
        · rw [va_up_ne _ _ h3, va_up_ne _ _ h2]
  · have g1 := k8 i hi
    have g2 := k8 i2 hi2
    have hij : (if i = 20 + j then 80 else i) = (if i2 = 20 + j then 80 else i2) := hij
    split at hij <;> split at hij <;> omega
theorem kX_peo {kd dr kn : AI} {e1 : Nat} (h : sPeo G ad x np kd dr kn) (hj : j < np) (he : e1 < 3) (had : ∀ z, z ≠ 80 → z ≠ 20 + j → ad2 z = ad z) : sPeo G ad2 (kX G x ad2 ad np j k (dr j) (kn j) (ad2 (20 + j)) (some (pE ad2 e1 (nI j) (dr j) (kn j)))) np (upd kd j (nI e1)) dr kn := by
  obtain ⟨mc, h1, h2⟩ := h.own hj
  obtain ⟨h4, -, h3⟩ := h
  have e0 : ad2 0 = ad 0 := had 0 (by decide) (by omega)
  refine ⟨h4, ⟨mc, .ref (ad2 3), ?_, Or.inr ⟨rfl, ?_⟩⟩, fun i hi => ?_⟩
  · rw [kX_x (by decide) (by decide) (by omega), h1, had 3 (by decide) (by omega)]
  · rw [kX, va_up_ne _ _ (by omega), va_up_self]
    have e : va_up (sPl ad np) j (some (ad2 (20 + j))) = sPl ad2 np := by
      funext z
      by_cases hz : z = j
      · subst hz; rw [va_up_self, sPl_j hj]
      · rw [va_up_ne _ _ hz]
        unfold sPl
        by_cases hn : z < np
        · rw [if_pos hn, if_pos hn, had (20 + z) (by omega) (by omega)]
        · rw [if_neg hn, if_neg hn]
    rw [e]
  · by_cases e : i = j
    · subst e
      exact ⟨e1, he, by rw [pk_us], by rw [kX, va_up_self]⟩
    · obtain ⟨k', a1, a2, a3⟩ := h3 i hi
      exact ⟨k', a1, by rw [pk_un e]; exact a2, by rw [kX_x (by omega) (by omega) (by omega), a3, pE_ad e0]⟩
theorem kX_rea {nr : Nat} {rw_ rf_ : AI} (h : sRea G ad x nr rw_ rf_) (hj : j < 4) (had : ∀ z, z ≠ 80 → z ≠ 20 + j → ad2 z = ad z) : sRea G ad2 (kX G x ad2 ad np j k a b o_ ej) nr rw_ rf_ := by
  obtain ⟨h8, ⟨mc, ea, h1, h2⟩, h3⟩ := h
  refine ⟨h8, ⟨mc, ea, (kX_x (by omega) (by omega) (by omega)).trans h1, ?_⟩, fun i hi => (kX_x (by omega) (by omega) (by omega)).trans (h3 i hi)⟩
  rcases h2 with q | ⟨q, q2⟩
  · exact Or.inl q
  · refine Or.inr ⟨by rw [q, had 7 (by omega) (by omega)], (kX_x (by omega) (by omega) (by omega)).trans ?_⟩
    rw [q2]
    have e : sRl ad nr = sRl ad2 nr := by
      funext z
      unfold sRl
      by_cases hz : z < nr
      · rw [if_pos hz, if_pos hz, had (30 + z) (by omega) (by omega)]
      · rw [if_neg hz, if_neg hz]
    rw [e]
end KX
set_option maxHeartbeats 1000000 in
set_option maxRecDepth 100000 in
theorem sX0_madeOf (l : Launch) (G : nG) (K : State → Prop) (hKo : nKo G K) (hK0 : ∀ U, K U → sK0 G U) (ad : Nat → Nat) (c0 : nPic) (la k : Nat) (hk : k < 3) (a b kk : Int32) : Met l yX0_madeOf (ws_ yX0_madeOf cX0_madeOf 5 (some (.object "TowerTell$Person"))) (sR 4 1 6) (nPc G nCl K ad c0 [.ref (ad 0), .int (nI k), .int a, .int b, .int kk]) (nQ G nCl (fun rv ad' c' => ∃ q : Nat, rv = some (.ref q) ∧ va_up ad la q = ad' ∧ va_up c0 la (some (pE ad k a b kk)) = c')) 1 6 (fun q => G.2 ≤ q) := by
  refine nMet RX0 (by decide) rfl (Nat.le_of_ble_eq_true rfl) ?_
  intro p e s m below meth c ls SS hR hK hN hS hl
  obtain ⟨hx, hb, hml, hown, hts⟩ := id SS
  obtain ⟨hr, hlk, hnm⟩ := hR
  obtain ⟨hKv, hKw, hKf, hKz, hKm⟩ := hK0 s hK
  generalize s.heap = H at hN hS ⊢
  generalize ([] : List Loc) = locs at hS ⊢
  have hl : lv_has ls 5 [(0, .ref (ad 0)), (1, .int (nI k)), (2, .int a), (3, .int b), (4, .int kk)] := hl
  rcases (show k = 0 ∨ k = 1 ∨ k = 2 by omega) with z | z | z
  · subst z
    refine lv_iload_n hx hb dX0_madeOf_0 rfl (lv_at hl 1 rfl) ?_
    refine lv_if_ne (tgt := 19) hx hb dX0_madeOf_1 (by decide) (fun c1 => absurd c1 (fun z => z rfl)) (fun c1 => ?_)
    refine n_new (C := RX5) (T := TX5) (N := 4) (ci := 2) (fs := [.int 0, .int 0, .int 0, .null]) hx hb hts in_X5 tyX5 tyX5_ok hown q207 q778 q77 hKv hN hS (la) rfl (by intro j hj; rcases (show j = 0 ∨ j = 1 ∨ j = 2 ∨ j = 3 by omega) with rfl | rfl | rfl | rfl <;> rfl) (Nat.le_of_ble_eq_true rfl) (Nat.le_of_ble_eq_true rfl) dX0_madeOf_4 (fun q4 H hN hS => ?_)
    have ec_ := va_up_self ad la q4
    refine W.eq (g2 := F0 m 7 ls [.ref (va_up ad la q4 la)]) (by rw [ec_] <;> rfl) ?_
    refine lv_dup hx hb dX0_madeOf_7 rfl ?_
    refine lv_aload_n hx hb dX0_madeOf_8 rfl (lv_at hl 0 rfl) ?_
    refine lv_iload_n hx hb dX0_madeOf_9 rfl (lv_at hl 2 rfl) ?_
    refine lv_iload_n hx hb dX0_madeOf_10 rfl (lv_at hl 3 rfl) ?_
    refine lv_iload hx hb dX0_madeOf_11 (lv_at hl 4 rfl) ?_
    refine n_callI (As := [_, _, _, _]) SS hKo hK (tX5_init_0 l G K hKo hK0 (va_up ad la q4) _ la _ _ _ _ (va_up_self _ _ _) a b kk (ad 0)) (cwI 4 hts (lw_meth q781) rfl rfl rfl (hts _ q77) (hts _ q779) (hts _ q780) rfl (by decide +kernel) ⟨Nat.le_of_ble_eq_true rfl, Nat.le_of_ble_eq_true rfl⟩) hN hS rfl hl.1 rfl (Nat.le_of_ble_eq_true rfl) dX0_madeOf_13 ⟨Nat.le_of_ble_eq_true rfl, Nat.le_of_ble_eq_true rfl⟩ (fun v ad' c' H locs hv hN hS => ?_)
    obtain ⟨rfl, rfl, rfl⟩ := hv
    refine W.eq (g2 := F0 m 16 ls _) rfl ?_
    refine lv_goto (tgt := 51) hx hb dX0_madeOf_16 (by decide) ?_
    refine W.widen (k := 1) (n := 6) (by first | omega | decide) (by first | omega | decide) ?_
    exact W.aret hx hb hr (Or.inl ⟨_, rfl⟩) (Or.inr ⟨_, rfl⟩) (nEnd hN hS ⟨q4, by rw [ec_], rfl, (va_up_up _ _ _ _).symm⟩) hS.2 dX0_madeOf_51
  · subst z
    refine lv_iload_n hx hb dX0_madeOf_0 rfl (lv_at hl 1 rfl) ?_
    refine lv_if_ne (tgt := 19) hx hb dX0_madeOf_1 (by decide) (fun c1 => ?_) (fun c1 => absurd c1 (by decide))
    refine lv_iload_n hx hb dX0_madeOf_19 rfl (lv_at hl 1 rfl) ?_
    refine lv_iconst (v := 1) hx hb dX0_madeOf_20 (by decide) ?_
    refine lv_icmp_ne (tgt := 39) hx hb dX0_madeOf_21 (by decide) (fun c21 => absurd c21 (fun z => z rfl)) (fun c21 => ?_)
    refine n_new (C := RX6) (T := TX6) (N := 5) (ci := 3) (fs := [.int 0, .int 0, .int 0, .null, .null]) hx hb hts in_X6 tyX6 tyX6_ok hown q803 q804 q78 hKv hN hS (la) rfl (by intro j hj; rcases (show j = 0 ∨ j = 1 ∨ j = 2 ∨ j = 3 ∨ j = 4 by omega) with rfl | rfl | rfl | rfl | rfl <;> rfl) (Nat.le_of_ble_eq_true rfl) (Nat.le_of_ble_eq_true rfl) dX0_madeOf_24 (fun q24 H hN hS => ?_)
    have ec_ := va_up_self ad la q24
    refine W.eq (g2 := F0 m 27 ls [.ref (va_up ad la q24 la)]) (by rw [ec_] <;> rfl) ?_
    refine lv_dup hx hb dX0_madeOf_27 rfl ?_
    refine lv_aload_n hx hb dX0_madeOf_28 rfl (lv_at hl 0 rfl) ?_
    refine lv_iload_n hx hb dX0_madeOf_29 rfl (lv_at hl 2 rfl) ?_
    refine lv_iload_n hx hb dX0_madeOf_30 rfl (lv_at hl 3 rfl) ?_
    refine lv_iload hx hb dX0_madeOf_31 (lv_at hl 4 rfl) ?_
    refine n_callI (As := [_, _, _, _]) SS hKo hK (tX6_init_1 l G K hKo hK0 (va_up ad la q24) _ la _ _ _ _ _ (va_up_self _ _ _) a b kk (ad 0)) (cwI 4 hts (lw_meth q807) rfl rfl rfl (hts _ q78) (hts _ q805) (hts _ q806) rfl (by decide +kernel) ⟨Nat.le_of_ble_eq_true rfl, Nat.le_of_ble_eq_true rfl⟩) hN hS rfl hl.1 rfl (Nat.le_of_ble_eq_true rfl) dX0_madeOf_33 ⟨Nat.le_of_ble_eq_true rfl, Nat.le_of_ble_eq_true rfl⟩ (fun v ad' c' H locs hv hN hS => ?_)
    obtain ⟨rfl, rfl, rfl⟩ := hv
    refine W.eq (g2 := F0 m 36 ls _) rfl ?_
    refine lv_goto (tgt := 51) hx hb dX0_madeOf_36 (by decide) ?_
    refine W.widen (k := 1) (n := 6) (by first | omega | decide) (by first | omega | decide) ?_
    exact W.aret hx hb hr (Or.inl ⟨_, rfl⟩) (Or.inr ⟨_, rfl⟩) (nEnd hN hS ⟨q24, by rw [ec_], rfl, (va_up_up _ _ _ _).symm⟩) hS.2 dX0_madeOf_51
  · subst z
    refine lv_iload_n hx hb dX0_madeOf_0 rfl (lv_at hl 1 rfl) ?_
    refine lv_if_ne (tgt := 19) hx hb dX0_madeOf_1 (by decide) (fun c1 => ?_) (fun c1 => absurd c1 (by decide))
    refine lv_iload_n hx hb dX0_madeOf_19 rfl (lv_at hl 1 rfl) ?_
    refine lv_iconst (v := 1) hx hb dX0_madeOf_20 (by decide) ?_
    refine lv_icmp_ne (tgt := 39) hx hb dX0_madeOf_21 (by decide) (fun c21 => ?_) (fun c21 => absurd c21 (by decide))
    refine n_new (C := RX7) (T := TX7) (N := 6) (ci := 4) (fs := [.int 0, .int 0, .int 0, .null, .null, .null]) hx hb hts in_X7 tyX7 tyX7_ok hown q816 q817 q79 hKv hN hS (la) rfl (by intro j hj; rcases (show j = 0 ∨ j = 1 ∨ j = 2 ∨ j = 3 ∨ j = 4 ∨ j = 5 by omega) with rfl | rfl | rfl | rfl | rfl | rfl <;> rfl) (Nat.le_of_ble_eq_true rfl) (Nat.le_of_ble_eq_true rfl) dX0_madeOf_39 (fun q39 H hN hS => ?_)
    have ec_ := va_up_self ad la q39
    refine W.eq (g2 := F0 m 42 ls [.ref (va_up ad la q39 la)]) (by rw [ec_] <;> rfl) ?_
    refine lv_dup hx hb dX0_madeOf_42 rfl ?_
    refine lv_aload_n hx hb dX0_madeOf_43 rfl (lv_at hl 0 rfl) ?_
    refine lv_iload_n hx hb dX0_madeOf_44 rfl (lv_at hl 2 rfl) ?_
    refine lv_iload_n hx hb dX0_madeOf_45 rfl (lv_at hl 3 rfl) ?_
    refine lv_iload hx hb dX0_madeOf_46 (lv_at hl 4 rfl) ?_
    refine n_callI (As := [_, _, _, _]) SS hKo hK (tX7_init l G K hKo hK0 (va_up ad la q39) _ la _ _ _ _ _ _ (va_up_self _ _ _) a b kk (ad 0)) (cwI 4 hts (lw_meth q820) rfl rfl rfl (hts _ q79) (hts _ q818) (hts _ q819) rfl (by decide +kernel) ⟨Nat.le_of_ble_eq_true rfl, Nat.le_of_ble_eq_true rfl⟩) hN hS rfl hl.1 rfl (Nat.le_of_ble_eq_true rfl) dX0_madeOf_48 ⟨Nat.le_of_ble_eq_true rfl, Nat.le_of_ble_eq_true rfl⟩ (fun v ad' c' H locs hv hN hS => ?_)
    obtain ⟨rfl, rfl, rfl⟩ := hv
    refine W.eq (g2 := F0 m 51 ls _) rfl ?_
    refine W.widen (k := 1) (n := 6) (by first | omega | decide) (by first | omega | decide) ?_
    exact W.aret hx hb hr (Or.inl ⟨_, rfl⟩) (Or.inr ⟨_, rfl⟩) (nEnd hN hS ⟨q39, by rw [ec_], rfl, (va_up_up _ _ _ _).symm⟩) hS.2 dX0_madeOf_51
set_option maxHeartbeats 1000000 in
set_option maxRecDepth 100000 in
theorem sX0_kindsBy (l : Launch) (G : nG) (K : State → Prop) (hKo : nKo G K) (hK0 : ∀ U, K U → sK0 G U) (ad : Nat → Nat) (x : nPic) (si : AI) (sa : Nat → AI) (rn : Value) (np : Nat) (kd dr kn : AI) (hP : sPeo G ad x np kd dr kn) (j : Nat) (hj : j < np) (nd : Nat) (hnd : si 1 = nI nd) (hnd6 : nd ≤ 6) (ra mm : Nat) (rf : AI) (wh wt : Nat → Nat) (hmm : mm ≤ 20) (hra : ra ≠ 0 ∧ ra ≠ 1 ∧ ra ≠ 4 ∧ ra ≠ 5) (hRx : x ra = some (.inl (G.1.1 100, 2 * mm, .inl rf))) (hw : ∀ k, k < mm → rf (2 * k) = nI (wh k) ∧ wh k < np ∧ rf (2 * k + 1) = nI (wt k) ∧ wt k < nd) (nr : Nat) (rw_ rf_ : AI) (hQ : sRea G ad x nr rw_ rf_) (hrw : ∀ k, k < nr → ∃ q, q < np ∧ rw_ k = nI q) (hr20 : 8 < ra ∧ ra < 20) (hx80 : x 80 = none) : Met l yX0_kindsBy (ws_ yX0_kindsBy cX0_kindsBy 6 (some .int)) (sR 10 3 18) (nPc G nCl K ad (sPic G x ad si sa rn) [.ref (ad 0), .ref (ad ra), .int (nI j)]) (nQ G nCl (fun rv ad' c' => ∃ (cg fw : Int32) (k5 : AI), rv = some (.int (sSet (fun v => sSo (sa 1) (upd kd j v) (fun q => dr q &&& sMsk nd) kn (sa 4) nd np nr wh wt mm rw_ rf_) 0 3)) ∧ ad = ad' ∧ sPic G x ad (upd (upd si 6 cg) 7 fw) (va_up sa 5 k5) rn = c')) 3 18 (fun q => G.2 ≤ q) := by
  refine nMet RX0 (by decide) rfl (Nat.le_of_ble_eq_true rfl) ?_
  intro p e s m below meth c ls SS hR hK hN hS hl
  obtain ⟨hx, hb, hml, hown, hts⟩ := id SS
  obtain ⟨hr, hlk, hnm⟩ := hR
  obtain ⟨hKv, hKw, hKf, hKz, hKm⟩ := hK0 s hK
  generalize s.heap = H at hN hS ⊢
  generalize ([] : List Loc) = locs at hS ⊢
  have hl : lv_has ls 6 [(0, .ref (ad 0)), (1, .ref (ad ra)), (2, .int (nI j))] := hl
  obtain ⟨mc_, hL0, hA0⟩ := hP.own hj
  have hL : (sPic G x ad si sa rn) 2 = _ := hL0
  have hA : (sPic G x ad si sa rn) 3 = _ := hA0
  have hnp4 := hP.1
  obtain ⟨k, hk3, hkd, hX⟩ := hP.2.2 j hj
  refine lv_aload_n hx hb dX0_kindsBy_0 rfl (lv_at hl 0 rfl) ?_
  refine n_get (ci := 0) (C := RX0) (T := TX0) (N := 12) hx hb hts in_X0 hown hKv hN (0) sPic_0 rfl 3 (by decide) q131 (fun z h => h) (rfl) dX0_kindsBy_1 ?_
  refine lv_iload_n hx hb dX0_kindsBy_4 rfl (lv_at hl 2 rfl) ?_
  refine n_callF (As := [_]) (C := RJ2) (b := 2) SS hKo hK hKv (tJ2_get l G K hKo hK0 ad _ 2 3 mc_ np 10 (sPl ad np) hL hA (by decide) j hj (by omega)) (va_cwF 1 hts (lw_F q189 q192 q194 q60 q196) rfl rfl rfl (hKf (RJ2, ⟨"java/util/List", "get", "(I)Ljava/lang/Object;"⟩, ⟨"java/util/ArrayList", "get", "(I)Ljava/lang/Object;"⟩) (List.mem_of_getElem? (i := 1) rfl)) (by decide +kernel) ⟨Nat.le_of_ble_eq_true rfl, Nat.le_of_ble_eq_true rfl⟩) hN hS hL rfl rfl hl.1 rfl (Nat.le_of_ble_eq_true rfl) dX0_kindsBy_5 ⟨Nat.le_of_ble_eq_true rfl, Nat.le_of_ble_eq_true rfl⟩ (fun v ad' c' H locs hv hN hS => ?_)
  obtain ⟨rfl, rfl, rfl⟩ := hv
  refine W.eq (g2 := F0 m 10 ls (_ :: _)) rfl ?_
  refine n_topv (y := .ref (ad (20 + j))) (sPl_at hj) ?_
  refine n_castP hx hb hts hown q207 (hK0 s hK) hN (hP.per hj) dX0_kindsBy_10 ?_
  refine lv_astore_n (lv' := [(3, _), (0, _), (1, _), (2, _)]) hx hb dX0_kindsBy_13 rfl hl (by decide) rfl (fun ls hl => ?_)
  refine lv_iconst (v := 0) hx hb dX0_kindsBy_14 (by decide) ?_
  refine lv_istore (lv' := [(4, _), (3, _), (0, _), (1, _), (2, _)]) hx hb dX0_kindsBy_15 hl (by decide) rfl (fun ls hl => ?_)
  refine lv_iconst (v := nI (0 + 0)) hx hb dX0_kindsBy_17 (rfl) ?_
  refine lv_istore (lv' := [(5, _), (4, _), (3, _), (0, _), (1, _), (2, _)]) hx hb dX0_kindsBy_18 hl (by decide) rfl (fun ls hl => ?_)
  obtain ⟨ad1, had, h80⟩ : ∃ ad1 : Nat → Nat, (∀ z, z ≠ 80 → z ≠ 20 + j → ad1 z = ad z) ∧ ad1 80 = ad (20 + j) := ⟨va_up ad 80 (ad (20 + j)), fun z h1 _ => va_up_ne ad _ h1, va_up_self _ _ _⟩
  have hN : nOk G nCl ad1 (sPic G (kX G x ad1 ad np j k (dr j) (kn j) (ad (20 + j)) none) ad1 (upd (upd si 6 (si 6)) 7 (si 7)) (va_up sa 5 (sa 5)) rn) H := by rw [va_up_id sa 5 _ rfl, upd_self si 6 _ rfl, upd_self si 7 _ rfl]; exact kX_in hN hX hA0 hj (by omega) had h80
  rw [← had 0 (by omega) (by omega), ← had ra (by omega) (by omega), ← h80] at hl
  have loop20 : ∀ (n : Nat) (i : Nat) (ad1 : Nat → Nat) (cg fw : Int32) (k5 : AI) (o_ : Nat) (ej : Option va_E) (H : Heap) (locs : List Loc) (ls : Array Slot), 4 ≤ n + i → i ≤ 3 → (∀ z, z ≠ 80 → z ≠ 20 + j → ad1 z = ad z) → ad1 80 = ad (20 + j) → nOk G nCl ad1 (sPic G (kX G x ad1 ad np j k (dr j) (kn j) o_ ej) ad1 (upd (upd si 6 cg) 7 fw) (va_up sa 5 k5) rn) H → nS G s H locs → lv_has ls 6 [(0, .ref (ad1 0)), (1, .ref (ad1 ra)), (2, .int (nI j)), (3, .ref (ad1 80)), (4, .int (sSet (fun v => sSo (sa 1) (upd kd j v) (fun q => dr q &&& sMsk nd) kn (sa 4) nd np nr wh wt mm rw_ rf_) 0 i)), (5, .int (nI (0 + i)))] → W p l e (sR 10 3 18) s m ([.ref (ad 0), .ref (ad ra), .int (nI j)] : List Value).toArray below meth c H locs i (6 * i) (MQ below (nQ G nCl (fun rv ad' c' => ∃ (cg fw : Int32) (k5 : AI), rv = some (.int (sSet (fun v => sSo (sa 1) (upd kd j v) (fun q => dr q &&& sMsk nd) kn (sa 4) nd np nr wh wt mm rw_ rf_) 0 3)) ∧ ad = ad' ∧ sPic G x ad (upd (upd si 6 cg) 7 fw) (va_up sa 5 k5) rn = c')) ([.ref (ad 0), .ref (ad ra), .int (nI j)] : List Value).toArray s 3 18 (fun q => G.2 ≤ q)) (F0 m 20 ls []) := by
    intro n
    induction n with
    | zero => intro i ad1 cg fw k5 o_ ej H locs ls hfuel hi had h80 hN hS hl; exact absurd hfuel (by omega)
    | succ n ih20 =>
      intro i ad1 cg fw k5 o_ ej H locs ls hfuel hi had h80 hN hS hl
      have hL : (sPic G (kX G x ad1 ad np j k (dr j) (kn j) o_ ej) ad1 (upd (upd si 6 cg) 7 fw) (va_up sa 5 k5) rn) 2 = some (.inr (7, [.int mc_, .ref (ad1 3), .int (nI np)])) := kX_2 (by omega) (had 3 (by omega) (by omega)) hL0
      have hA : (sPic G (kX G x ad1 ad np j k (dr j) (kn j) o_ ej) ad1 (upd (upd si 6 cg) 7 fw) (va_up sa 5 k5) rn) 3 = some (qA (G.1.1 103) 10 (va_up (sPl ad np) j (some o_))) := kX_3 (by omega)
      have h80e : (sPic G (kX G x ad1 ad np j k (dr j) (kn j) o_ ej) ad1 (upd (upd si 6 cg) 7 fw) (va_up sa 5 k5) rn) 80 = some (pE ad1 k (nI j) (dr j) (kn j)) := kX_80 (by omega)
      have hE80 : nEl (sPic G (kX G x ad1 ad np j k (dr j) (kn j) o_ ej) ad1 (upd (upd si 6 cg) 7 fw) (va_up sa 5 k5) rn) 80 := nEl_P hk3 h80e
      refine lv_iload hx hb dX0_kindsBy_20 (lv_at hl 5 rfl) ?_
      refine lv_iconst (v := 3) hx hb dX0_kindsBy_22 (by decide) ?_
      refine lv_icmp_ge (tgt := 79) hx hb dX0_kindsBy_23 (by decide) (fun c23 => ?_) (fun c23 => ?_)
      · have c23 : 3 ≤ 0 + i := (nI_leI (a := 3) (b := 0 + i) (by omega) (by omega)).mp c23
        have ei : i = 3 := by omega
        refine lv_aload_n hx hb dX0_kindsBy_79 rfl (lv_at hl 0 rfl) ?_
        refine n_get (ci := 0) (C := RX0) (T := TX0) (N := 12) hx hb hts in_X0 hown hKv hN (0) sPic_0 rfl 3 (by decide) q131 (fun z h => h) (rfl) dX0_kindsBy_80 ?_
        refine lv_iload_n hx hb dX0_kindsBy_83 rfl (lv_at hl 2 rfl) ?_
        refine lv_aload_n hx hb dX0_kindsBy_84 rfl (lv_at hl 3 rfl) ?_
        refine n_callF (As := [_, _]) (C := RJ2) (b := 2) SS hKo hK hKv (tJ2_set l G K hKo hK0 ad1 _ 2 3 mc_ np 10 (va_up (sPl ad np) j (some o_)) hL hA (by decide) j (80) hj (by omega) hE80 o_ (va_up_self _ _ _)) (va_cwF 2 hts (lw_F q948 q951 q953 q60 q955) rfl rfl rfl (hKf (RJ2, ⟨"java/util/List", "set", "(ILjava/lang/Object;)Ljava/lang/Object;"⟩, ⟨"java/util/ArrayList", "set", "(ILjava/lang/Object;)Ljava/lang/Object;"⟩) (List.mem_of_getElem? (i := 7) rfl)) (by decide +kernel) ⟨Nat.le_of_ble_eq_true rfl, Nat.le_of_ble_eq_true rfl⟩) hN hS hL rfl rfl hl.1 rfl (Nat.le_of_ble_eq_true rfl) dX0_kindsBy_85 ⟨by show i + 0 ≤ 3; omega, by show 6 * i + 0 ≤ 18; omega⟩ (fun v ad' c' H locs hv hN hS => ?_)
        obtain ⟨rfl, rfl, rfl⟩ := hv
        have hN : nOk G nCl ad (sPic G x ad (upd (upd si 6 cg) 7 fw) (va_up sa 5 k5) rn) H := kX_out hN hX hA0 hj (by omega) had h80 hx80
        refine W.eq (g2 := F0 m 90 ls (_ :: _)) rfl ?_
        refine lv_pop hx hb dX0_kindsBy_90 rfl ?_
        refine lv_iload hx hb dX0_kindsBy_91 (lv_at hl 4 rfl) ?_
        refine W.widen (k := 3) (n := 18) (by first | omega | decide) (by first | omega | decide) ?_
        exact W.iret hx hb hr (nEnd hN hS ⟨_, _, _, by rw [ei], rfl, rfl⟩) hS.2 dX0_kindsBy_93
      · have c23 : 0 + i < 3 := by have := mt (nI_leI (a := 3) (b := 0 + i) (by omega) (by omega)).mpr c23; omega
        refine lv_aload_n hx hb dX0_kindsBy_26 rfl (lv_at hl 0 rfl) ?_
        refine n_get (ci := 0) (C := RX0) (T := TX0) (N := 12) hx hb hts in_X0 hown hKv hN (0) sPic_0 rfl 3 (by decide) q131 (fun z h => h) (rfl) dX0_kindsBy_27 ?_
        refine lv_iload_n hx hb dX0_kindsBy_30 rfl (lv_at hl 2 rfl) ?_
        refine lv_aload_n hx hb dX0_kindsBy_31 rfl (lv_at hl 0 rfl) ?_
        refine lv_iload hx hb dX0_kindsBy_32 (lv_at hl 5 rfl) ?_
        refine lv_iload_n hx hb dX0_kindsBy_34 rfl (lv_at hl 2 rfl) ?_
        refine lv_aload_n hx hb dX0_kindsBy_35 rfl (lv_at hl 3 rfl) ?_
        refine n_getP hx hb hts hown (hK0 s hK) hN 1 (by decide) q790 ⟨k, hk3, h80e⟩ rfl dX0_kindsBy_36 ?_
        refine lv_aload_n hx hb dX0_kindsBy_39 rfl (lv_at hl 3 rfl) ?_
        refine n_getP hx hb hts hown (hK0 s hK) hN 2 (by decide) q792 ⟨k, hk3, h80e⟩ rfl dX0_kindsBy_40 ?_
        refine n_callV (C := RX0) (As := [_, _, _, _]) (b := 0) SS hKo hK hKv (sX0_madeOf l G K hKo hK0 ad1 _ (20 + j) (0 + i) (by omega) (nI j) (dr j) (kn j)) (cwV 4 hts (lw_V q774 q776 qs20 q57 q777) rfl rfl rfl (by decide +kernel) ⟨Nat.le_of_ble_eq_true rfl, Nat.le_of_ble_eq_true rfl⟩) hN hS sPic_0 rfl rfl hl.1 rfl (Nat.le_of_ble_eq_true rfl) dX0_kindsBy_43 ⟨by show i + 1 ≤ 3; omega, by show 6 * i + 6 ≤ 18; omega⟩ (fun v ad' c' H locs hv hN hS => ?_)
        obtain ⟨q, rfl, rfl, rfl⟩ := hv
        refine W.eq (g2 := F0 m 46 ls (_ :: _)) rfl ?_
        obtain ⟨ad2, e2⟩ : ∃ ad2, ad2 = va_up ad1 (20 + j) q := ⟨_, rfl⟩
        have had2 : ∀ z, z ≠ 20 + j → ad2 z = ad1 z := fun z hz => by rw [e2]; exact va_up_ne ad1 q hz
        have hq2 : ad2 (20 + j) = q := by rw [e2]; exact va_up_self _ _ _
        have had3 : ∀ z, z ≠ 80 → z ≠ 20 + j → ad2 z = ad z := fun z h1 h2 => (had2 z h2).trans (had z h1 h2)
        have h803 : ad2 80 = ad (20 + j) := (had2 80 (by omega)).trans h80
        have hN : nOk G nCl ad2 (sPic G (kX G x ad2 ad np j k (dr j) (kn j) o_ (some (pE ad2 (0 + i) (nI j) (dr j) (kn j)))) ad2 (upd (upd si 6 cg) 7 fw) (va_up sa 5 k5) rn) H := kX_new (e2 ▸ hN) (by omega) had2
        rw [← had2 0 (by omega), ← had2 ra (by omega), ← had2 80 (by omega)] at hl
        refine W.eq (g2 := F0 m 46 ls [.ref (ad2 (20 + j)), .int (nI j), .ref (ad2 2)]) (by rw [hq2, had2 2 (by omega)] <;> rfl) ?_
        have hL : (sPic G (kX G x ad2 ad np j k (dr j) (kn j) o_ (some (pE ad2 (0 + i) (nI j) (dr j) (kn j)))) ad2 (upd (upd si 6 cg) 7 fw) (va_up sa 5 k5) rn) 2 = some (.inr (7, [.int mc_, .ref (ad2 3), .int (nI np)])) := kX_2 (by omega) (had3 3 (by omega) (by omega)) hL0
        have hA : (sPic G (kX G x ad2 ad np j k (dr j) (kn j) o_ (some (pE ad2 (0 + i) (nI j) (dr j) (kn j)))) ad2 (upd (upd si 6 cg) 7 fw) (va_up sa 5 k5) rn) 3 = some (qA (G.1.1 103) 10 (va_up (sPl ad np) j (some o_))) := kX_3 (by omega)
        have h80e : (sPic G (kX G x ad2 ad np j k (dr j) (kn j) o_ (some (pE ad2 (0 + i) (nI j) (dr j) (kn j)))) ad2 (upd (upd si 6 cg) 7 fw) (va_up sa 5 k5) rn) 80 = some (pE ad2 k (nI j) (dr j) (kn j)) := kX_80 (by omega)
        have hE2 : nEl (sPic G (kX G x ad2 ad np j k (dr j) (kn j) o_ (some (pE ad2 (0 + i) (nI j) (dr j) (kn j)))) ad2 (upd (upd si 6 cg) 7 fw) (va_up sa 5 k5) rn) (20 + j) := nEl_P (by omega) (kX_j (by omega))
        refine n_callF (As := [_, _]) (C := RJ2) (b := 2) SS hKo hK hKv (tJ2_set l G K hKo hK0 ad2 _ 2 3 mc_ np 10 (va_up (sPl ad np) j (some o_)) hL hA (by decide) j (20 + j) hj (by omega) hE2 o_ (va_up_self _ _ _)) (va_cwF 2 hts (lw_F q948 q951 q953 q60 q955) rfl rfl rfl (hKf (RJ2, ⟨"java/util/List", "set", "(ILjava/lang/Object;)Ljava/lang/Object;"⟩, ⟨"java/util/ArrayList", "set", "(ILjava/lang/Object;)Ljava/lang/Object;"⟩) (List.mem_of_getElem? (i := 7) rfl)) (by decide +kernel) ⟨Nat.le_of_ble_eq_true rfl, Nat.le_of_ble_eq_true rfl⟩) hN hS hL rfl rfl hl.1 rfl (Nat.le_of_ble_eq_true rfl) dX0_kindsBy_46 ⟨by show i + 1 + 0 ≤ 3; omega, by show 6 * i + 6 + 0 ≤ 18; omega⟩ (fun v ad' c' H locs hv hN hS => ?_)
        obtain ⟨rfl, rfl, rfl⟩ := hv
        have hN : nOk G nCl ad2 (sPic G (kX G x ad2 ad np j k (dr j) (kn j) (ad2 (20 + j)) (some (pE ad2 (0 + i) (nI j) (dr j) (kn j)))) ad2 (upd (upd si 6 cg) 7 fw) (va_up sa 5 k5) rn) H := kX_set hN (by omega)
        refine W.eq (g2 := F0 m 51 ls (_ :: _)) rfl ?_
        refine lv_pop hx hb dX0_kindsBy_51 rfl ?_
        refine lv_iload hx hb dX0_kindsBy_52 (lv_at hl 4 rfl) ?_
        refine lv_aload_n hx hb dX0_kindsBy_54 rfl (lv_at hl 0 rfl) ?_
        refine lv_aload_n hx hb dX0_kindsBy_55 rfl (lv_at hl 1 rfl) ?_
        refine n_callV (C := RX0) (As := [_]) (b := 0) SS hKo hK hKv (sX0_areSo l G K hKo hK0 ad2 (kX G x ad2 ad np j k (dr j) (kn j) (ad2 (20 + j)) (some (pE ad2 (0 + i) (nI j) (dr j) (kn j)))) (upd (upd si 6 cg) 7 fw) (va_up sa 5 k5) rn np (upd kd j (nI (0 + i))) dr kn (kX_peo hP hj (by omega) had3) nd hnd hnd6 ra mm rf wh wt hmm hra ((kX_x (by omega) (by omega) (by omega)).trans hRx) hw nr rw_ rf_ (kX_rea hQ (by omega) had3) hrw) (cwV 1 hts (lw_V q935 q937 qs30 q57 q938) rfl rfl rfl (by decide +kernel) ⟨Nat.le_of_ble_eq_true rfl, Nat.le_of_ble_eq_true rfl⟩) hN hS sPic_0 rfl rfl hl.1 rfl (Nat.le_of_ble_eq_true rfl) dX0_kindsBy_56 ⟨by show i + 1 + 0 ≤ 3; omega, by show 6 * i + 6 + 0 ≤ 18; omega⟩ (fun v ad' c' H locs hv hN hS => ?_)
        obtain ⟨rfl, rfl, rfl⟩ := hv
        rw [upd_67, upd_upd, va_up_up] at hN
        refine W.eq (g2 := F0 m 59 ls (_ :: _)) rfl ?_
        refine lv_if_eq (tgt := 69) hx hb dX0_kindsBy_59 (by decide) (fun c59 => ?_) (fun c59 => ?_)
        · have hz : sSo (sa 1) (upd kd j (nI (0 + i))) (fun q => dr q &&& sMsk nd) kn (sa 4) nd np nr wh wt mm rw_ rf_ = false := zI_0.mp c59
          refine lv_iconst (v := 0) hx hb dX0_kindsBy_69 (by decide) ?_
          refine lv_ior hx hb dX0_kindsBy_70 ?_
          refine n_top (y := sSet (fun v => sSo (sa 1) (upd kd j v) (fun q => dr q &&& sMsk nd) kn (sa 4) nd np nr wh wt mm rw_ rf_) 0 (i + 1)) (by rw [sSet, if_neg (by rw [hz]; simp)]) ?_
          refine lv_istore (lv' := [(4, _), (0, _), (1, _), (2, _), (3, _), (5, _)]) hx hb dX0_kindsBy_71 hl (by decide) rfl (fun ls hl => ?_)
          refine lv_iinc (v := nI (0 + (i + 1))) (lv' := [(5, _), (4, _), (0, _), (1, _), (2, _), (3, _)]) hx hb dX0_kindsBy_73 hl (k := 5) rfl (nI_inc (0 + i)) (by decide) rfl (fun ls hl => ?_)
          refine lv_goto (tgt := 20) hx hb dX0_kindsBy_76 (by decide) ?_
          
          refine W.widen (k := i + 1) (n := 6 * (i + 1)) (by omega) (by omega) ?_
          exact ih20 (i + 1) ad2 _ _ _ _ _ _ _ _ (by omega) (by omega) had3 h803 hN hS (lv_sub hl [2, 3, 4, 5, 1, 0] (rfl))
        · have hz : sSo (sa 1) (upd kd j (nI (0 + i))) (fun q => dr q &&& sMsk nd) kn (sa 4) nd np nr wh wt mm rw_ rf_ = true := zI_n0 c59
          refine lv_iconst (v := 1) hx hb dX0_kindsBy_62 (by decide) ?_
          refine lv_iload hx hb dX0_kindsBy_63 (lv_at hl 5 rfl) ?_
          refine lv_ishl hx hb dX0_kindsBy_65 ?_
          refine lv_goto (tgt := 70) hx hb dX0_kindsBy_66 (by decide) ?_
          refine lv_ior hx hb dX0_kindsBy_70 ?_
          refine n_top (y := sSet (fun v => sSo (sa 1) (upd kd j v) (fun q => dr q &&& sMsk nd) kn (sa 4) nd np nr wh wt mm rw_ rf_) 0 (i + 1)) (by rw [sSet, if_pos hz]; rfl) ?_
          refine lv_istore (lv' := [(4, _), (0, _), (1, _), (2, _), (3, _), (5, _)]) hx hb dX0_kindsBy_71 hl (by decide) rfl (fun ls hl => ?_)
          refine lv_iinc (v := nI (0 + (i + 1))) (lv' := [(5, _), (4, _), (0, _), (1, _), (2, _), (3, _)]) hx hb dX0_kindsBy_73 hl (k := 5) rfl (nI_inc (0 + i)) (by decide) rfl (fun ls hl => ?_)
          refine lv_goto (tgt := 20) hx hb dX0_kindsBy_76 (by decide) ?_
          
          refine W.widen (k := i + 1) (n := 6 * (i + 1)) (by omega) (by omega) ?_
          exact ih20 (i + 1) ad2 _ _ _ _ _ _ _ _ (by omega) (by omega) had3 h803 hN hS (lv_sub hl [2, 3, 4, 5, 1, 0] (rfl))
  exact loop20 4 0 ad1 (si 6) (si 7) (sa 5) (ad (20 + j)) none _ _ _ (by omega) (by omega) had h80 hN hS (lv_sub hl [3, 4, 5, 2, 1, 0] rfl)
