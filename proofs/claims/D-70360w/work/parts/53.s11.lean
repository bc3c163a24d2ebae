/-! SYSTEM: whom one knew; renaming: printed by wip/gen/s11.py -/
section NPK
variable {p : Program} {l : Launch} {e : Env} {R : Room} {s : State} {m : MethodId} {args : Array Value} {below : List Frame} {meth : Method} {c : Code} {H : Heap} {locs : List Loc} {cells slots : Nat} {Q : State → Prop}
variable {cc : ByteArray} {pc : Nat} {ls : Array Slot} {rest : List Value} {G : nG} {ad : Nat → Nat} {c0 : nPic}
theorem n_putK (hexec : p.tables.exec = Jvm.exec) (hb : c.code = cc) {own : String} {index : Nat} (hts : ∀ w ∈ lw_all, w.before args s = true) (hown : s.vm.findClass own = some m.cls) (hK : sK0 G s) (hN : nOk G nCl ad c0 H) (hS : nS G s H locs) (hlink : Cond.fieldLink own index RX5 (TX5 2).2.1 (TX5 2).2.2.1 ∈ lw_all) {i k : Nat} {a b kn v : Int32} (hk : k < 3) (he : c0 i = some (pE ad k a b kn)) (hdg : decode cc pc = .ok (.putfield index, 3))
    (kk : ∀ (H1 : Heap) (locs1 : List Loc), nOk G nCl ad (va_up c0 i (some (pE ad k a b v))) H1 → nS G s H1 locs1 → W p l e R s m args below meth c H1 locs1 cells slots Q (F0 m (pc + 3) ls rest)) : W p l e R s m args below meth c H locs cells slots Q (F0 m pc ls (.int v :: .ref (ad i) :: rest)) := by
  obtain ⟨hKv, hKw, -⟩ := hK
  rcases (show k = 0 ∨ k = 1 ∨ k = 2 by omega) with z | z | z <;> subst z
  · exact n_put (ci := 2) (C := RX5) (T := TX5) (N := 4) hexec hb hts in_X5 tyX5 tyX5_ok (n_apart hts in_X5 tyX5 tyX5_ok ndX5 hKv rfl) hown hKv hN hS i he rfl 2 (by decide) hlink (fun z h => h) rfl rfl rfl (Nat.le_of_ble_eq_true rfl) hdg kk
  · exact n_put (ci := 3) (C := RX6) (T := TX6) (N := 5) hexec hb hts in_X6 tyX6 tyX6_ok (n_apart hts in_X6 tyX6 tyX6_ok ndX6 hKv rfl) hown hKv hN hS i he rfl 2 (by decide) hlink (fun z h => h) rfl rfl rfl (Nat.le_of_ble_eq_true rfl) hdg kk
  · exact n_put (ci := 4) (C := RX7) (T := TX7) (N := 6) hexec hb hts in_X7 tyX7 tyX7_ok (n_apart hts in_X7 tyX7 tyX7_ok ndX7 hKv rfl) hown hKv hN hS i he rfl 2 (by decide) hlink (fun z h => h) rfl rfl rfl (Nat.le_of_ble_eq_true rfl) hdg kk
end NPK
theorem sPeo.kn {G : nG} {ad : Nat → Nat} {x : nPic} {np : Nat} {kd dr kn : AI} (h : sPeo G ad x np kd dr kn) {j k : Nat} (hj : j < np) (hk3 : k < 3) (hkd : kd j = nI k) (v : Int32) : sPeo G ad (va_up x (20 + j) (some (pE ad k (nI j) (dr j) v))) np kd dr (upd kn j v) := by
  obtain ⟨h4, ⟨mc, ea, h1, h2⟩, h3⟩ := h
  refine ⟨h4, ⟨mc, ea, (va_up_ne x _ (by omega)).trans h1, ?_⟩, fun i hi => ?_⟩
  · rcases h2 with q | ⟨q, q2⟩
    · exact Or.inl q
    · exact Or.inr ⟨q, (va_up_ne x _ (by omega)).trans q2⟩
  · by_cases e : i = j
    · subst e
      exact ⟨k, hk3, hkd, by rw [va_up_self, pk_us]⟩
    · obtain ⟨k', a1, a2, a3⟩ := h3 i hi
      exact ⟨k', a1, a2, by rw [va_up_ne x _ (by omega), pk_un e]; exact a3⟩
theorem sRea.per {G : nG} {ad : Nat → Nat} {x : nPic} {nr : Nat} {rw_ rf_ : AI} (h : sRea G ad x nr rw_ rf_) {j : Nat} {e : Option va_E} (hj : j < 4) : sRea G ad (va_up x (20 + j) e) nr rw_ rf_ := by
  obtain ⟨h8, ⟨mc, ea, h1, h2⟩, h3⟩ := h
  refine ⟨h8, ⟨mc, ea, (va_up_ne x _ (by omega)).trans h1, ?_⟩, fun i hi => (va_up_ne x _ (by omega)).trans (h3 i hi)⟩
  rcases h2 with q | ⟨q, q2⟩
  · exact Or.inl q
  · exact Or.inr ⟨q, (va_up_ne x _ (by omega)).trans q2⟩
/-- the same cells under other names -/
theorem nOk.ren {G : nG} {cl : List vw_C} {ad ad' : Nat → Nat} {c c' : nPic} {H : Heap} (f : Nat → Nat) (h : nOk G cl ad c H) (hc : ∀ i e, c' i = some e → c (f i) = some e ∧ ad' i = ad (f i)) (hf : ∀ i j, c' i ≠ none → c' j ≠ none → f i = f j → i = j) : nOk G cl ad' c' H := by
  have key : ∀ j, c' j ≠ none → c (f j) ≠ none ∧ ad' j = ad (f j) := by
    intro j hj
    cases hx : c' j with
    | none => exact absurd hx hj
    | some x => exact ⟨by rw [(hc j x hx).1]; simp, (hc j x hx).2⟩
  refine ⟨fun i e he => ?_, fun i j hi hj hij => ?_, h.2.2⟩
  · obtain ⟨h1, h2⟩ := hc i e he
    rw [h2]
    exact h.1 (f i) e h1
  · rw [(key i hi).2, (key j hj).2] at hij
    exact hf i j hi hj (h.2.1 (f i) (f j) (key i hi).1 (key j hj).1 hij)
set_option maxHeartbeats 1000000 in
set_option maxRecDepth 100000 in
theorem sX0_knewBy (l : Launch) (G : nG) (K : State → Prop) (hKo : nKo G K) (hK0 : ∀ U, K U → sK0 G U) (ad : Nat → Nat) (x : nPic) (si : AI) (sa : Nat → AI) (rn : Value) (np : Nat) (kd dr kn : AI) (hP : sPeo G ad x np kd dr kn) (j : Nat) (hj : j < np) (nd : Nat) (hnd : si 1 = nI nd) (hnd6 : nd ≤ 6) (ra mm : Nat) (rf : AI) (wh wt : Nat → Nat) (hmm : mm ≤ 20) (hra : ra ≠ 0 ∧ ra ≠ 1 ∧ ra ≠ 4 ∧ ra ≠ 5) (hRx : x ra = some (.inl (G.1.1 100, 2 * mm, .inl rf))) (hw : ∀ k, k < mm → rf (2 * k) = nI (wh k) ∧ wh k < np ∧ rf (2 * k + 1) = nI (wt k) ∧ wt k < nd) (nr : Nat) (rw_ rf_ : AI) (hQ : sRea G ad x nr rw_ rf_) (hrw : ∀ k, k < nr → ∃ q, q < np ∧ rw_ k = nI q) (hr20 : ra < 20) : Met l yX0_knewBy (ws_ yX0_knewBy cX0_knewBy 7 (some .int)) (sR 10 0 0) (nPc G nCl K ad (sPic G x ad si sa rn) [.ref (ad 0), .ref (ad ra), .int (nI j)]) (nQ G nCl (fun rv ad' c' => ∃ (cg fw : Int32) (k5 : AI), rv = some (.int (sSet (fun v => sSo (sa 1) kd (fun q => dr q &&& sMsk nd) (upd kn j v) (sa 4) nd np nr wh wt mm rw_ rf_) 0 5)) ∧ ad = ad' ∧ sPic G x ad (upd (upd si 6 cg) 7 fw) (va_up sa 5 k5) rn = c')) 0 0 (fun q => G.2 ≤ q) := by
  refine nMet RX0 (by decide) rfl (Nat.le_of_ble_eq_true rfl) ?_
  intro p e s m below meth c ls SS hR hK hN hS hl
  obtain ⟨hx, hb, hml, hown, hts⟩ := id SS
  obtain ⟨hr, hlk, hnm⟩ := hR
  obtain ⟨hKv, hKw, hKf, hKz, hKm⟩ := hK0 s hK
  generalize s.heap = H at hN hS ⊢
  generalize ([] : List Loc) = locs at hS ⊢
  have hl : lv_has ls 7 [(0, .ref (ad 0)), (1, .ref (ad ra)), (2, .int (nI j))] := hl
  obtain ⟨mc_, hL, hA⟩ := hP.own hj
  have hL : (sPic G x ad si sa rn) 2 = _ := hL
  have hA : (sPic G x ad si sa rn) 3 = _ := hA
  have hnp4 := hP.1
  obtain ⟨k, hk3, hkd, hX⟩ := hP.2.2 j hj
  refine lv_aload_n hx hb dX0_knewBy_0 rfl (lv_at hl 0 rfl) ?_
  refine n_get (ci := 0) (C := RX0) (T := TX0) (N := 12) hx hb hts in_X0 hown hKv hN (0) sPic_0 rfl 3 (by decide) q131 (fun z h => h) (rfl) dX0_knewBy_1 ?_
  refine lv_iload_n hx hb dX0_knewBy_4 rfl (lv_at hl 2 rfl) ?_
  refine n_callF (As := [_]) (C := RJ2) (b := 2) SS hKo hK hKv (tJ2_get l G K hKo hK0 ad _ 2 3 mc_ np 10 (sPl ad np) hL hA (by decide) j hj (by omega)) (va_cwF 1 hts (lw_F q189 q192 q194 q60 q196) rfl rfl rfl (hKf (RJ2, ⟨"java/util/List", "get", "(I)Ljava/lang/Object;"⟩, ⟨"java/util/ArrayList", "get", "(I)Ljava/lang/Object;"⟩) (List.mem_of_getElem? (i := 1) rfl)) (by decide +kernel) ⟨Nat.le_of_ble_eq_true rfl, Nat.le_of_ble_eq_true rfl⟩) hN hS hL rfl rfl hl.1 rfl (Nat.le_of_ble_eq_true rfl) dX0_knewBy_5 ⟨Nat.le_of_ble_eq_true rfl, Nat.le_of_ble_eq_true rfl⟩ (fun v ad' c' H locs hv hN hS => ?_)
  obtain ⟨rfl, rfl, rfl⟩ := hv
  refine W.eq (g2 := F0 m 10 ls (_ :: _)) rfl ?_
  refine n_topv (y := .ref (ad (20 + j))) (sPl_at hj) ?_
  refine n_castP hx hb hts hown q207 (hK0 s hK) hN (hP.per hj) dX0_knewBy_10 ?_
  refine lv_astore_n (lv' := [(3, _), (0, _), (1, _), (2, _)]) hx hb dX0_knewBy_13 rfl hl (by decide) rfl (fun ls hl => ?_)
  refine lv_aload_n hx hb dX0_knewBy_14 rfl (lv_at hl 0 rfl) ?_
  refine n_getP hx hb hts hown (hK0 s hK) hN 2 (by decide) q792 (hP.per hj) rfl dX0_knewBy_15 ?_
  refine lv_istore (lv' := [(4, _), (3, _), (0, _), (1, _), (2, _)]) hx hb dX0_knewBy_18 hl (by decide) rfl (fun ls hl => ?_)
  refine lv_iconst (v := 0) hx hb dX0_knewBy_20 (by decide) ?_
  refine lv_istore (lv' := [(5, _), (4, _), (3, _), (0, _), (1, _), (2, _)]) hx hb dX0_knewBy_21 hl (by decide) rfl (fun ls hl => ?_)
  refine lv_iconst (v := nI (0 + 0)) hx hb dX0_knewBy_23 (rfl) ?_
  refine lv_istore (lv' := [(6, _), (5, _), (4, _), (3, _), (0, _), (1, _), (2, _)]) hx hb dX0_knewBy_24 hl (by decide) rfl (fun ls hl => ?_)
  have hN : nOk G nCl ad (sPic G (va_up x (20 + j) (some (pE ad k (nI j) (dr j) (kn j)))) ad (upd (upd si 6 (si 6)) 7 (si 7)) (va_up sa 5 (sa 5)) rn) H := by rw [va_up_id sa 5 _ rfl, va_up_id x (20 + j) _ hX, upd_self si 6 _ rfl, upd_self si 7 _ rfl]; exact hN
  have loop26 : ∀ (n : Nat) (i : Nat) (cg fw : Int32) (k5 : AI) (kv : Int32) (H : Heap) (locs : List Loc) (ls : Array Slot), 6 ≤ n + i → i ≤ 5 → nOk G nCl ad (sPic G (va_up x (20 + j) (some (pE ad k (nI j) (dr j) (kv)))) ad (upd (upd si 6 cg) 7 fw) (va_up sa 5 k5) rn) H → nS G s H locs → lv_has ls 7 [(0, .ref (ad 0)), (1, .ref (ad ra)), (2, .int (nI j)), (3, .ref (ad (20 + j))), (4, .int (kn j)), (5, .int (sSet (fun v => sSo (sa 1) kd (fun q => dr q &&& sMsk nd) (upd kn j v) (sa 4) nd np nr wh wt mm rw_ rf_) 0 i)), (6, .int (nI (0 + i)))] → W p l e (sR 10 0 0) s m ([.ref (ad 0), .ref (ad ra), .int (nI j)] : List Value).toArray below meth c H locs 0 0 (MQ below (nQ G nCl (fun rv ad' c' => ∃ (cg fw : Int32) (k5 : AI), rv = some (.int (sSet (fun v => sSo (sa 1) kd (fun q => dr q &&& sMsk nd) (upd kn j v) (sa 4) nd np nr wh wt mm rw_ rf_) 0 5)) ∧ ad = ad' ∧ sPic G x ad (upd (upd si 6 cg) 7 fw) (va_up sa 5 k5) rn = c')) ([.ref (ad 0), .ref (ad ra), .int (nI j)] : List Value).toArray s 0 0 (fun q => G.2 ≤ q)) (F0 m 26 ls []) := by
    intro n
    induction n with
    | zero => intro i cg fw k5 kv H locs ls hfuel hi hN hS hl; exact absurd hfuel (by omega)
    | succ n ih26 =>
      intro i cg fw k5 kv H locs ls hfuel hi hN hS hl
      refine lv_iload hx hb dX0_knewBy_26 (lv_at hl 6 rfl) ?_
      refine lv_iconst (v := 4) hx hb dX0_knewBy_28 (by decide) ?_
      refine lv_icmp_gt (tgt := 65) hx hb dX0_knewBy_29 (by decide) (fun c29 => ?_) (fun c29 => ?_)
      · have c29 : 4 < 0 + i := (nI_ltI (a := 4) (b := 0 + i) (by omega) (by omega)).mp c29
        have ei : i = 5 := by omega
        refine lv_aload_n hx hb dX0_knewBy_65 rfl (lv_at hl 3 rfl) ?_
        refine lv_iload hx hb dX0_knewBy_66 (lv_at hl 4 rfl) ?_
        refine n_putK hx hb hts hown (hK0 s hK) hN hS q792 hk3 ((sPic_x ⟨by omega, by omega, by omega, by omega⟩).trans (va_up_self x (20 + j) (some (pE ad k (nI j) (dr j) kv)))) dX0_knewBy_68 (fun H locs hN hS => ?_)
        have hN := hN.congr (sPic_up ⟨by omega, by omega, by omega, by omega⟩)
        rw [va_up_up, va_up_id x (20 + j) _ hX] at hN
        refine lv_iload hx hb dX0_knewBy_71 (lv_at hl 5 rfl) ?_
        exact W.iret hx hb hr (nEnd hN hS ⟨_, _, _, by rw [ei], rfl, rfl⟩) hS.2 dX0_knewBy_73
      · have c29 : 0 + i ≤ 4 := by have := mt (nI_ltI (a := 4) (b := 0 + i) (by omega) (by omega)).mpr c29; omega
        refine lv_aload_n hx hb dX0_knewBy_32 rfl (lv_at hl 3 rfl) ?_
        refine lv_iload hx hb dX0_knewBy_33 (lv_at hl 6 rfl) ?_
        refine n_putK hx hb hts hown (hK0 s hK) hN hS q792 hk3 ((sPic_x ⟨by omega, by omega, by omega, by omega⟩).trans (va_up_self x (20 + j) (some (pE ad k (nI j) (dr j) kv)))) dX0_knewBy_35 (fun H locs hN hS => ?_)
        have hN := hN.congr (sPic_up ⟨by omega, by omega, by omega, by omega⟩)
        rw [va_up_up] at hN
        refine lv_iload hx hb dX0_knewBy_38 (lv_at hl 5 rfl) ?_
        refine lv_aload_n hx hb dX0_knewBy_40 rfl (lv_at hl 0 rfl) ?_
        refine lv_aload_n hx hb dX0_knewBy_41 rfl (lv_at hl 1 rfl) ?_
        refine n_callV (C := RX0) (As := [_]) (b := 0) SS hKo hK hKv (sX0_areSo l G K hKo hK0 ad (va_up x (20 + j) (some (pE ad k (nI j) (dr j) (nI (0 + i))))) (upd (upd si 6 cg) 7 fw) (va_up sa 5 k5) rn np kd dr (upd kn j (nI (0 + i))) (hP.kn hj hk3 hkd (nI (0 + i))) nd hnd hnd6 ra mm rf wh wt hmm hra ((va_up_ne x _ (by omega)).trans hRx) hw nr rw_ rf_ (hQ.per (by omega)) hrw) (cwV 1 hts (lw_V q935 q937 qs30 q57 q938) rfl rfl rfl (by decide +kernel) ⟨Nat.le_of_ble_eq_true rfl, Nat.le_of_ble_eq_true rfl⟩) hN hS sPic_0 rfl rfl hl.1 rfl (Nat.le_of_ble_eq_true rfl) dX0_knewBy_42 ⟨Nat.le_of_ble_eq_true rfl, Nat.le_of_ble_eq_true rfl⟩ (fun v ad' c' H locs hv hN hS => ?_)
        obtain ⟨rfl, rfl, rfl⟩ := hv
        rw [upd_67, upd_upd, va_up_up] at hN
        refine W.eq (g2 := F0 m 45 ls (_ :: _)) rfl ?_
        refine lv_if_eq (tgt := 55) hx hb dX0_knewBy_45 (by decide) (fun c45 => ?_) (fun c45 => ?_)
        · have hz : sSo (sa 1) kd (fun q => dr q &&& sMsk nd) (upd kn j (nI (0 + i))) (sa 4) nd np nr wh wt mm rw_ rf_ = false := zI_0.mp c45
          refine lv_iconst (v := 0) hx hb dX0_knewBy_55 (by decide) ?_
          refine lv_ior hx hb dX0_knewBy_56 ?_
          refine n_top (y := sSet (fun v => sSo (sa 1) kd (fun q => dr q &&& sMsk nd) (upd kn j v) (sa 4) nd np nr wh wt mm rw_ rf_) 0 (i + 1)) (by rw [sSet, if_neg (by rw [hz]; simp)]) ?_
          refine lv_istore (lv' := [(5, _), (0, _), (1, _), (2, _), (3, _), (4, _), (6, _)]) hx hb dX0_knewBy_57 hl (by decide) rfl (fun ls hl => ?_)
          refine lv_iinc (v := nI (0 + (i + 1))) (lv' := [(6, _), (5, _), (0, _), (1, _), (2, _), (3, _), (4, _)]) hx hb dX0_knewBy_59 hl (k := 6) rfl (nI_inc (0 + i)) (by decide) rfl (fun ls hl => ?_)
          refine lv_goto (tgt := 26) hx hb dX0_knewBy_62 (by decide) ?_
          exact ih26 (i + 1) _ _ _ _ _ _ _ (by omega) (by omega) hN hS (lv_sub hl [2, 3, 4, 5, 6, 1, 0] (rfl))
        · have hz : sSo (sa 1) kd (fun q => dr q &&& sMsk nd) (upd kn j (nI (0 + i))) (sa 4) nd np nr wh wt mm rw_ rf_ = true := zI_n0 c45
          refine lv_iconst (v := 1) hx hb dX0_knewBy_48 (by decide) ?_
          refine lv_iload hx hb dX0_knewBy_49 (lv_at hl 6 rfl) ?_
          refine lv_ishl hx hb dX0_knewBy_51 ?_
          refine lv_goto (tgt := 56) hx hb dX0_knewBy_52 (by decide) ?_
          refine lv_ior hx hb dX0_knewBy_56 ?_
          refine n_top (y := sSet (fun v => sSo (sa 1) kd (fun q => dr q &&& sMsk nd) (upd kn j v) (sa 4) nd np nr wh wt mm rw_ rf_) 0 (i + 1)) (by rw [sSet, if_pos hz]; rfl) ?_
          refine lv_istore (lv' := [(5, _), (0, _), (1, _), (2, _), (3, _), (4, _), (6, _)]) hx hb dX0_knewBy_57 hl (by decide) rfl (fun ls hl => ?_)
          refine lv_iinc (v := nI (0 + (i + 1))) (lv' := [(6, _), (5, _), (0, _), (1, _), (2, _), (3, _), (4, _)]) hx hb dX0_knewBy_59 hl (k := 6) rfl (nI_inc (0 + i)) (by decide) rfl (fun ls hl => ?_)
          refine lv_goto (tgt := 26) hx hb dX0_knewBy_62 (by decide) ?_
          exact ih26 (i + 1) _ _ _ _ _ _ _ (by omega) (by omega) hN hS (lv_sub hl [2, 3, 4, 5, 6, 1, 0] (rfl))
  exact loop26 6 0 (si 6) (si 7) (sa 5) (kn j) _ _ _ (by omega) (by omega) hN hS (lv_sub hl [4, 5, 6, 3, 2, 1, 0] rfl)
