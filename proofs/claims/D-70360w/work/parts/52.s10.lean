/-! SYSTEM: way: printed by wip/gen/s10.py -/
set_option maxHeartbeats 1000000 in
set_option maxRecDepth 100000 in
theorem sX0_way (l : Launch) (G : nG) (K : State → Prop) (hKo : nKo G K) (hK0 : ∀ U, K U → sK0 G U) (ad : Nat → Nat) (x : nPic) (si : AI) (sa : Nat → AI) (rn : Value) (p_ f_ : Int32) (np : Nat) (kd dr kn : AI) (hP : sPeo G ad x np kd dr kn) (nd : Nat) (hnd : si 1 = nI nd) (hnd6 : nd ≤ 6) : Met l yX0_way (ws_ yX0_way cX0_way 7 (some .int)) (sR 6 0 0) (nPc G nCl K ad (sPic G x ad si sa rn) [.ref (ad 0), .int p_, .int f_]) (nQ G nCl (fun rv ad' c' => rv = some (.int (oWay nd np (sa 1) kd (fun q => dr q &&& sMsk nd) p_ f_)) ∧ ad = ad' ∧ sPic G x ad si sa rn = c')) 0 0 (fun q => G.2 ≤ q) := by
  refine nMet RX0 (by decide) rfl (Nat.le_of_ble_eq_true rfl) ?_
  intro p e s m below meth c ls SS hR hK hN hS hl
  obtain ⟨hx, hb, hml, hown, hts⟩ := id SS
  obtain ⟨hr, hlk, hnm⟩ := hR
  obtain ⟨hKv, hKw, hKf, hKz, hKm⟩ := hK0 s hK
  generalize s.heap = H at hN hS ⊢
  generalize ([] : List Loc) = locs at hS ⊢
  have hl : lv_has ls 7 [(0, .ref (ad 0)), (1, .int p_), (2, .int f_)] := hl
  have hnp4 := hP.1
  have hp2 := p2_64 hnd6
  have hp0 := Nat.two_pow_pos nd
  by_cases h1 : sIn p_ np = true
  · obtain ⟨j, hj, rfl, tj⟩ := sIn_t (by omega) h1
    refine lv_aload_n hx hb dX0_way_0 rfl (lv_at hl 0 rfl) ?_
    refine lv_iload_n hx hb dX0_way_1 rfl (lv_at hl 1 rfl) ?_
    refine n_callV (C := RX0) (As := [_]) (b := 0) SS hKo hK hKv (sX0_noPerson l G K hKo hK0 ad x si sa rn _ np kd dr kn hP) (cwV 1 hts (lw_V q171 q173 qs0 q57 q174) rfl rfl rfl (by decide +kernel) ⟨Nat.le_of_ble_eq_true rfl, Nat.le_of_ble_eq_true rfl⟩) hN hS sPic_0 rfl rfl hl.1 rfl (Nat.le_of_ble_eq_true rfl) dX0_way_2 ⟨Nat.le_of_ble_eq_true rfl, Nat.le_of_ble_eq_true rfl⟩ (fun v ad' c' H locs hv hN hS => ?_)
    obtain ⟨rfl, rfl, rfl⟩ := hv
    refine W.eq (g2 := F0 m 5 ls (_ :: _)) rfl ?_
    refine n_top (y := 0) (by rw [h1]; rfl) ?_
    refine lv_if_eq (tgt := 10) hx hb dX0_way_5 (by decide) (fun c5 => ?_) (fun c5 => absurd c5 (fun z => z rfl))
    refine lv_iload_n hx hb dX0_way_10 rfl (lv_at hl 2 rfl) ?_
    refine lv_if_ge (tgt := 17) hx hb dX0_way_11 (by decide) (fun c11 => ?_) (fun c11 => ?_)
    · have hf : ¬ f_ < 0 := by simpa using c11
      refine lv_aload_n hx hb dX0_way_17 rfl (lv_at hl 0 rfl) ?_
      refine lv_iload_n hx hb dX0_way_18 rfl (lv_at hl 1 rfl) ?_
      refine n_callV (C := RX0) (As := [_]) (b := 0) SS hKo hK hKv (sX0_truthsOf l G K hKo hK0 ad x si sa rn np kd dr kn hP j hj nd hnd hnd6) (cwV 1 hts (lw_V q219 q221 qs1 q57 q222) rfl rfl rfl (by decide +kernel) ⟨Nat.le_of_ble_eq_true rfl, Nat.le_of_ble_eq_true rfl⟩) hN hS sPic_0 rfl rfl hl.1 rfl (Nat.le_of_ble_eq_true rfl) dX0_way_19 ⟨Nat.le_of_ble_eq_true rfl, Nat.le_of_ble_eq_true rfl⟩ (fun v ad' c' H locs hv hN hS => ?_)
      obtain ⟨rfl, rfl, rfl⟩ := hv
      refine W.eq (g2 := F0 m 22 ls (_ :: _)) rfl ?_
      refine lv_istore_n (lv' := [(3, _), (0, _), (1, _), (2, _)]) hx hb dX0_way_22 rfl hl (by decide) rfl (fun ls hl => ?_)
      refine lv_bipush (v := (-9)) hx hb dX0_way_23 (by decide) ?_
      refine lv_istore (lv' := [(4, _), (3, _), (0, _), (1, _), (2, _)]) hx hb dX0_way_25 hl (by decide) rfl (fun ls hl => ?_)
      refine lv_iconst (v := nI 0) hx hb dX0_way_27 (rfl) ?_
      refine lv_istore (lv' := [(5, _), (4, _), (3, _), (0, _), (1, _), (2, _)]) hx hb dX0_way_28 hl (by decide) rfl (fun ls hl => ?_)
      have loop30 : ∀ (n : Nat) (s_ : Nat) (H : Heap) (locs : List Loc) (ls : Array Slot), 2 ^ nd + 1 ≤ n + s_ → s_ ≤ 2 ^ nd → nOk G nCl ad (sPic G x ad si sa rn) H → nS G s H locs → lv_has ls 7 [(0, .ref (ad 0)), (1, .int (nI j)), (2, .int f_), (3, .int (dr j &&& sMsk nd)), (4, .int (sWay (sa 1) kd (fun q => dr q &&& sMsk nd) nd j f_ s_)), (5, .int (nI s_))] → W p l e (sR 6 0 0) s m ([.ref (ad 0), .int (nI j), .int f_] : List Value).toArray below meth c H locs 0 0 (MQ below (nQ G nCl (fun rv ad' c' => rv = some (.int (oWay nd np (sa 1) kd (fun q => dr q &&& sMsk nd) (nI j) f_)) ∧ ad = ad' ∧ sPic G x ad si sa rn = c')) ([.ref (ad 0), .int (nI j), .int f_] : List Value).toArray s 0 0 (fun q => G.2 ≤ q)) (F0 m 30 ls []) := by
        intro n
        induction n with
        | zero => intro s_ H locs ls hfuel hs_ hN hS hl; exact absurd hfuel (by omega)
        | succ n ih30 =>
          intro s_ H locs ls hfuel hs_ hN hS hl
          refine lv_iload hx hb dX0_way_30 (lv_at hl 5 rfl) ?_
          refine lv_iconst (v := 1) hx hb dX0_way_32 (by decide) ?_
          refine lv_aload_n hx hb dX0_way_33 rfl (lv_at hl 0 rfl) ?_
          refine n_get (v := .int (nI nd)) (ci := 0) (C := RX0) (T := TX0) (N := 12) hx hb hts in_X0 hown hKv hN (0) sPic_0 rfl 1 (by decide) q129 (fun z h => h) (by rw [← hnd]; rfl) dX0_way_34 ?_
          refine lv_ishl hx hb dX0_way_37 ?_
          refine n_top (y := nI (2 ^ nd)) (sPw_nI (by omega)) ?_
          refine lv_icmp_ge (tgt := 106) hx hb dX0_way_38 (by decide) (fun c38 => ?_) (fun c38 => ?_)
          · have c38 : 2 ^ nd ≤ s_ := (nI_leI (by omega) (by omega)).mp c38
            have es : s_ = 2 ^ nd := by omega
            refine lv_iload hx hb dX0_way_106 (lv_at hl 4 rfl) ?_
            exact W.iret hx hb hr (nEnd hN hS ⟨by unfold oWay; rw [if_pos h1, if_neg hf, tn, tj, es], rfl, rfl⟩) hS.2 dX0_way_108
          · have c38 : s_ < 2 ^ nd := by have := mt (nI_leI (a := 2 ^ nd) (b := s_) (by omega) (by omega)).mpr c38; omega
            refine lv_iload hx hb dX0_way_41 (lv_at hl 4 rfl) ?_
            refine lv_if_lt (tgt := 59) hx hb dX0_way_43 (by decide) (fun c43 => ?_) (fun c43 => ?_)
            · have hfe : (sWay (sa 1) kd (fun q => dr q &&& sMsk nd) nd j f_ s_ = -9 ∨ sPc s_ < sPc (tn (sWay (sa 1) kd (fun q => dr q &&& sMsk nd) nd j f_ s_))) := by
                rcases sWay_in (sa 1) kd (fun q => dr q &&& sMsk nd) nd j f_ s_ with q | ⟨q, hq, eq_⟩
                · exact Or.inl q
                · rw [eq_] at c43; exact absurd c43 (nI_pos (by omega))
              refine lv_iconst (v := 1) hx hb dX0_way_59 (by decide) ?_
              refine lv_goto (tgt := 64) hx hb dX0_way_60 (by decide) ?_
              refine lv_istore (lv' := [(6, _), (0, _), (1, _), (2, _), (3, _), (4, _), (5, _)]) hx hb dX0_way_64 hl (by decide) rfl (fun ls hl => ?_)
              refine lv_iload hx hb dX0_way_66 (lv_at hl 6 rfl) ?_
              refine lv_iload_n hx hb dX0_way_68 rfl (lv_at hl 4 rfl) ?_
              refine lv_iconst (v := (-1)) hx hb dX0_way_69 (by decide) ?_
              refine lv_ixor hx hb dX0_way_70 ?_
              refine lv_iand hx hb dX0_way_71 ?_
              refine lv_if_ne (tgt := 96) hx hb dX0_way_72 (by decide) (fun c72 => ?_) (fun c72 => ?_)
              · have hT : sTru (fun q => dr q &&& sMsk nd) j s_ = false := decide_eq_false c72
                have ek : sWay (sa 1) kd (fun q => dr q &&& sMsk nd) nd j f_ (s_ + 1) = sWay (sa 1) kd (fun q => dr q &&& sMsk nd) nd j f_ s_ := by rw [sWay, if_neg (fun z => by rw [hT] at z; exact absurd z.1 (by simp))]
                refine lv_iload hx hb dX0_way_96 (lv_at hl 5 rfl) ?_
                refine n_top (y := sWay (sa 1) kd (fun q => dr q &&& sMsk nd) nd j f_ (s_ + 1)) ek.symm ?_
                refine lv_istore (lv' := [(4, _), (6, _), (0, _), (1, _), (2, _), (3, _), (5, _)]) hx hb dX0_way_98 hl (by decide) rfl (fun ls hl => ?_)
                refine lv_iinc (v := nI (s_ + 1)) (lv' := [(5, _), (4, _), (6, _), (0, _), (1, _), (2, _), (3, _)]) hx hb dX0_way_100 hl (k := 6) rfl (nI_inc s_) (by decide) rfl (fun ls hl => ?_)
                refine lv_goto (tgt := 30) hx hb dX0_way_103 (by decide) ?_
                exact ih30 (s_ + 1) _ _ _ (by omega) (by omega) hN hS (lv_sub hl [3, 4, 5, 6, 1, 0] (rfl))
              · have hT : sTru (fun q => dr q &&& sMsk nd) j s_ = true := decide_eq_true c72
                refine lv_iload hx hb dX0_way_75 (lv_at hl 0 rfl) ?_
                refine lv_if_eq (tgt := 96) hx hb dX0_way_77 (by decide) (fun c77 => absurd c77 (by decide)) (fun c77 => ?_)
                refine lv_aload_n hx hb dX0_way_80 rfl (lv_at hl 1 rfl) ?_
                refine lv_iload_n hx hb dX0_way_81 rfl (lv_at hl 2 rfl) ?_
                refine lv_iload hx hb dX0_way_82 (lv_at hl 6 rfl) ?_
                refine n_callV (C := RX0) (As := [_, _]) (b := 0) SS hKo hK hKv (sX0_risesBy l G K hKo hK0 ad x si sa rn np kd dr kn hP j hj nd hnd hnd6 (nI s_)) (cwV 2 hts (lw_V q227 q229 qs3 q57 q230) rfl rfl rfl (by decide +kernel) ⟨Nat.le_of_ble_eq_true rfl, Nat.le_of_ble_eq_true rfl⟩) hN hS sPic_0 rfl rfl hl.1 rfl (Nat.le_of_ble_eq_true rfl) dX0_way_84 ⟨Nat.le_of_ble_eq_true rfl, Nat.le_of_ble_eq_true rfl⟩ (fun v ad' c' H locs hv hN hS => ?_)
                obtain ⟨rfl, rfl, rfl⟩ := hv
                refine W.eq (g2 := F0 m 87 ls (_ :: _)) rfl ?_
                refine lv_iload_n hx hb dX0_way_87 rfl (lv_at hl 3 rfl) ?_
                refine lv_icmp_ne (tgt := 96) hx hb dX0_way_88 (by decide) (fun c88 => ?_) (fun c88 => ?_)
                · have ek : sWay (sa 1) kd (fun q => dr q &&& sMsk nd) nd j f_ (s_ + 1) = sWay (sa 1) kd (fun q => dr q &&& sMsk nd) nd j f_ s_ := by rw [sWay, if_neg (fun z => by rw [hT, decide_eq_false c88] at z; exact absurd z.1 (by simp))]
                  refine lv_iload hx hb dX0_way_96 (lv_at hl 5 rfl) ?_
                  refine n_top (y := sWay (sa 1) kd (fun q => dr q &&& sMsk nd) nd j f_ (s_ + 1)) ek.symm ?_
                  refine lv_istore (lv' := [(4, _), (6, _), (0, _), (1, _), (2, _), (3, _), (5, _)]) hx hb dX0_way_98 hl (by decide) rfl (fun ls hl => ?_)
                  refine lv_iinc (v := nI (s_ + 1)) (lv' := [(5, _), (4, _), (6, _), (0, _), (1, _), (2, _), (3, _)]) hx hb dX0_way_100 hl (k := 6) rfl (nI_inc s_) (by decide) rfl (fun ls hl => ?_)
                  refine lv_goto (tgt := 30) hx hb dX0_way_103 (by decide) ?_
                  exact ih30 (s_ + 1) _ _ _ (by omega) (by omega) hN hS (lv_sub hl [3, 4, 5, 6, 1, 0] (rfl))
                · have ek : sWay (sa 1) kd (fun q => dr q &&& sMsk nd) nd j f_ (s_ + 1) = nI s_ := by rw [sWay, if_pos ⟨by rw [hT, decide_eq_true c88]; rfl, hfe⟩]
                  refine lv_iload hx hb dX0_way_91 (lv_at hl 6 rfl) ?_
                  refine lv_goto (tgt := 98) hx hb dX0_way_93 (by decide) ?_
                  refine n_top (y := sWay (sa 1) kd (fun q => dr q &&& sMsk nd) nd j f_ (s_ + 1)) ek.symm ?_
                  refine lv_istore (lv' := [(4, _), (6, _), (0, _), (1, _), (2, _), (3, _), (5, _)]) hx hb dX0_way_98 hl (by decide) rfl (fun ls hl => ?_)
                  refine lv_iinc (v := nI (s_ + 1)) (lv' := [(5, _), (4, _), (6, _), (0, _), (1, _), (2, _), (3, _)]) hx hb dX0_way_100 hl (k := 6) rfl (nI_inc s_) (by decide) rfl (fun ls hl => ?_)
                  refine lv_goto (tgt := 30) hx hb dX0_way_103 (by decide) ?_
                  exact ih30 (s_ + 1) _ _ _ (by omega) (by omega) hN hS (lv_sub hl [3, 4, 5, 6, 1, 0] (rfl))
            · obtain ⟨q, hq, eq_⟩ : ∃ q, q < s_ ∧ sWay (sa 1) kd (fun q => dr q &&& sMsk nd) nd j f_ s_ = nI q := by
                rcases sWay_in (sa 1) kd (fun q => dr q &&& sMsk nd) nd j f_ s_ with q | h
                · rw [q] at c43; exact absurd (by decide) c43
                · exact h
              refine lv_iload hx hb dX0_way_46 (lv_at hl 5 rfl) ?_
              refine n_callS (As := [_]) SS hKo hK (tJ18_bitCount l G K hKo hK0 ad _ s_ (by omega)) (va_cwS 1 hts (lw_S q308 q309 q85 q310) rfl rfl rfl (by decide +kernel) ⟨Nat.le_of_ble_eq_true rfl, Nat.le_of_ble_eq_true rfl⟩) hN hS rfl hl.1 rfl (Nat.le_of_ble_eq_true rfl) dX0_way_48 ⟨Nat.le_of_ble_eq_true rfl, Nat.le_of_ble_eq_true rfl⟩ (fun v ad' c' H locs hv hN hS => ?_)
              obtain ⟨rfl, rfl, rfl⟩ := hv
              refine W.eq (g2 := F0 m 51 ls (_ :: _)) rfl ?_
              refine lv_iload hx hb dX0_way_51 (lv_at hl 4 rfl) ?_
              refine n_top (y := nI q) eq_ ?_
              refine n_callS (As := [_]) SS hKo hK (tJ18_bitCount l G K hKo hK0 ad _ q (by omega)) (va_cwS 1 hts (lw_S q308 q309 q85 q310) rfl rfl rfl (by decide +kernel) ⟨Nat.le_of_ble_eq_true rfl, Nat.le_of_ble_eq_true rfl⟩) hN hS rfl hl.1 rfl (Nat.le_of_ble_eq_true rfl) dX0_way_53 ⟨Nat.le_of_ble_eq_true rfl, Nat.le_of_ble_eq_true rfl⟩ (fun v ad' c' H locs hv hN hS => ?_)
              obtain ⟨rfl, rfl, rfl⟩ := hv
              refine W.eq (g2 := F0 m 56 ls (_ :: _)) rfl ?_
              refine lv_icmp_ge (tgt := 63) hx hb dX0_way_56 (by decide) (fun c56 => ?_) (fun c56 => ?_)
              · have c56 : sPc q ≤ sPc s_ := (nI_leI (by have := sPc_lt q (by omega); omega) (by have := sPc_lt s_ (by omega); omega)).mp c56
                have hfe : ¬ (sWay (sa 1) kd (fun q => dr q &&& sMsk nd) nd j f_ s_ = -9 ∨ sPc s_ < sPc (tn (sWay (sa 1) kd (fun q => dr q &&& sMsk nd) nd j f_ s_))) := by
                  rw [eq_, tn_nI (by omega)]
                  intro z
                  rcases z with z | z
                  · exact absurd z (fun z => nI_pos (n := q) (by omega) (by rw [z]; decide))
                  · omega
                refine lv_iconst (v := 0) hx hb dX0_way_63 (by decide) ?_
                refine lv_istore (lv' := [(6, _), (0, _), (1, _), (2, _), (3, _), (4, _), (5, _)]) hx hb dX0_way_64 hl (by decide) rfl (fun ls hl => ?_)
                refine lv_iload hx hb dX0_way_66 (lv_at hl 6 rfl) ?_
                refine lv_iload_n hx hb dX0_way_68 rfl (lv_at hl 4 rfl) ?_
                refine lv_iconst (v := (-1)) hx hb dX0_way_69 (by decide) ?_
                refine lv_ixor hx hb dX0_way_70 ?_
                refine lv_iand hx hb dX0_way_71 ?_
                refine lv_if_ne (tgt := 96) hx hb dX0_way_72 (by decide) (fun c72 => ?_) (fun c72 => ?_)
                · have hT : sTru (fun q => dr q &&& sMsk nd) j s_ = false := decide_eq_false c72
                  have ek : sWay (sa 1) kd (fun q => dr q &&& sMsk nd) nd j f_ (s_ + 1) = sWay (sa 1) kd (fun q => dr q &&& sMsk nd) nd j f_ s_ := by rw [sWay, if_neg (fun z => by rw [hT] at z; exact absurd z.1 (by simp))]
                  refine lv_iload hx hb dX0_way_96 (lv_at hl 5 rfl) ?_
                  refine n_top (y := sWay (sa 1) kd (fun q => dr q &&& sMsk nd) nd j f_ (s_ + 1)) ek.symm ?_
                  refine lv_istore (lv' := [(4, _), (6, _), (0, _), (1, _), (2, _), (3, _), (5, _)]) hx hb dX0_way_98 hl (by decide) rfl (fun ls hl => ?_)
                  refine lv_iinc (v := nI (s_ + 1)) (lv' := [(5, _), (4, _), (6, _), (0, _), (1, _), (2, _), (3, _)]) hx hb dX0_way_100 hl (k := 6) rfl (nI_inc s_) (by decide) rfl (fun ls hl => ?_)
                  refine lv_goto (tgt := 30) hx hb dX0_way_103 (by decide) ?_
                  exact ih30 (s_ + 1) _ _ _ (by omega) (by omega) hN hS (lv_sub hl [3, 4, 5, 6, 1, 0] (rfl))
                · have hT : sTru (fun q => dr q &&& sMsk nd) j s_ = true := decide_eq_true c72
                  refine lv_iload hx hb dX0_way_75 (lv_at hl 0 rfl) ?_
                  refine lv_if_eq (tgt := 96) hx hb dX0_way_77 (by decide) (fun c77 => ?_) (fun c77 => absurd c77 (fun z => z rfl))
                  have ek : sWay (sa 1) kd (fun q => dr q &&& sMsk nd) nd j f_ (s_ + 1) = sWay (sa 1) kd (fun q => dr q &&& sMsk nd) nd j f_ s_ := by rw [sWay, if_neg (fun z => hfe z.2)]
                  refine lv_iload hx hb dX0_way_96 (lv_at hl 5 rfl) ?_
                  refine n_top (y := sWay (sa 1) kd (fun q => dr q &&& sMsk nd) nd j f_ (s_ + 1)) ek.symm ?_
                  refine lv_istore (lv' := [(4, _), (6, _), (0, _), (1, _), (2, _), (3, _), (5, _)]) hx hb dX0_way_98 hl (by decide) rfl (fun ls hl => ?_)
                  refine lv_iinc (v := nI (s_ + 1)) (lv' := [(5, _), (4, _), (6, _), (0, _), (1, _), (2, _), (3, _)]) hx hb dX0_way_100 hl (k := 6) rfl (nI_inc s_) (by decide) rfl (fun ls hl => ?_)
                  refine lv_goto (tgt := 30) hx hb dX0_way_103 (by decide) ?_
                  exact ih30 (s_ + 1) _ _ _ (by omega) (by omega) hN hS (lv_sub hl [3, 4, 5, 6, 1, 0] (rfl))
              · have c56 : sPc s_ < sPc q := by have := mt (nI_leI (a := sPc q) (b := sPc s_) (by have := sPc_lt q (by omega); omega) (by have := sPc_lt s_ (by omega); omega)).mpr c56; omega
                have hfe : (sWay (sa 1) kd (fun q => dr q &&& sMsk nd) nd j f_ s_ = -9 ∨ sPc s_ < sPc (tn (sWay (sa 1) kd (fun q => dr q &&& sMsk nd) nd j f_ s_))) := Or.inr (by rw [eq_, tn_nI (by omega)]; exact c56)
                refine lv_iconst (v := 1) hx hb dX0_way_59 (by decide) ?_
                refine lv_goto (tgt := 64) hx hb dX0_way_60 (by decide) ?_
                refine lv_istore (lv' := [(6, _), (0, _), (1, _), (2, _), (3, _), (4, _), (5, _)]) hx hb dX0_way_64 hl (by decide) rfl (fun ls hl => ?_)
                refine lv_iload hx hb dX0_way_66 (lv_at hl 6 rfl) ?_
                refine lv_iload_n hx hb dX0_way_68 rfl (lv_at hl 4 rfl) ?_
                refine lv_iconst (v := (-1)) hx hb dX0_way_69 (by decide) ?_
                refine lv_ixor hx hb dX0_way_70 ?_
                refine lv_iand hx hb dX0_way_71 ?_
                refine lv_if_ne (tgt := 96) hx hb dX0_way_72 (by decide) (fun c72 => ?_) (fun c72 => ?_)
                · have hT : sTru (fun q => dr q &&& sMsk nd) j s_ = false := decide_eq_false c72
                  have ek : sWay (sa 1) kd (fun q => dr q &&& sMsk nd) nd j f_ (s_ + 1) = sWay (sa 1) kd (fun q => dr q &&& sMsk nd) nd j f_ s_ := by rw [sWay, if_neg (fun z => by rw [hT] at z; exact absurd z.1 (by simp))]
                  refine lv_iload hx hb dX0_way_96 (lv_at hl 5 rfl) ?_
                  refine n_top (y := sWay (sa 1) kd (fun q => dr q &&& sMsk nd) nd j f_ (s_ + 1)) ek.symm ?_
                  refine lv_istore (lv' := [(4, _), (6, _), (0, _), (1, _), (2, _), (3, _), (5, _)]) hx hb dX0_way_98 hl (by decide) rfl (fun ls hl => ?_)
                  refine lv_iinc (v := nI (s_ + 1)) (lv' := [(5, _), (4, _), (6, _), (0, _), (1, _), (2, _), (3, _)]) hx hb dX0_way_100 hl (k := 6) rfl (nI_inc s_) (by decide) rfl (fun ls hl => ?_)
                  refine lv_goto (tgt := 30) hx hb dX0_way_103 (by decide) ?_
                  exact ih30 (s_ + 1) _ _ _ (by omega) (by omega) hN hS (lv_sub hl [3, 4, 5, 6, 1, 0] (rfl))
                · have hT : sTru (fun q => dr q &&& sMsk nd) j s_ = true := decide_eq_true c72
                  refine lv_iload hx hb dX0_way_75 (lv_at hl 0 rfl) ?_
                  refine lv_if_eq (tgt := 96) hx hb dX0_way_77 (by decide) (fun c77 => absurd c77 (by decide)) (fun c77 => ?_)
                  refine lv_aload_n hx hb dX0_way_80 rfl (lv_at hl 1 rfl) ?_
                  refine lv_iload_n hx hb dX0_way_81 rfl (lv_at hl 2 rfl) ?_
                  refine lv_iload hx hb dX0_way_82 (lv_at hl 6 rfl) ?_
                  refine n_callV (C := RX0) (As := [_, _]) (b := 0) SS hKo hK hKv (sX0_risesBy l G K hKo hK0 ad x si sa rn np kd dr kn hP j hj nd hnd hnd6 (nI s_)) (cwV 2 hts (lw_V q227 q229 qs3 q57 q230) rfl rfl rfl (by decide +kernel) ⟨Nat.le_of_ble_eq_true rfl, Nat.le_of_ble_eq_true rfl⟩) hN hS sPic_0 rfl rfl hl.1 rfl (Nat.le_of_ble_eq_true rfl) dX0_way_84 ⟨Nat.le_of_ble_eq_true rfl, Nat.le_of_ble_eq_true rfl⟩ (fun v ad' c' H locs hv hN hS => ?_)
                  obtain ⟨rfl, rfl, rfl⟩ := hv
                  refine W.eq (g2 := F0 m 87 ls (_ :: _)) rfl ?_
                  refine lv_iload_n hx hb dX0_way_87 rfl (lv_at hl 3 rfl) ?_
                  refine lv_icmp_ne (tgt := 96) hx hb dX0_way_88 (by decide) (fun c88 => ?_) (fun c88 => ?_)
                  · have ek : sWay (sa 1) kd (fun q => dr q &&& sMsk nd) nd j f_ (s_ + 1) = sWay (sa 1) kd (fun q => dr q &&& sMsk nd) nd j f_ s_ := by rw [sWay, if_neg (fun z => by rw [hT, decide_eq_false c88] at z; exact absurd z.1 (by simp))]
                    refine lv_iload hx hb dX0_way_96 (lv_at hl 5 rfl) ?_
                    refine n_top (y := sWay (sa 1) kd (fun q => dr q &&& sMsk nd) nd j f_ (s_ + 1)) ek.symm ?_
                    refine lv_istore (lv' := [(4, _), (6, _), (0, _), (1, _), (2, _), (3, _), (5, _)]) hx hb dX0_way_98 hl (by decide) rfl (fun ls hl => ?_)
                    refine lv_iinc (v := nI (s_ + 1)) (lv' := [(5, _), (4, _), (6, _), (0, _), (1, _), (2, _), (3, _)]) hx hb dX0_way_100 hl (k := 6) rfl (nI_inc s_) (by decide) rfl (fun ls hl => ?_)
                    refine lv_goto (tgt := 30) hx hb dX0_way_103 (by decide) ?_
                    exact ih30 (s_ + 1) _ _ _ (by omega) (by omega) hN hS (lv_sub hl [3, 4, 5, 6, 1, 0] (rfl))
                  · have ek : sWay (sa 1) kd (fun q => dr q &&& sMsk nd) nd j f_ (s_ + 1) = nI s_ := by rw [sWay, if_pos ⟨by rw [hT, decide_eq_true c88]; rfl, hfe⟩]
                    refine lv_iload hx hb dX0_way_91 (lv_at hl 6 rfl) ?_
                    refine lv_goto (tgt := 98) hx hb dX0_way_93 (by decide) ?_
                    refine n_top (y := sWay (sa 1) kd (fun q => dr q &&& sMsk nd) nd j f_ (s_ + 1)) ek.symm ?_
                    refine lv_istore (lv' := [(4, _), (6, _), (0, _), (1, _), (2, _), (3, _), (5, _)]) hx hb dX0_way_98 hl (by decide) rfl (fun ls hl => ?_)
                    refine lv_iinc (v := nI (s_ + 1)) (lv' := [(5, _), (4, _), (6, _), (0, _), (1, _), (2, _), (3, _)]) hx hb dX0_way_100 hl (k := 6) rfl (nI_inc s_) (by decide) rfl (fun ls hl => ?_)
                    refine lv_goto (tgt := 30) hx hb dX0_way_103 (by decide) ?_
                    exact ih30 (s_ + 1) _ _ _ (by omega) (by omega) hN hS (lv_sub hl [3, 4, 5, 6, 1, 0] (rfl))
      exact loop30 (2 ^ nd + 1) 0 _ _ _ (by omega) (by omega) hN hS (lv_sub hl [3, 4, 5, 2, 1, 0] rfl)
    · have hf : f_ < 0 := by simpa using c11
      refine lv_bipush (v := (-2)) hx hb dX0_way_14 (by decide) ?_
      exact W.iret hx hb hr (nEnd hN hS ⟨by unfold oWay; rw [if_pos h1, if_pos hf], rfl, rfl⟩) hS.2 dX0_way_16
  · have h1 : sIn p_ np = false := by simpa using h1
    refine lv_aload_n hx hb dX0_way_0 rfl (lv_at hl 0 rfl) ?_
    refine lv_iload_n hx hb dX0_way_1 rfl (lv_at hl 1 rfl) ?_
    refine n_callV (C := RX0) (As := [_]) (b := 0) SS hKo hK hKv (sX0_noPerson l G K hKo hK0 ad x si sa rn _ np kd dr kn hP) (cwV 1 hts (lw_V q171 q173 qs0 q57 q174) rfl rfl rfl (by decide +kernel) ⟨Nat.le_of_ble_eq_true rfl, Nat.le_of_ble_eq_true rfl⟩) hN hS sPic_0 rfl rfl hl.1 rfl (Nat.le_of_ble_eq_true rfl) dX0_way_2 ⟨Nat.le_of_ble_eq_true rfl, Nat.le_of_ble_eq_true rfl⟩ (fun v ad' c' H locs hv hN hS => ?_)
    obtain ⟨rfl, rfl, rfl⟩ := hv
    refine W.eq (g2 := F0 m 5 ls (_ :: _)) rfl ?_
    refine n_top (y := 1) (by rw [h1]; rfl) ?_
    refine lv_if_eq (tgt := 10) hx hb dX0_way_5 (by decide) (fun c5 => absurd c5 (by decide)) (fun c5 => ?_)
    refine lv_iconst (v := (-1)) hx hb dX0_way_8 (by decide) ?_
    exact W.iret hx hb hr (nEnd hN hS ⟨by unfold oWay; rw [h1]; rfl, rfl, rfl⟩) hS.2 dX0_way_9
