/-! ONE TURN OF THE LAW, op by op, in plain terms: what the System's end and the Model's end make together; printed by wip/gen/o83.py -/
def lwI (G : nG) (ad : Nat → Nat) (c : nPic) : Prop := ∃ (y : nPic) (si fi : AI) (sa fa : Nat → AI) (rn : Value) (dr : AI) (nd np nr : Nat), c = sPic G (mPic G y ad fi fa) ad si sa rn ∧ wR G ad (mPic G y ad fi fa) si fi sa fa dr nd np nr
/-- behind the System's call, ahead of the Model's -/
def lwO (G : nG) (ad : Nat → Nat) (fi : AI) (fa : Nat → AI) (MP : AI → (Nat → AI) → Prop) (A : Value) (rv : Option Value) (ad' : Nat → Nat) (c' : nPic) : Prop :=
  rv = some A ∧ ad' 0 = ad 0 ∧ (∀ z, 50 ≤ z → z < 75 → ad' z = ad z) ∧ ∃ (x' : nPic) (si' : AI) (sa' : Nat → AI) (rn' : Value), c' = mPic G (sPic G x' ad' si' sa' rn') ad' fi fa ∧ ∀ (fi' : AI) (fa' : Nat → AI), MP fi' fa' → lwI G ad' (mPic G (sPic G x' ad' si' sa' rn') ad' fi' fa')
section OP
variable {G : nG} {y X X' : nPic} {ad ad' : Nat → Nat} {fi si si' : AI} {fa sa sa' : Nat → AI} {rn rn' : Value} {dr : AI} {nd np nr : Nat} {MP : AI → (Nat → AI) → Prop} {A : Value} {rv : Option Value} {c' : nPic}
theorem lwO.mk (hX : X = mPic G y ad fi fa) (hxz : ∀ z, 50 ≤ z → z < 75 → X' z = X z) (haz : ∀ z, 50 ≤ z → z < 75 → ad' z = ad z) (h0 : ad' 0 = ad 0) (hA : rv = some A) (hc : sPic G X' ad' si' sa' rn' = c')
    (hn : ∀ (fi' : AI) (fa' : Nat → AI), MP fi' fa' → ∃ (fi0 : AI) (fa0 : Nat → AI) (np' nd' nr' : Nat) (dr' : AI), mEq fi0 fa0 fi' fa' ∧ sPeo G ad' X' np' (fa0 8) dr' (fa0 10) ∧ sRea G ad' X' nr' (fa0 23) (fa0 24) ∧ sShe G ad' X' (fa0 2) (fa0 3) (fa0 4) ∧ (∀ z, 80 ≤ z → X' z = none) ∧ wN si' fi0 sa' fa0 dr' nd' np' nr') : lwO G ad fi fa MP A rv ad' c' := by
  refine ⟨hA, h0, haz, X', si', sa', rn', ?_, fun fi' fa' hm => ?_⟩
  · rw [← hc, ← sm_swap, mPic_keep (fun z h1 h2 => (hxz z h1 h2).trans (by rw [hX])) haz]
  · obtain ⟨fi0, fa0, np', nd', nr', dr', ⟨⟨a0, a1, a5, a6, a22⟩, b2, b3, b4, b7, b8, b9, b10, b11, b23, b24⟩, h1, h2, h3, h8, g6, gs1, gf5, gf6, gf22, gf1, gf0, g17, gtd, gdn, grw⟩ := hn fi' fa' hm
    refine ⟨X', si', fi', sa', fa', rn', dr', nd', np', nr', sm_swap.symm, wR.m (by rw [b8, b10]; exact h1) (by rw [b23, b24]; exact h2) (by rw [b2, b3, b4]; exact h3) h8 ⟨g6, gs1, by rw [a5]; exact gf5, by rw [a6]; exact gf6, by rw [a22]; exact gf22, by rw [a1]; exact gf1, by rw [a0]; exact gf0, by rw [b7]; exact g17, fun j hj => by rw [b11]; exact gtd j hj, fun j hj => by rw [b9]; exact gdn j hj, fun k hk => by rw [b23]; exact grw k hk⟩⟩
/-- nothing changed -/
theorem lwO.ro (hX : X = mPic G y ad fi fa) (hR : wR G ad X si fi sa fa dr nd np nr) (hA : rv = some A) (ha : ad = ad') (hc : sPic G X ad si sa rn = c') (hm : ∀ (fi' : AI) (fa' : Nat → AI), MP fi' fa' → mEq fi fa fi' fa') : lwO G ad fi fa MP A rv ad' c' := by
  subst ha
  obtain ⟨h1, h2, h3, h8, hn⟩ := hR
  exact lwO.mk hX (fun _ _ _ => rfl) (fun _ _ _ => rfl) rfl hA hc (fun fi' fa' q => ⟨fi, fa, np, nd, nr, dr, hm _ _ q, h1, h2, h3, h8, hn⟩)
theorem sPeo.fr2 {np : Nat} {kd dr kn : AI} (h : sPeo G ad X np kd dr kn) (hf : ∀ z, z < 4 ∨ (20 ≤ z ∧ z < 24) → ad' z = ad z ∧ X' z = X z) : sPeo G ad' X' np kd dr kn := by
  obtain ⟨h4, ⟨mc, ea, h1, h2⟩, h3⟩ := h
  have e1 : sPl ad' np = sPl ad np := by
    funext j
    unfold sPl
    by_cases hj : j < np
    · rw [if_pos hj, if_pos hj, (hf (20 + j) (by omega)).1]
    · rw [if_neg hj, if_neg hj]
  refine ⟨h4, ⟨mc, ea, by rw [(hf 2 (by omega)).2]; exact h1, ?_⟩, fun j hj => ?_⟩
  · rcases h2 with h2 | h2
    · exact Or.inl h2
    · refine Or.inr ⟨by rw [(hf 3 (by omega)).1]; exact h2.1, ?_⟩
      rw [(hf 3 (by omega)).2, e1]
      exact h2.2
  · obtain ⟨k, hk, e, hx⟩ := h3 j hj
    refine ⟨k, hk, e, ?_⟩
    rw [(hf (20 + j) (by omega)).2, hx]
    unfold pE
    rw [(hf 0 (by omega)).1]
theorem sPeo.cg {np : Nat} {kd dr kn kd' kn' : AI} (h : sPeo G ad X np kd dr kn) (hk : ∀ j, j < np → kd' j = kd j) (hn : ∀ j, j < np → kn' j = kn j) : sPeo G ad X np kd' dr kn' := by
  obtain ⟨h4, h2, h3⟩ := h
  refine ⟨h4, h2, fun j hj => ?_⟩
  obtain ⟨k, hk3, e, hx⟩ := h3 j hj
  exact ⟨k, hk3, (hk j hj).trans e, by rw [hn j hj]; exact hx⟩
theorem sRea.fr2 {nr : Nat} {rw_ rf_ : AI} (h : sRea G ad X nr rw_ rf_) (hf : ∀ z, z = 6 ∨ z = 7 ∨ (30 ≤ z ∧ z < 38) → ad' z = ad z ∧ X' z = X z) : sRea G ad' X' nr rw_ rf_ := by
  obtain ⟨h4, ⟨mc, ea, h1, h2⟩, h3⟩ := h
  have e1 : sRl ad' nr = sRl ad nr := by
    funext j
    unfold sRl
    by_cases hj : j < nr
    · rw [if_pos hj, if_pos hj, (hf (30 + j) (by omega)).1]
    · rw [if_neg hj, if_neg hj]
  refine ⟨h4, ⟨mc, ea, by rw [(hf 6 (by omega)).2]; exact h1, ?_⟩, fun j hj => ?_⟩
  · rcases h2 with h2 | h2
    · exact Or.inl h2
    · refine Or.inr ⟨by rw [(hf 7 (by omega)).1]; exact h2.1, ?_⟩
      rw [(hf 7 (by omega)).2, e1]
      exact h2.2
  · rw [(hf (30 + j) (by omega)).2]
    exact h3 j hj
theorem mEq.of {fi fi' : AI} {fa fa' : Nat → AI} (h : fi = fi' ∧ fa = fa') : mEq fi fa fi' fa' := by
  obtain ⟨rfl, rfl⟩ := h
  exact mEq.rf
theorem op_weight (hX : X = mPic G y ad fi fa) (hR : wR G ad X si fi sa fa dr nd np nr) (a : Int32) (hv : rv = some (.int (oWgt nd (sa 1) a)) ∧ ad = ad' ∧ sPic G X ad si sa rn = c') : lwO G ad fi fa (fun fi' fa' => fi = fi' ∧ fa = fa') (.int (oWgt nd (fa 7) a)) rv ad' c' := by
  obtain ⟨h1, h2, h3, h8, h6, hs1, hf5, hf6, hf22, hf1, hf0, h17, htd, hdn, hrw⟩ := id hR
  have h4 := h1.1
  exact lwO.ro hX hR (hv.1.trans (by rw [h17])) hv.2.1 hv.2.2 (fun _ _ q => mEq.of q)
theorem op_storeys (hX : X = mPic G y ad fi fa) (hR : wR G ad X si fi sa fa dr nd np nr) (a b : Int32) (hv : rv = some (.int (oSto nd np (sa 1) (fa 8) a b)) ∧ ad = ad' ∧ sPic G X ad si sa rn = c') : lwO G ad fi fa (fun fi' fa' => fi = fi' ∧ fa = fa') (.int (oSto nd np (fa 7) (fa 8) a b)) rv ad' c' := by
  obtain ⟨h1, h2, h3, h8, h6, hs1, hf5, hf6, hf22, hf1, hf0, h17, htd, hdn, hrw⟩ := id hR
  have h4 := h1.1
  exact lwO.ro hX hR (hv.1.trans (by rw [h17])) hv.2.1 hv.2.2 (fun _ _ q => mEq.of q)
theorem op_ofPerson (hX : X = mPic G y ad fi fa) (hR : wR G ad X si fi sa fa dr nd np nr) (a b : Int32) (hv : rv = some (.int (oOfP nd np (sa 1) (fa 8) (fun q => dr q &&& sMsk nd) (fa 10) (sa 4) a b)) ∧ ad = ad' ∧ sPic G X ad si sa rn = c') : lwO G ad fi fa (fun fi' fa' => fi = fi' ∧ fa = fa') (.int (oOfP nd np (fa 7) (fa 8) (fa 9) (fa 10) (fa 11) a b)) rv ad' c' := by
  obtain ⟨h1, h2, h3, h8, h6, hs1, hf5, hf6, hf22, hf1, hf0, h17, htd, hdn, hrw⟩ := id hR
  have h4 := h1.1
  exact lwO.ro hX hR (hv.1.trans (by rw [h17, oOfP_c h4 hdn htd])) hv.2.1 hv.2.2 (fun _ _ q => mEq.of q)
theorem op_landing (hX : X = mPic G y ad fi fa) (hR : wR G ad X si fi sa fa dr nd np nr) (a : Int32) (hv : rv = some (.int (oLnd nd np (sa 1) (fa 8) (sa 4) a)) ∧ ad = ad' ∧ sPic G X ad si sa rn = c') : lwO G ad fi fa (fun fi' fa' => fi = fi' ∧ fa = fa') (.int (oLnd nd np (fa 7) (fa 8) (fa 11) a)) rv ad' c' := by
  obtain ⟨h1, h2, h3, h8, h6, hs1, hf5, hf6, hf22, hf1, hf0, h17, htd, hdn, hrw⟩ := id hR
  have h4 := h1.1
  exact lwO.ro hX hR (hv.1.trans (by rw [h17, oLnd_c htd])) hv.2.1 hv.2.2 (fun _ _ q => mEq.of q)
theorem op_way (hX : X = mPic G y ad fi fa) (hR : wR G ad X si fi sa fa dr nd np nr) (a b : Int32) (hv : rv = some (.int (oWay nd np (sa 1) (fa 8) (fun q => dr q &&& sMsk nd) a b)) ∧ ad = ad' ∧ sPic G X ad si sa rn = c') : lwO G ad fi fa (fun fi' fa' => fi = fi' ∧ fa = fa') (.int (oWay nd np (fa 7) (fa 8) (fa 9) a b)) rv ad' c' := by
  obtain ⟨h1, h2, h3, h8, h6, hs1, hf5, hf6, hf22, hf1, hf0, h17, htd, hdn, hrw⟩ := id hR
  have h4 := h1.1
  exact lwO.ro hX hR (hv.1.trans (by rw [h17, oWay_c h4 hdn])) hv.2.1 hv.2.2 (fun _ _ q => mEq.of q)
theorem op_kept (hX : X = mPic G y ad fi fa) (hR : wR G ad X si fi sa fa dr nd np nr) (a b : Int32) (hv : rv = some (.int (oKpt nd np (sa 1) (fa 8) (fun q => dr q &&& sMsk nd) a b)) ∧ ad = ad' ∧ sPic G X ad si sa rn = c') : lwO G ad fi fa (fun fi' fa' => fi = fi' ∧ fa = fa') (.int (oKpt nd np (fa 7) (fa 8) (fa 9) a b)) rv ad' c' := by
  obtain ⟨h1, h2, h3, h8, h6, hs1, hf5, hf6, hf22, hf1, hf0, h17, htd, hdn, hrw⟩ := id hR
  have h4 := h1.1
  exact lwO.ro hX hR (hv.1.trans (by rw [h17, oKpt_c h4 hdn])) hv.2.1 hv.2.2 (fun _ _ q => mEq.of q)
theorem op_roof (hX : X = mPic G y ad fi fa) (hR : wR G ad X si fi sa fa dr nd np nr) (a : Int32) (hv : rv = some (.int (oRof nd np (sa 1) (fa 8) (fun q => dr q &&& sMsk nd) a)) ∧ ad = ad' ∧ sPic G X ad si sa rn = c') : lwO G ad fi fa (fun fi' fa' => fi = fi' ∧ fa = fa') (.int (oRof nd np (fa 7) (fa 8) (fa 9) a)) rv ad' c' := by
  obtain ⟨h1, h2, h3, h8, h6, hs1, hf5, hf6, hf22, hf1, hf0, h17, htd, hdn, hrw⟩ := id hR
  have h4 := h1.1
  exact lwO.ro hX hR (hv.1.trans (by rw [h17, oRof_c h4 hdn])) hv.2.1 hv.2.2 (fun _ _ q => mEq.of q)
theorem op_safe (hX : X = mPic G y ad fi fa) (hR : wR G ad X si fi sa fa dr nd np nr) (a : Int32) (hv : rv = some (.int (oSfe nd np (sa 1) (fa 8) (fun q => dr q &&& sMsk nd) (fa 10) (sa 4) a)) ∧ ad = ad' ∧ sPic G X ad si sa rn = c') : lwO G ad fi fa (fun fi' fa' => mEq fi fa fi' fa') (.int (oSfe nd np (fa 7) (fa 8) (fa 9) (fa 10) (fa 11) a)) rv ad' c' := by
  obtain ⟨h1, h2, h3, h8, h6, hs1, hf5, hf6, hf22, hf1, hf0, h17, htd, hdn, hrw⟩ := id hR
  have h4 := h1.1
  exact lwO.ro hX hR (hv.1.trans (by rw [h17, oSfe_c h4 hdn htd])) hv.2.1 hv.2.2 (fun _ _ q => q)
theorem op_odds (hX : X = mPic G y ad fi fa) (hR : wR G ad X si fi sa fa dr nd np nr) (a b w_ : Int32) (hv : rv = some (.long (oOds nd np (sa 1) (fa 8) (fun q => dr q &&& sMsk nd) a b w_)) ∧ ad = ad' ∧ sPic G X ad si sa rn = c') : lwO G ad fi fa (fun fi' fa' => fi = fi' ∧ fa = fa') (.long (oOds nd np (fa 7) (fa 8) (fa 9) a b w_)) rv ad' c' := by
  obtain ⟨h1, h2, h3, h8, h6, hs1, hf5, hf6, hf22, hf1, hf0, h17, htd, hdn, hrw⟩ := id hR
  have h4 := h1.1
  exact lwO.ro hX hR (hv.1.trans (by rw [h17, oOds_c h4 hdn])) hv.2.1 hv.2.2 (fun _ _ q => mEq.of q)
theorem op_trace (hX : X = mPic G y ad fi fa) (hR : wR G ad X si fi sa fa dr nd np nr) (hv : rv = some (.int (si 0)) ∧ ad = ad' ∧ sPic G X ad si sa rn = c') : lwO G ad fi fa (fun fi' fa' => fi = fi' ∧ fa = fa') (.int (fi 1)) rv ad' c' := by
  obtain ⟨h1, h2, h3, h8, h6, hs1, hf5, hf6, hf22, hf1, hf0, h17, htd, hdn, hrw⟩ := id hR
  have h4 := h1.1
  exact lwO.ro hX hR (hv.1.trans (by rw [hf1])) hv.2.1 hv.2.2 (fun _ _ q => mEq.of q)
theorem op_fault (hX : X = mPic G y ad fi fa) (hR : wR G ad X si fi sa fa dr nd np nr) (hv : rv = some (.int (si 9)) ∧ ad = ad' ∧ sPic G X ad si sa rn = c') : lwO G ad fi fa (fun fi' fa' => fi = fi' ∧ fa = fa') (.int (fi 0)) rv ad' c' := by
  obtain ⟨h1, h2, h3, h8, h6, hs1, hf5, hf6, hf22, hf1, hf0, h17, htd, hdn, hrw⟩ := id hR
  have h4 := h1.1
  exact lwO.ro hX hR (hv.1.trans (by rw [hf0])) hv.2.1 hv.2.2 (fun _ _ q => mEq.of q)
theorem op_many (hX : X = mPic G y ad fi fa) (hR : wR G ad X si fi sa fa dr nd np nr) (a : Int32) (hv : rv = some (.int (oMny nd np nr a)) ∧ ad = ad' ∧ sPic G X ad si sa rn = c') : lwO G ad fi fa (fun fi' fa' => fi = fi' ∧ fa = fa') (.int (oMny nd np nr a)) rv ad' c' :=
  lwO.ro hX hR hv.1 hv.2.1 hv.2.2 (fun _ _ q => mEq.of q)
theorem op_weigh (hX : X = mPic G y ad fi fa) (hR : wR G ad X si fi sa fa dr nd np nr) (a b : Int32) (hv : rv = some (.int (oWgh nd (sa 1) a b).1) ∧ ad = ad' ∧ sPic G X ad si (va_up sa 1 (oWgh nd (sa 1) a b).2) rn = c') : lwO G ad fi fa (fun fi' fa' => fi = fi' ∧ va_up fa 7 (oWgh nd (fa 7) a b).2 = fa') (.int (oWgh nd (fa 7) a b).1) rv ad' c' := by
  obtain ⟨h1, h2, h3, h8, h6, hs1, hf5, hf6, hf22, hf1, hf0, h17, htd, hdn, hrw⟩ := id hR
  have h4 := h1.1
  obtain ⟨hv1, rfl, hv3⟩ := hv
  rw [h17] at hv1 hv3
  refine lwO.mk hX (fun _ _ _ => rfl) (fun _ _ _ => rfl) rfl hv1 hv3 (fun fi' fa' q => ⟨fi, va_up fa 7 (oWgh nd (fa 7) a b).2, np, nd, nr, dr, mEq.of q, ?_, ?_, ?_, h8, ⟨h6, hs1, hf5, hf6, hf22, hf1, hf0, by rw [va_up_self, va_up_self], fun j hj => by rw [va_up_ne _ _ (by decide), va_up_ne _ _ (by decide)]; exact htd j hj, fun j hj => by rw [va_up_ne _ _ (by decide)]; exact hdn j hj, fun k hk => by rw [va_up_ne _ _ (by decide)]; exact hrw k hk⟩⟩)
  · rw [va_up_ne _ _ (by decide), va_up_ne _ _ (by decide)]; exact h1
  · rw [va_up_ne _ _ (by decide), va_up_ne _ _ (by decide)]; exact h2
  · rw [va_up_ne _ _ (by decide), va_up_ne _ _ (by decide), va_up_ne _ _ (by decide)]; exact h3
theorem op_say (hX : X = mPic G y ad fi fa) (hR : wR G ad X si fi sa fa dr nd np nr) (a b : Int32) (hv : rv = some (.int (oSay nd np (sa 1) (fa 8) (fun q => dr q &&& sMsk nd) (fa 10) (sa 4) a b).1) ∧ ad = ad' ∧ sPic G X ad si (va_up sa 4 (oSay nd np (sa 1) (fa 8) (fun q => dr q &&& sMsk nd) (fa 10) (sa 4) a b).2) rn = c') : lwO G ad fi fa (fun fi' fa' => mEq fi (va_up fa 11 (oSay nd np (fa 7) (fa 8) (fa 9) (fa 10) (fa 11) a b).2) fi' fa') (.int (oSay nd np (fa 7) (fa 8) (fa 9) (fa 10) (fa 11) a b).1) rv ad' c' := by
  obtain ⟨h1, h2, h3, h8, h6, hs1, hf5, hf6, hf22, hf1, hf0, h17, htd, hdn, hrw⟩ := id hR
  have h4 := h1.1
  obtain ⟨hv1, rfl, hv3⟩ := hv
  have hc := oSay_c (nd := nd) (w := fa 7) (kd := fa 8) (kn := fa 10) h4 hdn htd a b
  rw [h17] at hv1 hv3
  refine lwO.mk hX (fun _ _ _ => rfl) (fun _ _ _ => rfl) rfl (hv1.trans (by rw [hc.1])) hv3 (fun fi' fa' q => ⟨fi, va_up fa 11 (oSay nd np (fa 7) (fa 8) (fa 9) (fa 10) (fa 11) a b).2, np, nd, nr, dr, q, ?_, ?_, ?_, h8, ⟨h6, hs1, hf5, hf6, hf22, hf1, hf0, by rw [va_up_ne _ _ (by decide), va_up_ne _ _ (by decide)]; exact h17, fun j hj => by rw [va_up_self, va_up_self]; exact hc.2 j hj, fun j hj => by rw [va_up_ne _ _ (by decide)]; exact hdn j hj, fun k hk => by rw [va_up_ne _ _ (by decide)]; exact hrw k hk⟩⟩)
  · rw [va_up_ne _ _ (by decide), va_up_ne _ _ (by decide)]; exact h1
  · rw [va_up_ne _ _ (by decide), va_up_ne _ _ (by decide)]; exact h2
  · rw [va_up_ne _ _ (by decide), va_up_ne _ _ (by decide), va_up_ne _ _ (by decide)]; exact h3
theorem op_hush (hX : X = mPic G y ad fi fa) (hR : wR G ad X si fi sa fa dr nd np nr) (a : Int32) (hv : rv = some (.int (oHsh nd np (sa 1) (fa 8) (sa 4) a).1) ∧ ad = ad' ∧ sPic G X ad si (va_up sa 4 (oHsh nd np (sa 1) (fa 8) (sa 4) a).2) rn = c') : lwO G ad fi fa (fun fi' fa' => fi = fi' ∧ va_up fa 11 (oHsh nd np (fa 7) (fa 8) (fa 11) a).2 = fa') (.int (oHsh nd np (fa 7) (fa 8) (fa 11) a).1) rv ad' c' := by
  obtain ⟨h1, h2, h3, h8, h6, hs1, hf5, hf6, hf22, hf1, hf0, h17, htd, hdn, hrw⟩ := id hR
  have h4 := h1.1
  obtain ⟨hv1, rfl, hv3⟩ := hv
  have hc := oHsh_c (nd := nd) (w := fa 7) (kd := fa 8) h4 htd a
  rw [h17] at hv1 hv3
  refine lwO.mk hX (fun _ _ _ => rfl) (fun _ _ _ => rfl) rfl (hv1.trans (by rw [hc.1])) hv3 (fun fi' fa' q => ⟨fi, va_up fa 11 (oHsh nd np (fa 7) (fa 8) (fa 11) a).2, np, nd, nr, dr, mEq.of q, ?_, ?_, ?_, h8, ⟨h6, hs1, hf5, hf6, hf22, hf1, hf0, by rw [va_up_ne _ _ (by decide), va_up_ne _ _ (by decide)]; exact h17, fun j hj => by rw [va_up_self, va_up_self]; exact hc.2 j hj, fun j hj => by rw [va_up_ne _ _ (by decide)]; exact hdn j hj, fun k hk => by rw [va_up_ne _ _ (by decide)]; exact hrw k hk⟩⟩)
  · rw [va_up_ne _ _ (by decide), va_up_ne _ _ (by decide)]; exact h1
  · rw [va_up_ne _ _ (by decide), va_up_ne _ _ (by decide)]; exact h2
  · rw [va_up_ne _ _ (by decide), va_up_ne _ _ (by decide), va_up_ne _ _ (by decide)]; exact h3
theorem op_tell (hX : X = mPic G y ad fi fa) (hR : wR G ad X si fi sa fa dr nd np nr) (a : Int32) (hv : rv = some (.int (oTel np (fa 8) (fa 10) (si 0) a).1) ∧ ad = ad' ∧ sPic G X ad (upd si 0 (oTel np (fa 8) (fa 10) (si 0) a).2) sa rn = c') : lwO G ad fi fa (fun fi' fa' => upd fi 1 (oTel np (fa 8) (fa 10) (fi 1) a).2 = fi' ∧ fa = fa') (.int (oTel np (fa 8) (fa 10) (fi 1) a).1) rv ad' c' := by
  obtain ⟨h1, h2, h3, h8, h6, hs1, hf5, hf6, hf22, hf1, hf0, h17, htd, hdn, hrw⟩ := id hR
  have h4 := h1.1
  obtain ⟨hv1, rfl, hv3⟩ := hv
  rw [← hf1] at hv1 hv3
  exact lwO.mk hX (fun _ _ _ => rfl) (fun _ _ _ => rfl) rfl hv1 hv3 (fun fi' fa' q => ⟨upd fi 1 (oTel np (fa 8) (fa 10) (fi 1) a).2, fa, np, nd, nr, dr, mEq.of q, h1, h2, h3, h8, ⟨h6, (pk_un (by decide)).trans hs1, (pk_un (by decide)).trans hf5, (pk_un (by decide)).trans hf6, (pk_un (by decide)).trans hf22, by rw [pk_us, pk_us], (pk_un (by decide)).trans (hf0.trans (pk_un (by decide)).symm), h17, htd, hdn, hrw⟩⟩)
theorem op_greet (hX : X = mPic G y ad fi fa) (hR : wR G ad X si fi sa fa dr nd np nr) (a : Int32) (hv : rv = some (.int (oGrt np (fa 8) (si 0) a).1) ∧ ad = ad' ∧ sPic G X ad (upd si 0 (oGrt np (fa 8) (si 0) a).2) sa rn = c') : lwO G ad fi fa (fun fi' fa' => upd fi 1 (oGrt np (fa 8) (fi 1) a).2 = fi' ∧ fa = fa') (.int (oGrt np (fa 8) (fi 1) a).1) rv ad' c' := by
  obtain ⟨h1, h2, h3, h8, h6, hs1, hf5, hf6, hf22, hf1, hf0, h17, htd, hdn, hrw⟩ := id hR
  have h4 := h1.1
  obtain ⟨hv1, rfl, hv3⟩ := hv
  rw [← hf1] at hv1 hv3
  exact lwO.mk hX (fun _ _ _ => rfl) (fun _ _ _ => rfl) rfl hv1 hv3 (fun fi' fa' q => ⟨upd fi 1 (oGrt np (fa 8) (fi 1) a).2, fa, np, nd, nr, dr, mEq.of q, h1, h2, h3, h8, ⟨h6, (pk_un (by decide)).trans hs1, (pk_un (by decide)).trans hf5, (pk_un (by decide)).trans hf6, (pk_un (by decide)).trans hf22, by rw [pk_us, pk_us], (pk_un (by decide)).trans (hf0.trans (pk_un (by decide)).symm), h17, htd, hdn, hrw⟩⟩)
theorem op_cell (hX : X = mPic G y ad fi fa) (hR : wR G ad X si fi sa fa dr nd np nr) (k i q : Int32) (hv : rv = some (.long (oCel (fa 2) (fa 3) (fa 4) k i q).1) ∧ ad = ad' ∧ sPic G X ad (upd si 9 (oCel (fa 2) (fa 3) (fa 4) k i q).2) sa rn = c') : lwO G ad fi fa (fun fi' fa' => upd fi 0 (oCel (fa 2) (fa 3) (fa 4) k i q).2 = fi' ∧ fa = fa') (.long (oCel (fa 2) (fa 3) (fa 4) k i q).1) rv ad' c' := by
  obtain ⟨h1, h2, h3, h8, h6, hs1, hf5, hf6, hf22, hf1, hf0, h17, htd, hdn, hrw⟩ := id hR
  have h4 := h1.1
  obtain ⟨hv1, rfl, hv3⟩ := hv
  exact lwO.mk hX (fun _ _ _ => rfl) (fun _ _ _ => rfl) rfl hv1 hv3 (fun fi' fa' q_ => ⟨upd fi 0 (oCel (fa 2) (fa 3) (fa 4) k i q).2, fa, np, nd, nr, dr, mEq.of q_, h1, h2, h3, h8, ⟨h6, (pk_un (by decide)).trans hs1, (pk_un (by decide)).trans hf5, (pk_un (by decide)).trans hf6, (pk_un (by decide)).trans hf22, (pk_un (by decide)).trans (hf1.trans (pk_un (by decide)).symm), by rw [pk_us, pk_us], h17, htd, hdn, hrw⟩⟩)
theorem op_as (hX : X = mPic G y ad fi fa) (hR : wR G ad X si fi sa fa dr nd np nr) (a b : Int32) (hv : rv = some (.int (oAs np (fa 8) a b).1) ∧ ∃ x' : nPic, sFr 40 ad X ad' x' ∧ sPic G x' ad' (upd si 9 (oAs np (fa 8) a b).2) sa rn = c') : lwO G ad fi fa (fun fi' fa' => upd fi 0 (oAs np (fa 8) a b).2 = fi' ∧ fa = fa') (.int (oAs np (fa 8) a b).1) rv ad' c' := by
  obtain ⟨h1, h2, h3, h8, h6, hs1, hf5, hf6, hf22, hf1, hf0, h17, htd, hdn, hrw⟩ := id hR
  have h4 := h1.1
  obtain ⟨hv1, X2, hf, hv3⟩ := hv
  exact lwO.mk hX (fun z q1 q2 => (hf z (by omega)).2) (fun z q1 q2 => (hf z (by omega)).1) (hf 0 (by decide)).1 hv1 hv3 (fun fi' fa' q_ => ⟨upd fi 0 (oAs np (fa 8) a b).2, fa, np, nd, nr, dr, mEq.of q_, h1.fr fun z _ _ => hf z (by omega), h2.fr fun z _ _ => hf z (by omega), h3.fr fun z _ _ _ => hf z (by omega), fun z hz => ((hf z (by omega)).2).trans (h8 z hz), ⟨h6, (pk_un (by decide)).trans hs1, (pk_un (by decide)).trans hf5, (pk_un (by decide)).trans hf6, (pk_un (by decide)).trans hf22, (pk_un (by decide)).trans (hf1.trans (pk_un (by decide)).symm), by rw [pk_us, pk_us], h17, htd, hdn, hrw⟩⟩)
theorem op_days (hX : X = mPic G y ad fi fa) (hR : wR G ad X si fi sa fa dr nd np nr) (k q i n a : Int32) (hv : wP G ad X si sa (oDys nd np (sa 1) (fa 8) (fun q => dr q &&& sMsk nd) (fa 10) (sa 4) (fa 2) (fa 3) (fa 4) k q i n a) rv ad' c') : lwO G ad fi fa (fun fi' fa' => mEq (upd fi 0 (oDys nd np (fa 7) (fa 8) (fa 9) (fa 10) (fa 11) (fa 2) (fa 3) (fa 4) k q i n a).2) fa fi' fa') (.int (oDys nd np (fa 7) (fa 8) (fa 9) (fa 10) (fa 11) (fa 2) (fa 3) (fa 4) k q i n a).1) rv ad' c' := by
  obtain ⟨h1, h2, h3, h8, h6, hs1, hf5, hf6, hf22, hf1, hf0, h17, htd, hdn, hrw⟩ := id hR
  have h4 := h1.1
  obtain ⟨hv1, X2, rn2, cg, fw, k5, hf, hv3⟩ := hv
  have hD : oDys nd np (sa 1) (fa 8) (fun q => dr q &&& sMsk nd) (fa 10) (sa 4) (fa 2) (fa 3) (fa 4) k q i n a = oDys nd np (fa 7) (fa 8) (fa 9) (fa 10) (fa 11) (fa 2) (fa 3) (fa 4) k q i n a := by rw [h17]; exact oDys_c h4 h6 hdn htd k q i n a
  rw [hD] at hv1 hv3
  exact lwO.mk hX (fun z q1 q2 => (hf z (by omega) (by omega)).2) (fun z q1 q2 => (hf z (by omega) (by omega)).1) (hf 0 (by decide) (by decide)).1 hv1 hv3 (fun fi' fa' q_ => ⟨upd fi 0 (oDys nd np (fa 7) (fa 8) (fa 9) (fa 10) (fa 11) (fa 2) (fa 3) (fa 4) k q i n a).2, fa, np, nd, nr, dr, q_, h1.fr fun z _ _ => hf z (by omega) (by omega), h2.fr fun z _ _ => hf z (by omega) (by omega), h3.fr fun z _ _ _ => hf z (by omega) (by omega), fun z hz => ((hf z (by omega) (by omega)).2).trans (h8 z hz), ⟨h6, (pk_un (by decide)).trans ((pk_un (by decide)).trans ((pk_un (by decide)).trans hs1)), (pk_un (by decide)).trans hf5, (pk_un (by decide)).trans hf6, (pk_un (by decide)).trans hf22, (pk_un (by decide)).trans (hf1.trans (((pk_un (by decide)).trans ((pk_un (by decide)).trans (pk_un (by decide)))).symm)), by rw [pk_us, pk_un (by decide), pk_un (by decide), pk_us], (va_up_ne _ _ (by decide)).trans h17, fun j hj => by rw [va_up_ne _ _ (by decide)]; exact htd j hj, hdn, hrw⟩⟩)
theorem op_weights (hX : X = mPic G y ad fi fa) (hR : wR G ad X si fi sa fa dr nd np nr) (d k q i n : Int32) (hv : wP G ad X si sa (oWts nd np nr (sa 1) (fa 8) (fun q => dr q &&& sMsk nd) (fa 10) (sa 4) (fa 2) (fa 3) (fa 4) (fa 23) (fa 24) d k q i n) rv ad' c') : lwO G ad fi fa (fun fi' fa' => mEq (upd fi 0 (oWts nd np nr (fa 7) (fa 8) (fa 9) (fa 10) (fa 11) (fa 2) (fa 3) (fa 4) (fa 23) (fa 24) d k q i n).2) fa fi' fa') (.int (oWts nd np nr (fa 7) (fa 8) (fa 9) (fa 10) (fa 11) (fa 2) (fa 3) (fa 4) (fa 23) (fa 24) d k q i n).1) rv ad' c' := by
  obtain ⟨h1, h2, h3, h8, h6, hs1, hf5, hf6, hf22, hf1, hf0, h17, htd, hdn, hrw⟩ := id hR
  have h4 := h1.1
  obtain ⟨hv1, X2, rn2, cg, fw, k5, hf, hv3⟩ := hv
  have hD : oWts nd np nr (sa 1) (fa 8) (fun q => dr q &&& sMsk nd) (fa 10) (sa 4) (fa 2) (fa 3) (fa 4) (fa 23) (fa 24) d k q i n = oWts nd np nr (fa 7) (fa 8) (fa 9) (fa 10) (fa 11) (fa 2) (fa 3) (fa 4) (fa 23) (fa 24) d k q i n := by rw [h17]; unfold oWts; exact oWif_c h4 h6 (fun wh wt m hw v => by rw [sSo_d hdn hw, sSo_congr hw (fun z hz => in_lt h4 (hrw z hz)) htd])
  rw [hD] at hv1 hv3
  exact lwO.mk hX (fun z q1 q2 => (hf z (by omega) (by omega)).2) (fun z q1 q2 => (hf z (by omega) (by omega)).1) (hf 0 (by decide) (by decide)).1 hv1 hv3 (fun fi' fa' q_ => ⟨upd fi 0 (oWts nd np nr (fa 7) (fa 8) (fa 9) (fa 10) (fa 11) (fa 2) (fa 3) (fa 4) (fa 23) (fa 24) d k q i n).2, fa, np, nd, nr, dr, q_, h1.fr fun z _ _ => hf z (by omega) (by omega), h2.fr fun z _ _ => hf z (by omega) (by omega), h3.fr fun z _ _ _ => hf z (by omega) (by omega), fun z hz => ((hf z (by omega) (by omega)).2).trans (h8 z hz), ⟨h6, (pk_un (by decide)).trans ((pk_un (by decide)).trans ((pk_un (by decide)).trans hs1)), (pk_un (by decide)).trans hf5, (pk_un (by decide)).trans hf6, (pk_un (by decide)).trans hf22, (pk_un (by decide)).trans (hf1.trans (((pk_un (by decide)).trans ((pk_un (by decide)).trans (pk_un (by decide)))).symm)), by rw [pk_us, pk_un (by decide), pk_un (by decide), pk_us], (va_up_ne _ _ (by decide)).trans h17, fun j hj => by rw [va_up_ne _ _ (by decide)]; exact htd j hj, hdn, hrw⟩⟩)
theorem op_kinds (hX : X = mPic G y ad fi fa) (hR : wR G ad X si fi sa fa dr nd np nr) (d k q i n : Int32) (hv : wP G ad X si sa (oKds nd np nr (sa 1) (fa 8) (fun q => dr q &&& sMsk nd) (fa 10) (sa 4) (fa 2) (fa 3) (fa 4) (fa 23) (fa 24) d k q i n) rv ad' c') : lwO G ad fi fa (fun fi' fa' => mEq (upd fi 0 (oKds nd np nr (fa 7) (fa 8) (fa 9) (fa 10) (fa 11) (fa 2) (fa 3) (fa 4) (fa 23) (fa 24) d k q i n).2) fa fi' fa') (.int (oKds nd np nr (fa 7) (fa 8) (fa 9) (fa 10) (fa 11) (fa 2) (fa 3) (fa 4) (fa 23) (fa 24) d k q i n).1) rv ad' c' := by
  obtain ⟨h1, h2, h3, h8, h6, hs1, hf5, hf6, hf22, hf1, hf0, h17, htd, hdn, hrw⟩ := id hR
  have h4 := h1.1
  obtain ⟨hv1, X2, rn2, cg, fw, k5, hf, hv3⟩ := hv
  have hD : oKds nd np nr (sa 1) (fa 8) (fun q => dr q &&& sMsk nd) (fa 10) (sa 4) (fa 2) (fa 3) (fa 4) (fa 23) (fa 24) d k q i n = oKds nd np nr (fa 7) (fa 8) (fa 9) (fa 10) (fa 11) (fa 2) (fa 3) (fa 4) (fa 23) (fa 24) d k q i n := by rw [h17]; unfold oKds; exact oWif_c h4 h6 (fun wh wt m hw v => by rw [sSo_d hdn hw, sSo_congr hw (fun z hz => in_lt h4 (hrw z hz)) htd])
  rw [hD] at hv1 hv3
  exact lwO.mk hX (fun z q1 q2 => (hf z (by omega) (by omega)).2) (fun z q1 q2 => (hf z (by omega) (by omega)).1) (hf 0 (by decide) (by decide)).1 hv1 hv3 (fun fi' fa' q_ => ⟨upd fi 0 (oKds nd np nr (fa 7) (fa 8) (fa 9) (fa 10) (fa 11) (fa 2) (fa 3) (fa 4) (fa 23) (fa 24) d k q i n).2, fa, np, nd, nr, dr, q_, h1.fr fun z _ _ => hf z (by omega) (by omega), h2.fr fun z _ _ => hf z (by omega) (by omega), h3.fr fun z _ _ _ => hf z (by omega) (by omega), fun z hz => ((hf z (by omega) (by omega)).2).trans (h8 z hz), ⟨h6, (pk_un (by decide)).trans ((pk_un (by decide)).trans ((pk_un (by decide)).trans hs1)), (pk_un (by decide)).trans hf5, (pk_un (by decide)).trans hf6, (pk_un (by decide)).trans hf22, (pk_un (by decide)).trans (hf1.trans (((pk_un (by decide)).trans ((pk_un (by decide)).trans (pk_un (by decide)))).symm)), by rw [pk_us, pk_un (by decide), pk_un (by decide), pk_us], (va_up_ne _ _ (by decide)).trans h17, fun j hj => by rw [va_up_ne _ _ (by decide)]; exact htd j hj, hdn, hrw⟩⟩)
theorem op_knew (hX : X = mPic G y ad fi fa) (hR : wR G ad X si fi sa fa dr nd np nr) (d k q i n : Int32) (hv : wP G ad X si sa (oKnw nd np nr (sa 1) (fa 8) (fun q => dr q &&& sMsk nd) (fa 10) (sa 4) (fa 2) (fa 3) (fa 4) (fa 23) (fa 24) d k q i n) rv ad' c') : lwO G ad fi fa (fun fi' fa' => mEq (upd fi 0 (oKnw nd np nr (fa 7) (fa 8) (fa 9) (fa 10) (fa 11) (fa 2) (fa 3) (fa 4) (fa 23) (fa 24) d k q i n).2) fa fi' fa') (.int (oKnw nd np nr (fa 7) (fa 8) (fa 9) (fa 10) (fa 11) (fa 2) (fa 3) (fa 4) (fa 23) (fa 24) d k q i n).1) rv ad' c' := by
  obtain ⟨h1, h2, h3, h8, h6, hs1, hf5, hf6, hf22, hf1, hf0, h17, htd, hdn, hrw⟩ := id hR
  have h4 := h1.1
  obtain ⟨hv1, X2, rn2, cg, fw, k5, hf, hv3⟩ := hv
  have hD : oKnw nd np nr (sa 1) (fa 8) (fun q => dr q &&& sMsk nd) (fa 10) (sa 4) (fa 2) (fa 3) (fa 4) (fa 23) (fa 24) d k q i n = oKnw nd np nr (fa 7) (fa 8) (fa 9) (fa 10) (fa 11) (fa 2) (fa 3) (fa 4) (fa 23) (fa 24) d k q i n := by rw [h17]; unfold oKnw; exact oWif_c h4 h6 (fun wh wt m hw v => by rw [sSo_d hdn hw, sSo_congr hw (fun z hz => in_lt h4 (hrw z hz)) htd])
  rw [hD] at hv1 hv3
  exact lwO.mk hX (fun z q1 q2 => (hf z (by omega) (by omega)).2) (fun z q1 q2 => (hf z (by omega) (by omega)).1) (hf 0 (by decide) (by decide)).1 hv1 hv3 (fun fi' fa' q_ => ⟨upd fi 0 (oKnw nd np nr (fa 7) (fa 8) (fa 9) (fa 10) (fa 11) (fa 2) (fa 3) (fa 4) (fa 23) (fa 24) d k q i n).2, fa, np, nd, nr, dr, q_, h1.fr fun z _ _ => hf z (by omega) (by omega), h2.fr fun z _ _ => hf z (by omega) (by omega), h3.fr fun z _ _ _ => hf z (by omega) (by omega), fun z hz => ((hf z (by omega) (by omega)).2).trans (h8 z hz), ⟨h6, (pk_un (by decide)).trans ((pk_un (by decide)).trans ((pk_un (by decide)).trans hs1)), (pk_un (by decide)).trans hf5, (pk_un (by decide)).trans hf6, (pk_un (by decide)).trans hf22, (pk_un (by decide)).trans (hf1.trans (((pk_un (by decide)).trans ((pk_un (by decide)).trans (pk_un (by decide)))).symm)), by rw [pk_us, pk_un (by decide), pk_un (by decide), pk_us], (va_up_ne _ _ (by decide)).trans h17, fun j hj => by rw [va_up_ne _ _ (by decide)]; exact htd j hj, hdn, hrw⟩⟩)
theorem op_reading (hX : X = mPic G y ad fi fa) (hR : wR G ad X si fi sa fa dr nd np nr) (a b : Int32) (hv : ∃ x' : nPic, rv = some (.int (oRdg np nr (fa 23) (fa 24) a b).1) ∧ (∀ z, z ≠ 7 → z ≠ 30 + nr → ad' z = ad z) ∧ (∀ z, z ≠ 6 → z ≠ 7 → z ≠ 30 + nr → x' z = X z) ∧ sRea G ad' x' (oRdg np nr (fa 23) (fa 24) a b).2.1 (oRdg np nr (fa 23) (fa 24) a b).2.2.1 (oRdg np nr (fa 23) (fa 24) a b).2.2.2 ∧ sPic G x' ad' si sa rn = c') : lwO G ad fi fa (fun fi' fa' => upd fi 22 (nI (oRdg np nr (fa 23) (fa 24) a b).2.1) = fi' ∧ va_up (va_up fa 23 (oRdg np nr (fa 23) (fa 24) a b).2.2.1) 24 (oRdg np nr (fa 23) (fa 24) a b).2.2.2 = fa') (.int (oRdg np nr (fa 23) (fa 24) a b).1) rv ad' c' := by
  obtain ⟨h1, h2, h3, h8, h6, hs1, hf5, hf6, hf22, hf1, hf0, h17, htd, hdn, hrw⟩ := id hR
  have h4 := h1.1
  obtain ⟨X2, hv1, ha, hx, hq, hv3⟩ := hv
  have hr8 := h2.1
  have hk : ∀ k, k < (oRdg np nr (fa 23) (fa 24) a b).2.1 → sIn ((oRdg np nr (fa 23) (fa 24) a b).2.2.1 k) np = true := by
    unfold oRdg
    split
    · rename_i q1
      split
      · split
        · exact hrw
        · intro k hk
          have hk : k < nr + 1 := hk
          show sIn (upd (fa 23) nr a k) np = true
          by_cases e : k = nr
          · rw [e, pk_us]; exact q1
          · rw [pk_un e]; exact hrw k (by omega)
      · exact hrw
    · exact hrw
  refine lwO.mk hX (fun z q1 q2 => hx z (by omega) (by omega) (by omega)) (fun z q1 q2 => ha z (by omega) (by omega)) (ha 0 (by decide) (by omega)) hv1 hv3 (fun fi' fa' q_ => ⟨upd fi 22 (nI (oRdg np nr (fa 23) (fa 24) a b).2.1), va_up (va_up fa 23 (oRdg np nr (fa 23) (fa 24) a b).2.2.1) 24 (oRdg np nr (fa 23) (fa 24) a b).2.2.2, np, nd, (oRdg np nr (fa 23) (fa 24) a b).2.1, dr, mEq.of q_, ?_, ?_, ?_, fun z hz => (hx z (by omega) (by omega) (by omega)).trans (h8 z hz), ⟨h6, hs1, (pk_un (by decide)).trans hf5, (pk_un (by decide)).trans hf6, pk_us, (pk_un (by decide)).trans hf1, (pk_un (by decide)).trans hf0, h17, htd, hdn, hk⟩⟩)
  · show sPeo G ad' X2 np (fa 8) dr (fa 10)
    exact h1.fr2 fun z hz => ⟨ha z (by omega) (by omega), hx z (by omega) (by omega) (by omega)⟩
  · exact hq
  · show sShe G ad' X2 (fa 2) (fa 3) (fa 4)
    exact h3.fr fun z q1 q2 q3 => ⟨ha z (by omega) (by omega), hx z (by omega) (by omega) (by omega)⟩
theorem op_back (hX : X = mPic G y ad fi fa) (hR : wR G ad X si fi sa fa dr nd np nr) (a : Int32) (hv : ∃ x' : nPic, rv = some (.int (oBck nr a).1) ∧ ad = ad' ∧ (∀ z, z ≠ 6 → z ≠ 7 → x' z = X z) ∧ sRea G ad x' (oBck nr a).2 (fa 23) (fa 24) ∧ sPic G x' ad si sa rn = c') : lwO G ad fi fa (fun fi' fa' => upd fi 22 (nI (oBck nr a).2) = fi' ∧ fa = fa') (.int (oBck nr a).1) rv ad' c' := by
  obtain ⟨h1, h2, h3, h8, h6, hs1, hf5, hf6, hf22, hf1, hf0, h17, htd, hdn, hrw⟩ := id hR
  have h4 := h1.1
  obtain ⟨X2, hv1, rfl, hx, hq, hv3⟩ := hv
  have hk : (oBck nr a).2 ≤ nr := by
    unfold oBck
    split
    · exact Nat.sub_le _ _
    · exact Nat.le_refl _
  exact lwO.mk hX (fun z q1 q2 => hx z (by omega) (by omega)) (fun _ _ _ => rfl) rfl hv1 hv3 (fun fi' fa' q_ => ⟨upd fi 22 (nI (oBck nr a).2), fa, np, nd, (oBck nr a).2, dr, mEq.of q_, h1.fr2 fun z hz => ⟨rfl, hx z (by omega) (by omega)⟩, hq, h3.fr fun z q1 q2 q3 => ⟨rfl, hx z (by omega) (by omega)⟩, fun z hz => (hx z (by omega) (by omega)).trans (h8 z hz), ⟨h6, hs1, (pk_un (by decide)).trans hf5, (pk_un (by decide)).trans hf6, pk_us, (pk_un (by decide)).trans hf1, (pk_un (by decide)).trans hf0, h17, htd, hdn, fun k q => hrw k (by omega)⟩⟩)
theorem op_sheet (hX : X = mPic G y ad fi fa) (hR : wR G ad X si fi sa fa dr nd np nr) (k q n : Int32) (hv : rv = some (.int (oSht (fa 2) (fa 3) (fa 4) k q n).1) ∧ ∃ x' : nPic, (∀ z, (z < 10 ∨ 18 ≤ z) → ad' z = ad z) ∧ (∀ z, z ≠ 8 → (z < 10 ∨ 18 ≤ z) → x' z = X z) ∧ sShe G ad' x' ((oSht (fa 2) (fa 3) (fa 4) k q n).2.2.1) ((oSht (fa 2) (fa 3) (fa 4) k q n).2.2.2.1) ((oSht (fa 2) (fa 3) (fa 4) k q n).2.2.2.2) ∧ sPic G x' ad' (upd si 9 (oSht (fa 2) (fa 3) (fa 4) k q n).2.1) sa rn = c') : lwO G ad fi fa (fun fi' fa' => upd fi 0 (oSht (fa 2) (fa 3) (fa 4) k q n).2.1 = fi' ∧ va_up (va_up (va_up fa 2 (oSht (fa 2) (fa 3) (fa 4) k q n).2.2.1) 3 (oSht (fa 2) (fa 3) (fa 4) k q n).2.2.2.1) 4 (oSht (fa 2) (fa 3) (fa 4) k q n).2.2.2.2 = fa') (.int (oSht (fa 2) (fa 3) (fa 4) k q n).1) rv ad' c' := by
  obtain ⟨h1, h2, h3, h8, h6, hs1, hf5, hf6, hf22, hf1, hf0, h17, htd, hdn, hrw⟩ := id hR
  have h4 := h1.1
  obtain ⟨hv1, X2, ha, hx, hq, hv3⟩ := hv
  exact lwO.mk hX (fun z q1 q2 => hx z (by omega) (by omega)) (fun z q1 q2 => ha z (by omega)) (ha 0 (by omega)) hv1 hv3 (fun fi' fa' q_ => ⟨upd fi 0 (oSht (fa 2) (fa 3) (fa 4) k q n).2.1, va_up (va_up (va_up fa 2 (oSht (fa 2) (fa 3) (fa 4) k q n).2.2.1) 3 (oSht (fa 2) (fa 3) (fa 4) k q n).2.2.2.1) 4 (oSht (fa 2) (fa 3) (fa 4) k q n).2.2.2.2, np, nd, nr, dr, mEq.of q_, h1.fr2 fun z hz => ⟨ha z (by omega), hx z (by omega) (by omega)⟩, h2.fr2 fun z hz => ⟨ha z (by omega), hx z (by omega) (by omega)⟩, hq, fun z hz => (hx z (by omega) (by omega)).trans (h8 z hz), ⟨h6, (pk_un (by decide)).trans hs1, (pk_un (by decide)).trans hf5, (pk_un (by decide)).trans hf6, (pk_un (by decide)).trans hf22, (pk_un (by decide)).trans (hf1.trans (pk_un (by decide)).symm), by rw [pk_us, pk_us], h17, htd, hdn, hrw⟩⟩)
theorem op_lose (hX : X = mPic G y ad fi fa) (hR : wR G ad X si fi sa fa dr nd np nr) (k : Int32) (hv : rv = some (.int (oLse (fa 2) k).1) ∧ ad = ad' ∧ ∃ x' : nPic, (∀ z, z ≠ 8 → x' z = X z) ∧ sShe G ad x' ((oLse (fa 2) k).2) (fa 3) (fa 4) ∧ sPic G x' ad si sa rn = c') : lwO G ad fi fa (fun fi' fa' => fi = fi' ∧ va_up fa 2 (oLse (fa 2) k).2 = fa') (.int (oLse (fa 2) k).1) rv ad' c' := by
  obtain ⟨h1, h2, h3, h8, h6, hs1, hf5, hf6, hf22, hf1, hf0, h17, htd, hdn, hrw⟩ := id hR
  have h4 := h1.1
  obtain ⟨hv1, rfl, X2, hx, hq, hv3⟩ := hv
  exact lwO.mk hX (fun z q1 q2 => hx z (by omega)) (fun z q1 q2 => rfl) (rfl) hv1 hv3 (fun fi' fa' q_ => ⟨fi, va_up fa 2 (oLse (fa 2) k).2, np, nd, nr, dr, mEq.of q_, h1.fr2 fun z hz => ⟨rfl, hx z (by omega)⟩, h2.fr2 fun z hz => ⟨rfl, hx z (by omega)⟩, hq, fun z hz => (hx z (by omega)).trans (h8 z hz), ⟨h6, hs1, hf5, hf6, hf22, hf1, hf0, h17, htd, hdn, hrw⟩⟩)
theorem op_put (hX : X = mPic G y ad fi fa) (hR : wR G ad X si fi sa fa dr nd np nr) (k i v : Int32) (hv : rv = some (.int (oPut (fa 2) (fa 3) (fa 4) k i v).1) ∧ ad = ad' ∧ ∃ x' : nPic, (∀ z, (z < 14 ∨ 18 ≤ z) → x' z = X z) ∧ sShe G ad x' (fa 2) (fa 3) ((oPut (fa 2) (fa 3) (fa 4) k i v).2.2) ∧ sPic G x' ad (upd si 9 (oPut (fa 2) (fa 3) (fa 4) k i v).2.1) sa rn = c') : lwO G ad fi fa (fun fi' fa' => upd fi 0 (oPut (fa 2) (fa 3) (fa 4) k i v).2.1 = fi' ∧ va_up fa 4 (oPut (fa 2) (fa 3) (fa 4) k i v).2.2 = fa') (.int (oPut (fa 2) (fa 3) (fa 4) k i v).1) rv ad' c' := by
  obtain ⟨h1, h2, h3, h8, h6, hs1, hf5, hf6, hf22, hf1, hf0, h17, htd, hdn, hrw⟩ := id hR
  have h4 := h1.1
  obtain ⟨hv1, rfl, X2, hx, hq, hv3⟩ := hv
  exact lwO.mk hX (fun z q1 q2 => hx z (by omega)) (fun z q1 q2 => rfl) (rfl) hv1 hv3 (fun fi' fa' q_ => ⟨upd fi 0 (oPut (fa 2) (fa 3) (fa 4) k i v).2.1, va_up fa 4 (oPut (fa 2) (fa 3) (fa 4) k i v).2.2, np, nd, nr, dr, mEq.of q_, h1.fr2 fun z hz => ⟨rfl, hx z (by omega)⟩, h2.fr2 fun z hz => ⟨rfl, hx z (by omega)⟩, hq, fun z hz => (hx z (by omega)).trans (h8 z hz), ⟨h6, (pk_un (by decide)).trans hs1, (pk_un (by decide)).trans hf5, (pk_un (by decide)).trans hf6, (pk_un (by decide)).trans hf22, (pk_un (by decide)).trans (hf1.trans (pk_un (by decide)).symm), by rw [pk_us, pk_us], h17, htd, hdn, hrw⟩⟩)
theorem op_copy (hX : X = mPic G y ad fi fa) (hR : wR G ad X si fi sa fa dr nd np nr) (k i o_ j n : Int32) (hv : rv = some (.int (oCpy (fa 2) (fa 3) (fa 4) k i o_ j n).1) ∧ ∃ x' : nPic, (∀ z, z ≠ 40 → ad' z = ad z) ∧ (∀ z, z ≠ 40 → (z < 14 ∨ 18 ≤ z) → x' z = X z) ∧ sShe G ad' x' (fa 2) (fa 3) ((oCpy (fa 2) (fa 3) (fa 4) k i o_ j n).2.2) ∧ sPic G x' ad' (upd si 9 (oCpy (fa 2) (fa 3) (fa 4) k i o_ j n).2.1) sa rn = c') : lwO G ad fi fa (fun fi' fa' => upd fi 0 (oCpy (fa 2) (fa 3) (fa 4) k i o_ j n).2.1 = fi' ∧ va_up fa 4 (oCpy (fa 2) (fa 3) (fa 4) k i o_ j n).2.2 = fa') (.int (oCpy (fa 2) (fa 3) (fa 4) k i o_ j n).1) rv ad' c' := by
  obtain ⟨h1, h2, h3, h8, h6, hs1, hf5, hf6, hf22, hf1, hf0, h17, htd, hdn, hrw⟩ := id hR
  have h4 := h1.1
  obtain ⟨hv1, X2, ha, hx, hq, hv3⟩ := hv
  exact lwO.mk hX (fun z q1 q2 => hx z (by omega) (by omega)) (fun z q1 q2 => ha z (by omega)) (ha 0 (by omega)) hv1 hv3 (fun fi' fa' q_ => ⟨upd fi 0 (oCpy (fa 2) (fa 3) (fa 4) k i o_ j n).2.1, va_up fa 4 (oCpy (fa 2) (fa 3) (fa 4) k i o_ j n).2.2, np, nd, nr, dr, mEq.of q_, h1.fr2 fun z hz => ⟨ha z (by omega), hx z (by omega) (by omega)⟩, h2.fr2 fun z hz => ⟨ha z (by omega), hx z (by omega) (by omega)⟩, hq, fun z hz => (hx z (by omega) (by omega)).trans (h8 z hz), ⟨h6, (pk_un (by decide)).trans hs1, (pk_un (by decide)).trans hf5, (pk_un (by decide)).trans hf6, (pk_un (by decide)).trans hf22, (pk_un (by decide)).trans (hf1.trans (pk_un (by decide)).symm), by rw [pk_us, pk_us], h17, htd, hdn, hrw⟩⟩)
theorem oTwr_t {so sl ce : AI} {k q i n : Int32} (h : (oTwr so sl ce k q i n).2.2 = true) : (oTwr so sl ce k q i n).2.1 = 0 := by
  unfold oTwr at h ⊢
  split at h
  · rename_i e1
    rw [if_pos e1]
    split at h
    · rename_i e2
      rw [if_pos e2]
      split at h
      · rename_i e3
        rw [if_pos e3]
        split at h
        · rename_i e4
          rw [if_pos e4]
        · cases h
      · cases h
    · cases h
  · cases h
theorem pTk_lt {n j : Nat} {f g : AI} (h : j < n) : pTk n f g j = f j := if_pos h
theorem op_tower (hX : X = mPic G y ad fi fa) (hR : wR G ad X si fi sa fa dr nd np nr) (k q i n : Int32) (hv : lkP G ad X si sa rn (oTwr (fa 2) (fa 3) (fa 4) k q i n) (pT (fun p => fa 4 (60 * tn k + tn i + p)) (tn n)) rv ad' c') : lwO G ad fi fa (fun fi' fa' => ((oTwr (fa 2) (fa 3) (fa 4) k q i n).2.2 = false → mEq (upd fi 0 (oTwr (fa 2) (fa 3) (fa 4) k q i n).2.1) fa fi' fa') ∧ ((oTwr (fa 2) (fa 3) (fa 4) k q i n).2.2 = true → mEq (upd (upd (upd (upd fi 0 (oTwr (fa 2) (fa 3) (fa 4) k q i n).2.1) 5 (nI (pT (fun p => fa 4 (60 * tn k + tn i + p)) (tn n)).2.2.1.1)) 6 (nI (pT (fun p => fa 4 (60 * tn k + tn i + p)) (tn n)).2.2.2.1)) 22 0) (oTwN fa (pT (fun p => fa 4 (60 * tn k + tn i + p)) (tn n))) fi' fa' ∧ (pT (fun p => fa 4 (60 * tn k + tn i + p)) (tn n)).2.2.1.1 ≤ 6 ∧ (pT (fun p => fa 4 (60 * tn k + tn i + p)) (tn n)).2.2.2.1 ≤ 4)) (.int (oTwr (fa 2) (fa 3) (fa 4) k q i n).1) rv ad' c' := by
  obtain ⟨h1, h2, h3, h8, h6, hs1, hf5, hf6, hf22, hf1, hf0, h17, htd, hdn, hrw⟩ := id hR
  have h4 := h1.1
  obtain ⟨hv1, hF, hT⟩ := hv
  cases hb : (oTwr (fa 2) (fa 3) (fa 4) k q i n).2.2 with
  | false =>
    obtain ⟨X2, ⟨hf, hf8⟩, hv3⟩ := hF hb
    exact lwO.mk hX (fun z q1 q2 => (hf z (by omega) (by omega)).2) (fun z q1 q2 => (hf z (by omega) (by omega)).1) (hf 0 (by decide) (by decide)).1 hv1 hv3 (fun fi' fa' q_ => ⟨upd fi 0 (oTwr (fa 2) (fa 3) (fa 4) k q i n).2.1, fa, np, nd, nr, dr, q_.1 rfl, h1.fr fun z _ _ => hf z (by omega) (by omega), h2.fr fun z _ _ => hf z (by omega) (by omega), h3.fr fun z _ _ _ => hf z (by omega) (by omega), hf8, ⟨h6, (pk_un (by decide)).trans hs1, (pk_un (by decide)).trans hf5, (pk_un (by decide)).trans hf6, (pk_un (by decide)).trans hf22, (pk_un (by decide)).trans (hf1.trans (pk_un (by decide)).symm), by rw [pk_us, pk_us], h17, htd, hdn, hrw⟩⟩)
  | true =>
    obtain ⟨X2, ⟨ha, hx, hf8, hp, hr, h6'⟩, hv3⟩ := hT hb
    have hz := oTwr_t hb
    refine lwO.mk hX (fun z q1 q2 => hx z (by omega) (by omega)) (fun z q1 q2 => ha z (by omega) (by omega)) (ha 0 (by decide) (by decide)) hv1 hv3 (fun fi' fa' q_ => ⟨_, _, (pT (fun p => fa 4 (60 * tn k + tn i + p)) (tn n)).2.2.2.1, (pT (fun p => fa 4 (60 * tn k + tn i + p)) (tn n)).2.2.1.1, 0, (pT (fun p => fa 4 (60 * tn k + tn i + p)) (tn n)).2.2.2.2.2.1, (q_.2 rfl).1, ?_, ?_, ?_, hf8, ?_⟩)
    · exact hp.cg (fun j hj => pTk_lt hj) (fun j hj => pTk_lt hj)
    · exact hr _ _
    · exact sShe.fr (h3 : sShe G ad X (fa 2) (fa 3) (fa 4)) fun z q1 q2 q3 => ⟨ha z (by omega) (by omega), hx z (by omega) (by omega)⟩
    · have h4' := hp.1
      refine ⟨h6', pk_us, rfl, rfl, rfl, ?_, ?_, ?_, fun j hj => ?_, fun j hj => ?_, fun k hk => absurd hk (by omega)⟩
      · exact hf1
      · show (oTwr (fa 2) (fa 3) (fa 4) k q i n).2.1 = 0
        exact hz
      · show pTk _ _ (sa 1) = pTk _ _ (fa 7)
        rw [h17]
      · show pTk 4 pZ (sa 4) j = pTk _ pZ (fa 11) j
        rw [pTk_lt hj, pTk_lt (by omega)]
      · show _ = pTk _ (fun j => (pT (fun p => fa 4 (60 * tn k + tn i + p)) (tn n)).2.2.2.2.2.1 j &&& sMsk (pT (fun p => fa 4 (60 * tn k + tn i + p)) (tn n)).2.2.1.1) (fa 9) j
        rw [pTk_lt hj]
end OP
