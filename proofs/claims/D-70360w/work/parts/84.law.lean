/-! THE LAW'S ARMS: printed by wip/gen/l84.py -/
def lwR : String := "TowerTellLaw"
def lwF (p : Program) (l : Launch) (m : MethodId) (c : Code) (s : State) (b L : Nat) (xs : Nat → Int32) (G : nG) : Prop :=
  CallFix p m c code 4 s #[.ref b] lw_all lwR ∧ va_X b L xs s s.heap ∧ b < G.2 ∧ sK1 G s ∧ l.stackTraces = false
section LAW
variable {p : Program} {l : Launch} {e : Env} {s : State} {m : MethodId} {below : List Frame} {meth : Method} {c : Code} {H : Heap} {locs : List Loc} {cells slots : Nat} {Q : State → Prop} {b L i pc : Nat} {xs : Nat → Int32} {G : nG} {ls : Array Slot} {rest : List Value} {ad : Nat → Nat} {c0 : nPic} {r1 r2 : Value}
theorem sMsk_v {nd : Nat} (h6 : nd ≤ 6) (x : Int32) : ∃ v, v < 2 ^ nd ∧ x &&& sMsk nd = nI v := by
  have key : (sMsk nd).toBitVec.toNat < 2 ^ nd := by
    rcases (show nd = 0 ∨ nd = 1 ∨ nd = 2 ∨ nd = 3 ∨ nd = 4 ∨ nd = 5 ∨ nd = 6 by omega) with z | z | z | z | z | z | z <;> subst z <;> decide
  refine ⟨(x.toBitVec &&& (sMsk nd).toBitVec).toNat, ?_, ?_⟩
  · rw [BitVec.toNat_and]
    exact Nat.lt_of_le_of_lt Nat.and_le_right key
  · apply Int32.toBitVec_inj.mp
    show x.toBitVec &&& (sMsk nd).toBitVec = BitVec.ofNat 32 _
    rw [BitVec.ofNat_toNat, BitVec.setWidth_eq]
theorem lw_cmp (x : Int64) : lg_cmp x x = 0 := by
  unfold lg_cmp
  simp
theorem lw_scr (F : lwF p l m c s b L xs G) (hS : nS G s H locs) {j : Nat} (hj : j < L) (hL : L ≤ 384) (hdg : decode code pc = .ok (.iaload, 1))
    (kk : W p l e room_1 s m #[.ref b] below meth c H locs cells slots Q (F0 m (pc + 1) ls (.int (xs j) :: rest))) : W p l e room_1 s m #[.ref b] below meth c H locs cells slots Q (F0 m pc ls (.int (nI j) :: .ref b :: rest)) := by
  obtain ⟨⟨hx, hb, -, -, -⟩, ⟨scr, h1, h2, h3, h4, h5⟩, hbG, -, -⟩ := F
  exact W.iald (v := .int (xs j)) hx hb (by rw [hS.1 b hbG]; exact h1) h2 h3 (by rw [h4]; exact vp_in_nI hj (by omega)) (by rw [nI_clamp (by omega)]; exact h5 _ hj) rfl rfl hdg kk
theorem lw_len (F : lwF p l m c s b L xs G) (hS : nS G s H locs) (hdg : decode code pc = .ok (.arraylength, 1))
    (kk : W p l e room_1 s m #[.ref b] below meth c H locs cells slots Q (F0 m (pc + 1) ls (.int (nI L) :: rest))) : W p l e room_1 s m #[.ref b] below meth c H locs cells slots Q (F0 m pc ls (.ref b :: rest)) := by
  obtain ⟨⟨hx, hb, -, -, -⟩, ⟨scr, h1, h2, h3, h4, h5⟩, hbG, -, -⟩ := F
  exact W.alen (n := nI L) hx hb (by rw [hS.1 b hbG]; exact h1) h2 (by rw [h4] <;> rfl) rfl rfl hdg kk
theorem lw_arg (F : lwF p l m c s b L xs G) (hS : nS G s H locs) (hl : lv_has ls 4 [(3, .int (nI i)), (2, r2), (1, r1), (0, .ref b)]) (hi : i + 6 ≤ L) (hL : L ≤ 384) (k : Nat) (hk : k < 6) {n : Int} (hn : Int32.ofInt n = nI k)
    (d0 : decode code pc = .ok (.aload_n 0, 1)) (d1 : decode code (pc + 1) = .ok (.iload_n 3, 1)) (d2 : decode code (pc + 1 + 1) = .ok (.iconst n, 1)) (d3 : decode code (pc + 1 + 1 + 1) = .ok (.iadd, 1)) (d4 : decode code (pc + 1 + 1 + 1 + 1) = .ok (.iaload, 1))
    (kk : W p l e room_1 s m #[.ref b] below meth c H locs cells slots Q (F0 m (pc + 1 + 1 + 1 + 1 + 1) ls (.int (xs (i + k)) :: rest))) : W p l e room_1 s m #[.ref b] below meth c H locs cells slots Q (F0 m pc ls rest) := by
  obtain ⟨hx, hb, -, -, -⟩ := id F.1
  refine lv_aload_n hx hb d0 rfl (lv_at hl 3 rfl) ?_
  refine lv_iload_n hx hb d1 rfl (lv_at hl 0 rfl) ?_
  refine lv_iconst (v := nI k) hx hb d2 hn ?_
  refine lv_iadd hx hb d3 ?_
  refine n_top (y := nI (i + k)) (Int32.ofNat_add i k).symm ?_
  exact lw_scr F hS (by omega) hL d4 kk
def lwK (p : Program) (l : Launch) (e : Env) (s : State) (m : MethodId) (below : List Frame) (meth : Method) (c : Code) (b : Nat) (G : nG) (ad : Nat → Nat) (cells slots : Nat) (Q : State → Prop) (ls : Array Slot) : Prop :=
  ∀ (ad' : Nat → Nat) (c' : nPic) (H' : Heap) (locs' : List Loc), ad' 0 = ad 0 → ad' 50 = ad 50 → lwI G ad' c' → nOk G nCl ad' c' H' → nS G s H' locs' → W p l e room_1 s m #[.ref b] below meth c H' locs' (cells + 14) (slots + 2005) Q (F0 m 1230 ls [])
set_option maxHeartbeats 1000000 in
set_option maxRecDepth 100000 in
theorem lw_a_tower (F : lwF p l m c s b L xs G) (hS : nS G s H locs) (hl : lv_has ls 4 [(3, .int (nI i)), (2, .ref (ad 50)), (1, .ref (ad 0)), (0, .ref b)]) (hi : i + 6 ≤ L) (hL : L ≤ 384) (hN : nOk G nCl ad c0 H) (hI : lwI G ad c0) (hc : cells + 14 ≤ 705765 ∧ slots + 2005 ≤ 6954232) (kk : lwK p l e s m below meth c b G ad cells slots Q ls) : W p l e room_1 s m #[.ref b] below meth c H locs cells slots Q (F0 m 168 ls []) := by
  obtain ⟨y, si, fi, sa, fa, rn, dr, nd, np, nr, rfl, hR⟩ := hI
  obtain ⟨h1, h2, h3, h8, h6, hs1, hf5, hf6, hf22, hf1, hf0, h17, htd, hdn, hrw⟩ := id hR
  obtain ⟨SS, hX, hbG, hK1, hfl⟩ := id F
  obtain ⟨hx, hb, hml, hown, hts⟩ := id SS
  refine lv_aload_n hx hb dL_law_168 rfl (lv_at hl 2 rfl) ?_
  refine lw_arg F hS hl hi hL 1 (by decide) (by decide) dL_law_169 dL_law_170 dL_law_171 dL_law_172 dL_law_173 ?_
  refine lw_arg F hS hl hi hL 2 (by decide) (by decide) dL_law_174 dL_law_175 dL_law_176 dL_law_177 dL_law_178 ?_
  refine lw_arg F hS hl hi hL 3 (by decide) (by decide) dL_law_179 dL_law_180 dL_law_181 dL_law_182 dL_law_183 ?_
  refine lw_arg F hS hl hi hL 4 (by decide) (by decide) dL_law_184 dL_law_185 dL_law_186 dL_law_187 dL_law_188 ?_
  refine n_callV (C := RX0) (As := [.int (xs (i + 1)), .int (xs (i + 2)), .int (xs (i + 3)), .int (xs (i + 4))]) (b := 0) SS (sK1_o G) hK1 hK1.1.1 (sX0_tower l G (sK1 G) (sK1_o G) (fun U h => h.1) (fun U h => h.2) hfl ad _ si sa rn (fa 2) (fa 3) (fa 4) h3 np (fa 8) dr (fa 10) h1 nr (fa 23) (fa 24) h2 (xs (i + 1)) (xs (i + 2)) (xs (i + 3)) (xs (i + 4)) h8) (cwV 4 hts (lw_V q647 q648 q649 q57 q650) rfl rfl rfl (by decide +kernel) ⟨Nat.le_of_ble_eq_true rfl, Nat.le_of_ble_eq_true rfl⟩) hN hS sPic_0 rfl rfl hl.1 rfl (Nat.le_of_ble_eq_true rfl) dL_law_189 ⟨by first | omega | (show _ ≤ 705765; omega), by first | omega | (show _ ≤ 6954232; omega)⟩ (fun rv ad' c' H locs hv hN hS => ?_)
  obtain ⟨rfl, e0, ez, x', si', sa', rn', rfl, hnx⟩ := op_tower rfl hR (xs (i + 1)) (xs (i + 2)) (xs (i + 3)) (xs (i + 4)) hv
  refine W.eq (g2 := F0 m 192 ls (_ :: _)) rfl ?_
  have hl : lv_has ls 4 [(3, .int (nI i)), (2, .ref (ad' 50)), (1, .ref (ad' 0)), (0, .ref b)] := by rw [ez 50 (by decide) (by decide), e0]; exact hl
  refine lv_aload_n hx hb dL_law_192 rfl (lv_at hl 1 rfl) ?_
  refine lw_arg F hS hl hi hL 1 (by decide) (by decide) dL_law_193 dL_law_194 dL_law_195 dL_law_196 dL_law_197 ?_
  refine lw_arg F hS hl hi hL 2 (by decide) (by decide) dL_law_198 dL_law_199 dL_law_200 dL_law_201 dL_law_202 ?_
  refine lw_arg F hS hl hi hL 3 (by decide) (by decide) dL_law_203 dL_law_204 dL_law_205 dL_law_206 dL_law_207 ?_
  refine lw_arg F hS hl hi hL 4 (by decide) (by decide) dL_law_208 dL_law_209 dL_law_210 dL_law_211 dL_law_212 ?_
  refine n_callV (C := RX1) (As := [.int (xs (i + 1)), .int (xs (i + 2)), .int (xs (i + 3)), .int (xs (i + 4))]) (b := 50) SS (nK_o G) hK1.1.1 hK1.1.1 (mX1_tower l G ad' _ fi fa (xs (i + 1)) (xs (i + 2)) (xs (i + 3)) (xs (i + 4)) hR.SL) (cwV 4 hts (lw_V q1195 q1196 q1197 q61 q1198) rfl rfl rfl (by decide +kernel) ⟨Nat.le_of_ble_eq_true rfl, Nat.le_of_ble_eq_true rfl⟩) hN hS mPic_o rfl rfl hl.1 rfl (Nat.le_of_ble_eq_true rfl) dL_law_213 ⟨by first | omega | (show _ ≤ 705765; omega), by first | omega | (show _ ≤ 6954232; omega)⟩ (fun rv ad2 c2 H locs hv hN hS => ?_)
  obtain ⟨fi', fa', rfl, rfl, hv1, hm⟩ := hv
  subst hv1
  refine W.eq (g2 := F0 m 216 ls (_ :: _)) rfl ?_
  refine lv_icmp_eq (tgt := 1230) hx hb dL_law_216 (by decide) (fun _ => ?_) (fun z => absurd rfl z)
  refine W.widen (k := cells + 14) (n := slots + 2005) (by omega) (by omega) ?_
  exact kk _ _ _ _ e0 (ez 50 (by decide) (by decide)) (hnx _ _ hm) hN hS
set_option maxHeartbeats 1000000 in
set_option maxRecDepth 100000 in
theorem lw_a_ofPerson (F : lwF p l m c s b L xs G) (hS : nS G s H locs) (hl : lv_has ls 4 [(3, .int (nI i)), (2, .ref (ad 50)), (1, .ref (ad 0)), (0, .ref b)]) (hi : i + 6 ≤ L) (hL : L ≤ 384) (hN : nOk G nCl ad c0 H) (hI : lwI G ad c0) (hc : cells + 14 ≤ 705765 ∧ slots + 2005 ≤ 6954232) (kk : lwK p l e s m below meth c b G ad cells slots Q ls) : W p l e room_1 s m #[.ref b] below meth c H locs cells slots Q (F0 m 221 ls []) := by
  obtain ⟨y, si, fi, sa, fa, rn, dr, nd, np, nr, rfl, hR⟩ := hI
  obtain ⟨h1, h2, h3, h8, h6, hs1, hf5, hf6, hf22, hf1, hf0, h17, htd, hdn, hrw⟩ := id hR
  obtain ⟨SS, hX, hbG, hK1, hfl⟩ := id F
  obtain ⟨hx, hb, hml, hown, hts⟩ := id SS
  refine lv_aload_n hx hb dL_law_221 rfl (lv_at hl 2 rfl) ?_
  refine lw_arg F hS hl hi hL 1 (by decide) (by decide) dL_law_222 dL_law_223 dL_law_224 dL_law_225 dL_law_226 ?_
  refine lw_arg F hS hl hi hL 2 (by decide) (by decide) dL_law_227 dL_law_228 dL_law_229 dL_law_230 dL_law_231 ?_
  refine n_callV (C := RX0) (As := [.int (xs (i + 1)), .int (xs (i + 2))]) (b := 0) SS (sK1_o G) hK1 hK1.1.1 (sX0_ofPerson l G (sK1 G) (sK1_o G) (fun U h => h.1) ad _ si sa rn (xs (i + 1)) (xs (i + 2)) np (fa 8) dr (fa 10) h1 nd hs1 h6) (cwV 2 hts (lw_V q167 q168 q169 q57 q170) rfl rfl rfl (by decide +kernel) ⟨Nat.le_of_ble_eq_true rfl, Nat.le_of_ble_eq_true rfl⟩) hN hS sPic_0 rfl rfl hl.1 rfl (Nat.le_of_ble_eq_true rfl) dL_law_232 ⟨by first | omega | (show _ ≤ 705765; omega), by first | omega | (show _ ≤ 6954232; omega)⟩ (fun rv ad' c' H locs hv hN hS => ?_)
  obtain ⟨rfl, e0, ez, x', si', sa', rn', rfl, hnx⟩ := op_ofPerson rfl hR (xs (i + 1)) (xs (i + 2)) hv
  refine W.eq (g2 := F0 m 235 ls (_ :: _)) rfl ?_
  have hl : lv_has ls 4 [(3, .int (nI i)), (2, .ref (ad' 50)), (1, .ref (ad' 0)), (0, .ref b)] := by rw [ez 50 (by decide) (by decide), e0]; exact hl
  refine lv_aload_n hx hb dL_law_235 rfl (lv_at hl 1 rfl) ?_
  refine lw_arg F hS hl hi hL 1 (by decide) (by decide) dL_law_236 dL_law_237 dL_law_238 dL_law_239 dL_law_240 ?_
  refine lw_arg F hS hl hi hL 2 (by decide) (by decide) dL_law_241 dL_law_242 dL_law_243 dL_law_244 dL_law_245 ?_
  refine n_callV (C := RX1) (As := [.int (xs (i + 1)), .int (xs (i + 2))]) (b := 50) SS (nK_o G) hK1.1.1 hK1.1.1 (mX1_ofPerson l G ad' _ fi fa (xs (i + 1)) (xs (i + 2)) nd hf5 h6 np hf6 h1.1) (cwV 2 hts (lw_V q1240 q1241 q1242 q61 q1243) rfl rfl rfl (by decide +kernel) ⟨Nat.le_of_ble_eq_true rfl, Nat.le_of_ble_eq_true rfl⟩) hN hS mPic_o rfl rfl hl.1 rfl (Nat.le_of_ble_eq_true rfl) dL_law_246 ⟨by first | omega | (show _ ≤ 705765; omega), by first | omega | (show _ ≤ 6954232; omega)⟩ (fun rv ad2 c2 H locs hv hN hS => ?_)
  obtain ⟨fi', fa', rfl, rfl, hv1, hm⟩ := hv
  subst hv1
  refine W.eq (g2 := F0 m 249 ls (_ :: _)) rfl ?_
  refine lv_icmp_eq (tgt := 1230) hx hb dL_law_249 (by decide) (fun _ => ?_) (fun z => absurd rfl z)
  refine W.widen (k := cells + 14) (n := slots + 2005) (by omega) (by omega) ?_
  exact kk _ _ _ _ e0 (ez 50 (by decide) (by decide)) (hnx _ _ hm) hN hS
set_option maxHeartbeats 1000000 in
set_option maxRecDepth 100000 in
theorem lw_a_weight (F : lwF p l m c s b L xs G) (hS : nS G s H locs) (hl : lv_has ls 4 [(3, .int (nI i)), (2, .ref (ad 50)), (1, .ref (ad 0)), (0, .ref b)]) (hi : i + 6 ≤ L) (hL : L ≤ 384) (hN : nOk G nCl ad c0 H) (hI : lwI G ad c0) (hc : cells + 14 ≤ 705765 ∧ slots + 2005 ≤ 6954232) (kk : lwK p l e s m below meth c b G ad cells slots Q ls) : W p l e room_1 s m #[.ref b] below meth c H locs cells slots Q (F0 m 254 ls []) := by
  obtain ⟨y, si, fi, sa, fa, rn, dr, nd, np, nr, rfl, hR⟩ := hI
  obtain ⟨h1, h2, h3, h8, h6, hs1, hf5, hf6, hf22, hf1, hf0, h17, htd, hdn, hrw⟩ := id hR
  obtain ⟨SS, hX, hbG, hK1, hfl⟩ := id F
  obtain ⟨hx, hb, hml, hown, hts⟩ := id SS
  refine lv_aload_n hx hb dL_law_254 rfl (lv_at hl 2 rfl) ?_
  refine lw_arg F hS hl hi hL 1 (by decide) (by decide) dL_law_255 dL_law_256 dL_law_257 dL_law_258 dL_law_259 ?_
  refine n_callV (C := RX0) (As := [.int (xs (i + 1))]) (b := 0) SS (sK1_o G) hK1 hK1.1.1 (sX0_weight l G (sK1 G) (sK1_o G) (fun U h => h.1) ad _ si sa rn (xs (i + 1)) nd hs1 h6) (cwV 1 hts (lw_V q254 q255 q256 q57 q257) rfl rfl rfl (by decide +kernel) ⟨Nat.le_of_ble_eq_true rfl, Nat.le_of_ble_eq_true rfl⟩) hN hS sPic_0 rfl rfl hl.1 rfl (Nat.le_of_ble_eq_true rfl) dL_law_260 ⟨by first | omega | (show _ ≤ 705765; omega), by first | omega | (show _ ≤ 6954232; omega)⟩ (fun rv ad' c' H locs hv hN hS => ?_)
  obtain ⟨rfl, e0, ez, x', si', sa', rn', rfl, hnx⟩ := op_weight rfl hR (xs (i + 1)) hv
  refine W.eq (g2 := F0 m 263 ls (_ :: _)) rfl ?_
  have hl : lv_has ls 4 [(3, .int (nI i)), (2, .ref (ad' 50)), (1, .ref (ad' 0)), (0, .ref b)] := by rw [ez 50 (by decide) (by decide), e0]; exact hl
  refine lv_aload_n hx hb dL_law_263 rfl (lv_at hl 1 rfl) ?_
  refine lw_arg F hS hl hi hL 1 (by decide) (by decide) dL_law_264 dL_law_265 dL_law_266 dL_law_267 dL_law_268 ?_
  refine n_callV (C := RX1) (As := [.int (xs (i + 1))]) (b := 50) SS (nK_o G) hK1.1.1 hK1.1.1 (mX1_weight l G ad' _ fi fa (xs (i + 1)) nd hf5 h6) (cwV 1 hts (lw_V q1256 q1257 q1258 q61 q1259) rfl rfl rfl (by decide +kernel) ⟨Nat.le_of_ble_eq_true rfl, Nat.le_of_ble_eq_true rfl⟩) hN hS mPic_o rfl rfl hl.1 rfl (Nat.le_of_ble_eq_true rfl) dL_law_269 ⟨by first | omega | (show _ ≤ 705765; omega), by first | omega | (show _ ≤ 6954232; omega)⟩ (fun rv ad2 c2 H locs hv hN hS => ?_)
  obtain ⟨fi', fa', rfl, rfl, hv1, hm⟩ := hv
  subst hv1
  refine W.eq (g2 := F0 m 272 ls (_ :: _)) rfl ?_
  refine lv_icmp_eq (tgt := 1230) hx hb dL_law_272 (by decide) (fun _ => ?_) (fun z => absurd rfl z)
  refine W.widen (k := cells + 14) (n := slots + 2005) (by omega) (by omega) ?_
  exact kk _ _ _ _ e0 (ez 50 (by decide) (by decide)) (hnx _ _ hm) hN hS
set_option maxHeartbeats 1000000 in
set_option maxRecDepth 100000 in
theorem lw_a_weigh (F : lwF p l m c s b L xs G) (hS : nS G s H locs) (hl : lv_has ls 4 [(3, .int (nI i)), (2, .ref (ad 50)), (1, .ref (ad 0)), (0, .ref b)]) (hi : i + 6 ≤ L) (hL : L ≤ 384) (hN : nOk G nCl ad c0 H) (hI : lwI G ad c0) (hc : cells + 14 ≤ 705765 ∧ slots + 2005 ≤ 6954232) (kk : lwK p l e s m below meth c b G ad cells slots Q ls) : W p l e room_1 s m #[.ref b] below meth c H locs cells slots Q (F0 m 277 ls []) := by
  obtain ⟨y, si, fi, sa, fa, rn, dr, nd, np, nr, rfl, hR⟩ := hI
  obtain ⟨h1, h2, h3, h8, h6, hs1, hf5, hf6, hf22, hf1, hf0, h17, htd, hdn, hrw⟩ := id hR
  obtain ⟨SS, hX, hbG, hK1, hfl⟩ := id F
  obtain ⟨hx, hb, hml, hown, hts⟩ := id SS
  refine lv_aload_n hx hb dL_law_277 rfl (lv_at hl 2 rfl) ?_
  refine lw_arg F hS hl hi hL 1 (by decide) (by decide) dL_law_278 dL_law_279 dL_law_280 dL_law_281 dL_law_282 ?_
  refine lw_arg F hS hl hi hL 2 (by decide) (by decide) dL_law_283 dL_law_284 dL_law_285 dL_law_286 dL_law_287 ?_
  refine n_callV (C := RX0) (As := [.int (xs (i + 1)), .int (xs (i + 2))]) (b := 0) SS (sK1_o G) hK1 hK1.1.1 (sX0_weigh l G (sK1 G) (sK1_o G) (fun U h => h.1) ad _ si sa rn (xs (i + 1)) nd hs1 h6 (xs (i + 2))) (cwV 2 hts (lw_V q262 q263 q264 q57 q265) rfl rfl rfl (by decide +kernel) ⟨Nat.le_of_ble_eq_true rfl, Nat.le_of_ble_eq_true rfl⟩) hN hS sPic_0 rfl rfl hl.1 rfl (Nat.le_of_ble_eq_true rfl) dL_law_288 ⟨by first | omega | (show _ ≤ 705765; omega), by first | omega | (show _ ≤ 6954232; omega)⟩ (fun rv ad' c' H locs hv hN hS => ?_)
  obtain ⟨rfl, e0, ez, x', si', sa', rn', rfl, hnx⟩ := op_weigh rfl hR (xs (i + 1)) (xs (i + 2)) hv
  refine W.eq (g2 := F0 m 291 ls (_ :: _)) rfl ?_
  have hl : lv_has ls 4 [(3, .int (nI i)), (2, .ref (ad' 50)), (1, .ref (ad' 0)), (0, .ref b)] := by rw [ez 50 (by decide) (by decide), e0]; exact hl
  refine lv_aload_n hx hb dL_law_291 rfl (lv_at hl 1 rfl) ?_
  refine lw_arg F hS hl hi hL 1 (by decide) (by decide) dL_law_292 dL_law_293 dL_law_294 dL_law_295 dL_law_296 ?_
  refine lw_arg F hS hl hi hL 2 (by decide) (by decide) dL_law_297 dL_law_298 dL_law_299 dL_law_300 dL_law_301 ?_
  refine n_callV (C := RX1) (As := [.int (xs (i + 1)), .int (xs (i + 2))]) (b := 50) SS (nK_o G) hK1.1.1 hK1.1.1 (mX1_weigh l G ad' _ fi fa (xs (i + 1)) (xs (i + 2)) nd hf5 h6) (cwV 2 hts (lw_V q1264 q1265 q1266 q61 q1267) rfl rfl rfl (by decide +kernel) ⟨Nat.le_of_ble_eq_true rfl, Nat.le_of_ble_eq_true rfl⟩) hN hS mPic_o rfl rfl hl.1 rfl (Nat.le_of_ble_eq_true rfl) dL_law_302 ⟨by first | omega | (show _ ≤ 705765; omega), by first | omega | (show _ ≤ 6954232; omega)⟩ (fun rv ad2 c2 H locs hv hN hS => ?_)
  obtain ⟨fi', fa', rfl, rfl, hv1, hm⟩ := hv
  subst hv1
  refine W.eq (g2 := F0 m 305 ls (_ :: _)) rfl ?_
  refine lv_icmp_eq (tgt := 1230) hx hb dL_law_305 (by decide) (fun _ => ?_) (fun z => absurd rfl z)
  refine W.widen (k := cells + 14) (n := slots + 2005) (by omega) (by omega) ?_
  exact kk _ _ _ _ e0 (ez 50 (by decide) (by decide)) (hnx _ _ hm) hN hS
set_option maxHeartbeats 1000000 in
set_option maxRecDepth 100000 in
theorem lw_a_storeys (F : lwF p l m c s b L xs G) (hS : nS G s H locs) (hl : lv_has ls 4 [(3, .int (nI i)), (2, .ref (ad 50)), (1, .ref (ad 0)), (0, .ref b)]) (hi : i + 6 ≤ L) (hL : L ≤ 384) (hN : nOk G nCl ad c0 H) (hI : lwI G ad c0) (hc : cells + 14 ≤ 705765 ∧ slots + 2005 ≤ 6954232) (kk : lwK p l e s m below meth c b G ad cells slots Q ls) : W p l e room_1 s m #[.ref b] below meth c H locs cells slots Q (F0 m 310 ls []) := by
  obtain ⟨y, si, fi, sa, fa, rn, dr, nd, np, nr, rfl, hR⟩ := hI
  obtain ⟨h1, h2, h3, h8, h6, hs1, hf5, hf6, hf22, hf1, hf0, h17, htd, hdn, hrw⟩ := id hR
  obtain ⟨SS, hX, hbG, hK1, hfl⟩ := id F
  obtain ⟨hx, hb, hml, hown, hts⟩ := id SS
  refine lv_aload_n hx hb dL_law_310 rfl (lv_at hl 2 rfl) ?_
  refine lw_arg F hS hl hi hL 1 (by decide) (by decide) dL_law_311 dL_law_312 dL_law_313 dL_law_314 dL_law_315 ?_
  refine lw_arg F hS hl hi hL 2 (by decide) (by decide) dL_law_316 dL_law_317 dL_law_318 dL_law_319 dL_law_320 ?_
  refine n_callV (C := RX0) (As := [.int (xs (i + 1)), .int (xs (i + 2))]) (b := 0) SS (sK1_o G) hK1 hK1.1.1 (sX0_storeys l G (sK1 G) (sK1_o G) (fun U h => h.1) ad _ si sa rn (xs (i + 1)) (xs (i + 2)) np (fa 8) dr (fa 10) h1 nd hs1 h6) (cwV 2 hts (lw_V q267 q268 q269 q57 q270) rfl rfl rfl (by decide +kernel) ⟨Nat.le_of_ble_eq_true rfl, Nat.le_of_ble_eq_true rfl⟩) hN hS sPic_0 rfl rfl hl.1 rfl (Nat.le_of_ble_eq_true rfl) dL_law_321 ⟨by first | omega | (show _ ≤ 705765; omega), by first | omega | (show _ ≤ 6954232; omega)⟩ (fun rv ad' c' H locs hv hN hS => ?_)
  obtain ⟨rfl, e0, ez, x', si', sa', rn', rfl, hnx⟩ := op_storeys rfl hR (xs (i + 1)) (xs (i + 2)) hv
  refine W.eq (g2 := F0 m 324 ls (_ :: _)) rfl ?_
  have hl : lv_has ls 4 [(3, .int (nI i)), (2, .ref (ad' 50)), (1, .ref (ad' 0)), (0, .ref b)] := by rw [ez 50 (by decide) (by decide), e0]; exact hl
  refine lv_aload_n hx hb dL_law_324 rfl (lv_at hl 1 rfl) ?_
  refine lw_arg F hS hl hi hL 1 (by decide) (by decide) dL_law_325 dL_law_326 dL_law_327 dL_law_328 dL_law_329 ?_
  refine lw_arg F hS hl hi hL 2 (by decide) (by decide) dL_law_330 dL_law_331 dL_law_332 dL_law_333 dL_law_334 ?_
  refine n_callV (C := RX1) (As := [.int (xs (i + 1)), .int (xs (i + 2))]) (b := 50) SS (nK_o G) hK1.1.1 hK1.1.1 (mX1_storeys l G ad' _ fi fa (xs (i + 1)) (xs (i + 2)) nd hf5 h6 np hf6 h1.1) (cwV 2 hts (lw_V q1268 q1269 q1270 q61 q1271) rfl rfl rfl (by decide +kernel) ⟨Nat.le_of_ble_eq_true rfl, Nat.le_of_ble_eq_true rfl⟩) hN hS mPic_o rfl rfl hl.1 rfl (Nat.le_of_ble_eq_true rfl) dL_law_335 ⟨by first | omega | (show _ ≤ 705765; omega), by first | omega | (show _ ≤ 6954232; omega)⟩ (fun rv ad2 c2 H locs hv hN hS => ?_)
  obtain ⟨fi', fa', rfl, rfl, hv1, hm⟩ := hv
  subst hv1
  refine W.eq (g2 := F0 m 338 ls (_ :: _)) rfl ?_
  refine lv_icmp_eq (tgt := 1230) hx hb dL_law_338 (by decide) (fun _ => ?_) (fun z => absurd rfl z)
  refine W.widen (k := cells + 14) (n := slots + 2005) (by omega) (by omega) ?_
  exact kk _ _ _ _ e0 (ez 50 (by decide) (by decide)) (hnx _ _ hm) hN hS
set_option maxHeartbeats 1000000 in
set_option maxRecDepth 100000 in
theorem lw_a_say (F : lwF p l m c s b L xs G) (hS : nS G s H locs) (hl : lv_has ls 4 [(3, .int (nI i)), (2, .ref (ad 50)), (1, .ref (ad 0)), (0, .ref b)]) (hi : i + 6 ≤ L) (hL : L ≤ 384) (hN : nOk G nCl ad c0 H) (hI : lwI G ad c0) (hc : cells + 14 ≤ 705765 ∧ slots + 2005 ≤ 6954232) (kk : lwK p l e s m below meth c b G ad cells slots Q ls) : W p l e room_1 s m #[.ref b] below meth c H locs cells slots Q (F0 m 343 ls []) := by
  obtain ⟨y, si, fi, sa, fa, rn, dr, nd, np, nr, rfl, hR⟩ := hI
  obtain ⟨h1, h2, h3, h8, h6, hs1, hf5, hf6, hf22, hf1, hf0, h17, htd, hdn, hrw⟩ := id hR
  obtain ⟨SS, hX, hbG, hK1, hfl⟩ := id F
  obtain ⟨hx, hb, hml, hown, hts⟩ := id SS
  refine lv_aload_n hx hb dL_law_343 rfl (lv_at hl 2 rfl) ?_
  refine lw_arg F hS hl hi hL 1 (by decide) (by decide) dL_law_344 dL_law_345 dL_law_346 dL_law_347 dL_law_348 ?_
  refine lw_arg F hS hl hi hL 2 (by decide) (by decide) dL_law_349 dL_law_350 dL_law_351 dL_law_352 dL_law_353 ?_
  refine n_callV (C := RX0) (As := [.int (xs (i + 1)), .int (xs (i + 2))]) (b := 0) SS (sK1_o G) hK1 hK1.1.1 (sX0_say l G (sK1 G) (sK1_o G) (fun U h => h.1) ad _ si sa rn (xs (i + 1)) (xs (i + 2)) np (fa 8) dr (fa 10) h1 nd hs1 h6) (cwV 2 hts (lw_V q271 q272 q273 q57 q274) rfl rfl rfl (by decide +kernel) ⟨Nat.le_of_ble_eq_true rfl, Nat.le_of_ble_eq_true rfl⟩) hN hS sPic_0 rfl rfl hl.1 rfl (Nat.le_of_ble_eq_true rfl) dL_law_354 ⟨by first | omega | (show _ ≤ 705765; omega), by first | omega | (show _ ≤ 6954232; omega)⟩ (fun rv ad' c' H locs hv hN hS => ?_)
  obtain ⟨rfl, e0, ez, x', si', sa', rn', rfl, hnx⟩ := op_say rfl hR (xs (i + 1)) (xs (i + 2)) hv
  refine W.eq (g2 := F0 m 357 ls (_ :: _)) rfl ?_
  have hl : lv_has ls 4 [(3, .int (nI i)), (2, .ref (ad' 50)), (1, .ref (ad' 0)), (0, .ref b)] := by rw [ez 50 (by decide) (by decide), e0]; exact hl
  refine lv_aload_n hx hb dL_law_357 rfl (lv_at hl 1 rfl) ?_
  refine lw_arg F hS hl hi hL 1 (by decide) (by decide) dL_law_358 dL_law_359 dL_law_360 dL_law_361 dL_law_362 ?_
  refine lw_arg F hS hl hi hL 2 (by decide) (by decide) dL_law_363 dL_law_364 dL_law_365 dL_law_366 dL_law_367 ?_
  refine n_callV (C := RX1) (As := [.int (xs (i + 1)), .int (xs (i + 2))]) (b := 50) SS (nK_o G) hK1.1.1 hK1.1.1 (mX1_say l G ad' _ fi fa (xs (i + 1)) (xs (i + 2)) nd hf5 h6 np hf6 h1.1) (cwV 2 hts (lw_V q1272 q1273 q1274 q61 q1275) rfl rfl rfl (by decide +kernel) ⟨Nat.le_of_ble_eq_true rfl, Nat.le_of_ble_eq_true rfl⟩) hN hS mPic_o rfl rfl hl.1 rfl (Nat.le_of_ble_eq_true rfl) dL_law_368 ⟨by first | omega | (show _ ≤ 705765; omega), by first | omega | (show _ ≤ 6954232; omega)⟩ (fun rv ad2 c2 H locs hv hN hS => ?_)
  obtain ⟨fi', fa', rfl, rfl, hv1, hm⟩ := hv
  subst hv1
  refine W.eq (g2 := F0 m 371 ls (_ :: _)) rfl ?_
  refine lv_icmp_eq (tgt := 1230) hx hb dL_law_371 (by decide) (fun _ => ?_) (fun z => absurd rfl z)
  refine W.widen (k := cells + 14) (n := slots + 2005) (by omega) (by omega) ?_
  exact kk _ _ _ _ e0 (ez 50 (by decide) (by decide)) (hnx _ _ hm) hN hS
set_option maxHeartbeats 1000000 in
set_option maxRecDepth 100000 in
theorem lw_a_hush (F : lwF p l m c s b L xs G) (hS : nS G s H locs) (hl : lv_has ls 4 [(3, .int (nI i)), (2, .ref (ad 50)), (1, .ref (ad 0)), (0, .ref b)]) (hi : i + 6 ≤ L) (hL : L ≤ 384) (hN : nOk G nCl ad c0 H) (hI : lwI G ad c0) (hc : cells + 14 ≤ 705765 ∧ slots + 2005 ≤ 6954232) (kk : lwK p l e s m below meth c b G ad cells slots Q ls) : W p l e room_1 s m #[.ref b] below meth c H locs cells slots Q (F0 m 376 ls []) := by
  obtain ⟨y, si, fi, sa, fa, rn, dr, nd, np, nr, rfl, hR⟩ := hI
  obtain ⟨h1, h2, h3, h8, h6, hs1, hf5, hf6, hf22, hf1, hf0, h17, htd, hdn, hrw⟩ := id hR
  obtain ⟨SS, hX, hbG, hK1, hfl⟩ := id F
  obtain ⟨hx, hb, hml, hown, hts⟩ := id SS
  refine lv_aload_n hx hb dL_law_376 rfl (lv_at hl 2 rfl) ?_
  refine lw_arg F hS hl hi hL 1 (by decide) (by decide) dL_law_377 dL_law_378 dL_law_379 dL_law_380 dL_law_381 ?_
  refine n_callV (C := RX0) (As := [.int (xs (i + 1))]) (b := 0) SS (sK1_o G) hK1 hK1.1.1 (sX0_hush l G (sK1 G) (sK1_o G) (fun U h => h.1) ad _ si sa rn (xs (i + 1)) np (fa 8) dr (fa 10) h1 nd hs1 h6) (cwV 1 hts (lw_V q283 q284 q285 q57 q286) rfl rfl rfl (by decide +kernel) ⟨Nat.le_of_ble_eq_true rfl, Nat.le_of_ble_eq_true rfl⟩) hN hS sPic_0 rfl rfl hl.1 rfl (Nat.le_of_ble_eq_true rfl) dL_law_382 ⟨by first | omega | (show _ ≤ 705765; omega), by first | omega | (show _ ≤ 6954232; omega)⟩ (fun rv ad' c' H locs hv hN hS => ?_)
  obtain ⟨rfl, e0, ez, x', si', sa', rn', rfl, hnx⟩ := op_hush rfl hR (xs (i + 1)) hv
  refine W.eq (g2 := F0 m 385 ls (_ :: _)) rfl ?_
  have hl : lv_has ls 4 [(3, .int (nI i)), (2, .ref (ad' 50)), (1, .ref (ad' 0)), (0, .ref b)] := by rw [ez 50 (by decide) (by decide), e0]; exact hl
  refine lv_aload_n hx hb dL_law_385 rfl (lv_at hl 1 rfl) ?_
  refine lw_arg F hS hl hi hL 1 (by decide) (by decide) dL_law_386 dL_law_387 dL_law_388 dL_law_389 dL_law_390 ?_
  refine n_callV (C := RX1) (As := [.int (xs (i + 1))]) (b := 50) SS (nK_o G) hK1.1.1 hK1.1.1 (mX1_hush l G ad' _ fi fa (xs (i + 1)) nd hf5 h6 np hf6 h1.1) (cwV 1 hts (lw_V q1288 q1289 q1290 q61 q1291) rfl rfl rfl (by decide +kernel) ⟨Nat.le_of_ble_eq_true rfl, Nat.le_of_ble_eq_true rfl⟩) hN hS mPic_o rfl rfl hl.1 rfl (Nat.le_of_ble_eq_true rfl) dL_law_391 ⟨by first | omega | (show _ ≤ 705765; omega), by first | omega | (show _ ≤ 6954232; omega)⟩ (fun rv ad2 c2 H locs hv hN hS => ?_)
  obtain ⟨fi', fa', rfl, rfl, hv1, hm⟩ := hv
  subst hv1
  refine W.eq (g2 := F0 m 394 ls (_ :: _)) rfl ?_
  refine lv_icmp_eq (tgt := 1230) hx hb dL_law_394 (by decide) (fun _ => ?_) (fun z => absurd rfl z)
  refine W.widen (k := cells + 14) (n := slots + 2005) (by omega) (by omega) ?_
  exact kk _ _ _ _ e0 (ez 50 (by decide) (by decide)) (hnx _ _ hm) hN hS
set_option maxHeartbeats 1000000 in
set_option maxRecDepth 100000 in
theorem lw_a_landing (F : lwF p l m c s b L xs G) (hS : nS G s H locs) (hl : lv_has ls 4 [(3, .int (nI i)), (2, .ref (ad 50)), (1, .ref (ad 0)), (0, .ref b)]) (hi : i + 6 ≤ L) (hL : L ≤ 384) (hN : nOk G nCl ad c0 H) (hI : lwI G ad c0) (hc : cells + 14 ≤ 705765 ∧ slots + 2005 ≤ 6954232) (kk : lwK p l e s m below meth c b G ad cells slots Q ls) : W p l e room_1 s m #[.ref b] below meth c H locs cells slots Q (F0 m 399 ls []) := by
  obtain ⟨y, si, fi, sa, fa, rn, dr, nd, np, nr, rfl, hR⟩ := hI
  obtain ⟨h1, h2, h3, h8, h6, hs1, hf5, hf6, hf22, hf1, hf0, h17, htd, hdn, hrw⟩ := id hR
  obtain ⟨SS, hX, hbG, hK1, hfl⟩ := id F
  obtain ⟨hx, hb, hml, hown, hts⟩ := id SS
  refine lv_aload_n hx hb dL_law_399 rfl (lv_at hl 2 rfl) ?_
  refine lw_arg F hS hl hi hL 1 (by decide) (by decide) dL_law_400 dL_law_401 dL_law_402 dL_law_403 dL_law_404 ?_
  refine n_callV (C := RX0) (As := [.int (xs (i + 1))]) (b := 0) SS (sK1_o G) hK1 hK1.1.1 (sX0_landing l G (sK1 G) (sK1_o G) (fun U h => h.1) ad _ si sa rn (xs (i + 1)) np (fa 8) dr (fa 10) h1 nd hs1 h6) (cwV 1 hts (lw_V q287 q288 q289 q57 q290) rfl rfl rfl (by decide +kernel) ⟨Nat.le_of_ble_eq_true rfl, Nat.le_of_ble_eq_true rfl⟩) hN hS sPic_0 rfl rfl hl.1 rfl (Nat.le_of_ble_eq_true rfl) dL_law_405 ⟨by first | omega | (show _ ≤ 705765; omega), by first | omega | (show _ ≤ 6954232; omega)⟩ (fun rv ad' c' H locs hv hN hS => ?_)
  obtain ⟨rfl, e0, ez, x', si', sa', rn', rfl, hnx⟩ := op_landing rfl hR (xs (i + 1)) hv
  refine W.eq (g2 := F0 m 408 ls (_ :: _)) rfl ?_
  have hl : lv_has ls 4 [(3, .int (nI i)), (2, .ref (ad' 50)), (1, .ref (ad' 0)), (0, .ref b)] := by rw [ez 50 (by decide) (by decide), e0]; exact hl
  refine lv_aload_n hx hb dL_law_408 rfl (lv_at hl 1 rfl) ?_
  refine lw_arg F hS hl hi hL 1 (by decide) (by decide) dL_law_409 dL_law_410 dL_law_411 dL_law_412 dL_law_413 ?_
  refine n_callV (C := RX1) (As := [.int (xs (i + 1))]) (b := 50) SS (nK_o G) hK1.1.1 hK1.1.1 (mX1_landing l G ad' _ fi fa (xs (i + 1)) nd hf5 h6 np hf6 h1.1) (cwV 1 hts (lw_V q1292 q1293 q1294 q61 q1295) rfl rfl rfl (by decide +kernel) ⟨Nat.le_of_ble_eq_true rfl, Nat.le_of_ble_eq_true rfl⟩) hN hS mPic_o rfl rfl hl.1 rfl (Nat.le_of_ble_eq_true rfl) dL_law_414 ⟨by first | omega | (show _ ≤ 705765; omega), by first | omega | (show _ ≤ 6954232; omega)⟩ (fun rv ad2 c2 H locs hv hN hS => ?_)
  obtain ⟨fi', fa', rfl, rfl, hv1, hm⟩ := hv
  subst hv1
  refine W.eq (g2 := F0 m 417 ls (_ :: _)) rfl ?_
  refine lv_icmp_eq (tgt := 1230) hx hb dL_law_417 (by decide) (fun _ => ?_) (fun z => absurd rfl z)
  refine W.widen (k := cells + 14) (n := slots + 2005) (by omega) (by omega) ?_
  exact kk _ _ _ _ e0 (ez 50 (by decide) (by decide)) (hnx _ _ hm) hN hS
set_option maxHeartbeats 1000000 in
set_option maxRecDepth 100000 in
theorem lw_a_days (F : lwF p l m c s b L xs G) (hS : nS G s H locs) (hl : lv_has ls 4 [(3, .int (nI i)), (2, .ref (ad 50)), (1, .ref (ad 0)), (0, .ref b)]) (hi : i + 6 ≤ L) (hL : L ≤ 384) (hN : nOk G nCl ad c0 H) (hI : lwI G ad c0) (hc : cells + 14 ≤ 705765 ∧ slots + 2005 ≤ 6954232) (kk : lwK p l e s m below meth c b G ad cells slots Q ls) : W p l e room_1 s m #[.ref b] below meth c H locs cells slots Q (F0 m 422 ls []) := by
  obtain ⟨y, si, fi, sa, fa, rn, dr, nd, np, nr, rfl, hR⟩ := hI
  obtain ⟨h1, h2, h3, h8, h6, hs1, hf5, hf6, hf22, hf1, hf0, h17, htd, hdn, hrw⟩ := id hR
  obtain ⟨SS, hX, hbG, hK1, hfl⟩ := id F
  obtain ⟨hx, hb, hml, hown, hts⟩ := id SS
  refine lv_aload_n hx hb dL_law_422 rfl (lv_at hl 2 rfl) ?_
  refine lw_arg F hS hl hi hL 1 (by decide) (by decide) dL_law_423 dL_law_424 dL_law_425 dL_law_426 dL_law_427 ?_
  refine lw_arg F hS hl hi hL 2 (by decide) (by decide) dL_law_428 dL_law_429 dL_law_430 dL_law_431 dL_law_432 ?_
  refine lw_arg F hS hl hi hL 3 (by decide) (by decide) dL_law_433 dL_law_434 dL_law_435 dL_law_436 dL_law_437 ?_
  refine lw_arg F hS hl hi hL 4 (by decide) (by decide) dL_law_438 dL_law_439 dL_law_440 dL_law_441 dL_law_442 ?_
  refine lw_arg F hS hl hi hL 5 (by decide) (by decide) dL_law_443 dL_law_444 dL_law_445 dL_law_446 dL_law_447 ?_
  refine n_callV (C := RX0) (As := [.int (xs (i + 1)), .int (xs (i + 2)), .int (xs (i + 3)), .int (xs (i + 4)), .int (xs (i + 5))]) (b := 0) SS (sK1_o G) hK1 hK1.1.1 (sX0_days l G (sK1 G) (sK1_o G) (fun U h => h.1) (fun U h => h.2) hfl ad _ si sa rn (fa 2) (fa 3) (fa 4) h3 np (fa 8) dr (fa 10) h1 nd hs1 h6 (xs (i + 1)) (xs (i + 2)) (xs (i + 3)) (xs (i + 4)) (xs (i + 5)) h8) (cwV 5 hts (lw_V q873 q874 q875 q57 q876) rfl rfl rfl (by decide +kernel) ⟨Nat.le_of_ble_eq_true rfl, Nat.le_of_ble_eq_true rfl⟩) hN hS sPic_0 rfl rfl hl.1 rfl (Nat.le_of_ble_eq_true rfl) dL_law_448 ⟨by first | omega | (show _ ≤ 705765; omega), by first | omega | (show _ ≤ 6954232; omega)⟩ (fun rv ad' c' H locs hv hN hS => ?_)
  obtain ⟨rfl, e0, ez, x', si', sa', rn', rfl, hnx⟩ := op_days rfl hR (xs (i + 1)) (xs (i + 2)) (xs (i + 3)) (xs (i + 4)) (xs (i + 5)) hv
  refine W.eq (g2 := F0 m 451 ls (_ :: _)) rfl ?_
  have hl : lv_has ls 4 [(3, .int (nI i)), (2, .ref (ad' 50)), (1, .ref (ad' 0)), (0, .ref b)] := by rw [ez 50 (by decide) (by decide), e0]; exact hl
  refine lv_aload_n hx hb dL_law_451 rfl (lv_at hl 1 rfl) ?_
  refine lw_arg F hS hl hi hL 1 (by decide) (by decide) dL_law_452 dL_law_453 dL_law_454 dL_law_455 dL_law_456 ?_
  refine lw_arg F hS hl hi hL 2 (by decide) (by decide) dL_law_457 dL_law_458 dL_law_459 dL_law_460 dL_law_461 ?_
  refine lw_arg F hS hl hi hL 3 (by decide) (by decide) dL_law_462 dL_law_463 dL_law_464 dL_law_465 dL_law_466 ?_
  refine lw_arg F hS hl hi hL 4 (by decide) (by decide) dL_law_467 dL_law_468 dL_law_469 dL_law_470 dL_law_471 ?_
  refine lw_arg F hS hl hi hL 5 (by decide) (by decide) dL_law_472 dL_law_473 dL_law_474 dL_law_475 dL_law_476 ?_
  refine n_callV (C := RX1) (As := [.int (xs (i + 1)), .int (xs (i + 2)), .int (xs (i + 3)), .int (xs (i + 4)), .int (xs (i + 5))]) (b := 50) SS (nK_o G) hK1.1.1 hK1.1.1 (mX1_days l G ad' _ fi fa (xs (i + 1)) (xs (i + 2)) (xs (i + 3)) (xs (i + 4)) (xs (i + 5)) hR.SL nd hf5 h6 np hf6 h1.1) (cwV 5 hts (lw_V q1296 q1297 q1298 q61 q1299) rfl rfl rfl (by decide +kernel) ⟨Nat.le_of_ble_eq_true rfl, Nat.le_of_ble_eq_true rfl⟩) hN hS mPic_o rfl rfl hl.1 rfl (Nat.le_of_ble_eq_true rfl) dL_law_477 ⟨by first | omega | (show _ ≤ 705765; omega), by first | omega | (show _ ≤ 6954232; omega)⟩ (fun rv ad2 c2 H locs hv hN hS => ?_)
  obtain ⟨fi', fa', rfl, rfl, hv1, hm⟩ := hv
  subst hv1
  refine W.eq (g2 := F0 m 480 ls (_ :: _)) rfl ?_
  refine lv_icmp_eq (tgt := 1230) hx hb dL_law_480 (by decide) (fun _ => ?_) (fun z => absurd rfl z)
  refine W.widen (k := cells + 14) (n := slots + 2005) (by omega) (by omega) ?_
  exact kk _ _ _ _ e0 (ez 50 (by decide) (by decide)) (hnx _ _ hm) hN hS
set_option maxHeartbeats 1000000 in
set_option maxRecDepth 100000 in
theorem lw_a_way (F : lwF p l m c s b L xs G) (hS : nS G s H locs) (hl : lv_has ls 4 [(3, .int (nI i)), (2, .ref (ad 50)), (1, .ref (ad 0)), (0, .ref b)]) (hi : i + 6 ≤ L) (hL : L ≤ 384) (hN : nOk G nCl ad c0 H) (hI : lwI G ad c0) (hc : cells + 14 ≤ 705765 ∧ slots + 2005 ≤ 6954232) (kk : lwK p l e s m below meth c b G ad cells slots Q ls) : W p l e room_1 s m #[.ref b] below meth c H locs cells slots Q (F0 m 485 ls []) := by
  obtain ⟨y, si, fi, sa, fa, rn, dr, nd, np, nr, rfl, hR⟩ := hI
  obtain ⟨h1, h2, h3, h8, h6, hs1, hf5, hf6, hf22, hf1, hf0, h17, htd, hdn, hrw⟩ := id hR
  obtain ⟨SS, hX, hbG, hK1, hfl⟩ := id F
  obtain ⟨hx, hb, hml, hown, hts⟩ := id SS
  refine lv_aload_n hx hb dL_law_485 rfl (lv_at hl 2 rfl) ?_
  refine lw_arg F hS hl hi hL 1 (by decide) (by decide) dL_law_486 dL_law_487 dL_law_488 dL_law_489 dL_law_490 ?_
  refine lw_arg F hS hl hi hL 2 (by decide) (by decide) dL_law_491 dL_law_492 dL_law_493 dL_law_494 dL_law_495 ?_
  refine n_callV (C := RX0) (As := [.int (xs (i + 1)), .int (xs (i + 2))]) (b := 0) SS (sK1_o G) hK1 hK1.1.1 (sX0_way l G (sK1 G) (sK1_o G) (fun U h => h.1) ad _ si sa rn (xs (i + 1)) (xs (i + 2)) np (fa 8) dr (fa 10) h1 nd hs1 h6) (cwV 2 hts (lw_V q304 q305 q306 q57 q307) rfl rfl rfl (by decide +kernel) ⟨Nat.le_of_ble_eq_true rfl, Nat.le_of_ble_eq_true rfl⟩) hN hS sPic_0 rfl rfl hl.1 rfl (Nat.le_of_ble_eq_true rfl) dL_law_496 ⟨by first | omega | (show _ ≤ 705765; omega), by first | omega | (show _ ≤ 6954232; omega)⟩ (fun rv ad' c' H locs hv hN hS => ?_)
  obtain ⟨rfl, e0, ez, x', si', sa', rn', rfl, hnx⟩ := op_way rfl hR (xs (i + 1)) (xs (i + 2)) hv
  refine W.eq (g2 := F0 m 499 ls (_ :: _)) rfl ?_
  have hl : lv_has ls 4 [(3, .int (nI i)), (2, .ref (ad' 50)), (1, .ref (ad' 0)), (0, .ref b)] := by rw [ez 50 (by decide) (by decide), e0]; exact hl
  refine lv_aload_n hx hb dL_law_499 rfl (lv_at hl 1 rfl) ?_
  refine lw_arg F hS hl hi hL 1 (by decide) (by decide) dL_law_500 dL_law_501 dL_law_502 dL_law_503 dL_law_504 ?_
  refine lw_arg F hS hl hi hL 2 (by decide) (by decide) dL_law_505 dL_law_506 dL_law_507 dL_law_508 dL_law_509 ?_
  refine n_callV (C := RX1) (As := [.int (xs (i + 1)), .int (xs (i + 2))]) (b := 50) SS (nK_o G) hK1.1.1 hK1.1.1 (mX1_way l G ad' _ fi fa (xs (i + 1)) (xs (i + 2)) nd hf5 h6 np hf6 h1.1) (cwV 2 hts (lw_V q1315 q1316 q1317 q61 q1318) rfl rfl rfl (by decide +kernel) ⟨Nat.le_of_ble_eq_true rfl, Nat.le_of_ble_eq_true rfl⟩) hN hS mPic_o rfl rfl hl.1 rfl (Nat.le_of_ble_eq_true rfl) dL_law_510 ⟨by first | omega | (show _ ≤ 705765; omega), by first | omega | (show _ ≤ 6954232; omega)⟩ (fun rv ad2 c2 H locs hv hN hS => ?_)
  obtain ⟨fi', fa', rfl, rfl, hv1, hm⟩ := hv
  subst hv1
  refine W.eq (g2 := F0 m 513 ls (_ :: _)) rfl ?_
  refine lv_icmp_eq (tgt := 1230) hx hb dL_law_513 (by decide) (fun _ => ?_) (fun z => absurd rfl z)
  refine W.widen (k := cells + 14) (n := slots + 2005) (by omega) (by omega) ?_
  exact kk _ _ _ _ e0 (ez 50 (by decide) (by decide)) (hnx _ _ hm) hN hS
set_option maxHeartbeats 1000000 in
set_option maxRecDepth 100000 in
theorem lw_a_kept (F : lwF p l m c s b L xs G) (hS : nS G s H locs) (hl : lv_has ls 4 [(3, .int (nI i)), (2, .ref (ad 50)), (1, .ref (ad 0)), (0, .ref b)]) (hi : i + 6 ≤ L) (hL : L ≤ 384) (hN : nOk G nCl ad c0 H) (hI : lwI G ad c0) (hc : cells + 14 ≤ 705765 ∧ slots + 2005 ≤ 6954232) (kk : lwK p l e s m below meth c b G ad cells slots Q ls) : W p l e room_1 s m #[.ref b] below meth c H locs cells slots Q (F0 m 518 ls []) := by
  obtain ⟨y, si, fi, sa, fa, rn, dr, nd, np, nr, rfl, hR⟩ := hI
  obtain ⟨h1, h2, h3, h8, h6, hs1, hf5, hf6, hf22, hf1, hf0, h17, htd, hdn, hrw⟩ := id hR
  obtain ⟨SS, hX, hbG, hK1, hfl⟩ := id F
  obtain ⟨hx, hb, hml, hown, hts⟩ := id SS
  refine lv_aload_n hx hb dL_law_518 rfl (lv_at hl 2 rfl) ?_
  refine lw_arg F hS hl hi hL 1 (by decide) (by decide) dL_law_519 dL_law_520 dL_law_521 dL_law_522 dL_law_523 ?_
  refine lw_arg F hS hl hi hL 2 (by decide) (by decide) dL_law_524 dL_law_525 dL_law_526 dL_law_527 dL_law_528 ?_
  refine n_callV (C := RX0) (As := [.int (xs (i + 1)), .int (xs (i + 2))]) (b := 0) SS (sK1_o G) hK1 hK1.1.1 (sX0_kept l G (sK1 G) (sK1_o G) (fun U h => h.1) ad _ si sa rn (xs (i + 1)) (xs (i + 2)) np (fa 8) dr (fa 10) h1 nd hs1 h6) (cwV 2 hts (lw_V q314 q315 q316 q57 q317) rfl rfl rfl (by decide +kernel) ⟨Nat.le_of_ble_eq_true rfl, Nat.le_of_ble_eq_true rfl⟩) hN hS sPic_0 rfl rfl hl.1 rfl (Nat.le_of_ble_eq_true rfl) dL_law_529 ⟨by first | omega | (show _ ≤ 705765; omega), by first | omega | (show _ ≤ 6954232; omega)⟩ (fun rv ad' c' H locs hv hN hS => ?_)
  obtain ⟨rfl, e0, ez, x', si', sa', rn', rfl, hnx⟩ := op_kept rfl hR (xs (i + 1)) (xs (i + 2)) hv
  refine W.eq (g2 := F0 m 532 ls (_ :: _)) rfl ?_
  have hl : lv_has ls 4 [(3, .int (nI i)), (2, .ref (ad' 50)), (1, .ref (ad' 0)), (0, .ref b)] := by rw [ez 50 (by decide) (by decide), e0]; exact hl
  refine lv_aload_n hx hb dL_law_532 rfl (lv_at hl 1 rfl) ?_
  refine lw_arg F hS hl hi hL 1 (by decide) (by decide) dL_law_533 dL_law_534 dL_law_535 dL_law_536 dL_law_537 ?_
  refine lw_arg F hS hl hi hL 2 (by decide) (by decide) dL_law_538 dL_law_539 dL_law_540 dL_law_541 dL_law_542 ?_
  refine n_callV (C := RX1) (As := [.int (xs (i + 1)), .int (xs (i + 2))]) (b := 50) SS (nK_o G) hK1.1.1 hK1.1.1 (mX1_kept l G ad' _ fi fa (xs (i + 1)) (xs (i + 2)) nd hf5 h6 np hf6 h1.1) (cwV 2 hts (lw_V q1326 q1327 q1328 q61 q1329) rfl rfl rfl (by decide +kernel) ⟨Nat.le_of_ble_eq_true rfl, Nat.le_of_ble_eq_true rfl⟩) hN hS mPic_o rfl rfl hl.1 rfl (Nat.le_of_ble_eq_true rfl) dL_law_543 ⟨by first | omega | (show _ ≤ 705765; omega), by first | omega | (show _ ≤ 6954232; omega)⟩ (fun rv ad2 c2 H locs hv hN hS => ?_)
  obtain ⟨fi', fa', rfl, rfl, hv1, hm⟩ := hv
  subst hv1
  refine W.eq (g2 := F0 m 546 ls (_ :: _)) rfl ?_
  refine lv_icmp_eq (tgt := 1230) hx hb dL_law_546 (by decide) (fun _ => ?_) (fun z => absurd rfl z)
  refine W.widen (k := cells + 14) (n := slots + 2005) (by omega) (by omega) ?_
  exact kk _ _ _ _ e0 (ez 50 (by decide) (by decide)) (hnx _ _ hm) hN hS
set_option maxHeartbeats 1000000 in
set_option maxRecDepth 100000 in
theorem lw_a_roof (F : lwF p l m c s b L xs G) (hS : nS G s H locs) (hl : lv_has ls 4 [(3, .int (nI i)), (2, .ref (ad 50)), (1, .ref (ad 0)), (0, .ref b)]) (hi : i + 6 ≤ L) (hL : L ≤ 384) (hN : nOk G nCl ad c0 H) (hI : lwI G ad c0) (hc : cells + 14 ≤ 705765 ∧ slots + 2005 ≤ 6954232) (kk : lwK p l e s m below meth c b G ad cells slots Q ls) : W p l e room_1 s m #[.ref b] below meth c H locs cells slots Q (F0 m 551 ls []) := by
  obtain ⟨y, si, fi, sa, fa, rn, dr, nd, np, nr, rfl, hR⟩ := hI
  obtain ⟨h1, h2, h3, h8, h6, hs1, hf5, hf6, hf22, hf1, hf0, h17, htd, hdn, hrw⟩ := id hR
  obtain ⟨SS, hX, hbG, hK1, hfl⟩ := id F
  obtain ⟨hx, hb, hml, hown, hts⟩ := id SS
  refine lv_aload_n hx hb dL_law_551 rfl (lv_at hl 2 rfl) ?_
  refine lw_arg F hS hl hi hL 1 (by decide) (by decide) dL_law_552 dL_law_553 dL_law_554 dL_law_555 dL_law_556 ?_
  refine n_callV (C := RX0) (As := [.int (xs (i + 1))]) (b := 0) SS (sK1_o G) hK1 hK1.1.1 (sX0_roof l G (sK1 G) (sK1_o G) (fun U h => h.1) ad _ si sa rn (xs (i + 1)) np (fa 8) dr (fa 10) h1 nd hs1 h6) (cwV 1 hts (lw_V q318 q319 q320 q57 q321) rfl rfl rfl (by decide +kernel) ⟨Nat.le_of_ble_eq_true rfl, Nat.le_of_ble_eq_true rfl⟩) hN hS sPic_0 rfl rfl hl.1 rfl (Nat.le_of_ble_eq_true rfl) dL_law_557 ⟨by first | omega | (show _ ≤ 705765; omega), by first | omega | (show _ ≤ 6954232; omega)⟩ (fun rv ad' c' H locs hv hN hS => ?_)
  obtain ⟨rfl, e0, ez, x', si', sa', rn', rfl, hnx⟩ := op_roof rfl hR (xs (i + 1)) hv
  refine W.eq (g2 := F0 m 560 ls (_ :: _)) rfl ?_
  have hl : lv_has ls 4 [(3, .int (nI i)), (2, .ref (ad' 50)), (1, .ref (ad' 0)), (0, .ref b)] := by rw [ez 50 (by decide) (by decide), e0]; exact hl
  refine lv_aload_n hx hb dL_law_560 rfl (lv_at hl 1 rfl) ?_
  refine lw_arg F hS hl hi hL 1 (by decide) (by decide) dL_law_561 dL_law_562 dL_law_563 dL_law_564 dL_law_565 ?_
  refine n_callV (C := RX1) (As := [.int (xs (i + 1))]) (b := 50) SS (nK_o G) hK1.1.1 hK1.1.1 (mX1_roof l G ad' _ fi fa (xs (i + 1)) nd hf5 h6 np hf6 h1.1) (cwV 1 hts (lw_V q1330 q1331 q1332 q61 q1333) rfl rfl rfl (by decide +kernel) ⟨Nat.le_of_ble_eq_true rfl, Nat.le_of_ble_eq_true rfl⟩) hN hS mPic_o rfl rfl hl.1 rfl (Nat.le_of_ble_eq_true rfl) dL_law_566 ⟨by first | omega | (show _ ≤ 705765; omega), by first | omega | (show _ ≤ 6954232; omega)⟩ (fun rv ad2 c2 H locs hv hN hS => ?_)
  obtain ⟨fi', fa', rfl, rfl, hv1, hm⟩ := hv
  subst hv1
  refine W.eq (g2 := F0 m 569 ls (_ :: _)) rfl ?_
  refine lv_icmp_eq (tgt := 1230) hx hb dL_law_569 (by decide) (fun _ => ?_) (fun z => absurd rfl z)
  refine W.widen (k := cells + 14) (n := slots + 2005) (by omega) (by omega) ?_
  exact kk _ _ _ _ e0 (ez 50 (by decide) (by decide)) (hnx _ _ hm) hN hS
set_option maxHeartbeats 1000000 in
set_option maxRecDepth 100000 in
theorem lw_a_safe (F : lwF p l m c s b L xs G) (hS : nS G s H locs) (hl : lv_has ls 4 [(3, .int (nI i)), (2, .ref (ad 50)), (1, .ref (ad 0)), (0, .ref b)]) (hi : i + 6 ≤ L) (hL : L ≤ 384) (hN : nOk G nCl ad c0 H) (hI : lwI G ad c0) (hc : cells + 14 ≤ 705765 ∧ slots + 2005 ≤ 6954232) (kk : lwK p l e s m below meth c b G ad cells slots Q ls) : W p l e room_1 s m #[.ref b] below meth c H locs cells slots Q (F0 m 574 ls []) := by
  obtain ⟨y, si, fi, sa, fa, rn, dr, nd, np, nr, rfl, hR⟩ := hI
  obtain ⟨h1, h2, h3, h8, h6, hs1, hf5, hf6, hf22, hf1, hf0, h17, htd, hdn, hrw⟩ := id hR
  obtain ⟨SS, hX, hbG, hK1, hfl⟩ := id F
  obtain ⟨hx, hb, hml, hown, hts⟩ := id SS
  refine lv_aload_n hx hb dL_law_574 rfl (lv_at hl 2 rfl) ?_
  refine lw_arg F hS hl hi hL 1 (by decide) (by decide) dL_law_575 dL_law_576 dL_law_577 dL_law_578 dL_law_579 ?_
  refine n_callV (C := RX0) (As := [.int (xs (i + 1))]) (b := 0) SS (sK1_o G) hK1 hK1.1.1 (sX0_safe l G (sK1 G) (sK1_o G) (fun U h => h.1) ad _ si sa rn (xs (i + 1)) np (fa 8) dr (fa 10) h1 nd hs1 h6) (cwV 1 hts (lw_V q322 q323 q324 q57 q325) rfl rfl rfl (by decide +kernel) ⟨Nat.le_of_ble_eq_true rfl, Nat.le_of_ble_eq_true rfl⟩) hN hS sPic_0 rfl rfl hl.1 rfl (Nat.le_of_ble_eq_true rfl) dL_law_580 ⟨by first | omega | (show _ ≤ 705765; omega), by first | omega | (show _ ≤ 6954232; omega)⟩ (fun rv ad' c' H locs hv hN hS => ?_)
  obtain ⟨rfl, e0, ez, x', si', sa', rn', rfl, hnx⟩ := op_safe rfl hR (xs (i + 1)) hv
  refine W.eq (g2 := F0 m 583 ls (_ :: _)) rfl ?_
  have hl : lv_has ls 4 [(3, .int (nI i)), (2, .ref (ad' 50)), (1, .ref (ad' 0)), (0, .ref b)] := by rw [ez 50 (by decide) (by decide), e0]; exact hl
  refine lv_aload_n hx hb dL_law_583 rfl (lv_at hl 1 rfl) ?_
  refine lw_arg F hS hl hi hL 1 (by decide) (by decide) dL_law_584 dL_law_585 dL_law_586 dL_law_587 dL_law_588 ?_
  refine n_callV (C := RX1) (As := [.int (xs (i + 1))]) (b := 50) SS (nK_o G) hK1.1.1 hK1.1.1 (mX1_safe l G ad' _ fi fa (xs (i + 1)) nd hf5 h6 np hf6 h1.1) (cwV 1 hts (lw_V q1334 q1335 q1336 q61 q1337) rfl rfl rfl (by decide +kernel) ⟨Nat.le_of_ble_eq_true rfl, Nat.le_of_ble_eq_true rfl⟩) hN hS mPic_o rfl rfl hl.1 rfl (Nat.le_of_ble_eq_true rfl) dL_law_589 ⟨by first | omega | (show _ ≤ 705765; omega), by first | omega | (show _ ≤ 6954232; omega)⟩ (fun rv ad2 c2 H locs hv hN hS => ?_)
  obtain ⟨fi', fa', rfl, rfl, hv1, hm⟩ := hv
  subst hv1
  refine W.eq (g2 := F0 m 592 ls (_ :: _)) rfl ?_
  refine lv_icmp_eq (tgt := 1230) hx hb dL_law_592 (by decide) (fun _ => ?_) (fun z => absurd rfl z)
  refine W.widen (k := cells + 14) (n := slots + 2005) (by omega) (by omega) ?_
  exact kk _ _ _ _ e0 (ez 50 (by decide) (by decide)) (hnx _ _ hm) hN hS
set_option maxHeartbeats 1000000 in
set_option maxRecDepth 100000 in
theorem lw_a_reading (F : lwF p l m c s b L xs G) (hS : nS G s H locs) (hl : lv_has ls 4 [(3, .int (nI i)), (2, .ref (ad 50)), (1, .ref (ad 0)), (0, .ref b)]) (hi : i + 6 ≤ L) (hL : L ≤ 384) (hN : nOk G nCl ad c0 H) (hI : lwI G ad c0) (hc : cells + 14 ≤ 705765 ∧ slots + 2005 ≤ 6954232) (kk : lwK p l e s m below meth c b G ad cells slots Q ls) : W p l e room_1 s m #[.ref b] below meth c H locs cells slots Q (F0 m 597 ls []) := by
  obtain ⟨y, si, fi, sa, fa, rn, dr, nd, np, nr, rfl, hR⟩ := hI
  obtain ⟨h1, h2, h3, h8, h6, hs1, hf5, hf6, hf22, hf1, hf0, h17, htd, hdn, hrw⟩ := id hR
  obtain ⟨SS, hX, hbG, hK1, hfl⟩ := id F
  obtain ⟨hx, hb, hml, hown, hts⟩ := id SS
  refine lv_aload_n hx hb dL_law_597 rfl (lv_at hl 2 rfl) ?_
  refine lw_arg F hS hl hi hL 1 (by decide) (by decide) dL_law_598 dL_law_599 dL_law_600 dL_law_601 dL_law_602 ?_
  refine lw_arg F hS hl hi hL 2 (by decide) (by decide) dL_law_603 dL_law_604 dL_law_605 dL_law_606 dL_law_607 ?_
  refine n_callV (C := RX0) (As := [.int (xs (i + 1)), .int (xs (i + 2))]) (b := 0) SS (sK1_o G) hK1 hK1.1.1 (sX0_reading l G (sK1 G) (sK1_o G) (fun U h => h.1) ad _ si sa rn (xs (i + 1)) (xs (i + 2)) np (fa 8) dr (fa 10) h1 nr (fa 23) (fa 24) h2) (cwV 2 hts (lw_V q326 q327 q328 q57 q329) rfl rfl rfl (by decide +kernel) ⟨Nat.le_of_ble_eq_true rfl, Nat.le_of_ble_eq_true rfl⟩) hN hS sPic_0 rfl rfl hl.1 rfl (Nat.le_of_ble_eq_true rfl) dL_law_608 ⟨by first | omega | (show _ ≤ 705765; omega), by first | omega | (show _ ≤ 6954232; omega)⟩ (fun rv ad' c' H locs hv hN hS => ?_)
  obtain ⟨rfl, e0, ez, x', si', sa', rn', rfl, hnx⟩ := op_reading rfl hR (xs (i + 1)) (xs (i + 2)) hv
  refine W.eq (g2 := F0 m 611 ls (_ :: _)) rfl ?_
  have hl : lv_has ls 4 [(3, .int (nI i)), (2, .ref (ad' 50)), (1, .ref (ad' 0)), (0, .ref b)] := by rw [ez 50 (by decide) (by decide), e0]; exact hl
  refine lv_aload_n hx hb dL_law_611 rfl (lv_at hl 1 rfl) ?_
  refine lw_arg F hS hl hi hL 1 (by decide) (by decide) dL_law_612 dL_law_613 dL_law_614 dL_law_615 dL_law_616 ?_
  refine lw_arg F hS hl hi hL 2 (by decide) (by decide) dL_law_617 dL_law_618 dL_law_619 dL_law_620 dL_law_621 ?_
  refine n_callV (C := RX1) (As := [.int (xs (i + 1)), .int (xs (i + 2))]) (b := 50) SS (nK_o G) hK1.1.1 hK1.1.1 (mX1_reading l G ad' _ fi fa (xs (i + 1)) (xs (i + 2)) np hf6 h1.1 nr hf22 h2.1) (cwV 2 hts (lw_V q1338 q1339 q1340 q61 q1341) rfl rfl rfl (by decide +kernel) ⟨Nat.le_of_ble_eq_true rfl, Nat.le_of_ble_eq_true rfl⟩) hN hS mPic_o rfl rfl hl.1 rfl (Nat.le_of_ble_eq_true rfl) dL_law_622 ⟨by first | omega | (show _ ≤ 705765; omega), by first | omega | (show _ ≤ 6954232; omega)⟩ (fun rv ad2 c2 H locs hv hN hS => ?_)
  obtain ⟨fi', fa', rfl, rfl, hv1, hm⟩ := hv
  subst hv1
  refine W.eq (g2 := F0 m 625 ls (_ :: _)) rfl ?_
  refine lv_icmp_eq (tgt := 1230) hx hb dL_law_625 (by decide) (fun _ => ?_) (fun z => absurd rfl z)
  refine W.widen (k := cells + 14) (n := slots + 2005) (by omega) (by omega) ?_
  exact kk _ _ _ _ e0 (ez 50 (by decide) (by decide)) (hnx _ _ hm) hN hS
set_option maxHeartbeats 1000000 in
set_option maxRecDepth 100000 in
theorem lw_a_back (F : lwF p l m c s b L xs G) (hS : nS G s H locs) (hl : lv_has ls 4 [(3, .int (nI i)), (2, .ref (ad 50)), (1, .ref (ad 0)), (0, .ref b)]) (hi : i + 6 ≤ L) (hL : L ≤ 384) (hN : nOk G nCl ad c0 H) (hI : lwI G ad c0) (hc : cells + 14 ≤ 705765 ∧ slots + 2005 ≤ 6954232) (kk : lwK p l e s m below meth c b G ad cells slots Q ls) : W p l e room_1 s m #[.ref b] below meth c H locs cells slots Q (F0 m 630 ls []) := by
  obtain ⟨y, si, fi, sa, fa, rn, dr, nd, np, nr, rfl, hR⟩ := hI
  obtain ⟨h1, h2, h3, h8, h6, hs1, hf5, hf6, hf22, hf1, hf0, h17, htd, hdn, hrw⟩ := id hR
  obtain ⟨SS, hX, hbG, hK1, hfl⟩ := id F
  obtain ⟨hx, hb, hml, hown, hts⟩ := id SS
  refine lv_aload_n hx hb dL_law_630 rfl (lv_at hl 2 rfl) ?_
  refine lw_arg F hS hl hi hL 1 (by decide) (by decide) dL_law_631 dL_law_632 dL_law_633 dL_law_634 dL_law_635 ?_
  refine n_callV (C := RX0) (As := [.int (xs (i + 1))]) (b := 0) SS (sK1_o G) hK1 hK1.1.1 (sX0_back l G (sK1 G) (sK1_o G) (fun U h => h.1) ad _ si sa rn (xs (i + 1)) nr (fa 23) (fa 24) h2) (cwV 1 hts (lw_V q416 q417 q418 q57 q419) rfl rfl rfl (by decide +kernel) ⟨Nat.le_of_ble_eq_true rfl, Nat.le_of_ble_eq_true rfl⟩) hN hS sPic_0 rfl rfl hl.1 rfl (Nat.le_of_ble_eq_true rfl) dL_law_636 ⟨by first | omega | (show _ ≤ 705765; omega), by first | omega | (show _ ≤ 6954232; omega)⟩ (fun rv ad' c' H locs hv hN hS => ?_)
  obtain ⟨rfl, e0, ez, x', si', sa', rn', rfl, hnx⟩ := op_back rfl hR (xs (i + 1)) hv
  refine W.eq (g2 := F0 m 639 ls (_ :: _)) rfl ?_
  have hl : lv_has ls 4 [(3, .int (nI i)), (2, .ref (ad' 50)), (1, .ref (ad' 0)), (0, .ref b)] := by rw [ez 50 (by decide) (by decide), e0]; exact hl
  refine lv_aload_n hx hb dL_law_639 rfl (lv_at hl 1 rfl) ?_
  refine lw_arg F hS hl hi hL 1 (by decide) (by decide) dL_law_640 dL_law_641 dL_law_642 dL_law_643 dL_law_644 ?_
  refine n_callV (C := RX1) (As := [.int (xs (i + 1))]) (b := 50) SS (nK_o G) hK1.1.1 hK1.1.1 (mX1_back l G ad' _ fi fa (xs (i + 1)) nr hf22 h2.1) (cwV 1 hts (lw_V q1342 q1343 q1344 q61 q1345) rfl rfl rfl (by decide +kernel) ⟨Nat.le_of_ble_eq_true rfl, Nat.le_of_ble_eq_true rfl⟩) hN hS mPic_o rfl rfl hl.1 rfl (Nat.le_of_ble_eq_true rfl) dL_law_645 ⟨by first | omega | (show _ ≤ 705765; omega), by first | omega | (show _ ≤ 6954232; omega)⟩ (fun rv ad2 c2 H locs hv hN hS => ?_)
  obtain ⟨fi', fa', rfl, rfl, hv1, hm⟩ := hv
  subst hv1
  refine W.eq (g2 := F0 m 648 ls (_ :: _)) rfl ?_
  refine lv_icmp_eq (tgt := 1230) hx hb dL_law_648 (by decide) (fun _ => ?_) (fun z => absurd rfl z)
  refine W.widen (k := cells + 14) (n := slots + 2005) (by omega) (by omega) ?_
  exact kk _ _ _ _ e0 (ez 50 (by decide) (by decide)) (hnx _ _ hm) hN hS
set_option maxHeartbeats 1000000 in
set_option maxRecDepth 100000 in
theorem lw_a_weights (F : lwF p l m c s b L xs G) (hS : nS G s H locs) (hl : lv_has ls 4 [(3, .int (nI i)), (2, .ref (ad 50)), (1, .ref (ad 0)), (0, .ref b)]) (hi : i + 6 ≤ L) (hL : L ≤ 384) (hN : nOk G nCl ad c0 H) (hI : lwI G ad c0) (hc : cells + 14 ≤ 705765 ∧ slots + 2005 ≤ 6954232) (kk : lwK p l e s m below meth c b G ad cells slots Q ls) : W p l e room_1 s m #[.ref b] below meth c H locs cells slots Q (F0 m 653 ls []) := by
  obtain ⟨y, si, fi, sa, fa, rn, dr, nd, np, nr, rfl, hR⟩ := hI
  obtain ⟨h1, h2, h3, h8, h6, hs1, hf5, hf6, hf22, hf1, hf0, h17, htd, hdn, hrw⟩ := id hR
  obtain ⟨SS, hX, hbG, hK1, hfl⟩ := id F
  obtain ⟨hx, hb, hml, hown, hts⟩ := id SS
  refine lv_aload_n hx hb dL_law_653 rfl (lv_at hl 2 rfl) ?_
  refine lw_arg F hS hl hi hL 1 (by decide) (by decide) dL_law_654 dL_law_655 dL_law_656 dL_law_657 dL_law_658 ?_
  refine lw_arg F hS hl hi hL 2 (by decide) (by decide) dL_law_659 dL_law_660 dL_law_661 dL_law_662 dL_law_663 ?_
  refine lw_arg F hS hl hi hL 3 (by decide) (by decide) dL_law_664 dL_law_665 dL_law_666 dL_law_667 dL_law_668 ?_
  refine lw_arg F hS hl hi hL 4 (by decide) (by decide) dL_law_669 dL_law_670 dL_law_671 dL_law_672 dL_law_673 ?_
  refine lw_arg F hS hl hi hL 5 (by decide) (by decide) dL_law_674 dL_law_675 dL_law_676 dL_law_677 dL_law_678 ?_
  refine n_callV (C := RX0) (As := [.int (xs (i + 1)), .int (xs (i + 2)), .int (xs (i + 3)), .int (xs (i + 4)), .int (xs (i + 5))]) (b := 0) SS (sK1_o G) hK1 hK1.1.1 (sX0_weights l G (sK1 G) (sK1_o G) (fun U h => h.1) (fun U h => h.2) hfl ad _ si sa rn (fa 2) (fa 3) (fa 4) h3 np (fa 8) dr (fa 10) h1 nd hs1 h6 nr (fa 23) (fa 24) h2 hR.RW (xs (i + 1)) (xs (i + 2)) (xs (i + 3)) (xs (i + 4)) (xs (i + 5)) h8) (cwV 5 hts (lw_V q927 q928 q929 q57 q930) rfl rfl rfl (by decide +kernel) ⟨Nat.le_of_ble_eq_true rfl, Nat.le_of_ble_eq_true rfl⟩) hN hS sPic_0 rfl rfl hl.1 rfl (Nat.le_of_ble_eq_true rfl) dL_law_679 ⟨by first | omega | (show _ ≤ 705765; omega), by first | omega | (show _ ≤ 6954232; omega)⟩ (fun rv ad' c' H locs hv hN hS => ?_)
  obtain ⟨rfl, e0, ez, x', si', sa', rn', rfl, hnx⟩ := op_weights rfl hR (xs (i + 1)) (xs (i + 2)) (xs (i + 3)) (xs (i + 4)) (xs (i + 5)) hv
  refine W.eq (g2 := F0 m 682 ls (_ :: _)) rfl ?_
  have hl : lv_has ls 4 [(3, .int (nI i)), (2, .ref (ad' 50)), (1, .ref (ad' 0)), (0, .ref b)] := by rw [ez 50 (by decide) (by decide), e0]; exact hl
  refine lv_aload_n hx hb dL_law_682 rfl (lv_at hl 1 rfl) ?_
  refine lw_arg F hS hl hi hL 1 (by decide) (by decide) dL_law_683 dL_law_684 dL_law_685 dL_law_686 dL_law_687 ?_
  refine lw_arg F hS hl hi hL 2 (by decide) (by decide) dL_law_688 dL_law_689 dL_law_690 dL_law_691 dL_law_692 ?_
  refine lw_arg F hS hl hi hL 3 (by decide) (by decide) dL_law_693 dL_law_694 dL_law_695 dL_law_696 dL_law_697 ?_
  refine lw_arg F hS hl hi hL 4 (by decide) (by decide) dL_law_698 dL_law_699 dL_law_700 dL_law_701 dL_law_702 ?_
  refine lw_arg F hS hl hi hL 5 (by decide) (by decide) dL_law_703 dL_law_704 dL_law_705 dL_law_706 dL_law_707 ?_
  refine n_callV (C := RX1) (As := [.int (xs (i + 1)), .int (xs (i + 2)), .int (xs (i + 3)), .int (xs (i + 4)), .int (xs (i + 5))]) (b := 50) SS (nK_o G) hK1.1.1 hK1.1.1 (mX1_weights l G ad' _ fi fa (xs (i + 1)) (xs (i + 2)) (xs (i + 3)) (xs (i + 4)) (xs (i + 5)) hR.SL nd hf5 h6 np hf6 h1.1 nr hf22 h2.1 hrw) (cwV 5 hts (lw_V q1346 q1347 q1348 q61 q1349) rfl rfl rfl (by decide +kernel) ⟨Nat.le_of_ble_eq_true rfl, Nat.le_of_ble_eq_true rfl⟩) hN hS mPic_o rfl rfl hl.1 rfl (Nat.le_of_ble_eq_true rfl) dL_law_708 ⟨by first | omega | (show _ ≤ 705765; omega), by first | omega | (show _ ≤ 6954232; omega)⟩ (fun rv ad2 c2 H locs hv hN hS => ?_)
  obtain ⟨fi', fa', rfl, rfl, hv1, hm⟩ := hv
  subst hv1
  refine W.eq (g2 := F0 m 711 ls (_ :: _)) rfl ?_
  refine lv_icmp_eq (tgt := 1230) hx hb dL_law_711 (by decide) (fun _ => ?_) (fun z => absurd rfl z)
  refine W.widen (k := cells + 14) (n := slots + 2005) (by omega) (by omega) ?_
  exact kk _ _ _ _ e0 (ez 50 (by decide) (by decide)) (hnx _ _ hm) hN hS
set_option maxHeartbeats 1000000 in
set_option maxRecDepth 100000 in
theorem lw_a_kinds (F : lwF p l m c s b L xs G) (hS : nS G s H locs) (hl : lv_has ls 4 [(3, .int (nI i)), (2, .ref (ad 50)), (1, .ref (ad 0)), (0, .ref b)]) (hi : i + 6 ≤ L) (hL : L ≤ 384) (hN : nOk G nCl ad c0 H) (hI : lwI G ad c0) (hc : cells + 14 ≤ 705765 ∧ slots + 2005 ≤ 6954232) (kk : lwK p l e s m below meth c b G ad cells slots Q ls) : W p l e room_1 s m #[.ref b] below meth c H locs cells slots Q (F0 m 716 ls []) := by
  obtain ⟨y, si, fi, sa, fa, rn, dr, nd, np, nr, rfl, hR⟩ := hI
  obtain ⟨h1, h2, h3, h8, h6, hs1, hf5, hf6, hf22, hf1, hf0, h17, htd, hdn, hrw⟩ := id hR
  obtain ⟨SS, hX, hbG, hK1, hfl⟩ := id F
  obtain ⟨hx, hb, hml, hown, hts⟩ := id SS
  refine lv_aload_n hx hb dL_law_716 rfl (lv_at hl 2 rfl) ?_
  refine lw_arg F hS hl hi hL 1 (by decide) (by decide) dL_law_717 dL_law_718 dL_law_719 dL_law_720 dL_law_721 ?_
  refine lw_arg F hS hl hi hL 2 (by decide) (by decide) dL_law_722 dL_law_723 dL_law_724 dL_law_725 dL_law_726 ?_
  refine lw_arg F hS hl hi hL 3 (by decide) (by decide) dL_law_727 dL_law_728 dL_law_729 dL_law_730 dL_law_731 ?_
  refine lw_arg F hS hl hi hL 4 (by decide) (by decide) dL_law_732 dL_law_733 dL_law_734 dL_law_735 dL_law_736 ?_
  refine lw_arg F hS hl hi hL 5 (by decide) (by decide) dL_law_737 dL_law_738 dL_law_739 dL_law_740 dL_law_741 ?_
  refine n_callV (C := RX0) (As := [.int (xs (i + 1)), .int (xs (i + 2)), .int (xs (i + 3)), .int (xs (i + 4)), .int (xs (i + 5))]) (b := 0) SS (sK1_o G) hK1 hK1.1.1 (sX0_kinds l G (sK1 G) (sK1_o G) (fun U h => h.1) (fun U h => h.2) hfl ad _ si sa rn (fa 2) (fa 3) (fa 4) h3 np (fa 8) dr (fa 10) h1 nd hs1 h6 nr (fa 23) (fa 24) h2 hR.RW (xs (i + 1)) (xs (i + 2)) (xs (i + 3)) (xs (i + 4)) (xs (i + 5)) h8) (cwV 5 hts (lw_V q939 q940 q941 q57 q942) rfl rfl rfl (by decide +kernel) ⟨Nat.le_of_ble_eq_true rfl, Nat.le_of_ble_eq_true rfl⟩) hN hS sPic_0 rfl rfl hl.1 rfl (Nat.le_of_ble_eq_true rfl) dL_law_742 ⟨by first | omega | (show _ ≤ 705765; omega), by first | omega | (show _ ≤ 6954232; omega)⟩ (fun rv ad' c' H locs hv hN hS => ?_)
  obtain ⟨rfl, e0, ez, x', si', sa', rn', rfl, hnx⟩ := op_kinds rfl hR (xs (i + 1)) (xs (i + 2)) (xs (i + 3)) (xs (i + 4)) (xs (i + 5)) hv
  refine W.eq (g2 := F0 m 745 ls (_ :: _)) rfl ?_
  have hl : lv_has ls 4 [(3, .int (nI i)), (2, .ref (ad' 50)), (1, .ref (ad' 0)), (0, .ref b)] := by rw [ez 50 (by decide) (by decide), e0]; exact hl
  refine lv_aload_n hx hb dL_law_745 rfl (lv_at hl 1 rfl) ?_
  refine lw_arg F hS hl hi hL 1 (by decide) (by decide) dL_law_746 dL_law_747 dL_law_748 dL_law_749 dL_law_750 ?_
  refine lw_arg F hS hl hi hL 2 (by decide) (by decide) dL_law_751 dL_law_752 dL_law_753 dL_law_754 dL_law_755 ?_
  refine lw_arg F hS hl hi hL 3 (by decide) (by decide) dL_law_756 dL_law_757 dL_law_758 dL_law_759 dL_law_760 ?_
  refine lw_arg F hS hl hi hL 4 (by decide) (by decide) dL_law_761 dL_law_762 dL_law_763 dL_law_764 dL_law_765 ?_
  refine lw_arg F hS hl hi hL 5 (by decide) (by decide) dL_law_766 dL_law_767 dL_law_768 dL_law_769 dL_law_770 ?_
  refine n_callV (C := RX1) (As := [.int (xs (i + 1)), .int (xs (i + 2)), .int (xs (i + 3)), .int (xs (i + 4)), .int (xs (i + 5))]) (b := 50) SS (nK_o G) hK1.1.1 hK1.1.1 (mX1_kinds l G ad' _ fi fa (xs (i + 1)) (xs (i + 2)) (xs (i + 3)) (xs (i + 4)) (xs (i + 5)) hR.SL nd hf5 h6 np hf6 h1.1 nr hf22 h2.1 hrw) (cwV 5 hts (lw_V q1358 q1359 q1360 q61 q1361) rfl rfl rfl (by decide +kernel) ⟨Nat.le_of_ble_eq_true rfl, Nat.le_of_ble_eq_true rfl⟩) hN hS mPic_o rfl rfl hl.1 rfl (Nat.le_of_ble_eq_true rfl) dL_law_771 ⟨by first | omega | (show _ ≤ 705765; omega), by first | omega | (show _ ≤ 6954232; omega)⟩ (fun rv ad2 c2 H locs hv hN hS => ?_)
  obtain ⟨fi', fa', rfl, rfl, hv1, hm⟩ := hv
  subst hv1
  refine W.eq (g2 := F0 m 774 ls (_ :: _)) rfl ?_
  refine lv_icmp_eq (tgt := 1230) hx hb dL_law_774 (by decide) (fun _ => ?_) (fun z => absurd rfl z)
  refine W.widen (k := cells + 14) (n := slots + 2005) (by omega) (by omega) ?_
  exact kk _ _ _ _ e0 (ez 50 (by decide) (by decide)) (hnx _ _ hm) hN hS
set_option maxHeartbeats 1000000 in
set_option maxRecDepth 100000 in
theorem lw_a_knew (F : lwF p l m c s b L xs G) (hS : nS G s H locs) (hl : lv_has ls 4 [(3, .int (nI i)), (2, .ref (ad 50)), (1, .ref (ad 0)), (0, .ref b)]) (hi : i + 6 ≤ L) (hL : L ≤ 384) (hN : nOk G nCl ad c0 H) (hI : lwI G ad c0) (hc : cells + 14 ≤ 705765 ∧ slots + 2005 ≤ 6954232) (kk : lwK p l e s m below meth c b G ad cells slots Q ls) : W p l e room_1 s m #[.ref b] below meth c H locs cells slots Q (F0 m 779 ls []) := by
  obtain ⟨y, si, fi, sa, fa, rn, dr, nd, np, nr, rfl, hR⟩ := hI
  obtain ⟨h1, h2, h3, h8, h6, hs1, hf5, hf6, hf22, hf1, hf0, h17, htd, hdn, hrw⟩ := id hR
  obtain ⟨SS, hX, hbG, hK1, hfl⟩ := id F
  obtain ⟨hx, hb, hml, hown, hts⟩ := id SS
  refine lv_aload_n hx hb dL_law_779 rfl (lv_at hl 2 rfl) ?_
  refine lw_arg F hS hl hi hL 1 (by decide) (by decide) dL_law_780 dL_law_781 dL_law_782 dL_law_783 dL_law_784 ?_
  refine lw_arg F hS hl hi hL 2 (by decide) (by decide) dL_law_785 dL_law_786 dL_law_787 dL_law_788 dL_law_789 ?_
  refine lw_arg F hS hl hi hL 3 (by decide) (by decide) dL_law_790 dL_law_791 dL_law_792 dL_law_793 dL_law_794 ?_
  refine lw_arg F hS hl hi hL 4 (by decide) (by decide) dL_law_795 dL_law_796 dL_law_797 dL_law_798 dL_law_799 ?_
  refine lw_arg F hS hl hi hL 5 (by decide) (by decide) dL_law_800 dL_law_801 dL_law_802 dL_law_803 dL_law_804 ?_
  refine n_callV (C := RX0) (As := [.int (xs (i + 1)), .int (xs (i + 2)), .int (xs (i + 3)), .int (xs (i + 4)), .int (xs (i + 5))]) (b := 0) SS (sK1_o G) hK1 hK1.1.1 (sX0_knew l G (sK1 G) (sK1_o G) (fun U h => h.1) (fun U h => h.2) hfl ad _ si sa rn (fa 2) (fa 3) (fa 4) h3 np (fa 8) dr (fa 10) h1 nd hs1 h6 nr (fa 23) (fa 24) h2 hR.RW (xs (i + 1)) (xs (i + 2)) (xs (i + 3)) (xs (i + 4)) (xs (i + 5)) h8) (cwV 5 hts (lw_V q956 q957 q958 q57 q959) rfl rfl rfl (by decide +kernel) ⟨Nat.le_of_ble_eq_true rfl, Nat.le_of_ble_eq_true rfl⟩) hN hS sPic_0 rfl rfl hl.1 rfl (Nat.le_of_ble_eq_true rfl) dL_law_805 ⟨by first | omega | (show _ ≤ 705765; omega), by first | omega | (show _ ≤ 6954232; omega)⟩ (fun rv ad' c' H locs hv hN hS => ?_)
  obtain ⟨rfl, e0, ez, x', si', sa', rn', rfl, hnx⟩ := op_knew rfl hR (xs (i + 1)) (xs (i + 2)) (xs (i + 3)) (xs (i + 4)) (xs (i + 5)) hv
  refine W.eq (g2 := F0 m 808 ls (_ :: _)) rfl ?_
  have hl : lv_has ls 4 [(3, .int (nI i)), (2, .ref (ad' 50)), (1, .ref (ad' 0)), (0, .ref b)] := by rw [ez 50 (by decide) (by decide), e0]; exact hl
  refine lv_aload_n hx hb dL_law_808 rfl (lv_at hl 1 rfl) ?_
  refine lw_arg F hS hl hi hL 1 (by decide) (by decide) dL_law_809 dL_law_810 dL_law_811 dL_law_812 dL_law_813 ?_
  refine lw_arg F hS hl hi hL 2 (by decide) (by decide) dL_law_814 dL_law_815 dL_law_816 dL_law_817 dL_law_818 ?_
  refine lw_arg F hS hl hi hL 3 (by decide) (by decide) dL_law_819 dL_law_820 dL_law_821 dL_law_822 dL_law_823 ?_
  refine lw_arg F hS hl hi hL 4 (by decide) (by decide) dL_law_824 dL_law_825 dL_law_826 dL_law_827 dL_law_828 ?_
  refine lw_arg F hS hl hi hL 5 (by decide) (by decide) dL_law_829 dL_law_830 dL_law_831 dL_law_832 dL_law_833 ?_
  refine n_callV (C := RX1) (As := [.int (xs (i + 1)), .int (xs (i + 2)), .int (xs (i + 3)), .int (xs (i + 4)), .int (xs (i + 5))]) (b := 50) SS (nK_o G) hK1.1.1 hK1.1.1 (mX1_knew l G ad' _ fi fa (xs (i + 1)) (xs (i + 2)) (xs (i + 3)) (xs (i + 4)) (xs (i + 5)) hR.SL nd hf5 h6 np hf6 h1.1 nr hf22 h2.1 hrw) (cwV 5 hts (lw_V q1362 q1363 q1364 q61 q1365) rfl rfl rfl (by decide +kernel) ⟨Nat.le_of_ble_eq_true rfl, Nat.le_of_ble_eq_true rfl⟩) hN hS mPic_o rfl rfl hl.1 rfl (Nat.le_of_ble_eq_true rfl) dL_law_834 ⟨by first | omega | (show _ ≤ 705765; omega), by first | omega | (show _ ≤ 6954232; omega)⟩ (fun rv ad2 c2 H locs hv hN hS => ?_)
  obtain ⟨fi', fa', rfl, rfl, hv1, hm⟩ := hv
  subst hv1
  refine W.eq (g2 := F0 m 837 ls (_ :: _)) rfl ?_
  refine lv_icmp_eq (tgt := 1230) hx hb dL_law_837 (by decide) (fun _ => ?_) (fun z => absurd rfl z)
  refine W.widen (k := cells + 14) (n := slots + 2005) (by omega) (by omega) ?_
  exact kk _ _ _ _ e0 (ez 50 (by decide) (by decide)) (hnx _ _ hm) hN hS
set_option maxHeartbeats 1000000 in
set_option maxRecDepth 100000 in
theorem lw_a_odds (F : lwF p l m c s b L xs G) (hS : nS G s H locs) (hl : lv_has ls 4 [(3, .int (nI i)), (2, .ref (ad 50)), (1, .ref (ad 0)), (0, .ref b)]) (hi : i + 6 ≤ L) (hL : L ≤ 384) (hN : nOk G nCl ad c0 H) (hI : lwI G ad c0) (hc : cells + 14 ≤ 705765 ∧ slots + 2005 ≤ 6954232) (kk : lwK p l e s m below meth c b G ad cells slots Q ls) : W p l e room_1 s m #[.ref b] below meth c H locs cells slots Q (F0 m 842 ls []) := by
  obtain ⟨y, si, fi, sa, fa, rn, dr, nd, np, nr, rfl, hR⟩ := hI
  obtain ⟨h1, h2, h3, h8, h6, hs1, hf5, hf6, hf22, hf1, hf0, h17, htd, hdn, hrw⟩ := id hR
  obtain ⟨SS, hX, hbG, hK1, hfl⟩ := id F
  obtain ⟨hx, hb, hml, hown, hts⟩ := id SS
  refine lv_aload_n hx hb dL_law_842 rfl (lv_at hl 2 rfl) ?_
  refine lw_arg F hS hl hi hL 1 (by decide) (by decide) dL_law_843 dL_law_844 dL_law_845 dL_law_846 dL_law_847 ?_
  refine lw_arg F hS hl hi hL 2 (by decide) (by decide) dL_law_848 dL_law_849 dL_law_850 dL_law_851 dL_law_852 ?_
  refine lw_arg F hS hl hi hL 3 (by decide) (by decide) dL_law_853 dL_law_854 dL_law_855 dL_law_856 dL_law_857 ?_
  refine n_callV (C := RX0) (As := [.int (xs (i + 1)), .int (xs (i + 2)), .int (xs (i + 3))]) (b := 0) SS (sK1_o G) hK1 hK1.1.1 (sX0_odds l G (sK1 G) (sK1_o G) (fun U h => h.1) ad _ si sa rn (xs (i + 1)) (xs (i + 2)) (xs (i + 3)) np (fa 8) dr (fa 10) h1 nd hs1 h6) (cwV 3 hts (lw_V q434 q435 q436 q57 q437) rfl rfl rfl (by decide +kernel) ⟨Nat.le_of_ble_eq_true rfl, Nat.le_of_ble_eq_true rfl⟩) hN hS sPic_0 rfl rfl hl.1 rfl (Nat.le_of_ble_eq_true rfl) dL_law_858 ⟨by first | omega | (show _ ≤ 705765; omega), by first | omega | (show _ ≤ 6954232; omega)⟩ (fun rv ad' c' H locs hv hN hS => ?_)
  obtain ⟨rfl, e0, ez, x', si', sa', rn', rfl, hnx⟩ := op_odds rfl hR (xs (i + 1)) (xs (i + 2)) (xs (i + 3)) hv
  refine W.eq (g2 := F0 m 861 ls (_ :: _)) rfl ?_
  have hl : lv_has ls 4 [(3, .int (nI i)), (2, .ref (ad' 50)), (1, .ref (ad' 0)), (0, .ref b)] := by rw [ez 50 (by decide) (by decide), e0]; exact hl
  refine lv_aload_n hx hb dL_law_861 rfl (lv_at hl 1 rfl) ?_
  refine lw_arg F hS hl hi hL 1 (by decide) (by decide) dL_law_862 dL_law_863 dL_law_864 dL_law_865 dL_law_866 ?_
  refine lw_arg F hS hl hi hL 2 (by decide) (by decide) dL_law_867 dL_law_868 dL_law_869 dL_law_870 dL_law_871 ?_
  refine lw_arg F hS hl hi hL 3 (by decide) (by decide) dL_law_872 dL_law_873 dL_law_874 dL_law_875 dL_law_876 ?_
  refine n_callV (C := RX1) (As := [.int (xs (i + 1)), .int (xs (i + 2)), .int (xs (i + 3))]) (b := 50) SS (nK_o G) hK1.1.1 hK1.1.1 (mX1_odds l G ad' _ fi fa (xs (i + 1)) (xs (i + 2)) (xs (i + 3)) nd hf5 h6 np hf6 h1.1 (fun p hp => by rw [← hdn p hp]; exact sMsk_v h6 _)) (cwV 3 hts (lw_V q1366 q1367 q1368 q61 q1369) rfl rfl rfl (by decide +kernel) ⟨Nat.le_of_ble_eq_true rfl, Nat.le_of_ble_eq_true rfl⟩) hN hS mPic_o rfl rfl hl.1 rfl (Nat.le_of_ble_eq_true rfl) dL_law_877 ⟨by first | omega | (show _ ≤ 705765; omega), by first | omega | (show _ ≤ 6954232; omega)⟩ (fun rv ad2 c2 H locs hv hN hS => ?_)
  obtain ⟨fi', fa', rfl, rfl, hv1, hm⟩ := hv
  subst hv1
  refine W.eq (g2 := F0 m 880 ls (_ :: _)) rfl ?_
  refine W.lcmp hx hb dL_law_880 ?_
  refine n_top (y := 0) (lw_cmp _) ?_
  refine lv_if_eq (tgt := 1230) hx hb dL_law_881 (by decide) (fun _ => ?_) (fun z => absurd rfl z)
  refine W.widen (k := cells + 14) (n := slots + 2005) (by omega) (by omega) ?_
  exact kk _ _ _ _ e0 (ez 50 (by decide) (by decide)) (hnx _ _ hm) hN hS
set_option maxHeartbeats 1000000 in
set_option maxRecDepth 100000 in
theorem lw_a_sheet (F : lwF p l m c s b L xs G) (hS : nS G s H locs) (hl : lv_has ls 4 [(3, .int (nI i)), (2, .ref (ad 50)), (1, .ref (ad 0)), (0, .ref b)]) (hi : i + 6 ≤ L) (hL : L ≤ 384) (hN : nOk G nCl ad c0 H) (hI : lwI G ad c0) (hc : cells + 14 ≤ 705765 ∧ slots + 2005 ≤ 6954232) (kk : lwK p l e s m below meth c b G ad cells slots Q ls) : W p l e room_1 s m #[.ref b] below meth c H locs cells slots Q (F0 m 886 ls []) := by
  obtain ⟨y, si, fi, sa, fa, rn, dr, nd, np, nr, rfl, hR⟩ := hI
  obtain ⟨h1, h2, h3, h8, h6, hs1, hf5, hf6, hf22, hf1, hf0, h17, htd, hdn, hrw⟩ := id hR
  obtain ⟨SS, hX, hbG, hK1, hfl⟩ := id F
  obtain ⟨hx, hb, hml, hown, hts⟩ := id SS
  refine lv_aload_n hx hb dL_law_886 rfl (lv_at hl 2 rfl) ?_
  refine lw_arg F hS hl hi hL 1 (by decide) (by decide) dL_law_887 dL_law_888 dL_law_889 dL_law_890 dL_law_891 ?_
  refine lw_arg F hS hl hi hL 2 (by decide) (by decide) dL_law_892 dL_law_893 dL_law_894 dL_law_895 dL_law_896 ?_
  refine lw_arg F hS hl hi hL 3 (by decide) (by decide) dL_law_897 dL_law_898 dL_law_899 dL_law_900 dL_law_901 ?_
  refine n_callVW (n := 3) (C := RX0) (As := [.int (xs (i + 1)), .int (xs (i + 2)), .int (xs (i + 3))]) (b := 0) SS (sK1_o G) hK1 hK1.1.1 (sX0_sheet l G (sK1 G) (sK1_o G) (fun U h => h.1) (fun U h => h.2) hfl ad _ si sa rn (fa 2) (fa 3) (fa 4) h3 (xs (i + 1)) (xs (i + 2)) (xs (i + 3)) h8) q442 q443 q444 q57 q445 (by decide +kernel) rfl rfl ⟨Nat.le_of_ble_eq_true rfl, Nat.le_of_ble_eq_true rfl⟩ hN hS sPic_0 rfl rfl hl.1 rfl (Nat.le_of_ble_eq_true rfl) dL_law_902 ⟨by first | omega | (show _ ≤ 705765; omega), by first | omega | (show _ ≤ 6954232; omega)⟩ (fun rv ad' c' H locs hv hN hS => ?_)
  obtain ⟨rfl, e0, ez, x', si', sa', rn', rfl, hnx⟩ := op_sheet rfl hR (xs (i + 1)) (xs (i + 2)) (xs (i + 3)) hv
  refine W.eq (g2 := F0 m 905 ls (_ :: _)) rfl ?_
  have hl : lv_has ls 4 [(3, .int (nI i)), (2, .ref (ad' 50)), (1, .ref (ad' 0)), (0, .ref b)] := by rw [ez 50 (by decide) (by decide), e0]; exact hl
  refine lv_aload_n hx hb dL_law_905 rfl (lv_at hl 1 rfl) ?_
  refine lw_arg F hS hl hi hL 1 (by decide) (by decide) dL_law_906 dL_law_907 dL_law_908 dL_law_909 dL_law_910 ?_
  refine lw_arg F hS hl hi hL 2 (by decide) (by decide) dL_law_911 dL_law_912 dL_law_913 dL_law_914 dL_law_915 ?_
  refine lw_arg F hS hl hi hL 3 (by decide) (by decide) dL_law_916 dL_law_917 dL_law_918 dL_law_919 dL_law_920 ?_
  refine n_callV (C := RX1) (As := [.int (xs (i + 1)), .int (xs (i + 2)), .int (xs (i + 3))]) (b := 50) SS (nK_o G) hK1.1.1 hK1.1.1 (mX1_sheet l G ad' _ fi fa (xs (i + 1)) (xs (i + 2)) (xs (i + 3))) (cwV 3 hts (lw_V q1374 q1375 q1376 q61 q1377) rfl rfl rfl (by decide +kernel) ⟨Nat.le_of_ble_eq_true rfl, Nat.le_of_ble_eq_true rfl⟩) hN hS mPic_o rfl rfl hl.1 rfl (Nat.le_of_ble_eq_true rfl) dL_law_921 ⟨by first | omega | (show _ ≤ 705765; omega), by first | omega | (show _ ≤ 6954232; omega)⟩ (fun rv ad2 c2 H locs hv hN hS => ?_)
  obtain ⟨fi', fa', rfl, rfl, hv1, hm⟩ := hv
  subst hv1
  refine W.eq (g2 := F0 m 924 ls (_ :: _)) rfl ?_
  refine lv_icmp_eq (tgt := 1230) hx hb dL_law_924 (by decide) (fun _ => ?_) (fun z => absurd rfl z)
  refine W.widen (k := cells + 14) (n := slots + 2005) (by omega) (by omega) ?_
  exact kk _ _ _ _ e0 (ez 50 (by decide) (by decide)) (hnx _ _ hm) hN hS
set_option maxHeartbeats 1000000 in
set_option maxRecDepth 100000 in
theorem lw_a_lose (F : lwF p l m c s b L xs G) (hS : nS G s H locs) (hl : lv_has ls 4 [(3, .int (nI i)), (2, .ref (ad 50)), (1, .ref (ad 0)), (0, .ref b)]) (hi : i + 6 ≤ L) (hL : L ≤ 384) (hN : nOk G nCl ad c0 H) (hI : lwI G ad c0) (hc : cells + 14 ≤ 705765 ∧ slots + 2005 ≤ 6954232) (kk : lwK p l e s m below meth c b G ad cells slots Q ls) : W p l e room_1 s m #[.ref b] below meth c H locs cells slots Q (F0 m 929 ls []) := by
  obtain ⟨y, si, fi, sa, fa, rn, dr, nd, np, nr, rfl, hR⟩ := hI
  obtain ⟨h1, h2, h3, h8, h6, hs1, hf5, hf6, hf22, hf1, hf0, h17, htd, hdn, hrw⟩ := id hR
  obtain ⟨SS, hX, hbG, hK1, hfl⟩ := id F
  obtain ⟨hx, hb, hml, hown, hts⟩ := id SS
  refine lv_aload_n hx hb dL_law_929 rfl (lv_at hl 2 rfl) ?_
  refine lw_arg F hS hl hi hL 1 (by decide) (by decide) dL_law_930 dL_law_931 dL_law_932 dL_law_933 dL_law_934 ?_
  refine n_callV (C := RX0) (As := [.int (xs (i + 1))]) (b := 0) SS (sK1_o G) hK1 hK1.1.1 (sX0_lose l G (sK1 G) (sK1_o G) (fun U h => h.1) ad _ si sa rn (fa 2) (fa 3) (fa 4) h3 (xs (i + 1))) (cwV 1 hts (lw_V q560 q561 q562 q57 q563) rfl rfl rfl (by decide +kernel) ⟨Nat.le_of_ble_eq_true rfl, Nat.le_of_ble_eq_true rfl⟩) hN hS sPic_0 rfl rfl hl.1 rfl (Nat.le_of_ble_eq_true rfl) dL_law_935 ⟨by first | omega | (show _ ≤ 705765; omega), by first | omega | (show _ ≤ 6954232; omega)⟩ (fun rv ad' c' H locs hv hN hS => ?_)
  obtain ⟨rfl, e0, ez, x', si', sa', rn', rfl, hnx⟩ := op_lose rfl hR (xs (i + 1)) hv
  refine W.eq (g2 := F0 m 938 ls (_ :: _)) rfl ?_
  have hl : lv_has ls 4 [(3, .int (nI i)), (2, .ref (ad' 50)), (1, .ref (ad' 0)), (0, .ref b)] := by rw [ez 50 (by decide) (by decide), e0]; exact hl
  refine lv_aload_n hx hb dL_law_938 rfl (lv_at hl 1 rfl) ?_
  refine lw_arg F hS hl hi hL 1 (by decide) (by decide) dL_law_939 dL_law_940 dL_law_941 dL_law_942 dL_law_943 ?_
  refine n_callV (C := RX1) (As := [.int (xs (i + 1))]) (b := 50) SS (nK_o G) hK1.1.1 hK1.1.1 (mX1_lose l G ad' _ fi fa (xs (i + 1))) (cwV 1 hts (lw_V q1378 q1379 q1380 q61 q1381) rfl rfl rfl (by decide +kernel) ⟨Nat.le_of_ble_eq_true rfl, Nat.le_of_ble_eq_true rfl⟩) hN hS mPic_o rfl rfl hl.1 rfl (Nat.le_of_ble_eq_true rfl) dL_law_944 ⟨by first | omega | (show _ ≤ 705765; omega), by first | omega | (show _ ≤ 6954232; omega)⟩ (fun rv ad2 c2 H locs hv hN hS => ?_)
  obtain ⟨fi', fa', rfl, rfl, hv1, hm⟩ := hv
  subst hv1
  refine W.eq (g2 := F0 m 947 ls (_ :: _)) rfl ?_
  refine lv_icmp_eq (tgt := 1230) hx hb dL_law_947 (by decide) (fun _ => ?_) (fun z => absurd rfl z)
  refine W.widen (k := cells + 14) (n := slots + 2005) (by omega) (by omega) ?_
  exact kk _ _ _ _ e0 (ez 50 (by decide) (by decide)) (hnx _ _ hm) hN hS
set_option maxHeartbeats 1000000 in
set_option maxRecDepth 100000 in
theorem lw_a_put (F : lwF p l m c s b L xs G) (hS : nS G s H locs) (hl : lv_has ls 4 [(3, .int (nI i)), (2, .ref (ad 50)), (1, .ref (ad 0)), (0, .ref b)]) (hi : i + 6 ≤ L) (hL : L ≤ 384) (hN : nOk G nCl ad c0 H) (hI : lwI G ad c0) (hc : cells + 14 ≤ 705765 ∧ slots + 2005 ≤ 6954232) (kk : lwK p l e s m below meth c b G ad cells slots Q ls) : W p l e room_1 s m #[.ref b] below meth c H locs cells slots Q (F0 m 952 ls []) := by
  obtain ⟨y, si, fi, sa, fa, rn, dr, nd, np, nr, rfl, hR⟩ := hI
  obtain ⟨h1, h2, h3, h8, h6, hs1, hf5, hf6, hf22, hf1, hf0, h17, htd, hdn, hrw⟩ := id hR
  obtain ⟨SS, hX, hbG, hK1, hfl⟩ := id F
  obtain ⟨hx, hb, hml, hown, hts⟩ := id SS
  refine lv_aload_n hx hb dL_law_952 rfl (lv_at hl 2 rfl) ?_
  refine lw_arg F hS hl hi hL 1 (by decide) (by decide) dL_law_953 dL_law_954 dL_law_955 dL_law_956 dL_law_957 ?_
  refine lw_arg F hS hl hi hL 2 (by decide) (by decide) dL_law_958 dL_law_959 dL_law_960 dL_law_961 dL_law_962 ?_
  refine lw_arg F hS hl hi hL 3 (by decide) (by decide) dL_law_963 dL_law_964 dL_law_965 dL_law_966 dL_law_967 ?_
  refine n_callVW (n := 3) (C := RX0) (As := [.int (xs (i + 1)), .int (xs (i + 2)), .int (xs (i + 3))]) (b := 0) SS (sK1_o G) hK1 hK1.1.1 (sX0_put l G (sK1 G) (sK1_o G) (fun U h => h.1) (fun U h => h.2) hfl ad _ si sa rn (fa 2) (fa 3) (fa 4) h3 (xs (i + 1)) (xs (i + 2)) (xs (i + 3))) q564 q565 q566 q57 q567 (by decide +kernel) rfl rfl ⟨Nat.le_of_ble_eq_true rfl, Nat.le_of_ble_eq_true rfl⟩ hN hS sPic_0 rfl rfl hl.1 rfl (Nat.le_of_ble_eq_true rfl) dL_law_968 ⟨by first | omega | (show _ ≤ 705765; omega), by first | omega | (show _ ≤ 6954232; omega)⟩ (fun rv ad' c' H locs hv hN hS => ?_)
  obtain ⟨rfl, e0, ez, x', si', sa', rn', rfl, hnx⟩ := op_put rfl hR (xs (i + 1)) (xs (i + 2)) (xs (i + 3)) hv
  refine W.eq (g2 := F0 m 971 ls (_ :: _)) rfl ?_
  have hl : lv_has ls 4 [(3, .int (nI i)), (2, .ref (ad' 50)), (1, .ref (ad' 0)), (0, .ref b)] := by rw [ez 50 (by decide) (by decide), e0]; exact hl
  refine lv_aload_n hx hb dL_law_971 rfl (lv_at hl 1 rfl) ?_
  refine lw_arg F hS hl hi hL 1 (by decide) (by decide) dL_law_972 dL_law_973 dL_law_974 dL_law_975 dL_law_976 ?_
  refine lw_arg F hS hl hi hL 2 (by decide) (by decide) dL_law_977 dL_law_978 dL_law_979 dL_law_980 dL_law_981 ?_
  refine lw_arg F hS hl hi hL 3 (by decide) (by decide) dL_law_982 dL_law_983 dL_law_984 dL_law_985 dL_law_986 ?_
  refine n_callV (C := RX1) (As := [.int (xs (i + 1)), .int (xs (i + 2)), .int (xs (i + 3))]) (b := 50) SS (nK_o G) hK1.1.1 hK1.1.1 (mX1_put l G ad' _ fi fa (xs (i + 1)) (xs (i + 2)) (xs (i + 3)) hR.SL) (cwV 3 hts (lw_V q1382 q1383 q1384 q61 q1385) rfl rfl rfl (by decide +kernel) ⟨Nat.le_of_ble_eq_true rfl, Nat.le_of_ble_eq_true rfl⟩) hN hS mPic_o rfl rfl hl.1 rfl (Nat.le_of_ble_eq_true rfl) dL_law_987 ⟨by first | omega | (show _ ≤ 705765; omega), by first | omega | (show _ ≤ 6954232; omega)⟩ (fun rv ad2 c2 H locs hv hN hS => ?_)
  obtain ⟨fi', fa', rfl, rfl, hv1, hm⟩ := hv
  subst hv1
  refine W.eq (g2 := F0 m 990 ls (_ :: _)) rfl ?_
  refine lv_icmp_eq (tgt := 1230) hx hb dL_law_990 (by decide) (fun _ => ?_) (fun z => absurd rfl z)
  refine W.widen (k := cells + 14) (n := slots + 2005) (by omega) (by omega) ?_
  exact kk _ _ _ _ e0 (ez 50 (by decide) (by decide)) (hnx _ _ hm) hN hS
set_option maxHeartbeats 1000000 in
set_option maxRecDepth 100000 in
theorem lw_a_cell (F : lwF p l m c s b L xs G) (hS : nS G s H locs) (hl : lv_has ls 4 [(3, .int (nI i)), (2, .ref (ad 50)), (1, .ref (ad 0)), (0, .ref b)]) (hi : i + 6 ≤ L) (hL : L ≤ 384) (hN : nOk G nCl ad c0 H) (hI : lwI G ad c0) (hc : cells + 14 ≤ 705765 ∧ slots + 2005 ≤ 6954232) (kk : lwK p l e s m below meth c b G ad cells slots Q ls) : W p l e room_1 s m #[.ref b] below meth c H locs cells slots Q (F0 m 995 ls []) := by
  obtain ⟨y, si, fi, sa, fa, rn, dr, nd, np, nr, rfl, hR⟩ := hI
  obtain ⟨h1, h2, h3, h8, h6, hs1, hf5, hf6, hf22, hf1, hf0, h17, htd, hdn, hrw⟩ := id hR
  obtain ⟨SS, hX, hbG, hK1, hfl⟩ := id F
  obtain ⟨hx, hb, hml, hown, hts⟩ := id SS
  refine lv_aload_n hx hb dL_law_995 rfl (lv_at hl 2 rfl) ?_
  refine lw_arg F hS hl hi hL 1 (by decide) (by decide) dL_law_996 dL_law_997 dL_law_998 dL_law_999 dL_law_1000 ?_
  refine lw_arg F hS hl hi hL 2 (by decide) (by decide) dL_law_1001 dL_law_1002 dL_law_1003 dL_law_1004 dL_law_1005 ?_
  refine lw_arg F hS hl hi hL 3 (by decide) (by decide) dL_law_1006 dL_law_1007 dL_law_1008 dL_law_1009 dL_law_1010 ?_
  refine n_callVW (n := 3) (C := RX0) (As := [.int (xs (i + 1)), .int (xs (i + 2)), .int (xs (i + 3))]) (b := 0) SS (sK1_o G) hK1 hK1.1.1 (sX0_cell l G (sK1 G) (sK1_o G) (fun U h => h.1) (fun U h => h.2) hfl ad _ si sa rn (fa 2) (fa 3) (fa 4) h3 (xs (i + 1)) (xs (i + 2)) (xs (i + 3))) q618 q619 q620 q57 q621 (by decide +kernel) rfl rfl ⟨Nat.le_of_ble_eq_true rfl, Nat.le_of_ble_eq_true rfl⟩ hN hS sPic_0 rfl rfl hl.1 rfl (Nat.le_of_ble_eq_true rfl) dL_law_1011 ⟨by first | omega | (show _ ≤ 705765; omega), by first | omega | (show _ ≤ 6954232; omega)⟩ (fun rv ad' c' H locs hv hN hS => ?_)
  obtain ⟨rfl, e0, ez, x', si', sa', rn', rfl, hnx⟩ := op_cell rfl hR (xs (i + 1)) (xs (i + 2)) (xs (i + 3)) hv
  refine W.eq (g2 := F0 m 1014 ls (_ :: _)) rfl ?_
  have hl : lv_has ls 4 [(3, .int (nI i)), (2, .ref (ad' 50)), (1, .ref (ad' 0)), (0, .ref b)] := by rw [ez 50 (by decide) (by decide), e0]; exact hl
  refine lv_aload_n hx hb dL_law_1014 rfl (lv_at hl 1 rfl) ?_
  refine lw_arg F hS hl hi hL 1 (by decide) (by decide) dL_law_1015 dL_law_1016 dL_law_1017 dL_law_1018 dL_law_1019 ?_
  refine lw_arg F hS hl hi hL 2 (by decide) (by decide) dL_law_1020 dL_law_1021 dL_law_1022 dL_law_1023 dL_law_1024 ?_
  refine lw_arg F hS hl hi hL 3 (by decide) (by decide) dL_law_1025 dL_law_1026 dL_law_1027 dL_law_1028 dL_law_1029 ?_
  refine n_callV (C := RX1) (As := [.int (xs (i + 1)), .int (xs (i + 2)), .int (xs (i + 3))]) (b := 50) SS (nK_o G) hK1.1.1 hK1.1.1 (mX1_cell l G ad' _ fi fa (xs (i + 1)) (xs (i + 2)) (xs (i + 3)) hR.SL) (cwV 3 hts (lw_V q1386 q1387 q1388 q61 q1389) rfl rfl rfl (by decide +kernel) ⟨Nat.le_of_ble_eq_true rfl, Nat.le_of_ble_eq_true rfl⟩) hN hS mPic_o rfl rfl hl.1 rfl (Nat.le_of_ble_eq_true rfl) dL_law_1030 ⟨by first | omega | (show _ ≤ 705765; omega), by first | omega | (show _ ≤ 6954232; omega)⟩ (fun rv ad2 c2 H locs hv hN hS => ?_)
  obtain ⟨fi', fa', rfl, rfl, hv1, hm⟩ := hv
  subst hv1
  refine W.eq (g2 := F0 m 1033 ls (_ :: _)) rfl ?_
  refine W.lcmp hx hb dL_law_1033 ?_
  refine n_top (y := 0) (lw_cmp _) ?_
  refine lv_if_eq (tgt := 1230) hx hb dL_law_1034 (by decide) (fun _ => ?_) (fun z => absurd rfl z)
  refine W.widen (k := cells + 14) (n := slots + 2005) (by omega) (by omega) ?_
  exact kk _ _ _ _ e0 (ez 50 (by decide) (by decide)) (hnx _ _ hm) hN hS
set_option maxHeartbeats 1000000 in
set_option maxRecDepth 100000 in
theorem lw_a_copy (F : lwF p l m c s b L xs G) (hS : nS G s H locs) (hl : lv_has ls 4 [(3, .int (nI i)), (2, .ref (ad 50)), (1, .ref (ad 0)), (0, .ref b)]) (hi : i + 6 ≤ L) (hL : L ≤ 384) (hN : nOk G nCl ad c0 H) (hI : lwI G ad c0) (hc : cells + 14 ≤ 705765 ∧ slots + 2005 ≤ 6954232) (kk : lwK p l e s m below meth c b G ad cells slots Q ls) : W p l e room_1 s m #[.ref b] below meth c H locs cells slots Q (F0 m 1039 ls []) := by
  obtain ⟨y, si, fi, sa, fa, rn, dr, nd, np, nr, rfl, hR⟩ := hI
  obtain ⟨h1, h2, h3, h8, h6, hs1, hf5, hf6, hf22, hf1, hf0, h17, htd, hdn, hrw⟩ := id hR
  obtain ⟨SS, hX, hbG, hK1, hfl⟩ := id F
  obtain ⟨hx, hb, hml, hown, hts⟩ := id SS
  refine lv_aload_n hx hb dL_law_1039 rfl (lv_at hl 2 rfl) ?_
  refine lw_arg F hS hl hi hL 1 (by decide) (by decide) dL_law_1040 dL_law_1041 dL_law_1042 dL_law_1043 dL_law_1044 ?_
  refine lw_arg F hS hl hi hL 2 (by decide) (by decide) dL_law_1045 dL_law_1046 dL_law_1047 dL_law_1048 dL_law_1049 ?_
  refine lw_arg F hS hl hi hL 3 (by decide) (by decide) dL_law_1050 dL_law_1051 dL_law_1052 dL_law_1053 dL_law_1054 ?_
  refine lw_arg F hS hl hi hL 4 (by decide) (by decide) dL_law_1055 dL_law_1056 dL_law_1057 dL_law_1058 dL_law_1059 ?_
  refine lw_arg F hS hl hi hL 5 (by decide) (by decide) dL_law_1060 dL_law_1061 dL_law_1062 dL_law_1063 dL_law_1064 ?_
  refine n_callV (C := RX0) (As := [.int (xs (i + 1)), .int (xs (i + 2)), .int (xs (i + 3)), .int (xs (i + 4)), .int (xs (i + 5))]) (b := 0) SS (sK1_o G) hK1 hK1.1.1 (sX0_copy l G (sK1 G) (sK1_o G) (fun U h => h.1) (fun U h => h.2) hfl ad _ si sa rn (fa 2) (fa 3) (fa 4) h3 (xs (i + 1)) (xs (i + 2)) (xs (i + 3)) (xs (i + 4)) (xs (i + 5))) (cwV 5 hts (lw_V q964 q965 q966 q57 q967) rfl rfl rfl (by decide +kernel) ⟨Nat.le_of_ble_eq_true rfl, Nat.le_of_ble_eq_true rfl⟩) hN hS sPic_0 rfl rfl hl.1 rfl (Nat.le_of_ble_eq_true rfl) dL_law_1065 ⟨by first | omega | (show _ ≤ 705765; omega), by first | omega | (show _ ≤ 6954232; omega)⟩ (fun rv ad' c' H locs hv hN hS => ?_)
  obtain ⟨rfl, e0, ez, x', si', sa', rn', rfl, hnx⟩ := op_copy rfl hR (xs (i + 1)) (xs (i + 2)) (xs (i + 3)) (xs (i + 4)) (xs (i + 5)) hv
  refine W.eq (g2 := F0 m 1068 ls (_ :: _)) rfl ?_
  have hl : lv_has ls 4 [(3, .int (nI i)), (2, .ref (ad' 50)), (1, .ref (ad' 0)), (0, .ref b)] := by rw [ez 50 (by decide) (by decide), e0]; exact hl
  refine lv_aload_n hx hb dL_law_1068 rfl (lv_at hl 1 rfl) ?_
  refine lw_arg F hS hl hi hL 1 (by decide) (by decide) dL_law_1069 dL_law_1070 dL_law_1071 dL_law_1072 dL_law_1073 ?_
  refine lw_arg F hS hl hi hL 2 (by decide) (by decide) dL_law_1074 dL_law_1075 dL_law_1076 dL_law_1077 dL_law_1078 ?_
  refine lw_arg F hS hl hi hL 3 (by decide) (by decide) dL_law_1079 dL_law_1080 dL_law_1081 dL_law_1082 dL_law_1083 ?_
  refine lw_arg F hS hl hi hL 4 (by decide) (by decide) dL_law_1084 dL_law_1085 dL_law_1086 dL_law_1087 dL_law_1088 ?_
  refine lw_arg F hS hl hi hL 5 (by decide) (by decide) dL_law_1089 dL_law_1090 dL_law_1091 dL_law_1092 dL_law_1093 ?_
  refine n_callV (C := RX1) (As := [.int (xs (i + 1)), .int (xs (i + 2)), .int (xs (i + 3)), .int (xs (i + 4)), .int (xs (i + 5))]) (b := 50) SS (nK_o G) hK1.1.1 hK1.1.1 (mX1_copy l G ad' _ fi fa (xs (i + 1)) (xs (i + 2)) (xs (i + 3)) (xs (i + 4)) (xs (i + 5)) hR.SL) (cwV 5 hts (lw_V q1394 q1395 q1396 q61 q1397) rfl rfl rfl (by decide +kernel) ⟨Nat.le_of_ble_eq_true rfl, Nat.le_of_ble_eq_true rfl⟩) hN hS mPic_o rfl rfl hl.1 rfl (Nat.le_of_ble_eq_true rfl) dL_law_1094 ⟨by first | omega | (show _ ≤ 705765; omega), by first | omega | (show _ ≤ 6954232; omega)⟩ (fun rv ad2 c2 H locs hv hN hS => ?_)
  obtain ⟨fi', fa', rfl, rfl, hv1, hm⟩ := hv
  subst hv1
  refine W.eq (g2 := F0 m 1097 ls (_ :: _)) rfl ?_
  refine lv_icmp_eq (tgt := 1230) hx hb dL_law_1097 (by decide) (fun _ => ?_) (fun z => absurd rfl z)
  refine W.widen (k := cells + 14) (n := slots + 2005) (by omega) (by omega) ?_
  exact kk _ _ _ _ e0 (ez 50 (by decide) (by decide)) (hnx _ _ hm) hN hS
set_option maxHeartbeats 1000000 in
set_option maxRecDepth 100000 in
theorem lw_a_tell (F : lwF p l m c s b L xs G) (hS : nS G s H locs) (hl : lv_has ls 4 [(3, .int (nI i)), (2, .ref (ad 50)), (1, .ref (ad 0)), (0, .ref b)]) (hi : i + 6 ≤ L) (hL : L ≤ 384) (hN : nOk G nCl ad c0 H) (hI : lwI G ad c0) (hc : cells + 14 ≤ 705765 ∧ slots + 2005 ≤ 6954232) (kk : lwK p l e s m below meth c b G ad cells slots Q ls) : W p l e room_1 s m #[.ref b] below meth c H locs cells slots Q (F0 m 1102 ls []) := by
  obtain ⟨y, si, fi, sa, fa, rn, dr, nd, np, nr, rfl, hR⟩ := hI
  obtain ⟨h1, h2, h3, h8, h6, hs1, hf5, hf6, hf22, hf1, hf0, h17, htd, hdn, hrw⟩ := id hR
  obtain ⟨SS, hX, hbG, hK1, hfl⟩ := id F
  obtain ⟨hx, hb, hml, hown, hts⟩ := id SS
  refine lv_aload_n hx hb dL_law_1102 rfl (lv_at hl 2 rfl) ?_
  refine lw_arg F hS hl hi hL 1 (by decide) (by decide) dL_law_1103 dL_law_1104 dL_law_1105 dL_law_1106 dL_law_1107 ?_
  refine n_callV (C := RX0) (As := [.int (xs (i + 1))]) (b := 0) SS (sK1_o G) hK1 hK1.1.1 (sX0_tell l G (sK1 G) (sK1_o G) (fun U h => h.1) ad _ si sa rn (xs (i + 1)) np (fa 8) dr (fa 10) h1) (cwV 1 hts (lw_V q997 q998 q999 q57 q1000) rfl rfl rfl (by decide +kernel) ⟨Nat.le_of_ble_eq_true rfl, Nat.le_of_ble_eq_true rfl⟩) hN hS sPic_0 rfl rfl hl.1 rfl (Nat.le_of_ble_eq_true rfl) dL_law_1108 ⟨by first | omega | (show _ ≤ 705765; omega), by first | omega | (show _ ≤ 6954232; omega)⟩ (fun rv ad' c' H locs hv hN hS => ?_)
  obtain ⟨rfl, e0, ez, x', si', sa', rn', rfl, hnx⟩ := op_tell rfl hR (xs (i + 1)) hv
  refine W.eq (g2 := F0 m 1111 ls (_ :: _)) rfl ?_
  have hl : lv_has ls 4 [(3, .int (nI i)), (2, .ref (ad' 50)), (1, .ref (ad' 0)), (0, .ref b)] := by rw [ez 50 (by decide) (by decide), e0]; exact hl
  refine lv_aload_n hx hb dL_law_1111 rfl (lv_at hl 1 rfl) ?_
  refine lw_arg F hS hl hi hL 1 (by decide) (by decide) dL_law_1112 dL_law_1113 dL_law_1114 dL_law_1115 dL_law_1116 ?_
  refine n_callV (C := RX1) (As := [.int (xs (i + 1))]) (b := 50) SS (nK_o G) hK1.1.1 hK1.1.1 (mX1_tell l G ad' _ fi fa (xs (i + 1)) np hf6 h1.1) (cwV 1 hts (lw_V q1398 q1399 q1400 q61 q1401) rfl rfl rfl (by decide +kernel) ⟨Nat.le_of_ble_eq_true rfl, Nat.le_of_ble_eq_true rfl⟩) hN hS mPic_o rfl rfl hl.1 rfl (Nat.le_of_ble_eq_true rfl) dL_law_1117 ⟨by first | omega | (show _ ≤ 705765; omega), by first | omega | (show _ ≤ 6954232; omega)⟩ (fun rv ad2 c2 H locs hv hN hS => ?_)
  obtain ⟨fi', fa', rfl, rfl, hv1, hm⟩ := hv
  subst hv1
  refine W.eq (g2 := F0 m 1120 ls (_ :: _)) rfl ?_
  refine lv_icmp_eq (tgt := 1230) hx hb dL_law_1120 (by decide) (fun _ => ?_) (fun z => absurd rfl z)
  refine W.widen (k := cells + 14) (n := slots + 2005) (by omega) (by omega) ?_
  exact kk _ _ _ _ e0 (ez 50 (by decide) (by decide)) (hnx _ _ hm) hN hS
set_option maxHeartbeats 1000000 in
set_option maxRecDepth 100000 in
theorem lw_a_greet (F : lwF p l m c s b L xs G) (hS : nS G s H locs) (hl : lv_has ls 4 [(3, .int (nI i)), (2, .ref (ad 50)), (1, .ref (ad 0)), (0, .ref b)]) (hi : i + 6 ≤ L) (hL : L ≤ 384) (hN : nOk G nCl ad c0 H) (hI : lwI G ad c0) (hc : cells + 14 ≤ 705765 ∧ slots + 2005 ≤ 6954232) (kk : lwK p l e s m below meth c b G ad cells slots Q ls) : W p l e room_1 s m #[.ref b] below meth c H locs cells slots Q (F0 m 1125 ls []) := by
  obtain ⟨y, si, fi, sa, fa, rn, dr, nd, np, nr, rfl, hR⟩ := hI
  obtain ⟨h1, h2, h3, h8, h6, hs1, hf5, hf6, hf22, hf1, hf0, h17, htd, hdn, hrw⟩ := id hR
  obtain ⟨SS, hX, hbG, hK1, hfl⟩ := id F
  obtain ⟨hx, hb, hml, hown, hts⟩ := id SS
  refine lv_aload_n hx hb dL_law_1125 rfl (lv_at hl 2 rfl) ?_
  refine lw_arg F hS hl hi hL 1 (by decide) (by decide) dL_law_1126 dL_law_1127 dL_law_1128 dL_law_1129 dL_law_1130 ?_
  refine n_callV (C := RX0) (As := [.int (xs (i + 1))]) (b := 0) SS (sK1_o G) hK1 hK1.1.1 (sX0_greet l G (sK1 G) (sK1_o G) (fun U h => h.1) (fun U h => h.2) hfl ad _ si sa rn np (fa 8) dr (fa 10) h1 (xs (i + 1))) (cwV 1 hts (lw_V q1031 q1032 q1033 q57 q1034) rfl rfl rfl (by decide +kernel) ⟨Nat.le_of_ble_eq_true rfl, Nat.le_of_ble_eq_true rfl⟩) hN hS sPic_0 rfl rfl hl.1 rfl (Nat.le_of_ble_eq_true rfl) dL_law_1131 ⟨by first | omega | (show _ ≤ 705765; omega), by first | omega | (show _ ≤ 6954232; omega)⟩ (fun rv ad' c' H locs hv hN hS => ?_)
  obtain ⟨rfl, e0, ez, x', si', sa', rn', rfl, hnx⟩ := op_greet rfl hR (xs (i + 1)) hv
  refine W.eq (g2 := F0 m 1134 ls (_ :: _)) rfl ?_
  have hl : lv_has ls 4 [(3, .int (nI i)), (2, .ref (ad' 50)), (1, .ref (ad' 0)), (0, .ref b)] := by rw [ez 50 (by decide) (by decide), e0]; exact hl
  refine lv_aload_n hx hb dL_law_1134 rfl (lv_at hl 1 rfl) ?_
  refine lw_arg F hS hl hi hL 1 (by decide) (by decide) dL_law_1135 dL_law_1136 dL_law_1137 dL_law_1138 dL_law_1139 ?_
  refine n_callV (C := RX1) (As := [.int (xs (i + 1))]) (b := 50) SS (nK_o G) hK1.1.1 hK1.1.1 (mX1_greet l G ad' _ fi fa (xs (i + 1)) np hf6 h1.1) (cwV 1 hts (lw_V q1406 q1407 q1408 q61 q1409) rfl rfl rfl (by decide +kernel) ⟨Nat.le_of_ble_eq_true rfl, Nat.le_of_ble_eq_true rfl⟩) hN hS mPic_o rfl rfl hl.1 rfl (Nat.le_of_ble_eq_true rfl) dL_law_1140 ⟨by first | omega | (show _ ≤ 705765; omega), by first | omega | (show _ ≤ 6954232; omega)⟩ (fun rv ad2 c2 H locs hv hN hS => ?_)
  obtain ⟨fi', fa', rfl, rfl, hv1, hm⟩ := hv
  subst hv1
  refine W.eq (g2 := F0 m 1143 ls (_ :: _)) rfl ?_
  refine lv_icmp_eq (tgt := 1230) hx hb dL_law_1143 (by decide) (fun _ => ?_) (fun z => absurd rfl z)
  refine W.widen (k := cells + 14) (n := slots + 2005) (by omega) (by omega) ?_
  exact kk _ _ _ _ e0 (ez 50 (by decide) (by decide)) (hnx _ _ hm) hN hS
set_option maxHeartbeats 1000000 in
set_option maxRecDepth 100000 in
theorem lw_a_as (F : lwF p l m c s b L xs G) (hS : nS G s H locs) (hl : lv_has ls 4 [(3, .int (nI i)), (2, .ref (ad 50)), (1, .ref (ad 0)), (0, .ref b)]) (hi : i + 6 ≤ L) (hL : L ≤ 384) (hN : nOk G nCl ad c0 H) (hI : lwI G ad c0) (hc : cells + 14 ≤ 705765 ∧ slots + 2005 ≤ 6954232) (kk : lwK p l e s m below meth c b G ad cells slots Q ls) : W p l e room_1 s m #[.ref b] below meth c H locs cells slots Q (F0 m 1148 ls []) := by
  obtain ⟨y, si, fi, sa, fa, rn, dr, nd, np, nr, rfl, hR⟩ := hI
  obtain ⟨h1, h2, h3, h8, h6, hs1, hf5, hf6, hf22, hf1, hf0, h17, htd, hdn, hrw⟩ := id hR
  obtain ⟨SS, hX, hbG, hK1, hfl⟩ := id F
  obtain ⟨hx, hb, hml, hown, hts⟩ := id SS
  refine lv_aload_n hx hb dL_law_1148 rfl (lv_at hl 2 rfl) ?_
  refine lw_arg F hS hl hi hL 1 (by decide) (by decide) dL_law_1149 dL_law_1150 dL_law_1151 dL_law_1152 dL_law_1153 ?_
  refine lw_arg F hS hl hi hL 2 (by decide) (by decide) dL_law_1154 dL_law_1155 dL_law_1156 dL_law_1157 dL_law_1158 ?_
  refine n_callV (C := RX0) (As := [.int (xs (i + 1)), .int (xs (i + 2))]) (b := 0) SS (sK1_o G) hK1 hK1.1.1 (sX0_as l G (sK1 G) (sK1_o G) (fun U h => h.1) (fun U h => h.2) hfl ad _ si sa rn np (fa 8) dr (fa 10) h1 (xs (i + 1)) (xs (i + 2))) (cwV 2 hts (lw_V q1077 q1078 q1079 q57 q1080) rfl rfl rfl (by decide +kernel) ⟨Nat.le_of_ble_eq_true rfl, Nat.le_of_ble_eq_true rfl⟩) hN hS sPic_0 rfl rfl hl.1 rfl (Nat.le_of_ble_eq_true rfl) dL_law_1159 ⟨by first | omega | (show _ ≤ 705765; omega), by first | omega | (show _ ≤ 6954232; omega)⟩ (fun rv ad' c' H locs hv hN hS => ?_)
  obtain ⟨rfl, e0, ez, x', si', sa', rn', rfl, hnx⟩ := op_as rfl hR (xs (i + 1)) (xs (i + 2)) hv
  refine W.eq (g2 := F0 m 1162 ls (_ :: _)) rfl ?_
  have hl : lv_has ls 4 [(3, .int (nI i)), (2, .ref (ad' 50)), (1, .ref (ad' 0)), (0, .ref b)] := by rw [ez 50 (by decide) (by decide), e0]; exact hl
  refine lv_aload_n hx hb dL_law_1162 rfl (lv_at hl 1 rfl) ?_
  refine lw_arg F hS hl hi hL 1 (by decide) (by decide) dL_law_1163 dL_law_1164 dL_law_1165 dL_law_1166 dL_law_1167 ?_
  refine lw_arg F hS hl hi hL 2 (by decide) (by decide) dL_law_1168 dL_law_1169 dL_law_1170 dL_law_1171 dL_law_1172 ?_
  refine n_callV (C := RX1) (As := [.int (xs (i + 1)), .int (xs (i + 2))]) (b := 50) SS (nK_o G) hK1.1.1 hK1.1.1 (mX1_as l G ad' _ fi fa (xs (i + 1)) (xs (i + 2)) np hf6 h1.1) (cwV 2 hts (lw_V q1410 q1411 q1412 q61 q1413) rfl rfl rfl (by decide +kernel) ⟨Nat.le_of_ble_eq_true rfl, Nat.le_of_ble_eq_true rfl⟩) hN hS mPic_o rfl rfl hl.1 rfl (Nat.le_of_ble_eq_true rfl) dL_law_1173 ⟨by first | omega | (show _ ≤ 705765; omega), by first | omega | (show _ ≤ 6954232; omega)⟩ (fun rv ad2 c2 H locs hv hN hS => ?_)
  obtain ⟨fi', fa', rfl, rfl, hv1, hm⟩ := hv
  subst hv1
  refine W.eq (g2 := F0 m 1176 ls (_ :: _)) rfl ?_
  refine lv_icmp_eq (tgt := 1230) hx hb dL_law_1176 (by decide) (fun _ => ?_) (fun z => absurd rfl z)
  refine W.widen (k := cells + 14) (n := slots + 2005) (by omega) (by omega) ?_
  exact kk _ _ _ _ e0 (ez 50 (by decide) (by decide)) (hnx _ _ hm) hN hS
set_option maxHeartbeats 1000000 in
set_option maxRecDepth 100000 in
theorem lw_a_trace (F : lwF p l m c s b L xs G) (hS : nS G s H locs) (hl : lv_has ls 4 [(3, .int (nI i)), (2, .ref (ad 50)), (1, .ref (ad 0)), (0, .ref b)]) (hi : i + 6 ≤ L) (hL : L ≤ 384) (hN : nOk G nCl ad c0 H) (hI : lwI G ad c0) (hc : cells + 14 ≤ 705765 ∧ slots + 2005 ≤ 6954232) (kk : lwK p l e s m below meth c b G ad cells slots Q ls) : W p l e room_1 s m #[.ref b] below meth c H locs cells slots Q (F0 m 1181 ls []) := by
  obtain ⟨y, si, fi, sa, fa, rn, dr, nd, np, nr, rfl, hR⟩ := hI
  obtain ⟨h1, h2, h3, h8, h6, hs1, hf5, hf6, hf22, hf1, hf0, h17, htd, hdn, hrw⟩ := id hR
  obtain ⟨SS, hX, hbG, hK1, hfl⟩ := id F
  obtain ⟨hx, hb, hml, hown, hts⟩ := id SS
  refine lv_aload_n hx hb dL_law_1181 rfl (lv_at hl 2 rfl) ?_
  refine n_callV (C := RX0) (As := []) (b := 0) SS (sK1_o G) hK1 hK1.1.1 (sX0_trace l G (sK1 G) (sK1_o G) (fun U h => h.1) ad _ si sa rn) (cwV 0 hts (lw_V q1101 q1102 q1103 q57 q1104) rfl rfl rfl (by decide +kernel) ⟨Nat.le_of_ble_eq_true rfl, Nat.le_of_ble_eq_true rfl⟩) hN hS sPic_0 rfl rfl hl.1 rfl (Nat.le_of_ble_eq_true rfl) dL_law_1182 ⟨by first | omega | (show _ ≤ 705765; omega), by first | omega | (show _ ≤ 6954232; omega)⟩ (fun rv ad' c' H locs hv hN hS => ?_)
  obtain ⟨rfl, e0, ez, x', si', sa', rn', rfl, hnx⟩ := op_trace rfl hR  hv
  refine W.eq (g2 := F0 m 1185 ls (_ :: _)) rfl ?_
  have hl : lv_has ls 4 [(3, .int (nI i)), (2, .ref (ad' 50)), (1, .ref (ad' 0)), (0, .ref b)] := by rw [ez 50 (by decide) (by decide), e0]; exact hl
  refine lv_aload_n hx hb dL_law_1185 rfl (lv_at hl 1 rfl) ?_
  refine n_callV (C := RX1) (As := []) (b := 50) SS (nK_o G) hK1.1.1 hK1.1.1 (mX1_trace l G ad' _ fi fa) (cwV 0 hts (lw_V q1414 q1415 q1416 q61 q1417) rfl rfl rfl (by decide +kernel) ⟨Nat.le_of_ble_eq_true rfl, Nat.le_of_ble_eq_true rfl⟩) hN hS mPic_o rfl rfl hl.1 rfl (Nat.le_of_ble_eq_true rfl) dL_law_1186 ⟨by first | omega | (show _ ≤ 705765; omega), by first | omega | (show _ ≤ 6954232; omega)⟩ (fun rv ad2 c2 H locs hv hN hS => ?_)
  obtain ⟨fi', fa', rfl, rfl, hv1, hm⟩ := hv
  subst hv1
  refine W.eq (g2 := F0 m 1189 ls (_ :: _)) rfl ?_
  refine lv_icmp_eq (tgt := 1230) hx hb dL_law_1189 (by decide) (fun _ => ?_) (fun z => absurd rfl z)
  refine W.widen (k := cells + 14) (n := slots + 2005) (by omega) (by omega) ?_
  exact kk _ _ _ _ e0 (ez 50 (by decide) (by decide)) (hnx _ _ hm) hN hS
set_option maxHeartbeats 1000000 in
set_option maxRecDepth 100000 in
theorem lw_a_fault (F : lwF p l m c s b L xs G) (hS : nS G s H locs) (hl : lv_has ls 4 [(3, .int (nI i)), (2, .ref (ad 50)), (1, .ref (ad 0)), (0, .ref b)]) (hi : i + 6 ≤ L) (hL : L ≤ 384) (hN : nOk G nCl ad c0 H) (hI : lwI G ad c0) (hc : cells + 14 ≤ 705765 ∧ slots + 2005 ≤ 6954232) (kk : lwK p l e s m below meth c b G ad cells slots Q ls) : W p l e room_1 s m #[.ref b] below meth c H locs cells slots Q (F0 m 1194 ls []) := by
  obtain ⟨y, si, fi, sa, fa, rn, dr, nd, np, nr, rfl, hR⟩ := hI
  obtain ⟨h1, h2, h3, h8, h6, hs1, hf5, hf6, hf22, hf1, hf0, h17, htd, hdn, hrw⟩ := id hR
  obtain ⟨SS, hX, hbG, hK1, hfl⟩ := id F
  obtain ⟨hx, hb, hml, hown, hts⟩ := id SS
  refine lv_aload_n hx hb dL_law_1194 rfl (lv_at hl 2 rfl) ?_
  refine n_callV (C := RX0) (As := []) (b := 0) SS (sK1_o G) hK1 hK1.1.1 (sX0_fault l G (sK1 G) (sK1_o G) (fun U h => h.1) ad _ si sa rn) (cwV 0 hts (lw_V q1105 q1106 q1107 q57 q1108) rfl rfl rfl (by decide +kernel) ⟨Nat.le_of_ble_eq_true rfl, Nat.le_of_ble_eq_true rfl⟩) hN hS sPic_0 rfl rfl hl.1 rfl (Nat.le_of_ble_eq_true rfl) dL_law_1195 ⟨by first | omega | (show _ ≤ 705765; omega), by first | omega | (show _ ≤ 6954232; omega)⟩ (fun rv ad' c' H locs hv hN hS => ?_)
  obtain ⟨rfl, e0, ez, x', si', sa', rn', rfl, hnx⟩ := op_fault rfl hR  hv
  refine W.eq (g2 := F0 m 1198 ls (_ :: _)) rfl ?_
  have hl : lv_has ls 4 [(3, .int (nI i)), (2, .ref (ad' 50)), (1, .ref (ad' 0)), (0, .ref b)] := by rw [ez 50 (by decide) (by decide), e0]; exact hl
  refine lv_aload_n hx hb dL_law_1198 rfl (lv_at hl 1 rfl) ?_
  refine n_callV (C := RX1) (As := []) (b := 50) SS (nK_o G) hK1.1.1 hK1.1.1 (mX1_fault l G ad' _ fi fa) (cwV 0 hts (lw_V q1418 q1419 q1420 q61 q1421) rfl rfl rfl (by decide +kernel) ⟨Nat.le_of_ble_eq_true rfl, Nat.le_of_ble_eq_true rfl⟩) hN hS mPic_o rfl rfl hl.1 rfl (Nat.le_of_ble_eq_true rfl) dL_law_1199 ⟨by first | omega | (show _ ≤ 705765; omega), by first | omega | (show _ ≤ 6954232; omega)⟩ (fun rv ad2 c2 H locs hv hN hS => ?_)
  obtain ⟨fi', fa', rfl, rfl, hv1, hm⟩ := hv
  subst hv1
  refine W.eq (g2 := F0 m 1202 ls (_ :: _)) rfl ?_
  refine lv_icmp_eq (tgt := 1230) hx hb dL_law_1202 (by decide) (fun _ => ?_) (fun z => absurd rfl z)
  refine W.widen (k := cells + 14) (n := slots + 2005) (by omega) (by omega) ?_
  exact kk _ _ _ _ e0 (ez 50 (by decide) (by decide)) (hnx _ _ hm) hN hS
set_option maxHeartbeats 1000000 in
set_option maxRecDepth 100000 in
theorem lw_a_many (F : lwF p l m c s b L xs G) (hS : nS G s H locs) (hl : lv_has ls 4 [(3, .int (nI i)), (2, .ref (ad 50)), (1, .ref (ad 0)), (0, .ref b)]) (hi : i + 6 ≤ L) (hL : L ≤ 384) (hN : nOk G nCl ad c0 H) (hI : lwI G ad c0) (hc : cells + 14 ≤ 705765 ∧ slots + 2005 ≤ 6954232) (kk : lwK p l e s m below meth c b G ad cells slots Q ls) : W p l e room_1 s m #[.ref b] below meth c H locs cells slots Q (F0 m 1207 ls []) := by
  obtain ⟨y, si, fi, sa, fa, rn, dr, nd, np, nr, rfl, hR⟩ := hI
  obtain ⟨h1, h2, h3, h8, h6, hs1, hf5, hf6, hf22, hf1, hf0, h17, htd, hdn, hrw⟩ := id hR
  obtain ⟨SS, hX, hbG, hK1, hfl⟩ := id F
  obtain ⟨hx, hb, hml, hown, hts⟩ := id SS
  obtain ⟨mr, er, hq6, -⟩ := h2.2.1
  refine lv_aload_n hx hb dL_law_1207 rfl (lv_at hl 2 rfl) ?_
  refine lw_arg F hS hl hi hL 1 (by decide) (by decide) dL_law_1208 dL_law_1209 dL_law_1210 dL_law_1211 dL_law_1212 ?_
  refine n_callV (C := RX0) (As := [.int (xs (i + 1))]) (b := 0) SS (sK1_o G) hK1 hK1.1.1 (sX0_many l G (sK1 G) (sK1_o G) (fun U h => h.1) ad _ si sa rn (xs (i + 1)) np (fa 8) dr (fa 10) h1 nd hs1 h6 nr _ _ hq6) (cwV 1 hts (lw_V q1109 q1110 q1111 q57 q1112) rfl rfl rfl (by decide +kernel) ⟨Nat.le_of_ble_eq_true rfl, Nat.le_of_ble_eq_true rfl⟩) hN hS sPic_0 rfl rfl hl.1 rfl (Nat.le_of_ble_eq_true rfl) dL_law_1213 ⟨by first | omega | (show _ ≤ 705765; omega), by first | omega | (show _ ≤ 6954232; omega)⟩ (fun rv ad' c' H locs hv hN hS => ?_)
  obtain ⟨rfl, e0, ez, x', si', sa', rn', rfl, hnx⟩ := op_many rfl hR (xs (i + 1)) hv
  refine W.eq (g2 := F0 m 1216 ls (_ :: _)) rfl ?_
  have hl : lv_has ls 4 [(3, .int (nI i)), (2, .ref (ad' 50)), (1, .ref (ad' 0)), (0, .ref b)] := by rw [ez 50 (by decide) (by decide), e0]; exact hl
  refine lv_aload_n hx hb dL_law_1216 rfl (lv_at hl 1 rfl) ?_
  refine lw_arg F hS hl hi hL 1 (by decide) (by decide) dL_law_1217 dL_law_1218 dL_law_1219 dL_law_1220 dL_law_1221 ?_
  refine n_callV (C := RX1) (As := [.int (xs (i + 1))]) (b := 50) SS (nK_o G) hK1.1.1 hK1.1.1 (mX1_many l G ad' _ fi fa (xs (i + 1)) nd hf5 h6 np hf6 h1.1 nr hf22 h2.1) (cwV 1 hts (lw_V q1422 q1423 q1424 q61 q1425) rfl rfl rfl (by decide +kernel) ⟨Nat.le_of_ble_eq_true rfl, Nat.le_of_ble_eq_true rfl⟩) hN hS mPic_o rfl rfl hl.1 rfl (Nat.le_of_ble_eq_true rfl) dL_law_1222 ⟨by first | omega | (show _ ≤ 705765; omega), by first | omega | (show _ ≤ 6954232; omega)⟩ (fun rv ad2 c2 H locs hv hN hS => ?_)
  obtain ⟨fi', fa', rfl, rfl, hv1, hm⟩ := hv
  subst hv1
  refine W.eq (g2 := F0 m 1225 ls (_ :: _)) rfl ?_
  refine lv_icmp_eq (tgt := 1230) hx hb dL_law_1225 (by decide) (fun _ => ?_) (fun z => absurd rfl z)
  refine W.widen (k := cells + 14) (n := slots + 2005) (by omega) (by omega) ?_
  exact kk _ _ _ _ e0 (ez 50 (by decide) (by decide)) (hnx _ _ hm) hN hS
end LAW
