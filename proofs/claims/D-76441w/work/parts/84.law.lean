/-! THE LAW, call by call -/
/-- the script, under the line -/
def lq_X (lo : Nat) (G0 : hg_G) (b L : Nat) (xs : Nat → Int32) : Prop := b < lo ∧ G0.1 b = some (8, L) ∧ ∀ j, j < L → G0.2.1 b j = xs j
theorem lq_I.sc {D : hg_D} {lo x o b L : Nat} {am : Nat → Nat} {G0 G : hg_G} {A B : ab_S} {xs : Nat → Int32} (h : lq_I D lo x o am G0 G A B) (hX : lq_X lo G0 b L xs) : G.1 b = some (8, L) ∧ ∀ j, j < L → G.2.1 b j = xs j := by
  have t := h.1 b hX.1
  exact ⟨t.1.trans hX.2.1, fun j hj => (t.2.1 j).trans (hX.2.2 j hj)⟩
theorem lg_cmp_self (a : Int64) : lg_cmp a a = nI 0 := by
  unfold lg_cmp
  have h : ¬ a > a := fun z => by have := Int64.lt_iff_toInt_lt.mp z; omega
  rw [if_neg h, if_pos rfl]
  rfl
theorem ll_gt {L i : Nat} (hL : L ≤ 448) (hi : i ≤ 455) : nI L - nI 7 < nI i ↔ L < i + 7 := by
  rw [Int32.lt_iff_toInt_lt, pk_sub_toInt (by omega) (by decide), nI_toInt (by omega)]
  omega
section LLW
variable {p : Program} {l : Launch} {e : Env} {R : Room} {s : State} {m : MethodId} {args : Array Value} {below : List Frame} {meth : Method} {c : Code} {Q : State → Prop} {D : hg_D} {lo : Nat} {C0 : hg_K} {nL kr nr mc ms : Nat} {G G0 : hg_G} {pc q x o : Nat} {L : List (Option Value)} {st0 rest : List Value} {am : Nat → Nat} {v : Value} {A B : ab_S}
theorem hr_callL (h : hg_Call p l e R s m args below meth c D lo C0 nL G pc L st0 rest mc ms (lq_P D lo x o am G0 v A B)) (hq : pc + 3 = q)
    (k : ∀ G' : hg_G, lq_I D lo x o am G0 G' A B → hg_W p l e R s m args below meth c Q D lo C0 nL kr nr G' q L (v :: rest)) : hg_W p l e R s m args below meth c Q D lo C0 nL (kr + mc) (nr + ms) G pc L st0 := by
  refine hr_call h hq (fun qx E G' hp _ => by cases hp.1) (fun r G' hp _ => ?_)
  obtain ⟨h1, h2⟩ := hp
  cases h1
  exact k G' h2
theorem hr_callL0 (h : hg_Call p l e R s m args below meth c D lo C0 nL G pc L st0 rest 0 0 (lq_P D lo x o am G0 v A B)) (hq : pc + 3 = q)
    (k : ∀ G' : hg_G, lq_I D lo x o am G0 G' A B → hg_W p l e R s m args below meth c Q D lo C0 nL kr nr G' q L (v :: rest)) : hg_W p l e R s m args below meth c Q D lo C0 nL kr nr G pc L st0 := hr_callL h hq k
end LLW
section LLC
variable {p : Program} {l : Launch} {e : Env} {s : State} {m : MethodId} {args : Array Value} {below : List Frame} {meth : Method} {c : Code} {Q : State → Prop} {D : hg_D} {lo : Nat} {C0 : hg_K} {kr nr : Nat} {G0 G : hg_G} {b x o i L : Nat} {am : Nat → Nat} {xs : Nat → Int32} {A : ab_S}
theorem ll_c0 (X : hg_X p l s m args meth c D lo "TaxOnLooksLaw" cL_law 4) (hS : lq_S D lo G0) (hX : lq_X lo G0 b L xs) (hI : lq_I D lo x o am G0 G A A) (hA : ab_I A) (hi : i + 7 ≤ L) (hL : L ≤ 448)
    (k : ∀ (G' : hg_G) (A' : ab_S), lq_I D lo x o am G0 G' A' A' → ab_I A' → hg_W p l e room_1 s m args below meth c Q D lo C0 4 kr nr G' 1452 [some (.ref b), some (.ref x), some (.ref o), some (.int (nI i))] []) :
    hg_W p l e room_1 s m args below meth c Q D lo C0 4 (kr + 4000) (nr + 32000) G 196 [some (.ref b), some (.ref x), some (.ref o), some (.int (nI i))] [] := by
  obtain ⟨hk, hv⟩ := hI.sc hX
  refine hr_aload1 (q := 197) X dL_law_196 rfl ?_
  refine hr_aload0 (q := 198) X dL_law_197 rfl ?_
  refine hr_iload3 (q := 199) X dL_law_198 rfl ?_
  refine hr_iconst (v := (nI 1)) (q := 200) X dL_law_199 rfl rfl ?_
  refine hr_iadd (v := (nI (i + 1))) (q := 201) X dL_law_200 rfl (nI_add _ _) ?_
  refine hr_ialdN (a := b) (n := L) (t := 7) (j := i + 1) (v := xs (i + 1)) (q := 202) X dL_law_201 rfl (hk) (Or.inr rfl) (by omega) (by omega) (hv _ (by omega)) ?_
  refine hr_aload0 (q := 203) X dL_law_202 rfl ?_
  refine hr_iload3 (q := 204) X dL_law_203 rfl ?_
  refine hr_iconst (v := (nI 2)) (q := 205) X dL_law_204 rfl rfl ?_
  refine hr_iadd (v := (nI (i + 2))) (q := 206) X dL_law_205 rfl (nI_add _ _) ?_
  refine hr_ialdN (a := b) (n := L) (t := 7) (j := i + 2) (v := xs (i + 2)) (q := 207) X dL_law_206 rfl (hk) (Or.inr rfl) (by omega) (by omega) (hv _ (by omega)) ?_
  refine hr_aload0 (q := 208) X dL_law_207 rfl ?_
  refine hr_iload3 (q := 209) X dL_law_208 rfl ?_
  refine hr_iconst (v := (nI 3)) (q := 210) X dL_law_209 rfl rfl ?_
  refine hr_iadd (v := (nI (i + 3))) (q := 211) X dL_law_210 rfl (nI_add _ _) ?_
  refine hr_ialdN (a := b) (n := L) (t := 7) (j := i + 3) (v := xs (i + 3)) (q := 212) X dL_law_211 rfl (hk) (Or.inr rfl) (by omega) (by omega) (hv _ (by omega)) ?_
  have hA1 : ab_I (sq_row (xs (i + 1)) (xs (i + 2)) (xs (i + 3)) A).2 := hA.row _ _ _
  refine hr_room (kr' := kr + 40) (nr' := nr + 3000) (Nat.add_le_add_left (by decide) _) (Nat.add_le_add_left (by decide) _) ?_
  refine hr_callL (kr := kr) (nr := nr) (q := 215) (hc_VX (n := 3) (ci := 0) (As := [.int (xs (i + 1)), .int (xs (i + 2)), .int (xs (i + 3))]) X dL_law_212 rfl (hI.c (rm := rk_X0_row) (v := .int (sq_row (xs (i + 1)) (xs (i + 2)) (xs (i + 3)) A).1) (A' := (sq_row (xs (i + 1)) (xs (i + 2)) (xs (i + 3)) A).2) hS hA.w hA1.w (fun Gs ca e1 e2 e3 => by subst e1; exact tc_rowC X.tr (h := e2) (hW := hA.w))) q273 cv_X0_row ⟨Nat.le_of_ble_eq_true rfl, Nat.le_of_ble_eq_true rfl⟩ rfl (Nat.le_of_ble_eq_true rfl) hI.kx rfl rfl) rfl (fun G1 hI1 => ?_)
  obtain ⟨hk1, hv1⟩ := hI1.sc hX
  refine hr_aload2 (q := 216) X dL_law_215 rfl ?_
  refine hr_aload0 (q := 217) X dL_law_216 rfl ?_
  refine hr_iload3 (q := 218) X dL_law_217 rfl ?_
  refine hr_iconst (v := (nI 1)) (q := 219) X dL_law_218 rfl rfl ?_
  refine hr_iadd (v := (nI (i + 1))) (q := 220) X dL_law_219 rfl (nI_add _ _) ?_
  refine hr_ialdN (a := b) (n := L) (t := 7) (j := i + 1) (v := xs (i + 1)) (q := 221) X dL_law_220 rfl (hk1) (Or.inr rfl) (by omega) (by omega) (hv1 _ (by omega)) ?_
  refine hr_aload0 (q := 222) X dL_law_221 rfl ?_
  refine hr_iload3 (q := 223) X dL_law_222 rfl ?_
  refine hr_iconst (v := (nI 2)) (q := 224) X dL_law_223 rfl rfl ?_
  refine hr_iadd (v := (nI (i + 2))) (q := 225) X dL_law_224 rfl (nI_add _ _) ?_
  refine hr_ialdN (a := b) (n := L) (t := 7) (j := i + 2) (v := xs (i + 2)) (q := 226) X dL_law_225 rfl (hk1) (Or.inr rfl) (by omega) (by omega) (hv1 _ (by omega)) ?_
  refine hr_aload0 (q := 227) X dL_law_226 rfl ?_
  refine hr_iload3 (q := 228) X dL_law_227 rfl ?_
  refine hr_iconst (v := (nI 3)) (q := 229) X dL_law_228 rfl rfl ?_
  refine hr_iadd (v := (nI (i + 3))) (q := 230) X dL_law_229 rfl (nI_add _ _) ?_
  refine hr_ialdN (a := b) (n := L) (t := 7) (j := i + 3) (v := xs (i + 3)) (q := 231) X dL_law_230 rfl (hk1) (Or.inr rfl) (by omega) (by omega) (hv1 _ (by omega)) ?_
  refine hr_callL0 (kr := kr) (nr := nr) (q := 234) (hc_V (n := 3) (ci := 5) (As := [.int (xs (i + 1)), .int (xs (i + 2)), .int (xs (i + 3))]) X dL_law_231 rfl (hI1.m (rm := rm_X5_row) (v := .int (sq_row (xs (i + 1)) (xs (i + 2)) (xs (i + 3)) A).1) (B' := (sq_row (xs (i + 1)) (xs (i + 2)) (xs (i + 3)) A).2) (fun Gs u e1 e2 => tk_row X.tr (hR := e1) (hA := e2) (hW := hA.w))) q1515 cv_X5_row ⟨Nat.le_of_ble_eq_true rfl, Nat.le_of_ble_eq_true rfl⟩ rfl (Nat.le_of_ble_eq_true rfl) hI1.ko rfl rfl) rfl (fun G2 hI2 => ?_)
  refine hr_icmp_eq (q := 237) (tgt := 1452) X dL_law_234 rfl (by decide) (fun _ => ?_) (fun z => absurd rfl z)
  exact k _ _ hI2 hA1
theorem ll_c1 (X : hg_X p l s m args meth c D lo "TaxOnLooksLaw" cL_law 4) (hS : lq_S D lo G0) (hX : lq_X lo G0 b L xs) (hI : lq_I D lo x o am G0 G A A) (hA : ab_I A) (hi : i + 7 ≤ L) (hL : L ≤ 448)
    (k : ∀ (G' : hg_G) (A' : ab_S), lq_I D lo x o am G0 G' A' A' → ab_I A' → hg_W p l e room_1 s m args below meth c Q D lo C0 4 kr nr G' 1452 [some (.ref b), some (.ref x), some (.ref o), some (.int (nI i))] []) :
    hg_W p l e room_1 s m args below meth c Q D lo C0 4 (kr + 4000) (nr + 32000) G 239 [some (.ref b), some (.ref x), some (.ref o), some (.int (nI i))] [] := by
  obtain ⟨hk, hv⟩ := hI.sc hX
  refine hr_aload1 (q := 240) X dL_law_239 rfl ?_
  refine hr_aload0 (q := 241) X dL_law_240 rfl ?_
  refine hr_iload3 (q := 242) X dL_law_241 rfl ?_
  refine hr_iconst (v := (nI 1)) (q := 243) X dL_law_242 rfl rfl ?_
  refine hr_iadd (v := (nI (i + 1))) (q := 244) X dL_law_243 rfl (nI_add _ _) ?_
  refine hr_ialdN (a := b) (n := L) (t := 7) (j := i + 1) (v := xs (i + 1)) (q := 245) X dL_law_244 rfl (hk) (Or.inr rfl) (by omega) (by omega) (hv _ (by omega)) ?_
  refine hr_aload0 (q := 246) X dL_law_245 rfl ?_
  refine hr_iload3 (q := 247) X dL_law_246 rfl ?_
  refine hr_iconst (v := (nI 2)) (q := 248) X dL_law_247 rfl rfl ?_
  refine hr_iadd (v := (nI (i + 2))) (q := 249) X dL_law_248 rfl (nI_add _ _) ?_
  refine hr_ialdN (a := b) (n := L) (t := 7) (j := i + 2) (v := xs (i + 2)) (q := 250) X dL_law_249 rfl (hk) (Or.inr rfl) (by omega) (by omega) (hv _ (by omega)) ?_
  refine hr_aload0 (q := 251) X dL_law_250 rfl ?_
  refine hr_iload3 (q := 252) X dL_law_251 rfl ?_
  refine hr_iconst (v := (nI 3)) (q := 253) X dL_law_252 rfl rfl ?_
  refine hr_iadd (v := (nI (i + 3))) (q := 254) X dL_law_253 rfl (nI_add _ _) ?_
  refine hr_ialdN (a := b) (n := L) (t := 7) (j := i + 3) (v := xs (i + 3)) (q := 255) X dL_law_254 rfl (hk) (Or.inr rfl) (by omega) (by omega) (hv _ (by omega)) ?_
  refine hr_i2l (v := ((xs (i + 3)).toInt64)) (q := 256) X dL_law_255 rfl rfl ?_
  refine hr_bipush (v := (nI 32)) (q := 258) X dL_law_256 rfl rfl ?_
  refine hr_lshl (v := (((xs (i + 3)).toInt64) <<< ((nI 32).toInt64 &&& 63))) (q := 259) X dL_law_258 rfl rfl ?_
  refine hr_aload0 (q := 260) X dL_law_259 rfl ?_
  refine hr_iload3 (q := 261) X dL_law_260 rfl ?_
  refine hr_iconst (v := (nI 4)) (q := 262) X dL_law_261 rfl rfl ?_
  refine hr_iadd (v := (nI (i + 4))) (q := 263) X dL_law_262 rfl (nI_add _ _) ?_
  refine hr_ialdN (a := b) (n := L) (t := 7) (j := i + 4) (v := xs (i + 4)) (q := 264) X dL_law_263 rfl (hk) (Or.inr rfl) (by omega) (by omega) (hv _ (by omega)) ?_
  refine hr_i2l (v := ((xs (i + 4)).toInt64)) (q := 265) X dL_law_264 rfl rfl ?_
  refine hr_ldc2 (q := 268) X dL_law_265 rfl q1861 ?_
  refine hr_land (v := (((xs (i + 4)).toInt64) &&& 4294967295)) (q := 269) X dL_law_268 rfl rfl ?_
  refine hr_lor (v := ((((xs (i + 3)).toInt64) <<< ((nI 32).toInt64 &&& 63)) ||| (((xs (i + 4)).toInt64) &&& 4294967295))) (q := 270) X dL_law_269 rfl rfl ?_
  have hA1 : ab_I (sq_set (xs (i + 1)) (xs (i + 2)) ((((xs (i + 3)).toInt64) <<< ((nI 32).toInt64 &&& 63)) ||| (((xs (i + 4)).toInt64) &&& 4294967295)) A).2 := hA.set _ _ _
  refine hr_room (kr' := kr + 40) (nr' := nr + 3000) (Nat.add_le_add_left (by decide) _) (Nat.add_le_add_left (by decide) _) ?_
  refine hr_callL (kr := kr) (nr := nr) (q := 273) (hc_VX (n := 3) (ci := 0) (As := [.int (xs (i + 1)), .int (xs (i + 2)), .long ((((xs (i + 3)).toInt64) <<< ((nI 32).toInt64 &&& 63)) ||| (((xs (i + 4)).toInt64) &&& 4294967295))]) X dL_law_270 rfl (hI.c (rm := rk_X0_set) (v := .int (sq_set (xs (i + 1)) (xs (i + 2)) ((((xs (i + 3)).toInt64) <<< ((nI 32).toInt64 &&& 63)) ||| (((xs (i + 4)).toInt64) &&& 4294967295)) A).1) (A' := (sq_set (xs (i + 1)) (xs (i + 2)) ((((xs (i + 3)).toInt64) <<< ((nI 32).toInt64 &&& 63)) ||| (((xs (i + 4)).toInt64) &&& 4294967295)) A).2) hS hA.w hA1.w (fun Gs ca e1 e2 e3 => by subst e1; exact tc_set X.tr (h := e2) (hW := hA.w))) q456 cv_X0_set ⟨Nat.le_of_ble_eq_true rfl, Nat.le_of_ble_eq_true rfl⟩ rfl (Nat.le_of_ble_eq_true rfl) hI.kx rfl rfl) rfl (fun G1 hI1 => ?_)
  obtain ⟨hk1, hv1⟩ := hI1.sc hX
  refine hr_aload2 (q := 274) X dL_law_273 rfl ?_
  refine hr_aload0 (q := 275) X dL_law_274 rfl ?_
  refine hr_iload3 (q := 276) X dL_law_275 rfl ?_
  refine hr_iconst (v := (nI 1)) (q := 277) X dL_law_276 rfl rfl ?_
  refine hr_iadd (v := (nI (i + 1))) (q := 278) X dL_law_277 rfl (nI_add _ _) ?_
  refine hr_ialdN (a := b) (n := L) (t := 7) (j := i + 1) (v := xs (i + 1)) (q := 279) X dL_law_278 rfl (hk1) (Or.inr rfl) (by omega) (by omega) (hv1 _ (by omega)) ?_
  refine hr_aload0 (q := 280) X dL_law_279 rfl ?_
  refine hr_iload3 (q := 281) X dL_law_280 rfl ?_
  refine hr_iconst (v := (nI 2)) (q := 282) X dL_law_281 rfl rfl ?_
  refine hr_iadd (v := (nI (i + 2))) (q := 283) X dL_law_282 rfl (nI_add _ _) ?_
  refine hr_ialdN (a := b) (n := L) (t := 7) (j := i + 2) (v := xs (i + 2)) (q := 284) X dL_law_283 rfl (hk1) (Or.inr rfl) (by omega) (by omega) (hv1 _ (by omega)) ?_
  refine hr_aload0 (q := 285) X dL_law_284 rfl ?_
  refine hr_iload3 (q := 286) X dL_law_285 rfl ?_
  refine hr_iconst (v := (nI 3)) (q := 287) X dL_law_286 rfl rfl ?_
  refine hr_iadd (v := (nI (i + 3))) (q := 288) X dL_law_287 rfl (nI_add _ _) ?_
  refine hr_ialdN (a := b) (n := L) (t := 7) (j := i + 3) (v := xs (i + 3)) (q := 289) X dL_law_288 rfl (hk1) (Or.inr rfl) (by omega) (by omega) (hv1 _ (by omega)) ?_
  refine hr_i2l (v := ((xs (i + 3)).toInt64)) (q := 290) X dL_law_289 rfl rfl ?_
  refine hr_bipush (v := (nI 32)) (q := 292) X dL_law_290 rfl rfl ?_
  refine hr_lshl (v := (((xs (i + 3)).toInt64) <<< ((nI 32).toInt64 &&& 63))) (q := 293) X dL_law_292 rfl rfl ?_
  refine hr_aload0 (q := 294) X dL_law_293 rfl ?_
  refine hr_iload3 (q := 295) X dL_law_294 rfl ?_
  refine hr_iconst (v := (nI 4)) (q := 296) X dL_law_295 rfl rfl ?_
  refine hr_iadd (v := (nI (i + 4))) (q := 297) X dL_law_296 rfl (nI_add _ _) ?_
  refine hr_ialdN (a := b) (n := L) (t := 7) (j := i + 4) (v := xs (i + 4)) (q := 298) X dL_law_297 rfl (hk1) (Or.inr rfl) (by omega) (by omega) (hv1 _ (by omega)) ?_
  refine hr_i2l (v := ((xs (i + 4)).toInt64)) (q := 299) X dL_law_298 rfl rfl ?_
  refine hr_ldc2 (q := 302) X dL_law_299 rfl q1861 ?_
  refine hr_land (v := (((xs (i + 4)).toInt64) &&& 4294967295)) (q := 303) X dL_law_302 rfl rfl ?_
  refine hr_lor (v := ((((xs (i + 3)).toInt64) <<< ((nI 32).toInt64 &&& 63)) ||| (((xs (i + 4)).toInt64) &&& 4294967295))) (q := 304) X dL_law_303 rfl rfl ?_
  refine hr_callL0 (kr := kr) (nr := nr) (q := 307) (hc_V (n := 3) (ci := 5) (As := [.int (xs (i + 1)), .int (xs (i + 2)), .long ((((xs (i + 3)).toInt64) <<< ((nI 32).toInt64 &&& 63)) ||| (((xs (i + 4)).toInt64) &&& 4294967295))]) X dL_law_304 rfl (hI1.m (rm := rm_X5_set) (v := .int (sq_set (xs (i + 1)) (xs (i + 2)) ((((xs (i + 3)).toInt64) <<< ((nI 32).toInt64 &&& 63)) ||| (((xs (i + 4)).toInt64) &&& 4294967295)) A).1) (B' := (sq_set (xs (i + 1)) (xs (i + 2)) ((((xs (i + 3)).toInt64) <<< ((nI 32).toInt64 &&& 63)) ||| (((xs (i + 4)).toInt64) &&& 4294967295)) A).2) (fun Gs u e1 e2 => tk_set X.tr (hR := e1) (hA := e2) (hW := hA.w))) q1527 cv_X5_set ⟨Nat.le_of_ble_eq_true rfl, Nat.le_of_ble_eq_true rfl⟩ rfl (Nat.le_of_ble_eq_true rfl) hI1.ko rfl rfl) rfl (fun G2 hI2 => ?_)
  refine hr_icmp_eq (q := 310) (tgt := 1452) X dL_law_307 rfl (by decide) (fun _ => ?_) (fun z => absurd rfl z)
  exact k _ _ hI2 hA1
theorem ll_c2 (X : hg_X p l s m args meth c D lo "TaxOnLooksLaw" cL_law 4) (hS : lq_S D lo G0) (hX : lq_X lo G0 b L xs) (hI : lq_I D lo x o am G0 G A A) (hA : ab_I A) (hi : i + 7 ≤ L) (hL : L ≤ 448)
    (k : ∀ (G' : hg_G) (A' : ab_S), lq_I D lo x o am G0 G' A' A' → ab_I A' → hg_W p l e room_1 s m args below meth c Q D lo C0 4 kr nr G' 1452 [some (.ref b), some (.ref x), some (.ref o), some (.int (nI i))] []) :
    hg_W p l e room_1 s m args below meth c Q D lo C0 4 (kr + 4000) (nr + 32000) G 312 [some (.ref b), some (.ref x), some (.ref o), some (.int (nI i))] [] := by
  obtain ⟨hk, hv⟩ := hI.sc hX
  refine hr_aload1 (q := 313) X dL_law_312 rfl ?_
  refine hr_aload0 (q := 314) X dL_law_313 rfl ?_
  refine hr_iload3 (q := 315) X dL_law_314 rfl ?_
  refine hr_iconst (v := (nI 1)) (q := 316) X dL_law_315 rfl rfl ?_
  refine hr_iadd (v := (nI (i + 1))) (q := 317) X dL_law_316 rfl (nI_add _ _) ?_
  refine hr_ialdN (a := b) (n := L) (t := 7) (j := i + 1) (v := xs (i + 1)) (q := 318) X dL_law_317 rfl (hk) (Or.inr rfl) (by omega) (by omega) (hv _ (by omega)) ?_
  refine hr_aload0 (q := 319) X dL_law_318 rfl ?_
  refine hr_iload3 (q := 320) X dL_law_319 rfl ?_
  refine hr_iconst (v := (nI 2)) (q := 321) X dL_law_320 rfl rfl ?_
  refine hr_iadd (v := (nI (i + 2))) (q := 322) X dL_law_321 rfl (nI_add _ _) ?_
  refine hr_ialdN (a := b) (n := L) (t := 7) (j := i + 2) (v := xs (i + 2)) (q := 323) X dL_law_322 rfl (hk) (Or.inr rfl) (by omega) (by omega) (hv _ (by omega)) ?_
  refine hr_aload0 (q := 324) X dL_law_323 rfl ?_
  refine hr_iload3 (q := 325) X dL_law_324 rfl ?_
  refine hr_iconst (v := (nI 3)) (q := 326) X dL_law_325 rfl rfl ?_
  refine hr_iadd (v := (nI (i + 3))) (q := 327) X dL_law_326 rfl (nI_add _ _) ?_
  refine hr_ialdN (a := b) (n := L) (t := 7) (j := i + 3) (v := xs (i + 3)) (q := 328) X dL_law_327 rfl (hk) (Or.inr rfl) (by omega) (by omega) (hv _ (by omega)) ?_
  refine hr_aload0 (q := 329) X dL_law_328 rfl ?_
  refine hr_iload3 (q := 330) X dL_law_329 rfl ?_
  refine hr_iconst (v := (nI 4)) (q := 331) X dL_law_330 rfl rfl ?_
  refine hr_iadd (v := (nI (i + 4))) (q := 332) X dL_law_331 rfl (nI_add _ _) ?_
  refine hr_ialdN (a := b) (n := L) (t := 7) (j := i + 4) (v := xs (i + 4)) (q := 333) X dL_law_332 rfl (hk) (Or.inr rfl) (by omega) (by omega) (hv _ (by omega)) ?_
  refine hr_aload0 (q := 334) X dL_law_333 rfl ?_
  refine hr_iload3 (q := 335) X dL_law_334 rfl ?_
  refine hr_iconst (v := (nI 5)) (q := 336) X dL_law_335 rfl rfl ?_
  refine hr_iadd (v := (nI (i + 5))) (q := 337) X dL_law_336 rfl (nI_add _ _) ?_
  refine hr_ialdN (a := b) (n := L) (t := 7) (j := i + 5) (v := xs (i + 5)) (q := 338) X dL_law_337 rfl (hk) (Or.inr rfl) (by omega) (by omega) (hv _ (by omega)) ?_
  have hA1 : ab_I (sq_copy (xs (i + 1)) (xs (i + 2)) (xs (i + 3)) (xs (i + 4)) (xs (i + 5)) A).2 := hA.copy _ _ _ _ _
  refine hr_room (kr' := kr + 60) (nr' := nr + 8000) (Nat.add_le_add_left (by decide) _) (Nat.add_le_add_left (by decide) _) ?_
  refine hr_callL (kr := kr) (nr := nr) (q := 341) (hc_VX (n := 5) (ci := 0) (As := [.int (xs (i + 1)), .int (xs (i + 2)), .int (xs (i + 3)), .int (xs (i + 4)), .int (xs (i + 5))]) X dL_law_338 rfl (hI.c (rm := rk_X0_copy) (v := .int (sq_copy (xs (i + 1)) (xs (i + 2)) (xs (i + 3)) (xs (i + 4)) (xs (i + 5)) A).1) (A' := (sq_copy (xs (i + 1)) (xs (i + 2)) (xs (i + 3)) (xs (i + 4)) (xs (i + 5)) A).2) hS hA.w hA1.w (fun Gs ca e1 e2 e3 => by subst e1; exact tc_copy X.tr (h := e2) (hW := hA.w) (hF := hA.2))) q497 cv_X0_copy ⟨Nat.le_of_ble_eq_true rfl, Nat.le_of_ble_eq_true rfl⟩ rfl (Nat.le_of_ble_eq_true rfl) hI.kx rfl rfl) rfl (fun G1 hI1 => ?_)
  obtain ⟨hk1, hv1⟩ := hI1.sc hX
  refine hr_aload2 (q := 342) X dL_law_341 rfl ?_
  refine hr_aload0 (q := 343) X dL_law_342 rfl ?_
  refine hr_iload3 (q := 344) X dL_law_343 rfl ?_
  refine hr_iconst (v := (nI 1)) (q := 345) X dL_law_344 rfl rfl ?_
  refine hr_iadd (v := (nI (i + 1))) (q := 346) X dL_law_345 rfl (nI_add _ _) ?_
  refine hr_ialdN (a := b) (n := L) (t := 7) (j := i + 1) (v := xs (i + 1)) (q := 347) X dL_law_346 rfl (hk1) (Or.inr rfl) (by omega) (by omega) (hv1 _ (by omega)) ?_
  refine hr_aload0 (q := 348) X dL_law_347 rfl ?_
  refine hr_iload3 (q := 349) X dL_law_348 rfl ?_
  refine hr_iconst (v := (nI 2)) (q := 350) X dL_law_349 rfl rfl ?_
  refine hr_iadd (v := (nI (i + 2))) (q := 351) X dL_law_350 rfl (nI_add _ _) ?_
  refine hr_ialdN (a := b) (n := L) (t := 7) (j := i + 2) (v := xs (i + 2)) (q := 352) X dL_law_351 rfl (hk1) (Or.inr rfl) (by omega) (by omega) (hv1 _ (by omega)) ?_
  refine hr_aload0 (q := 353) X dL_law_352 rfl ?_
  refine hr_iload3 (q := 354) X dL_law_353 rfl ?_
  refine hr_iconst (v := (nI 3)) (q := 355) X dL_law_354 rfl rfl ?_
  refine hr_iadd (v := (nI (i + 3))) (q := 356) X dL_law_355 rfl (nI_add _ _) ?_
  refine hr_ialdN (a := b) (n := L) (t := 7) (j := i + 3) (v := xs (i + 3)) (q := 357) X dL_law_356 rfl (hk1) (Or.inr rfl) (by omega) (by omega) (hv1 _ (by omega)) ?_
  refine hr_aload0 (q := 358) X dL_law_357 rfl ?_
  refine hr_iload3 (q := 359) X dL_law_358 rfl ?_
  refine hr_iconst (v := (nI 4)) (q := 360) X dL_law_359 rfl rfl ?_
  refine hr_iadd (v := (nI (i + 4))) (q := 361) X dL_law_360 rfl (nI_add _ _) ?_
  refine hr_ialdN (a := b) (n := L) (t := 7) (j := i + 4) (v := xs (i + 4)) (q := 362) X dL_law_361 rfl (hk1) (Or.inr rfl) (by omega) (by omega) (hv1 _ (by omega)) ?_
  refine hr_aload0 (q := 363) X dL_law_362 rfl ?_
  refine hr_iload3 (q := 364) X dL_law_363 rfl ?_
  refine hr_iconst (v := (nI 5)) (q := 365) X dL_law_364 rfl rfl ?_
  refine hr_iadd (v := (nI (i + 5))) (q := 366) X dL_law_365 rfl (nI_add _ _) ?_
  refine hr_ialdN (a := b) (n := L) (t := 7) (j := i + 5) (v := xs (i + 5)) (q := 367) X dL_law_366 rfl (hk1) (Or.inr rfl) (by omega) (by omega) (hv1 _ (by omega)) ?_
  refine hr_callL0 (kr := kr) (nr := nr) (q := 370) (hc_V (n := 5) (ci := 5) (As := [.int (xs (i + 1)), .int (xs (i + 2)), .int (xs (i + 3)), .int (xs (i + 4)), .int (xs (i + 5))]) X dL_law_367 rfl (hI1.m (rm := rm_X5_copy) (v := .int (sq_copy (xs (i + 1)) (xs (i + 2)) (xs (i + 3)) (xs (i + 4)) (xs (i + 5)) A).1) (B' := (sq_copy (xs (i + 1)) (xs (i + 2)) (xs (i + 3)) (xs (i + 4)) (xs (i + 5)) A).2) (fun Gs u e1 e2 => tk_copy X.tr (hR := e1) (hA := e2) (hW := hA.w))) q1531 cv_X5_copy ⟨Nat.le_of_ble_eq_true rfl, Nat.le_of_ble_eq_true rfl⟩ rfl (Nat.le_of_ble_eq_true rfl) hI1.ko rfl rfl) rfl (fun G2 hI2 => ?_)
  refine hr_icmp_eq (q := 373) (tgt := 1452) X dL_law_370 rfl (by decide) (fun _ => ?_) (fun z => absurd rfl z)
  exact k _ _ hI2 hA1
theorem ll_c3 (X : hg_X p l s m args meth c D lo "TaxOnLooksLaw" cL_law 4) (hS : lq_S D lo G0) (hX : lq_X lo G0 b L xs) (hI : lq_I D lo x o am G0 G A A) (hA : ab_I A) (hi : i + 7 ≤ L) (hL : L ≤ 448)
    (k : ∀ (G' : hg_G) (A' : ab_S), lq_I D lo x o am G0 G' A' A' → ab_I A' → hg_W p l e room_1 s m args below meth c Q D lo C0 4 kr nr G' 1452 [some (.ref b), some (.ref x), some (.ref o), some (.int (nI i))] []) :
    hg_W p l e room_1 s m args below meth c Q D lo C0 4 (kr + 4000) (nr + 32000) G 375 [some (.ref b), some (.ref x), some (.ref o), some (.int (nI i))] [] := by
  obtain ⟨hk, hv⟩ := hI.sc hX
  refine hr_aload1 (q := 376) X dL_law_375 rfl ?_
  refine hr_aload0 (q := 377) X dL_law_376 rfl ?_
  refine hr_iload3 (q := 378) X dL_law_377 rfl ?_
  refine hr_iconst (v := (nI 1)) (q := 379) X dL_law_378 rfl rfl ?_
  refine hr_iadd (v := (nI (i + 1))) (q := 380) X dL_law_379 rfl (nI_add _ _) ?_
  refine hr_ialdN (a := b) (n := L) (t := 7) (j := i + 1) (v := xs (i + 1)) (q := 381) X dL_law_380 rfl (hk) (Or.inr rfl) (by omega) (by omega) (hv _ (by omega)) ?_
  refine hr_aload0 (q := 382) X dL_law_381 rfl ?_
  refine hr_iload3 (q := 383) X dL_law_382 rfl ?_
  refine hr_iconst (v := (nI 2)) (q := 384) X dL_law_383 rfl rfl ?_
  refine hr_iadd (v := (nI (i + 2))) (q := 385) X dL_law_384 rfl (nI_add _ _) ?_
  refine hr_ialdN (a := b) (n := L) (t := 7) (j := i + 2) (v := xs (i + 2)) (q := 386) X dL_law_385 rfl (hk) (Or.inr rfl) (by omega) (by omega) (hv _ (by omega)) ?_
  have hA1 : ab_I (sq_element (xs (i + 1)) (xs (i + 2)) A).2 := hA.element _ _
  refine hr_room (kr' := kr + 40) (nr' := nr + 3000) (Nat.add_le_add_left (by decide) _) (Nat.add_le_add_left (by decide) _) ?_
  refine hr_callL (kr := kr) (nr := nr) (q := 389) (hc_VX (n := 2) (ci := 0) (As := [.int (xs (i + 1)), .int (xs (i + 2))]) X dL_law_386 rfl (hI.c (rm := rk_X0_element) (v := .long (sq_element (xs (i + 1)) (xs (i + 2)) A).1) (A' := (sq_element (xs (i + 1)) (xs (i + 2)) A).2) hS hA.w hA1.w (fun Gs ca e1 e2 e3 => by subst e1; exact tc_element X.tr (h := e2) (hW := hA.w))) q540 cv_X0_element ⟨Nat.le_of_ble_eq_true rfl, Nat.le_of_ble_eq_true rfl⟩ rfl (Nat.le_of_ble_eq_true rfl) hI.kx rfl rfl) rfl (fun G1 hI1 => ?_)
  obtain ⟨hk1, hv1⟩ := hI1.sc hX
  refine hr_aload2 (q := 390) X dL_law_389 rfl ?_
  refine hr_aload0 (q := 391) X dL_law_390 rfl ?_
  refine hr_iload3 (q := 392) X dL_law_391 rfl ?_
  refine hr_iconst (v := (nI 1)) (q := 393) X dL_law_392 rfl rfl ?_
  refine hr_iadd (v := (nI (i + 1))) (q := 394) X dL_law_393 rfl (nI_add _ _) ?_
  refine hr_ialdN (a := b) (n := L) (t := 7) (j := i + 1) (v := xs (i + 1)) (q := 395) X dL_law_394 rfl (hk1) (Or.inr rfl) (by omega) (by omega) (hv1 _ (by omega)) ?_
  refine hr_aload0 (q := 396) X dL_law_395 rfl ?_
  refine hr_iload3 (q := 397) X dL_law_396 rfl ?_
  refine hr_iconst (v := (nI 2)) (q := 398) X dL_law_397 rfl rfl ?_
  refine hr_iadd (v := (nI (i + 2))) (q := 399) X dL_law_398 rfl (nI_add _ _) ?_
  refine hr_ialdN (a := b) (n := L) (t := 7) (j := i + 2) (v := xs (i + 2)) (q := 400) X dL_law_399 rfl (hk1) (Or.inr rfl) (by omega) (by omega) (hv1 _ (by omega)) ?_
  refine hr_callL0 (kr := kr) (nr := nr) (q := 403) (hc_V (n := 2) (ci := 5) (As := [.int (xs (i + 1)), .int (xs (i + 2))]) X dL_law_400 rfl (hI1.m (rm := rm_X5_element) (v := .long (sq_element (xs (i + 1)) (xs (i + 2)) A).1) (B' := (sq_element (xs (i + 1)) (xs (i + 2)) A).2) (fun Gs u e1 e2 => tk_element X.tr (hR := e1) (hA := e2) (hW := hA.w))) q1535 cv_X5_element ⟨Nat.le_of_ble_eq_true rfl, Nat.le_of_ble_eq_true rfl⟩ rfl (Nat.le_of_ble_eq_true rfl) hI1.ko rfl rfl) rfl (fun G2 hI2 => ?_)
  refine hr_lcmp (v := (nI 0)) (q := 404) X dL_law_403 rfl (lg_cmp_self _) ?_
  refine hr_if_eq (q := 407) (tgt := 1452) X dL_law_404 rfl (by decide) (fun _ => ?_) (fun z => absurd z (by decide))
  exact k _ _ hI2 hA1
theorem ll_c4 (X : hg_X p l s m args meth c D lo "TaxOnLooksLaw" cL_law 4) (hS : lq_S D lo G0) (hX : lq_X lo G0 b L xs) (hI : lq_I D lo x o am G0 G A A) (hA : ab_I A) (hi : i + 7 ≤ L) (hL : L ≤ 448)
    (k : ∀ (G' : hg_G) (A' : ab_S), lq_I D lo x o am G0 G' A' A' → ab_I A' → hg_W p l e room_1 s m args below meth c Q D lo C0 4 kr nr G' 1452 [some (.ref b), some (.ref x), some (.ref o), some (.int (nI i))] []) :
    hg_W p l e room_1 s m args below meth c Q D lo C0 4 (kr + 4000) (nr + 32000) G 409 [some (.ref b), some (.ref x), some (.ref o), some (.int (nI i))] [] := by
  obtain ⟨hk, hv⟩ := hI.sc hX
  refine hr_aload1 (q := 410) X dL_law_409 rfl ?_
  refine hr_aload0 (q := 411) X dL_law_410 rfl ?_
  refine hr_iload3 (q := 412) X dL_law_411 rfl ?_
  refine hr_iconst (v := (nI 1)) (q := 413) X dL_law_412 rfl rfl ?_
  refine hr_iadd (v := (nI (i + 1))) (q := 414) X dL_law_413 rfl (nI_add _ _) ?_
  refine hr_ialdN (a := b) (n := L) (t := 7) (j := i + 1) (v := xs (i + 1)) (q := 415) X dL_law_414 rfl (hk) (Or.inr rfl) (by omega) (by omega) (hv _ (by omega)) ?_
  refine hr_aload0 (q := 416) X dL_law_415 rfl ?_
  refine hr_iload3 (q := 417) X dL_law_416 rfl ?_
  refine hr_iconst (v := (nI 2)) (q := 418) X dL_law_417 rfl rfl ?_
  refine hr_iadd (v := (nI (i + 2))) (q := 419) X dL_law_418 rfl (nI_add _ _) ?_
  refine hr_ialdN (a := b) (n := L) (t := 7) (j := i + 2) (v := xs (i + 2)) (q := 420) X dL_law_419 rfl (hk) (Or.inr rfl) (by omega) (by omega) (hv _ (by omega)) ?_
  have hA1 : ab_I (sq_show (xs (i + 1)) (xs (i + 2)) A).2 := hA.show _ _
  refine hr_room (kr' := kr + 40) (nr' := nr + 3000) (Nat.add_le_add_left (by decide) _) (Nat.add_le_add_left (by decide) _) ?_
  refine hr_callL (kr := kr) (nr := nr) (q := 423) (hc_VX (n := 2) (ci := 0) (As := [.int (xs (i + 1)), .int (xs (i + 2))]) X dL_law_420 rfl (hI.c (rm := rk_X0_show) (v := .int (sq_show (xs (i + 1)) (xs (i + 2)) A).1) (A' := (sq_show (xs (i + 1)) (xs (i + 2)) A).2) hS hA.w hA1.w (fun Gs ca e1 e2 e3 => by subst e1; exact tc_show X.tr (h := e2) (hW := hA.w))) q559 cv_X0_show ⟨Nat.le_of_ble_eq_true rfl, Nat.le_of_ble_eq_true rfl⟩ rfl (Nat.le_of_ble_eq_true rfl) hI.kx rfl rfl) rfl (fun G1 hI1 => ?_)
  obtain ⟨hk1, hv1⟩ := hI1.sc hX
  refine hr_aload2 (q := 424) X dL_law_423 rfl ?_
  refine hr_aload0 (q := 425) X dL_law_424 rfl ?_
  refine hr_iload3 (q := 426) X dL_law_425 rfl ?_
  refine hr_iconst (v := (nI 1)) (q := 427) X dL_law_426 rfl rfl ?_
  refine hr_iadd (v := (nI (i + 1))) (q := 428) X dL_law_427 rfl (nI_add _ _) ?_
  refine hr_ialdN (a := b) (n := L) (t := 7) (j := i + 1) (v := xs (i + 1)) (q := 429) X dL_law_428 rfl (hk1) (Or.inr rfl) (by omega) (by omega) (hv1 _ (by omega)) ?_
  refine hr_aload0 (q := 430) X dL_law_429 rfl ?_
  refine hr_iload3 (q := 431) X dL_law_430 rfl ?_
  refine hr_iconst (v := (nI 2)) (q := 432) X dL_law_431 rfl rfl ?_
  refine hr_iadd (v := (nI (i + 2))) (q := 433) X dL_law_432 rfl (nI_add _ _) ?_
  refine hr_ialdN (a := b) (n := L) (t := 7) (j := i + 2) (v := xs (i + 2)) (q := 434) X dL_law_433 rfl (hk1) (Or.inr rfl) (by omega) (by omega) (hv1 _ (by omega)) ?_
  refine hr_callL0 (kr := kr) (nr := nr) (q := 437) (hc_V (n := 2) (ci := 5) (As := [.int (xs (i + 1)), .int (xs (i + 2))]) X dL_law_434 rfl (hI1.m (rm := rm_X5_show) (v := .int (sq_show (xs (i + 1)) (xs (i + 2)) A).1) (B' := (sq_show (xs (i + 1)) (xs (i + 2)) A).2) (fun Gs u e1 e2 => tk_show X.tr (hR := e1) (hA := e2) (hW := hA.w))) q1539 cv_X5_show ⟨Nat.le_of_ble_eq_true rfl, Nat.le_of_ble_eq_true rfl⟩ rfl (Nat.le_of_ble_eq_true rfl) hI1.ko rfl rfl) rfl (fun G2 hI2 => ?_)
  refine hr_icmp_eq (q := 440) (tgt := 1452) X dL_law_437 rfl (by decide) (fun _ => ?_) (fun z => absurd rfl z)
  exact k _ _ hI2 hA1
theorem ll_c5 (X : hg_X p l s m args meth c D lo "TaxOnLooksLaw" cL_law 4) (hS : lq_S D lo G0) (hX : lq_X lo G0 b L xs) (hI : lq_I D lo x o am G0 G A A) (hA : ab_I A) (hi : i + 7 ≤ L) (hL : L ≤ 448)
    (k : ∀ (G' : hg_G) (A' : ab_S), lq_I D lo x o am G0 G' A' A' → ab_I A' → hg_W p l e room_1 s m args below meth c Q D lo C0 4 kr nr G' 1452 [some (.ref b), some (.ref x), some (.ref o), some (.int (nI i))] []) :
    hg_W p l e room_1 s m args below meth c Q D lo C0 4 (kr + 4000) (nr + 32000) G 442 [some (.ref b), some (.ref x), some (.ref o), some (.int (nI i))] [] := by
  obtain ⟨hk, hv⟩ := hI.sc hX
  refine hr_aload1 (q := 443) X dL_law_442 rfl ?_
  refine hr_aload0 (q := 444) X dL_law_443 rfl ?_
  refine hr_iload3 (q := 445) X dL_law_444 rfl ?_
  refine hr_iconst (v := (nI 1)) (q := 446) X dL_law_445 rfl rfl ?_
  refine hr_iadd (v := (nI (i + 1))) (q := 447) X dL_law_446 rfl (nI_add _ _) ?_
  refine hr_ialdN (a := b) (n := L) (t := 7) (j := i + 1) (v := xs (i + 1)) (q := 448) X dL_law_447 rfl (hk) (Or.inr rfl) (by omega) (by omega) (hv _ (by omega)) ?_
  have hA1 : ab_I (sq_holds (xs (i + 1)) A).2 := hA.holds _
  refine hr_room (kr' := kr + 40) (nr' := nr + 3000) (Nat.add_le_add_left (by decide) _) (Nat.add_le_add_left (by decide) _) ?_
  refine hr_callL (kr := kr) (nr := nr) (q := 451) (hc_V (n := 1) (ci := 0) (As := [.int (xs (i + 1))]) X dL_law_448 rfl (hI.c (rm := rk_X0_holds) (v := .int (sq_holds (xs (i + 1)) A).1) (A' := (sq_holds (xs (i + 1)) A).2) hS hA.w hA1.w (fun Gs ca e1 e2 e3 => by subst e1; exact tc_holds X.tr (h := e2) (hW := hA.w))) q571 cv_X0_holds ⟨Nat.le_of_ble_eq_true rfl, Nat.le_of_ble_eq_true rfl⟩ rfl (Nat.le_of_ble_eq_true rfl) hI.kx rfl rfl) rfl (fun G1 hI1 => ?_)
  obtain ⟨hk1, hv1⟩ := hI1.sc hX
  refine hr_aload2 (q := 452) X dL_law_451 rfl ?_
  refine hr_aload0 (q := 453) X dL_law_452 rfl ?_
  refine hr_iload3 (q := 454) X dL_law_453 rfl ?_
  refine hr_iconst (v := (nI 1)) (q := 455) X dL_law_454 rfl rfl ?_
  refine hr_iadd (v := (nI (i + 1))) (q := 456) X dL_law_455 rfl (nI_add _ _) ?_
  refine hr_ialdN (a := b) (n := L) (t := 7) (j := i + 1) (v := xs (i + 1)) (q := 457) X dL_law_456 rfl (hk1) (Or.inr rfl) (by omega) (by omega) (hv1 _ (by omega)) ?_
  refine hr_callL0 (kr := kr) (nr := nr) (q := 460) (hc_V (n := 1) (ci := 5) (As := [.int (xs (i + 1))]) X dL_law_457 rfl (hI1.m (rm := rm_X5_holds) (v := .int (sq_holds (xs (i + 1)) A).1) (B' := (sq_holds (xs (i + 1)) A).2) (fun Gs u e1 e2 => tk_holds X.tr (hR := e1) (hA := e2) (hW := hA.w))) q1547 cv_X5_holds ⟨Nat.le_of_ble_eq_true rfl, Nat.le_of_ble_eq_true rfl⟩ rfl (Nat.le_of_ble_eq_true rfl) hI1.ko rfl rfl) rfl (fun G2 hI2 => ?_)
  refine hr_icmp_eq (q := 463) (tgt := 1452) X dL_law_460 rfl (by decide) (fun _ => ?_) (fun z => absurd rfl z)
  exact k _ _ hI2 hA1
theorem ll_c6 (X : hg_X p l s m args meth c D lo "TaxOnLooksLaw" cL_law 4) (hS : lq_S D lo G0) (hX : lq_X lo G0 b L xs) (hI : lq_I D lo x o am G0 G A A) (hA : ab_I A) (hi : i + 7 ≤ L) (hL : L ≤ 448)
    (k : ∀ (G' : hg_G) (A' : ab_S), lq_I D lo x o am G0 G' A' A' → ab_I A' → hg_W p l e room_1 s m args below meth c Q D lo C0 4 kr nr G' 1452 [some (.ref b), some (.ref x), some (.ref o), some (.int (nI i))] []) :
    hg_W p l e room_1 s m args below meth c Q D lo C0 4 (kr + 4000) (nr + 32000) G 465 [some (.ref b), some (.ref x), some (.ref o), some (.int (nI i))] [] := by
  obtain ⟨hk, hv⟩ := hI.sc hX
  refine hr_aload1 (q := 466) X dL_law_465 rfl ?_
  refine hr_aload0 (q := 467) X dL_law_466 rfl ?_
  refine hr_iload3 (q := 468) X dL_law_467 rfl ?_
  refine hr_iconst (v := (nI 1)) (q := 469) X dL_law_468 rfl rfl ?_
  refine hr_iadd (v := (nI (i + 1))) (q := 470) X dL_law_469 rfl (nI_add _ _) ?_
  refine hr_ialdN (a := b) (n := L) (t := 7) (j := i + 1) (v := xs (i + 1)) (q := 471) X dL_law_470 rfl (hk) (Or.inr rfl) (by omega) (by omega) (hv _ (by omega)) ?_
  refine hr_aload0 (q := 472) X dL_law_471 rfl ?_
  refine hr_iload3 (q := 473) X dL_law_472 rfl ?_
  refine hr_iconst (v := (nI 2)) (q := 474) X dL_law_473 rfl rfl ?_
  refine hr_iadd (v := (nI (i + 2))) (q := 475) X dL_law_474 rfl (nI_add _ _) ?_
  refine hr_ialdN (a := b) (n := L) (t := 7) (j := i + 2) (v := xs (i + 2)) (q := 476) X dL_law_475 rfl (hk) (Or.inr rfl) (by omega) (by omega) (hv _ (by omega)) ?_
  have hA1 : ab_I (sq_says (xs (i + 1)) (xs (i + 2)) A).2 := hA.says _ _
  refine hr_room (kr' := kr + 40) (nr' := nr + 3000) (Nat.add_le_add_left (by decide) _) (Nat.add_le_add_left (by decide) _) ?_
  refine hr_callL (kr := kr) (nr := nr) (q := 479) (hc_VX (n := 2) (ci := 0) (As := [.int (xs (i + 1)), .int (xs (i + 2))]) X dL_law_476 rfl (hI.c (rm := rk_X0_says) (v := .int (sq_says (xs (i + 1)) (xs (i + 2)) A).1) (A' := (sq_says (xs (i + 1)) (xs (i + 2)) A).2) hS hA.w hA1.w (fun Gs ca e1 e2 e3 => by subst e1; exact tc_says X.tr (h := e2) (hW := hA.w))) q577 cv_X0_says ⟨Nat.le_of_ble_eq_true rfl, Nat.le_of_ble_eq_true rfl⟩ rfl (Nat.le_of_ble_eq_true rfl) hI.kx rfl rfl) rfl (fun G1 hI1 => ?_)
  obtain ⟨hk1, hv1⟩ := hI1.sc hX
  refine hr_aload2 (q := 480) X dL_law_479 rfl ?_
  refine hr_aload0 (q := 481) X dL_law_480 rfl ?_
  refine hr_iload3 (q := 482) X dL_law_481 rfl ?_
  refine hr_iconst (v := (nI 1)) (q := 483) X dL_law_482 rfl rfl ?_
  refine hr_iadd (v := (nI (i + 1))) (q := 484) X dL_law_483 rfl (nI_add _ _) ?_
  refine hr_ialdN (a := b) (n := L) (t := 7) (j := i + 1) (v := xs (i + 1)) (q := 485) X dL_law_484 rfl (hk1) (Or.inr rfl) (by omega) (by omega) (hv1 _ (by omega)) ?_
  refine hr_aload0 (q := 486) X dL_law_485 rfl ?_
  refine hr_iload3 (q := 487) X dL_law_486 rfl ?_
  refine hr_iconst (v := (nI 2)) (q := 488) X dL_law_487 rfl rfl ?_
  refine hr_iadd (v := (nI (i + 2))) (q := 489) X dL_law_488 rfl (nI_add _ _) ?_
  refine hr_ialdN (a := b) (n := L) (t := 7) (j := i + 2) (v := xs (i + 2)) (q := 490) X dL_law_489 rfl (hk1) (Or.inr rfl) (by omega) (by omega) (hv1 _ (by omega)) ?_
  refine hr_callL0 (kr := kr) (nr := nr) (q := 493) (hc_V (n := 2) (ci := 5) (As := [.int (xs (i + 1)), .int (xs (i + 2))]) X dL_law_490 rfl (hI1.m (rm := rm_X5_says) (v := .int (sq_says (xs (i + 1)) (xs (i + 2)) A).1) (B' := (sq_says (xs (i + 1)) (xs (i + 2)) A).2) (fun Gs u e1 e2 => tk_says X.tr (hR := e1) (hA := e2) (hW := hA.w))) q1551 cv_X5_says ⟨Nat.le_of_ble_eq_true rfl, Nat.le_of_ble_eq_true rfl⟩ rfl (Nat.le_of_ble_eq_true rfl) hI1.ko rfl rfl) rfl (fun G2 hI2 => ?_)
  refine hr_icmp_eq (q := 496) (tgt := 1452) X dL_law_493 rfl (by decide) (fun _ => ?_) (fun z => absurd rfl z)
  exact k _ _ hI2 hA1
theorem ll_c7 (X : hg_X p l s m args meth c D lo "TaxOnLooksLaw" cL_law 4) (hS : lq_S D lo G0) (hX : lq_X lo G0 b L xs) (hI : lq_I D lo x o am G0 G A A) (hA : ab_I A) (hi : i + 7 ≤ L) (hL : L ≤ 448)
    (k : ∀ (G' : hg_G) (A' : ab_S), lq_I D lo x o am G0 G' A' A' → ab_I A' → hg_W p l e room_1 s m args below meth c Q D lo C0 4 kr nr G' 1452 [some (.ref b), some (.ref x), some (.ref o), some (.int (nI i))] []) :
    hg_W p l e room_1 s m args below meth c Q D lo C0 4 (kr + 4000) (nr + 32000) G 498 [some (.ref b), some (.ref x), some (.ref o), some (.int (nI i))] [] := by
  obtain ⟨hk, hv⟩ := hI.sc hX
  refine hr_aload1 (q := 499) X dL_law_498 rfl ?_
  refine hr_aload0 (q := 500) X dL_law_499 rfl ?_
  refine hr_iload3 (q := 501) X dL_law_500 rfl ?_
  refine hr_iconst (v := (nI 1)) (q := 502) X dL_law_501 rfl rfl ?_
  refine hr_iadd (v := (nI (i + 1))) (q := 503) X dL_law_502 rfl (nI_add _ _) ?_
  refine hr_ialdN (a := b) (n := L) (t := 7) (j := i + 1) (v := xs (i + 1)) (q := 504) X dL_law_503 rfl (hk) (Or.inr rfl) (by omega) (by omega) (hv _ (by omega)) ?_
  refine hr_aload0 (q := 505) X dL_law_504 rfl ?_
  refine hr_iload3 (q := 506) X dL_law_505 rfl ?_
  refine hr_iconst (v := (nI 2)) (q := 507) X dL_law_506 rfl rfl ?_
  refine hr_iadd (v := (nI (i + 2))) (q := 508) X dL_law_507 rfl (nI_add _ _) ?_
  refine hr_ialdN (a := b) (n := L) (t := 7) (j := i + 2) (v := xs (i + 2)) (q := 509) X dL_law_508 rfl (hk) (Or.inr rfl) (by omega) (by omega) (hv _ (by omega)) ?_
  refine hr_aload0 (q := 510) X dL_law_509 rfl ?_
  refine hr_iload3 (q := 511) X dL_law_510 rfl ?_
  refine hr_iconst (v := (nI 3)) (q := 512) X dL_law_511 rfl rfl ?_
  refine hr_iadd (v := (nI (i + 3))) (q := 513) X dL_law_512 rfl (nI_add _ _) ?_
  refine hr_ialdN (a := b) (n := L) (t := 7) (j := i + 3) (v := xs (i + 3)) (q := 514) X dL_law_513 rfl (hk) (Or.inr rfl) (by omega) (by omega) (hv _ (by omega)) ?_
  refine hr_aload0 (q := 515) X dL_law_514 rfl ?_
  refine hr_iload3 (q := 516) X dL_law_515 rfl ?_
  refine hr_iconst (v := (nI 4)) (q := 517) X dL_law_516 rfl rfl ?_
  refine hr_iadd (v := (nI (i + 4))) (q := 518) X dL_law_517 rfl (nI_add _ _) ?_
  refine hr_ialdN (a := b) (n := L) (t := 7) (j := i + 4) (v := xs (i + 4)) (q := 519) X dL_law_518 rfl (hk) (Or.inr rfl) (by omega) (by omega) (hv _ (by omega)) ?_
  refine hr_aload0 (q := 520) X dL_law_519 rfl ?_
  refine hr_iload3 (q := 521) X dL_law_520 rfl ?_
  refine hr_iconst (v := (nI 5)) (q := 522) X dL_law_521 rfl rfl ?_
  refine hr_iadd (v := (nI (i + 5))) (q := 523) X dL_law_522 rfl (nI_add _ _) ?_
  refine hr_ialdN (a := b) (n := L) (t := 7) (j := i + 5) (v := xs (i + 5)) (q := 524) X dL_law_523 rfl (hk) (Or.inr rfl) (by omega) (by omega) (hv _ (by omega)) ?_
  refine hr_aload0 (q := 525) X dL_law_524 rfl ?_
  refine hr_iload3 (q := 526) X dL_law_525 rfl ?_
  refine hr_bipush (v := (nI 6)) (q := 528) X dL_law_526 rfl rfl ?_
  refine hr_iadd (v := (nI (i + 6))) (q := 529) X dL_law_528 rfl (nI_add _ _) ?_
  refine hr_ialdN (a := b) (n := L) (t := 7) (j := i + 6) (v := xs (i + 6)) (q := 530) X dL_law_529 rfl (hk) (Or.inr rfl) (by omega) (by omega) (hv _ (by omega)) ?_
  have hA1 : ab_I (sq_person (xs (i + 1)) (xs (i + 2)) (xs (i + 3)) (xs (i + 4)) (xs (i + 5)) (xs (i + 6)) A).2 := hA.person _ _ _ _ _ _
  refine hr_room (kr' := kr + 40) (nr' := nr + 3000) (Nat.add_le_add_left (by decide) _) (Nat.add_le_add_left (by decide) _) ?_
  refine hr_callL (kr := kr) (nr := nr) (q := 533) (hc_VX (n := 6) (ci := 0) (As := [.int (xs (i + 1)), .int (xs (i + 2)), .int (xs (i + 3)), .int (xs (i + 4)), .int (xs (i + 5)), .int (xs (i + 6))]) X dL_law_530 rfl (hI.c (rm := rk_X0_person) (v := .int (sq_person (xs (i + 1)) (xs (i + 2)) (xs (i + 3)) (xs (i + 4)) (xs (i + 5)) (xs (i + 6)) A).1) (A' := (sq_person (xs (i + 1)) (xs (i + 2)) (xs (i + 3)) (xs (i + 4)) (xs (i + 5)) (xs (i + 6)) A).2) hS hA.w hA1.w (fun Gs ca e1 e2 e3 => by subst e1; exact tc_personC X.tr (h := e2) (hW := hA.w))) q625 cv_X0_person ⟨Nat.le_of_ble_eq_true rfl, Nat.le_of_ble_eq_true rfl⟩ rfl (Nat.le_of_ble_eq_true rfl) hI.kx rfl rfl) rfl (fun G1 hI1 => ?_)
  obtain ⟨hk1, hv1⟩ := hI1.sc hX
  refine hr_aload2 (q := 534) X dL_law_533 rfl ?_
  refine hr_aload0 (q := 535) X dL_law_534 rfl ?_
  refine hr_iload3 (q := 536) X dL_law_535 rfl ?_
  refine hr_iconst (v := (nI 1)) (q := 537) X dL_law_536 rfl rfl ?_
  refine hr_iadd (v := (nI (i + 1))) (q := 538) X dL_law_537 rfl (nI_add _ _) ?_
  refine hr_ialdN (a := b) (n := L) (t := 7) (j := i + 1) (v := xs (i + 1)) (q := 539) X dL_law_538 rfl (hk1) (Or.inr rfl) (by omega) (by omega) (hv1 _ (by omega)) ?_
  refine hr_aload0 (q := 540) X dL_law_539 rfl ?_
  refine hr_iload3 (q := 541) X dL_law_540 rfl ?_
  refine hr_iconst (v := (nI 2)) (q := 542) X dL_law_541 rfl rfl ?_
  refine hr_iadd (v := (nI (i + 2))) (q := 543) X dL_law_542 rfl (nI_add _ _) ?_
  refine hr_ialdN (a := b) (n := L) (t := 7) (j := i + 2) (v := xs (i + 2)) (q := 544) X dL_law_543 rfl (hk1) (Or.inr rfl) (by omega) (by omega) (hv1 _ (by omega)) ?_
  refine hr_aload0 (q := 545) X dL_law_544 rfl ?_
  refine hr_iload3 (q := 546) X dL_law_545 rfl ?_
  refine hr_iconst (v := (nI 3)) (q := 547) X dL_law_546 rfl rfl ?_
  refine hr_iadd (v := (nI (i + 3))) (q := 548) X dL_law_547 rfl (nI_add _ _) ?_
  refine hr_ialdN (a := b) (n := L) (t := 7) (j := i + 3) (v := xs (i + 3)) (q := 549) X dL_law_548 rfl (hk1) (Or.inr rfl) (by omega) (by omega) (hv1 _ (by omega)) ?_
  refine hr_aload0 (q := 550) X dL_law_549 rfl ?_
  refine hr_iload3 (q := 551) X dL_law_550 rfl ?_
  refine hr_iconst (v := (nI 4)) (q := 552) X dL_law_551 rfl rfl ?_
  refine hr_iadd (v := (nI (i + 4))) (q := 553) X dL_law_552 rfl (nI_add _ _) ?_
  refine hr_ialdN (a := b) (n := L) (t := 7) (j := i + 4) (v := xs (i + 4)) (q := 554) X dL_law_553 rfl (hk1) (Or.inr rfl) (by omega) (by omega) (hv1 _ (by omega)) ?_
  refine hr_aload0 (q := 555) X dL_law_554 rfl ?_
  refine hr_iload3 (q := 556) X dL_law_555 rfl ?_
  refine hr_iconst (v := (nI 5)) (q := 557) X dL_law_556 rfl rfl ?_
  refine hr_iadd (v := (nI (i + 5))) (q := 558) X dL_law_557 rfl (nI_add _ _) ?_
  refine hr_ialdN (a := b) (n := L) (t := 7) (j := i + 5) (v := xs (i + 5)) (q := 559) X dL_law_558 rfl (hk1) (Or.inr rfl) (by omega) (by omega) (hv1 _ (by omega)) ?_
  refine hr_aload0 (q := 560) X dL_law_559 rfl ?_
  refine hr_iload3 (q := 561) X dL_law_560 rfl ?_
  refine hr_bipush (v := (nI 6)) (q := 563) X dL_law_561 rfl rfl ?_
  refine hr_iadd (v := (nI (i + 6))) (q := 564) X dL_law_563 rfl (nI_add _ _) ?_
  refine hr_ialdN (a := b) (n := L) (t := 7) (j := i + 6) (v := xs (i + 6)) (q := 565) X dL_law_564 rfl (hk1) (Or.inr rfl) (by omega) (by omega) (hv1 _ (by omega)) ?_
  refine hr_callL0 (kr := kr) (nr := nr) (q := 568) (hc_V (n := 6) (ci := 5) (As := [.int (xs (i + 1)), .int (xs (i + 2)), .int (xs (i + 3)), .int (xs (i + 4)), .int (xs (i + 5)), .int (xs (i + 6))]) X dL_law_565 rfl (hI1.m (rm := rm_X5_person) (v := .int (sq_person (xs (i + 1)) (xs (i + 2)) (xs (i + 3)) (xs (i + 4)) (xs (i + 5)) (xs (i + 6)) A).1) (B' := (sq_person (xs (i + 1)) (xs (i + 2)) (xs (i + 3)) (xs (i + 4)) (xs (i + 5)) (xs (i + 6)) A).2) (fun Gs u e1 e2 => tk_person X.tr (hR := e1) (hA := e2) (hW := hA.w))) q1559 cv_X5_person ⟨Nat.le_of_ble_eq_true rfl, Nat.le_of_ble_eq_true rfl⟩ rfl (Nat.le_of_ble_eq_true rfl) hI1.ko rfl rfl) rfl (fun G2 hI2 => ?_)
  refine hr_icmp_eq (q := 571) (tgt := 1452) X dL_law_568 rfl (by decide) (fun _ => ?_) (fun z => absurd rfl z)
  exact k _ _ hI2 hA1
theorem ll_c8 (X : hg_X p l s m args meth c D lo "TaxOnLooksLaw" cL_law 4) (hS : lq_S D lo G0) (hX : lq_X lo G0 b L xs) (hI : lq_I D lo x o am G0 G A A) (hA : ab_I A) (hi : i + 7 ≤ L) (hL : L ≤ 448)
    (k : ∀ (G' : hg_G) (A' : ab_S), lq_I D lo x o am G0 G' A' A' → ab_I A' → hg_W p l e room_1 s m args below meth c Q D lo C0 4 kr nr G' 1452 [some (.ref b), some (.ref x), some (.ref o), some (.int (nI i))] []) :
    hg_W p l e room_1 s m args below meth c Q D lo C0 4 (kr + 4000) (nr + 32000) G 573 [some (.ref b), some (.ref x), some (.ref o), some (.int (nI i))] [] := by
  obtain ⟨hk, hv⟩ := hI.sc hX
  refine hr_aload1 (q := 574) X dL_law_573 rfl ?_
  refine hr_aload0 (q := 575) X dL_law_574 rfl ?_
  refine hr_iload3 (q := 576) X dL_law_575 rfl ?_
  refine hr_iconst (v := (nI 1)) (q := 577) X dL_law_576 rfl rfl ?_
  refine hr_iadd (v := (nI (i + 1))) (q := 578) X dL_law_577 rfl (nI_add _ _) ?_
  refine hr_ialdN (a := b) (n := L) (t := 7) (j := i + 1) (v := xs (i + 1)) (q := 579) X dL_law_578 rfl (hk) (Or.inr rfl) (by omega) (by omega) (hv _ (by omega)) ?_
  refine hr_aload0 (q := 580) X dL_law_579 rfl ?_
  refine hr_iload3 (q := 581) X dL_law_580 rfl ?_
  refine hr_iconst (v := (nI 2)) (q := 582) X dL_law_581 rfl rfl ?_
  refine hr_iadd (v := (nI (i + 2))) (q := 583) X dL_law_582 rfl (nI_add _ _) ?_
  refine hr_ialdN (a := b) (n := L) (t := 7) (j := i + 2) (v := xs (i + 2)) (q := 584) X dL_law_583 rfl (hk) (Or.inr rfl) (by omega) (by omega) (hv _ (by omega)) ?_
  refine hr_aload0 (q := 585) X dL_law_584 rfl ?_
  refine hr_iload3 (q := 586) X dL_law_585 rfl ?_
  refine hr_iconst (v := (nI 3)) (q := 587) X dL_law_586 rfl rfl ?_
  refine hr_iadd (v := (nI (i + 3))) (q := 588) X dL_law_587 rfl (nI_add _ _) ?_
  refine hr_ialdN (a := b) (n := L) (t := 7) (j := i + 3) (v := xs (i + 3)) (q := 589) X dL_law_588 rfl (hk) (Or.inr rfl) (by omega) (by omega) (hv _ (by omega)) ?_
  refine hr_if_eq (q := 592) (tgt := 596) X dL_law_589 rfl (by decide) (fun c589 => ?_) (fun c589 => ?_)
  · refine hr_iconst (v := (bI false)) (q := 597) X dL_law_596 rfl rfl ?_
    have hA1 : ab_I (sq_build (xs (i + 1)) (xs (i + 2)) false A).2 := hA.build _ _ _
    refine hr_room (kr' := kr + 40) (nr' := nr + 3000) (Nat.add_le_add_left (by decide) _) (Nat.add_le_add_left (by decide) _) ?_
    refine hr_callL (kr := kr) (nr := nr) (q := 600) (hc_VX (n := 3) (ci := 0) (As := [.int (xs (i + 1)), .int (xs (i + 2)), .int (bI false)]) X dL_law_597 rfl (hI.c (rm := rk_X0_build) (v := .int (sq_build (xs (i + 1)) (xs (i + 2)) false A).1) (A' := (sq_build (xs (i + 1)) (xs (i + 2)) false A).2) hS hA.w hA1.w (fun Gs ca e1 e2 e3 => by subst e1; exact tc_build X.tr (h := e2) (hW := hA.w))) q744 cv_X0_build ⟨Nat.le_of_ble_eq_true rfl, Nat.le_of_ble_eq_true rfl⟩ rfl (Nat.le_of_ble_eq_true rfl) hI.kx rfl rfl) rfl (fun G1 hI1 => ?_)
    obtain ⟨hk1, hv1⟩ := hI1.sc hX
    refine hr_aload2 (q := 601) X dL_law_600 rfl ?_
    refine hr_aload0 (q := 602) X dL_law_601 rfl ?_
    refine hr_iload3 (q := 603) X dL_law_602 rfl ?_
    refine hr_iconst (v := (nI 1)) (q := 604) X dL_law_603 rfl rfl ?_
    refine hr_iadd (v := (nI (i + 1))) (q := 605) X dL_law_604 rfl (nI_add _ _) ?_
    refine hr_ialdN (a := b) (n := L) (t := 7) (j := i + 1) (v := xs (i + 1)) (q := 606) X dL_law_605 rfl (hk1) (Or.inr rfl) (by omega) (by omega) (hv1 _ (by omega)) ?_
    refine hr_aload0 (q := 607) X dL_law_606 rfl ?_
    refine hr_iload3 (q := 608) X dL_law_607 rfl ?_
    refine hr_iconst (v := (nI 2)) (q := 609) X dL_law_608 rfl rfl ?_
    refine hr_iadd (v := (nI (i + 2))) (q := 610) X dL_law_609 rfl (nI_add _ _) ?_
    refine hr_ialdN (a := b) (n := L) (t := 7) (j := i + 2) (v := xs (i + 2)) (q := 611) X dL_law_610 rfl (hk1) (Or.inr rfl) (by omega) (by omega) (hv1 _ (by omega)) ?_
    refine hr_aload0 (q := 612) X dL_law_611 rfl ?_
    refine hr_iload3 (q := 613) X dL_law_612 rfl ?_
    refine hr_iconst (v := (nI 3)) (q := 614) X dL_law_613 rfl rfl ?_
    refine hr_iadd (v := (nI (i + 3))) (q := 615) X dL_law_614 rfl (nI_add _ _) ?_
    refine hr_ialdN (a := b) (n := L) (t := 7) (j := i + 3) (v := xs (i + 3)) (q := 616) X dL_law_615 rfl (hk1) (Or.inr rfl) (by omega) (by omega) (hv1 _ (by omega)) ?_
    refine hr_if_eq (q := 619) (tgt := 623) X dL_law_616 rfl (by decide) (fun _ => ?_) (fun z => absurd c589 z)
    refine hr_iconst (v := (bI false)) (q := 624) X dL_law_623 rfl rfl ?_
    refine hr_callL0 (kr := kr) (nr := nr) (q := 627) (hc_V (n := 3) (ci := 5) (As := [.int (xs (i + 1)), .int (xs (i + 2)), .int (bI false)]) X dL_law_624 rfl (hI1.m (rm := rm_X5_build) (v := .int (sq_build (xs (i + 1)) (xs (i + 2)) false A).1) (B' := (sq_build (xs (i + 1)) (xs (i + 2)) false A).2) (fun Gs u e1 e2 => tk_build X.tr (hR := e1) (hA := e2) (hW := hA.w))) q1575 cv_X5_build ⟨Nat.le_of_ble_eq_true rfl, Nat.le_of_ble_eq_true rfl⟩ rfl (Nat.le_of_ble_eq_true rfl) hI1.ko rfl rfl) rfl (fun G2 hI2 => ?_)
    refine hr_icmp_eq (q := 630) (tgt := 1452) X dL_law_627 rfl (by decide) (fun _ => ?_) (fun z => absurd rfl z)
    exact k _ _ hI2 hA1
  · refine hr_iconst (v := (bI true)) (q := 593) X dL_law_592 rfl rfl ?_
    refine hr_goto (tgt := 597) X dL_law_593 (by decide) ?_
    have hA1 : ab_I (sq_build (xs (i + 1)) (xs (i + 2)) true A).2 := hA.build _ _ _
    refine hr_room (kr' := kr + 40) (nr' := nr + 3000) (Nat.add_le_add_left (by decide) _) (Nat.add_le_add_left (by decide) _) ?_
    refine hr_callL (kr := kr) (nr := nr) (q := 600) (hc_VX (n := 3) (ci := 0) (As := [.int (xs (i + 1)), .int (xs (i + 2)), .int (bI true)]) X dL_law_597 rfl (hI.c (rm := rk_X0_build) (v := .int (sq_build (xs (i + 1)) (xs (i + 2)) true A).1) (A' := (sq_build (xs (i + 1)) (xs (i + 2)) true A).2) hS hA.w hA1.w (fun Gs ca e1 e2 e3 => by subst e1; exact tc_build X.tr (h := e2) (hW := hA.w))) q744 cv_X0_build ⟨Nat.le_of_ble_eq_true rfl, Nat.le_of_ble_eq_true rfl⟩ rfl (Nat.le_of_ble_eq_true rfl) hI.kx rfl rfl) rfl (fun G1 hI1 => ?_)
    obtain ⟨hk1, hv1⟩ := hI1.sc hX
    refine hr_aload2 (q := 601) X dL_law_600 rfl ?_
    refine hr_aload0 (q := 602) X dL_law_601 rfl ?_
    refine hr_iload3 (q := 603) X dL_law_602 rfl ?_
    refine hr_iconst (v := (nI 1)) (q := 604) X dL_law_603 rfl rfl ?_
    refine hr_iadd (v := (nI (i + 1))) (q := 605) X dL_law_604 rfl (nI_add _ _) ?_
    refine hr_ialdN (a := b) (n := L) (t := 7) (j := i + 1) (v := xs (i + 1)) (q := 606) X dL_law_605 rfl (hk1) (Or.inr rfl) (by omega) (by omega) (hv1 _ (by omega)) ?_
    refine hr_aload0 (q := 607) X dL_law_606 rfl ?_
    refine hr_iload3 (q := 608) X dL_law_607 rfl ?_
    refine hr_iconst (v := (nI 2)) (q := 609) X dL_law_608 rfl rfl ?_
    refine hr_iadd (v := (nI (i + 2))) (q := 610) X dL_law_609 rfl (nI_add _ _) ?_
    refine hr_ialdN (a := b) (n := L) (t := 7) (j := i + 2) (v := xs (i + 2)) (q := 611) X dL_law_610 rfl (hk1) (Or.inr rfl) (by omega) (by omega) (hv1 _ (by omega)) ?_
    refine hr_aload0 (q := 612) X dL_law_611 rfl ?_
    refine hr_iload3 (q := 613) X dL_law_612 rfl ?_
    refine hr_iconst (v := (nI 3)) (q := 614) X dL_law_613 rfl rfl ?_
    refine hr_iadd (v := (nI (i + 3))) (q := 615) X dL_law_614 rfl (nI_add _ _) ?_
    refine hr_ialdN (a := b) (n := L) (t := 7) (j := i + 3) (v := xs (i + 3)) (q := 616) X dL_law_615 rfl (hk1) (Or.inr rfl) (by omega) (by omega) (hv1 _ (by omega)) ?_
    refine hr_if_eq (q := 619) (tgt := 623) X dL_law_616 rfl (by decide) (fun z => absurd z c589) (fun _ => ?_)
    refine hr_iconst (v := (bI true)) (q := 620) X dL_law_619 rfl rfl ?_
    refine hr_goto (tgt := 624) X dL_law_620 (by decide) ?_
    refine hr_callL0 (kr := kr) (nr := nr) (q := 627) (hc_V (n := 3) (ci := 5) (As := [.int (xs (i + 1)), .int (xs (i + 2)), .int (bI true)]) X dL_law_624 rfl (hI1.m (rm := rm_X5_build) (v := .int (sq_build (xs (i + 1)) (xs (i + 2)) true A).1) (B' := (sq_build (xs (i + 1)) (xs (i + 2)) true A).2) (fun Gs u e1 e2 => tk_build X.tr (hR := e1) (hA := e2) (hW := hA.w))) q1575 cv_X5_build ⟨Nat.le_of_ble_eq_true rfl, Nat.le_of_ble_eq_true rfl⟩ rfl (Nat.le_of_ble_eq_true rfl) hI1.ko rfl rfl) rfl (fun G2 hI2 => ?_)
    refine hr_icmp_eq (q := 630) (tgt := 1452) X dL_law_627 rfl (by decide) (fun _ => ?_) (fun z => absurd rfl z)
    exact k _ _ hI2 hA1
theorem ll_c9 (X : hg_X p l s m args meth c D lo "TaxOnLooksLaw" cL_law 4) (hS : lq_S D lo G0) (hX : lq_X lo G0 b L xs) (hI : lq_I D lo x o am G0 G A A) (hA : ab_I A) (hi : i + 7 ≤ L) (hL : L ≤ 448)
    (k : ∀ (G' : hg_G) (A' : ab_S), lq_I D lo x o am G0 G' A' A' → ab_I A' → hg_W p l e room_1 s m args below meth c Q D lo C0 4 kr nr G' 1452 [some (.ref b), some (.ref x), some (.ref o), some (.int (nI i))] []) :
    hg_W p l e room_1 s m args below meth c Q D lo C0 4 (kr + 4000) (nr + 32000) G 632 [some (.ref b), some (.ref x), some (.ref o), some (.int (nI i))] [] := by
  obtain ⟨hk, hv⟩ := hI.sc hX
  refine hr_aload1 (q := 633) X dL_law_632 rfl ?_
  refine hr_aload0 (q := 634) X dL_law_633 rfl ?_
  refine hr_iload3 (q := 635) X dL_law_634 rfl ?_
  refine hr_iconst (v := (nI 1)) (q := 636) X dL_law_635 rfl rfl ?_
  refine hr_iadd (v := (nI (i + 1))) (q := 637) X dL_law_636 rfl (nI_add _ _) ?_
  refine hr_ialdN (a := b) (n := L) (t := 7) (j := i + 1) (v := xs (i + 1)) (q := 638) X dL_law_637 rfl (hk) (Or.inr rfl) (by omega) (by omega) (hv _ (by omega)) ?_
  refine hr_aload0 (q := 639) X dL_law_638 rfl ?_
  refine hr_iload3 (q := 640) X dL_law_639 rfl ?_
  refine hr_iconst (v := (nI 2)) (q := 641) X dL_law_640 rfl rfl ?_
  refine hr_iadd (v := (nI (i + 2))) (q := 642) X dL_law_641 rfl (nI_add _ _) ?_
  refine hr_ialdN (a := b) (n := L) (t := 7) (j := i + 2) (v := xs (i + 2)) (q := 643) X dL_law_642 rfl (hk) (Or.inr rfl) (by omega) (by omega) (hv _ (by omega)) ?_
  have hA1 : ab_I (sq_put (xs (i + 1)) (xs (i + 2)) A).2 := hA.put _ _
  refine hr_room (kr' := kr + 40) (nr' := nr + 3000) (Nat.add_le_add_left (by decide) _) (Nat.add_le_add_left (by decide) _) ?_
  refine hr_callL (kr := kr) (nr := nr) (q := 646) (hc_VX (n := 2) (ci := 0) (As := [.int (xs (i + 1)), .int (xs (i + 2))]) X dL_law_643 rfl (hI.c (rm := rk_X0_put) (v := .int (sq_put (xs (i + 1)) (xs (i + 2)) A).1) (A' := (sq_put (xs (i + 1)) (xs (i + 2)) A).2) hS hA.w hA1.w (fun Gs ca e1 e2 e3 => by subst e1; exact tc_put X.tr (h := e2) (hW := hA.w))) q757 cv_X0_put ⟨Nat.le_of_ble_eq_true rfl, Nat.le_of_ble_eq_true rfl⟩ rfl (Nat.le_of_ble_eq_true rfl) hI.kx rfl rfl) rfl (fun G1 hI1 => ?_)
  obtain ⟨hk1, hv1⟩ := hI1.sc hX
  refine hr_aload2 (q := 647) X dL_law_646 rfl ?_
  refine hr_aload0 (q := 648) X dL_law_647 rfl ?_
  refine hr_iload3 (q := 649) X dL_law_648 rfl ?_
  refine hr_iconst (v := (nI 1)) (q := 650) X dL_law_649 rfl rfl ?_
  refine hr_iadd (v := (nI (i + 1))) (q := 651) X dL_law_650 rfl (nI_add _ _) ?_
  refine hr_ialdN (a := b) (n := L) (t := 7) (j := i + 1) (v := xs (i + 1)) (q := 652) X dL_law_651 rfl (hk1) (Or.inr rfl) (by omega) (by omega) (hv1 _ (by omega)) ?_
  refine hr_aload0 (q := 653) X dL_law_652 rfl ?_
  refine hr_iload3 (q := 654) X dL_law_653 rfl ?_
  refine hr_iconst (v := (nI 2)) (q := 655) X dL_law_654 rfl rfl ?_
  refine hr_iadd (v := (nI (i + 2))) (q := 656) X dL_law_655 rfl (nI_add _ _) ?_
  refine hr_ialdN (a := b) (n := L) (t := 7) (j := i + 2) (v := xs (i + 2)) (q := 657) X dL_law_656 rfl (hk1) (Or.inr rfl) (by omega) (by omega) (hv1 _ (by omega)) ?_
  refine hr_callL0 (kr := kr) (nr := nr) (q := 660) (hc_V (n := 2) (ci := 5) (As := [.int (xs (i + 1)), .int (xs (i + 2))]) X dL_law_657 rfl (hI1.m (rm := rm_X5_put) (v := .int (sq_put (xs (i + 1)) (xs (i + 2)) A).1) (B' := (sq_put (xs (i + 1)) (xs (i + 2)) A).2) (fun Gs u e1 e2 => tk_put X.tr (hR := e1) (hA := e2) (hW := hA.w))) q1583 cv_X5_put ⟨Nat.le_of_ble_eq_true rfl, Nat.le_of_ble_eq_true rfl⟩ rfl (Nat.le_of_ble_eq_true rfl) hI1.ko rfl rfl) rfl (fun G2 hI2 => ?_)
  refine hr_icmp_eq (q := 663) (tgt := 1452) X dL_law_660 rfl (by decide) (fun _ => ?_) (fun z => absurd rfl z)
  exact k _ _ hI2 hA1
theorem ll_c10 (X : hg_X p l s m args meth c D lo "TaxOnLooksLaw" cL_law 4) (hS : lq_S D lo G0) (hX : lq_X lo G0 b L xs) (hI : lq_I D lo x o am G0 G A A) (hA : ab_I A) (hi : i + 7 ≤ L) (hL : L ≤ 448)
    (k : ∀ (G' : hg_G) (A' : ab_S), lq_I D lo x o am G0 G' A' A' → ab_I A' → hg_W p l e room_1 s m args below meth c Q D lo C0 4 kr nr G' 1452 [some (.ref b), some (.ref x), some (.ref o), some (.int (nI i))] []) :
    hg_W p l e room_1 s m args below meth c Q D lo C0 4 (kr + 4000) (nr + 32000) G 665 [some (.ref b), some (.ref x), some (.ref o), some (.int (nI i))] [] := by
  obtain ⟨hk, hv⟩ := hI.sc hX
  refine hr_aload1 (q := 666) X dL_law_665 rfl ?_
  refine hr_aload0 (q := 667) X dL_law_666 rfl ?_
  refine hr_iload3 (q := 668) X dL_law_667 rfl ?_
  refine hr_iconst (v := (nI 1)) (q := 669) X dL_law_668 rfl rfl ?_
  refine hr_iadd (v := (nI (i + 1))) (q := 670) X dL_law_669 rfl (nI_add _ _) ?_
  refine hr_ialdN (a := b) (n := L) (t := 7) (j := i + 1) (v := xs (i + 1)) (q := 671) X dL_law_670 rfl (hk) (Or.inr rfl) (by omega) (by omega) (hv _ (by omega)) ?_
  refine hr_aload0 (q := 672) X dL_law_671 rfl ?_
  refine hr_iload3 (q := 673) X dL_law_672 rfl ?_
  refine hr_iconst (v := (nI 2)) (q := 674) X dL_law_673 rfl rfl ?_
  refine hr_iadd (v := (nI (i + 2))) (q := 675) X dL_law_674 rfl (nI_add _ _) ?_
  refine hr_ialdN (a := b) (n := L) (t := 7) (j := i + 2) (v := xs (i + 2)) (q := 676) X dL_law_675 rfl (hk) (Or.inr rfl) (by omega) (by omega) (hv _ (by omega)) ?_
  refine hr_if_eq (q := 679) (tgt := 683) X dL_law_676 rfl (by decide) (fun c676 => ?_) (fun c676 => ?_)
  · refine hr_iconst (v := (bI false)) (q := 684) X dL_law_683 rfl rfl ?_
    have hA1 : ab_I (sq_sack (xs (i + 1)) false A).2 := hA.sack _ _
    refine hr_room (kr' := kr + 40) (nr' := nr + 3000) (Nat.add_le_add_left (by decide) _) (Nat.add_le_add_left (by decide) _) ?_
    refine hr_callL (kr := kr) (nr := nr) (q := 687) (hc_VX (n := 2) (ci := 0) (As := [.int (xs (i + 1)), .int (bI false)]) X dL_law_684 rfl (hI.c (rm := rk_X0_sack) (v := .int (sq_sack (xs (i + 1)) false A).1) (A' := (sq_sack (xs (i + 1)) false A).2) hS hA.w hA1.w (fun Gs ca e1 e2 e3 => by subst e1; exact tc_sack X.tr (h := e2) (hW := hA.w))) q761 cv_X0_sack ⟨Nat.le_of_ble_eq_true rfl, Nat.le_of_ble_eq_true rfl⟩ rfl (Nat.le_of_ble_eq_true rfl) hI.kx rfl rfl) rfl (fun G1 hI1 => ?_)
    obtain ⟨hk1, hv1⟩ := hI1.sc hX
    refine hr_aload2 (q := 688) X dL_law_687 rfl ?_
    refine hr_aload0 (q := 689) X dL_law_688 rfl ?_
    refine hr_iload3 (q := 690) X dL_law_689 rfl ?_
    refine hr_iconst (v := (nI 1)) (q := 691) X dL_law_690 rfl rfl ?_
    refine hr_iadd (v := (nI (i + 1))) (q := 692) X dL_law_691 rfl (nI_add _ _) ?_
    refine hr_ialdN (a := b) (n := L) (t := 7) (j := i + 1) (v := xs (i + 1)) (q := 693) X dL_law_692 rfl (hk1) (Or.inr rfl) (by omega) (by omega) (hv1 _ (by omega)) ?_
    refine hr_aload0 (q := 694) X dL_law_693 rfl ?_
    refine hr_iload3 (q := 695) X dL_law_694 rfl ?_
    refine hr_iconst (v := (nI 2)) (q := 696) X dL_law_695 rfl rfl ?_
    refine hr_iadd (v := (nI (i + 2))) (q := 697) X dL_law_696 rfl (nI_add _ _) ?_
    refine hr_ialdN (a := b) (n := L) (t := 7) (j := i + 2) (v := xs (i + 2)) (q := 698) X dL_law_697 rfl (hk1) (Or.inr rfl) (by omega) (by omega) (hv1 _ (by omega)) ?_
    refine hr_if_eq (q := 701) (tgt := 705) X dL_law_698 rfl (by decide) (fun _ => ?_) (fun z => absurd c676 z)
    refine hr_iconst (v := (bI false)) (q := 706) X dL_law_705 rfl rfl ?_
    refine hr_callL0 (kr := kr) (nr := nr) (q := 709) (hc_V (n := 2) (ci := 5) (As := [.int (xs (i + 1)), .int (bI false)]) X dL_law_706 rfl (hI1.m (rm := rm_X5_sack) (v := .int (sq_sack (xs (i + 1)) false A).1) (B' := (sq_sack (xs (i + 1)) false A).2) (fun Gs u e1 e2 => tk_sack X.tr (hR := e1) (hA := e2) (hW := hA.w))) q1587 cv_X5_sack ⟨Nat.le_of_ble_eq_true rfl, Nat.le_of_ble_eq_true rfl⟩ rfl (Nat.le_of_ble_eq_true rfl) hI1.ko rfl rfl) rfl (fun G2 hI2 => ?_)
    refine hr_icmp_eq (q := 712) (tgt := 1452) X dL_law_709 rfl (by decide) (fun _ => ?_) (fun z => absurd rfl z)
    exact k _ _ hI2 hA1
  · refine hr_iconst (v := (bI true)) (q := 680) X dL_law_679 rfl rfl ?_
    refine hr_goto (tgt := 684) X dL_law_680 (by decide) ?_
    have hA1 : ab_I (sq_sack (xs (i + 1)) true A).2 := hA.sack _ _
    refine hr_room (kr' := kr + 40) (nr' := nr + 3000) (Nat.add_le_add_left (by decide) _) (Nat.add_le_add_left (by decide) _) ?_
    refine hr_callL (kr := kr) (nr := nr) (q := 687) (hc_VX (n := 2) (ci := 0) (As := [.int (xs (i + 1)), .int (bI true)]) X dL_law_684 rfl (hI.c (rm := rk_X0_sack) (v := .int (sq_sack (xs (i + 1)) true A).1) (A' := (sq_sack (xs (i + 1)) true A).2) hS hA.w hA1.w (fun Gs ca e1 e2 e3 => by subst e1; exact tc_sack X.tr (h := e2) (hW := hA.w))) q761 cv_X0_sack ⟨Nat.le_of_ble_eq_true rfl, Nat.le_of_ble_eq_true rfl⟩ rfl (Nat.le_of_ble_eq_true rfl) hI.kx rfl rfl) rfl (fun G1 hI1 => ?_)
    obtain ⟨hk1, hv1⟩ := hI1.sc hX
    refine hr_aload2 (q := 688) X dL_law_687 rfl ?_
    refine hr_aload0 (q := 689) X dL_law_688 rfl ?_
    refine hr_iload3 (q := 690) X dL_law_689 rfl ?_
    refine hr_iconst (v := (nI 1)) (q := 691) X dL_law_690 rfl rfl ?_
    refine hr_iadd (v := (nI (i + 1))) (q := 692) X dL_law_691 rfl (nI_add _ _) ?_
    refine hr_ialdN (a := b) (n := L) (t := 7) (j := i + 1) (v := xs (i + 1)) (q := 693) X dL_law_692 rfl (hk1) (Or.inr rfl) (by omega) (by omega) (hv1 _ (by omega)) ?_
    refine hr_aload0 (q := 694) X dL_law_693 rfl ?_
    refine hr_iload3 (q := 695) X dL_law_694 rfl ?_
    refine hr_iconst (v := (nI 2)) (q := 696) X dL_law_695 rfl rfl ?_
    refine hr_iadd (v := (nI (i + 2))) (q := 697) X dL_law_696 rfl (nI_add _ _) ?_
    refine hr_ialdN (a := b) (n := L) (t := 7) (j := i + 2) (v := xs (i + 2)) (q := 698) X dL_law_697 rfl (hk1) (Or.inr rfl) (by omega) (by omega) (hv1 _ (by omega)) ?_
    refine hr_if_eq (q := 701) (tgt := 705) X dL_law_698 rfl (by decide) (fun z => absurd z c676) (fun _ => ?_)
    refine hr_iconst (v := (bI true)) (q := 702) X dL_law_701 rfl rfl ?_
    refine hr_goto (tgt := 706) X dL_law_702 (by decide) ?_
    refine hr_callL0 (kr := kr) (nr := nr) (q := 709) (hc_V (n := 2) (ci := 5) (As := [.int (xs (i + 1)), .int (bI true)]) X dL_law_706 rfl (hI1.m (rm := rm_X5_sack) (v := .int (sq_sack (xs (i + 1)) true A).1) (B' := (sq_sack (xs (i + 1)) true A).2) (fun Gs u e1 e2 => tk_sack X.tr (hR := e1) (hA := e2) (hW := hA.w))) q1587 cv_X5_sack ⟨Nat.le_of_ble_eq_true rfl, Nat.le_of_ble_eq_true rfl⟩ rfl (Nat.le_of_ble_eq_true rfl) hI1.ko rfl rfl) rfl (fun G2 hI2 => ?_)
    refine hr_icmp_eq (q := 712) (tgt := 1452) X dL_law_709 rfl (by decide) (fun _ => ?_) (fun z => absurd rfl z)
    exact k _ _ hI2 hA1
theorem ll_c11 (X : hg_X p l s m args meth c D lo "TaxOnLooksLaw" cL_law 4) (hS : lq_S D lo G0) (hX : lq_X lo G0 b L xs) (hI : lq_I D lo x o am G0 G A A) (hA : ab_I A) (hi : i + 7 ≤ L) (hL : L ≤ 448)
    (k : ∀ (G' : hg_G) (A' : ab_S), lq_I D lo x o am G0 G' A' A' → ab_I A' → hg_W p l e room_1 s m args below meth c Q D lo C0 4 kr nr G' 1452 [some (.ref b), some (.ref x), some (.ref o), some (.int (nI i))] []) :
    hg_W p l e room_1 s m args below meth c Q D lo C0 4 (kr + 4000) (nr + 32000) G 714 [some (.ref b), some (.ref x), some (.ref o), some (.int (nI i))] [] := by
  obtain ⟨hk, hv⟩ := hI.sc hX
  refine hr_aload1 (q := 715) X dL_law_714 rfl ?_
  refine hr_aload0 (q := 716) X dL_law_715 rfl ?_
  refine hr_iload3 (q := 717) X dL_law_716 rfl ?_
  refine hr_iconst (v := (nI 1)) (q := 718) X dL_law_717 rfl rfl ?_
  refine hr_iadd (v := (nI (i + 1))) (q := 719) X dL_law_718 rfl (nI_add _ _) ?_
  refine hr_ialdN (a := b) (n := L) (t := 7) (j := i + 1) (v := xs (i + 1)) (q := 720) X dL_law_719 rfl (hk) (Or.inr rfl) (by omega) (by omega) (hv _ (by omega)) ?_
  refine hr_aload0 (q := 721) X dL_law_720 rfl ?_
  refine hr_iload3 (q := 722) X dL_law_721 rfl ?_
  refine hr_iconst (v := (nI 2)) (q := 723) X dL_law_722 rfl rfl ?_
  refine hr_iadd (v := (nI (i + 2))) (q := 724) X dL_law_723 rfl (nI_add _ _) ?_
  refine hr_ialdN (a := b) (n := L) (t := 7) (j := i + 2) (v := xs (i + 2)) (q := 725) X dL_law_724 rfl (hk) (Or.inr rfl) (by omega) (by omega) (hv _ (by omega)) ?_
  have hA1 : ab_I (sq_ask (xs (i + 1)) (xs (i + 2)) A).2 := hA.ask _ _
  refine hr_room (kr' := kr + 40) (nr' := nr + 3000) (Nat.add_le_add_left (by decide) _) (Nat.add_le_add_left (by decide) _) ?_
  refine hr_callL (kr := kr) (nr := nr) (q := 728) (hc_VX (n := 2) (ci := 0) (As := [.int (xs (i + 1)), .int (xs (i + 2))]) X dL_law_725 rfl (hI.c (rm := rk_X0_ask) (v := .int (sq_ask (xs (i + 1)) (xs (i + 2)) A).1) (A' := (sq_ask (xs (i + 1)) (xs (i + 2)) A).2) hS hA.w hA1.w (fun Gs ca e1 e2 e3 => by subst e1; exact tc_ask X.tr (h := e2) (hW := hA.w))) q765 cv_X0_ask ⟨Nat.le_of_ble_eq_true rfl, Nat.le_of_ble_eq_true rfl⟩ rfl (Nat.le_of_ble_eq_true rfl) hI.kx rfl rfl) rfl (fun G1 hI1 => ?_)
  obtain ⟨hk1, hv1⟩ := hI1.sc hX
  refine hr_aload2 (q := 729) X dL_law_728 rfl ?_
  refine hr_aload0 (q := 730) X dL_law_729 rfl ?_
  refine hr_iload3 (q := 731) X dL_law_730 rfl ?_
  refine hr_iconst (v := (nI 1)) (q := 732) X dL_law_731 rfl rfl ?_
  refine hr_iadd (v := (nI (i + 1))) (q := 733) X dL_law_732 rfl (nI_add _ _) ?_
  refine hr_ialdN (a := b) (n := L) (t := 7) (j := i + 1) (v := xs (i + 1)) (q := 734) X dL_law_733 rfl (hk1) (Or.inr rfl) (by omega) (by omega) (hv1 _ (by omega)) ?_
  refine hr_aload0 (q := 735) X dL_law_734 rfl ?_
  refine hr_iload3 (q := 736) X dL_law_735 rfl ?_
  refine hr_iconst (v := (nI 2)) (q := 737) X dL_law_736 rfl rfl ?_
  refine hr_iadd (v := (nI (i + 2))) (q := 738) X dL_law_737 rfl (nI_add _ _) ?_
  refine hr_ialdN (a := b) (n := L) (t := 7) (j := i + 2) (v := xs (i + 2)) (q := 739) X dL_law_738 rfl (hk1) (Or.inr rfl) (by omega) (by omega) (hv1 _ (by omega)) ?_
  refine hr_callL0 (kr := kr) (nr := nr) (q := 742) (hc_V (n := 2) (ci := 5) (As := [.int (xs (i + 1)), .int (xs (i + 2))]) X dL_law_739 rfl (hI1.m (rm := rm_X5_ask) (v := .int (sq_ask (xs (i + 1)) (xs (i + 2)) A).1) (B' := (sq_ask (xs (i + 1)) (xs (i + 2)) A).2) (fun Gs u e1 e2 => tk_ask X.tr (hR := e1) (hA := e2) (hW := hA.w))) q1591 cv_X5_ask ⟨Nat.le_of_ble_eq_true rfl, Nat.le_of_ble_eq_true rfl⟩ rfl (Nat.le_of_ble_eq_true rfl) hI1.ko rfl rfl) rfl (fun G2 hI2 => ?_)
  refine hr_icmp_eq (q := 745) (tgt := 1452) X dL_law_742 rfl (by decide) (fun _ => ?_) (fun z => absurd rfl z)
  exact k _ _ hI2 hA1
theorem ll_c12 (X : hg_X p l s m args meth c D lo "TaxOnLooksLaw" cL_law 4) (hS : lq_S D lo G0) (hX : lq_X lo G0 b L xs) (hI : lq_I D lo x o am G0 G A A) (hA : ab_I A) (hi : i + 7 ≤ L) (hL : L ≤ 448)
    (k : ∀ (G' : hg_G) (A' : ab_S), lq_I D lo x o am G0 G' A' A' → ab_I A' → hg_W p l e room_1 s m args below meth c Q D lo C0 4 kr nr G' 1452 [some (.ref b), some (.ref x), some (.ref o), some (.int (nI i))] []) :
    hg_W p l e room_1 s m args below meth c Q D lo C0 4 (kr + 4000) (nr + 32000) G 747 [some (.ref b), some (.ref x), some (.ref o), some (.int (nI i))] [] := by
  obtain ⟨hk, hv⟩ := hI.sc hX
  refine hr_aload1 (q := 748) X dL_law_747 rfl ?_
  refine hr_aload0 (q := 749) X dL_law_748 rfl ?_
  refine hr_iload3 (q := 750) X dL_law_749 rfl ?_
  refine hr_iconst (v := (nI 1)) (q := 751) X dL_law_750 rfl rfl ?_
  refine hr_iadd (v := (nI (i + 1))) (q := 752) X dL_law_751 rfl (nI_add _ _) ?_
  refine hr_ialdN (a := b) (n := L) (t := 7) (j := i + 1) (v := xs (i + 1)) (q := 753) X dL_law_752 rfl (hk) (Or.inr rfl) (by omega) (by omega) (hv _ (by omega)) ?_
  refine hr_aload0 (q := 754) X dL_law_753 rfl ?_
  refine hr_iload3 (q := 755) X dL_law_754 rfl ?_
  refine hr_iconst (v := (nI 2)) (q := 756) X dL_law_755 rfl rfl ?_
  refine hr_iadd (v := (nI (i + 2))) (q := 757) X dL_law_756 rfl (nI_add _ _) ?_
  refine hr_ialdN (a := b) (n := L) (t := 7) (j := i + 2) (v := xs (i + 2)) (q := 758) X dL_law_757 rfl (hk) (Or.inr rfl) (by omega) (by omega) (hv _ (by omega)) ?_
  have hA1 : ab_I (sq_personOf (xs (i + 1)) (xs (i + 2)) A).2 := hA.personOf _ _
  refine hr_room (kr' := kr + 0) (nr' := nr + 0) (Nat.add_le_add_left (by decide) _) (Nat.add_le_add_left (by decide) _) ?_
  refine hr_callL (kr := kr) (nr := nr) (q := 761) (hc_V (n := 2) (ci := 0) (As := [.int (xs (i + 1)), .int (xs (i + 2))]) X dL_law_758 rfl (hI.c (rm := rk_X0_personOf) (v := .int (sq_personOf (xs (i + 1)) (xs (i + 2)) A).1) (A' := (sq_personOf (xs (i + 1)) (xs (i + 2)) A).2) hS hA.w hA1.w (fun Gs ca e1 e2 e3 => by subst e1; exact tc_personOf X.tr (h := e2) (hW := hA.w))) q774 cv_X0_personOf ⟨Nat.le_of_ble_eq_true rfl, Nat.le_of_ble_eq_true rfl⟩ rfl (Nat.le_of_ble_eq_true rfl) hI.kx rfl rfl) rfl (fun G1 hI1 => ?_)
  obtain ⟨hk1, hv1⟩ := hI1.sc hX
  refine hr_aload2 (q := 762) X dL_law_761 rfl ?_
  refine hr_aload0 (q := 763) X dL_law_762 rfl ?_
  refine hr_iload3 (q := 764) X dL_law_763 rfl ?_
  refine hr_iconst (v := (nI 1)) (q := 765) X dL_law_764 rfl rfl ?_
  refine hr_iadd (v := (nI (i + 1))) (q := 766) X dL_law_765 rfl (nI_add _ _) ?_
  refine hr_ialdN (a := b) (n := L) (t := 7) (j := i + 1) (v := xs (i + 1)) (q := 767) X dL_law_766 rfl (hk1) (Or.inr rfl) (by omega) (by omega) (hv1 _ (by omega)) ?_
  refine hr_aload0 (q := 768) X dL_law_767 rfl ?_
  refine hr_iload3 (q := 769) X dL_law_768 rfl ?_
  refine hr_iconst (v := (nI 2)) (q := 770) X dL_law_769 rfl rfl ?_
  refine hr_iadd (v := (nI (i + 2))) (q := 771) X dL_law_770 rfl (nI_add _ _) ?_
  refine hr_ialdN (a := b) (n := L) (t := 7) (j := i + 2) (v := xs (i + 2)) (q := 772) X dL_law_771 rfl (hk1) (Or.inr rfl) (by omega) (by omega) (hv1 _ (by omega)) ?_
  refine hr_callL0 (kr := kr) (nr := nr) (q := 775) (hc_V (n := 2) (ci := 5) (As := [.int (xs (i + 1)), .int (xs (i + 2))]) X dL_law_772 rfl (hI1.m (rm := rm_X5_personOf) (v := .int (sq_personOf (xs (i + 1)) (xs (i + 2)) A).1) (B' := (sq_personOf (xs (i + 1)) (xs (i + 2)) A).2) (fun Gs u e1 e2 => tk_personOf X.tr (hR := e1) (hA := e2) (hW := hA.w))) q1603 cv_X5_personOf ⟨Nat.le_of_ble_eq_true rfl, Nat.le_of_ble_eq_true rfl⟩ rfl (Nat.le_of_ble_eq_true rfl) hI1.ko rfl rfl) rfl (fun G2 hI2 => ?_)
  refine hr_icmp_eq (q := 778) (tgt := 1452) X dL_law_775 rfl (by decide) (fun _ => ?_) (fun z => absurd rfl z)
  exact k _ _ hI2 hA1
theorem ll_c13 (X : hg_X p l s m args meth c D lo "TaxOnLooksLaw" cL_law 4) (hS : lq_S D lo G0) (hX : lq_X lo G0 b L xs) (hI : lq_I D lo x o am G0 G A A) (hA : ab_I A) (hi : i + 7 ≤ L) (hL : L ≤ 448)
    (k : ∀ (G' : hg_G) (A' : ab_S), lq_I D lo x o am G0 G' A' A' → ab_I A' → hg_W p l e room_1 s m args below meth c Q D lo C0 4 kr nr G' 1452 [some (.ref b), some (.ref x), some (.ref o), some (.int (nI i))] []) :
    hg_W p l e room_1 s m args below meth c Q D lo C0 4 (kr + 4000) (nr + 32000) G 780 [some (.ref b), some (.ref x), some (.ref o), some (.int (nI i))] [] := by
  obtain ⟨hk, hv⟩ := hI.sc hX
  refine hr_aload1 (q := 781) X dL_law_780 rfl ?_
  refine hr_aload0 (q := 782) X dL_law_781 rfl ?_
  refine hr_iload3 (q := 783) X dL_law_782 rfl ?_
  refine hr_iconst (v := (nI 1)) (q := 784) X dL_law_783 rfl rfl ?_
  refine hr_iadd (v := (nI (i + 1))) (q := 785) X dL_law_784 rfl (nI_add _ _) ?_
  refine hr_ialdN (a := b) (n := L) (t := 7) (j := i + 1) (v := xs (i + 1)) (q := 786) X dL_law_785 rfl (hk) (Or.inr rfl) (by omega) (by omega) (hv _ (by omega)) ?_
  refine hr_aload0 (q := 787) X dL_law_786 rfl ?_
  refine hr_iload3 (q := 788) X dL_law_787 rfl ?_
  refine hr_iconst (v := (nI 2)) (q := 789) X dL_law_788 rfl rfl ?_
  refine hr_iadd (v := (nI (i + 2))) (q := 790) X dL_law_789 rfl (nI_add _ _) ?_
  refine hr_ialdN (a := b) (n := L) (t := 7) (j := i + 2) (v := xs (i + 2)) (q := 791) X dL_law_790 rfl (hk) (Or.inr rfl) (by omega) (by omega) (hv _ (by omega)) ?_
  have hA1 : ab_I (sq_squareOf (xs (i + 1)) (xs (i + 2)) A).2 := hA.squareOf _ _
  refine hr_room (kr' := kr + 0) (nr' := nr + 0) (Nat.add_le_add_left (by decide) _) (Nat.add_le_add_left (by decide) _) ?_
  refine hr_callL (kr := kr) (nr := nr) (q := 794) (hc_V (n := 2) (ci := 0) (As := [.int (xs (i + 1)), .int (xs (i + 2))]) X dL_law_791 rfl (hI.c (rm := rk_X0_squareOf) (v := .int (sq_squareOf (xs (i + 1)) (xs (i + 2)) A).1) (A' := (sq_squareOf (xs (i + 1)) (xs (i + 2)) A).2) hS hA.w hA1.w (fun Gs ca e1 e2 e3 => by subst e1; exact tc_squareOf X.tr (h := e2) (hW := hA.w))) q806 cv_X0_squareOf ⟨Nat.le_of_ble_eq_true rfl, Nat.le_of_ble_eq_true rfl⟩ rfl (Nat.le_of_ble_eq_true rfl) hI.kx rfl rfl) rfl (fun G1 hI1 => ?_)
  obtain ⟨hk1, hv1⟩ := hI1.sc hX
  refine hr_aload2 (q := 795) X dL_law_794 rfl ?_
  refine hr_aload0 (q := 796) X dL_law_795 rfl ?_
  refine hr_iload3 (q := 797) X dL_law_796 rfl ?_
  refine hr_iconst (v := (nI 1)) (q := 798) X dL_law_797 rfl rfl ?_
  refine hr_iadd (v := (nI (i + 1))) (q := 799) X dL_law_798 rfl (nI_add _ _) ?_
  refine hr_ialdN (a := b) (n := L) (t := 7) (j := i + 1) (v := xs (i + 1)) (q := 800) X dL_law_799 rfl (hk1) (Or.inr rfl) (by omega) (by omega) (hv1 _ (by omega)) ?_
  refine hr_aload0 (q := 801) X dL_law_800 rfl ?_
  refine hr_iload3 (q := 802) X dL_law_801 rfl ?_
  refine hr_iconst (v := (nI 2)) (q := 803) X dL_law_802 rfl rfl ?_
  refine hr_iadd (v := (nI (i + 2))) (q := 804) X dL_law_803 rfl (nI_add _ _) ?_
  refine hr_ialdN (a := b) (n := L) (t := 7) (j := i + 2) (v := xs (i + 2)) (q := 805) X dL_law_804 rfl (hk1) (Or.inr rfl) (by omega) (by omega) (hv1 _ (by omega)) ?_
  refine hr_callL0 (kr := kr) (nr := nr) (q := 808) (hc_V (n := 2) (ci := 5) (As := [.int (xs (i + 1)), .int (xs (i + 2))]) X dL_law_805 rfl (hI1.m (rm := rm_X5_squareOf) (v := .int (sq_squareOf (xs (i + 1)) (xs (i + 2)) A).1) (B' := (sq_squareOf (xs (i + 1)) (xs (i + 2)) A).2) (fun Gs u e1 e2 => tk_squareOf X.tr (hR := e1) (hA := e2) (hW := hA.w))) q1607 cv_X5_squareOf ⟨Nat.le_of_ble_eq_true rfl, Nat.le_of_ble_eq_true rfl⟩ rfl (Nat.le_of_ble_eq_true rfl) hI1.ko rfl rfl) rfl (fun G2 hI2 => ?_)
  refine hr_icmp_eq (q := 811) (tgt := 1452) X dL_law_808 rfl (by decide) (fun _ => ?_) (fun z => absurd rfl z)
  exact k _ _ hI2 hA1
theorem ll_c14 (X : hg_X p l s m args meth c D lo "TaxOnLooksLaw" cL_law 4) (hS : lq_S D lo G0) (hX : lq_X lo G0 b L xs) (hI : lq_I D lo x o am G0 G A A) (hA : ab_I A) (hi : i + 7 ≤ L) (hL : L ≤ 448)
    (k : ∀ (G' : hg_G) (A' : ab_S), lq_I D lo x o am G0 G' A' A' → ab_I A' → hg_W p l e room_1 s m args below meth c Q D lo C0 4 kr nr G' 1452 [some (.ref b), some (.ref x), some (.ref o), some (.int (nI i))] []) :
    hg_W p l e room_1 s m args below meth c Q D lo C0 4 (kr + 4000) (nr + 32000) G 813 [some (.ref b), some (.ref x), some (.ref o), some (.int (nI i))] [] := by
  obtain ⟨hk, hv⟩ := hI.sc hX
  refine hr_aload1 (q := 814) X dL_law_813 rfl ?_
  refine hr_aload0 (q := 815) X dL_law_814 rfl ?_
  refine hr_iload3 (q := 816) X dL_law_815 rfl ?_
  refine hr_iconst (v := (nI 1)) (q := 817) X dL_law_816 rfl rfl ?_
  refine hr_iadd (v := (nI (i + 1))) (q := 818) X dL_law_817 rfl (nI_add _ _) ?_
  refine hr_ialdN (a := b) (n := L) (t := 7) (j := i + 1) (v := xs (i + 1)) (q := 819) X dL_law_818 rfl (hk) (Or.inr rfl) (by omega) (by omega) (hv _ (by omega)) ?_
  have hA1 : ab_I (sq_town (xs (i + 1)) A).2 := hA.town _
  refine hr_room (kr' := kr + 3800) (nr' := nr + 30000) (Nat.add_le_add_left (by decide) _) (Nat.add_le_add_left (by decide) _) ?_
  refine hr_callL (kr := kr) (nr := nr) (q := 822) (hc_VX (n := 1) (ci := 0) (As := [.int (xs (i + 1))]) X dL_law_819 rfl (hI.c (rm := rk_X0_town) (v := .int (sq_town (xs (i + 1)) A).1) (A' := (sq_town (xs (i + 1)) A).2) hS hA.w hA1.w (fun Gs ca e1 e2 e3 => by subst e1; exact tc_town X.tr (h := e2) (hW := hA.w) (hStr := e3))) q811 cv_X0_town ⟨Nat.le_of_ble_eq_true rfl, Nat.le_of_ble_eq_true rfl⟩ rfl (Nat.le_of_ble_eq_true rfl) hI.kx rfl rfl) rfl (fun G1 hI1 => ?_)
  obtain ⟨hk1, hv1⟩ := hI1.sc hX
  refine hr_aload2 (q := 823) X dL_law_822 rfl ?_
  refine hr_aload0 (q := 824) X dL_law_823 rfl ?_
  refine hr_iload3 (q := 825) X dL_law_824 rfl ?_
  refine hr_iconst (v := (nI 1)) (q := 826) X dL_law_825 rfl rfl ?_
  refine hr_iadd (v := (nI (i + 1))) (q := 827) X dL_law_826 rfl (nI_add _ _) ?_
  refine hr_ialdN (a := b) (n := L) (t := 7) (j := i + 1) (v := xs (i + 1)) (q := 828) X dL_law_827 rfl (hk1) (Or.inr rfl) (by omega) (by omega) (hv1 _ (by omega)) ?_
  refine hr_callL0 (kr := kr) (nr := nr) (q := 831) (hc_V (n := 1) (ci := 5) (As := [.int (xs (i + 1))]) X dL_law_828 rfl (hI1.m (rm := rm_X5_town) (v := .int (sq_town (xs (i + 1)) A).1) (B' := (sq_town (xs (i + 1)) A).2) (fun Gs u e1 e2 => tk_town X.tr (hR := e1) (hA := e2) (hW := hA.w))) q1611 cv_X5_town ⟨Nat.le_of_ble_eq_true rfl, Nat.le_of_ble_eq_true rfl⟩ rfl (Nat.le_of_ble_eq_true rfl) hI1.ko rfl rfl) rfl (fun G2 hI2 => ?_)
  refine hr_icmp_eq (q := 834) (tgt := 1452) X dL_law_831 rfl (by decide) (fun _ => ?_) (fun z => absurd rfl z)
  exact k _ _ hI2 hA1
theorem ll_c15 (X : hg_X p l s m args meth c D lo "TaxOnLooksLaw" cL_law 4) (hS : lq_S D lo G0) (hX : lq_X lo G0 b L xs) (hI : lq_I D lo x o am G0 G A A) (hA : ab_I A) (hi : i + 7 ≤ L) (hL : L ≤ 448)
    (k : ∀ (G' : hg_G) (A' : ab_S), lq_I D lo x o am G0 G' A' A' → ab_I A' → hg_W p l e room_1 s m args below meth c Q D lo C0 4 kr nr G' 1452 [some (.ref b), some (.ref x), some (.ref o), some (.int (nI i))] []) :
    hg_W p l e room_1 s m args below meth c Q D lo C0 4 (kr + 4000) (nr + 32000) G 836 [some (.ref b), some (.ref x), some (.ref o), some (.int (nI i))] [] := by
  obtain ⟨hk, hv⟩ := hI.sc hX
  refine hr_aload1 (q := 837) X dL_law_836 rfl ?_
  have hA1 : ab_I (sq_fault A).2 := hA.fault
  refine hr_room (kr' := kr + 0) (nr' := nr + 0) (Nat.add_le_add_left (by decide) _) (Nat.add_le_add_left (by decide) _) ?_
  refine hr_callL (kr := kr) (nr := nr) (q := 840) (hc_V (n := 0) (ci := 0) (As := []) X dL_law_837 rfl (hI.c (rm := rk_X0_fault) (v := .int (sq_fault A).1) (A' := (sq_fault A).2) hS hA.w hA1.w (fun Gs ca e1 e2 e3 => by subst e1; exact tc_fault X.tr (h := e2) (hW := hA.w))) q992 cv_X0_fault ⟨Nat.le_of_ble_eq_true rfl, Nat.le_of_ble_eq_true rfl⟩ rfl (Nat.le_of_ble_eq_true rfl) hI.kx rfl rfl) rfl (fun G1 hI1 => ?_)
  obtain ⟨hk1, hv1⟩ := hI1.sc hX
  refine hr_aload2 (q := 841) X dL_law_840 rfl ?_
  refine hr_callL0 (kr := kr) (nr := nr) (q := 844) (hc_V (n := 0) (ci := 5) (As := []) X dL_law_841 rfl (hI1.m (rm := rm_X5_fault) (v := .int (sq_fault A).1) (B' := (sq_fault A).2) (fun Gs u e1 e2 => tk_fault X.tr (hR := e1) (hA := e2) (hW := hA.w))) q1655 cv_X5_fault ⟨Nat.le_of_ble_eq_true rfl, Nat.le_of_ble_eq_true rfl⟩ rfl (Nat.le_of_ble_eq_true rfl) hI1.ko rfl rfl) rfl (fun G2 hI2 => ?_)
  refine hr_icmp_eq (q := 847) (tgt := 1452) X dL_law_844 rfl (by decide) (fun _ => ?_) (fun z => absurd rfl z)
  exact k _ _ hI2 hA1
theorem ll_c16 (X : hg_X p l s m args meth c D lo "TaxOnLooksLaw" cL_law 4) (hS : lq_S D lo G0) (hX : lq_X lo G0 b L xs) (hI : lq_I D lo x o am G0 G A A) (hA : ab_I A) (hi : i + 7 ≤ L) (hL : L ≤ 448)
    (k : ∀ (G' : hg_G) (A' : ab_S), lq_I D lo x o am G0 G' A' A' → ab_I A' → hg_W p l e room_1 s m args below meth c Q D lo C0 4 kr nr G' 1452 [some (.ref b), some (.ref x), some (.ref o), some (.int (nI i))] []) :
    hg_W p l e room_1 s m args below meth c Q D lo C0 4 (kr + 4000) (nr + 32000) G 849 [some (.ref b), some (.ref x), some (.ref o), some (.int (nI i))] [] := by
  obtain ⟨hk, hv⟩ := hI.sc hX
  refine hr_aload1 (q := 850) X dL_law_849 rfl ?_
  refine hr_aload0 (q := 851) X dL_law_850 rfl ?_
  refine hr_iload3 (q := 852) X dL_law_851 rfl ?_
  refine hr_iconst (v := (nI 1)) (q := 853) X dL_law_852 rfl rfl ?_
  refine hr_iadd (v := (nI (i + 1))) (q := 854) X dL_law_853 rfl (nI_add _ _) ?_
  refine hr_ialdN (a := b) (n := L) (t := 7) (j := i + 1) (v := xs (i + 1)) (q := 855) X dL_law_854 rfl (hk) (Or.inr rfl) (by omega) (by omega) (hv _ (by omega)) ?_
  refine hr_aload0 (q := 856) X dL_law_855 rfl ?_
  refine hr_iload3 (q := 857) X dL_law_856 rfl ?_
  refine hr_iconst (v := (nI 2)) (q := 858) X dL_law_857 rfl rfl ?_
  refine hr_iadd (v := (nI (i + 2))) (q := 859) X dL_law_858 rfl (nI_add _ _) ?_
  refine hr_ialdN (a := b) (n := L) (t := 7) (j := i + 2) (v := xs (i + 2)) (q := 860) X dL_law_859 rfl (hk) (Or.inr rfl) (by omega) (by omega) (hv _ (by omega)) ?_
  have hA1 : ab_I (sq_view (xs (i + 1)) (xs (i + 2)) A).2 := hA.view _ _
  refine hr_room (kr' := kr + 40) (nr' := nr + 3000) (Nat.add_le_add_left (by decide) _) (Nat.add_le_add_left (by decide) _) ?_
  refine hr_callL (kr := kr) (nr := nr) (q := 863) (hc_VX (n := 2) (ci := 0) (As := [.int (xs (i + 1)), .int (xs (i + 2))]) X dL_law_860 rfl (hI.c (rm := rk_X0_view) (v := .int (sq_view (xs (i + 1)) (xs (i + 2)) A).1) (A' := (sq_view (xs (i + 1)) (xs (i + 2)) A).2) hS hA.w hA1.w (fun Gs ca e1 e2 e3 => by subst e1; exact tc_view X.tr (h := e2) (hW := hA.w))) q996 cv_X0_view ⟨Nat.le_of_ble_eq_true rfl, Nat.le_of_ble_eq_true rfl⟩ rfl (Nat.le_of_ble_eq_true rfl) hI.kx rfl rfl) rfl (fun G1 hI1 => ?_)
  obtain ⟨hk1, hv1⟩ := hI1.sc hX
  refine hr_aload2 (q := 864) X dL_law_863 rfl ?_
  refine hr_aload0 (q := 865) X dL_law_864 rfl ?_
  refine hr_iload3 (q := 866) X dL_law_865 rfl ?_
  refine hr_iconst (v := (nI 1)) (q := 867) X dL_law_866 rfl rfl ?_
  refine hr_iadd (v := (nI (i + 1))) (q := 868) X dL_law_867 rfl (nI_add _ _) ?_
  refine hr_ialdN (a := b) (n := L) (t := 7) (j := i + 1) (v := xs (i + 1)) (q := 869) X dL_law_868 rfl (hk1) (Or.inr rfl) (by omega) (by omega) (hv1 _ (by omega)) ?_
  refine hr_aload0 (q := 870) X dL_law_869 rfl ?_
  refine hr_iload3 (q := 871) X dL_law_870 rfl ?_
  refine hr_iconst (v := (nI 2)) (q := 872) X dL_law_871 rfl rfl ?_
  refine hr_iadd (v := (nI (i + 2))) (q := 873) X dL_law_872 rfl (nI_add _ _) ?_
  refine hr_ialdN (a := b) (n := L) (t := 7) (j := i + 2) (v := xs (i + 2)) (q := 874) X dL_law_873 rfl (hk1) (Or.inr rfl) (by omega) (by omega) (hv1 _ (by omega)) ?_
  refine hr_callL0 (kr := kr) (nr := nr) (q := 877) (hc_V (n := 2) (ci := 5) (As := [.int (xs (i + 1)), .int (xs (i + 2))]) X dL_law_874 rfl (hI1.m (rm := rm_X5_view) (v := .int (sq_view (xs (i + 1)) (xs (i + 2)) A).1) (B' := (sq_view (xs (i + 1)) (xs (i + 2)) A).2) (fun Gs u e1 e2 => tk_view X.tr (hR := e1) (hA := e2) (hW := hA.w))) q1659 cv_X5_view ⟨Nat.le_of_ble_eq_true rfl, Nat.le_of_ble_eq_true rfl⟩ rfl (Nat.le_of_ble_eq_true rfl) hI1.ko rfl rfl) rfl (fun G2 hI2 => ?_)
  refine hr_icmp_eq (q := 880) (tgt := 1452) X dL_law_877 rfl (by decide) (fun _ => ?_) (fun z => absurd rfl z)
  exact k _ _ hI2 hA1
theorem ll_c17 (X : hg_X p l s m args meth c D lo "TaxOnLooksLaw" cL_law 4) (hS : lq_S D lo G0) (hX : lq_X lo G0 b L xs) (hI : lq_I D lo x o am G0 G A A) (hA : ab_I A) (hi : i + 7 ≤ L) (hL : L ≤ 448)
    (k : ∀ (G' : hg_G) (A' : ab_S), lq_I D lo x o am G0 G' A' A' → ab_I A' → hg_W p l e room_1 s m args below meth c Q D lo C0 4 kr nr G' 1452 [some (.ref b), some (.ref x), some (.ref o), some (.int (nI i))] []) :
    hg_W p l e room_1 s m args below meth c Q D lo C0 4 (kr + 4000) (nr + 32000) G 882 [some (.ref b), some (.ref x), some (.ref o), some (.int (nI i))] [] := by
  obtain ⟨hk, hv⟩ := hI.sc hX
  refine hr_aload1 (q := 883) X dL_law_882 rfl ?_
  refine hr_aload0 (q := 884) X dL_law_883 rfl ?_
  refine hr_iload3 (q := 885) X dL_law_884 rfl ?_
  refine hr_iconst (v := (nI 1)) (q := 886) X dL_law_885 rfl rfl ?_
  refine hr_iadd (v := (nI (i + 1))) (q := 887) X dL_law_886 rfl (nI_add _ _) ?_
  refine hr_ialdN (a := b) (n := L) (t := 7) (j := i + 1) (v := xs (i + 1)) (q := 888) X dL_law_887 rfl (hk) (Or.inr rfl) (by omega) (by omega) (hv _ (by omega)) ?_
  refine hr_aload0 (q := 889) X dL_law_888 rfl ?_
  refine hr_iload3 (q := 890) X dL_law_889 rfl ?_
  refine hr_iconst (v := (nI 2)) (q := 891) X dL_law_890 rfl rfl ?_
  refine hr_iadd (v := (nI (i + 2))) (q := 892) X dL_law_891 rfl (nI_add _ _) ?_
  refine hr_ialdN (a := b) (n := L) (t := 7) (j := i + 2) (v := xs (i + 2)) (q := 893) X dL_law_892 rfl (hk) (Or.inr rfl) (by omega) (by omega) (hv _ (by omega)) ?_
  have hA1 : ab_I (sq_glances (xs (i + 1)) (xs (i + 2)) A).2 := hA.glances _ _
  refine hr_room (kr' := kr + 40) (nr' := nr + 3000) (Nat.add_le_add_left (by decide) _) (Nat.add_le_add_left (by decide) _) ?_
  refine hr_callL (kr := kr) (nr := nr) (q := 896) (hc_VX (n := 2) (ci := 0) (As := [.int (xs (i + 1)), .int (xs (i + 2))]) X dL_law_893 rfl (hI.c (rm := rk_X0_glances) (v := .int (sq_glances (xs (i + 1)) (xs (i + 2)) A).1) (A' := (sq_glances (xs (i + 1)) (xs (i + 2)) A).2) hS hA.w hA1.w (fun Gs ca e1 e2 e3 => by subst e1; exact tc_glances X.tr (h := e2) (hW := hA.w))) q1014 cv_X0_glances ⟨Nat.le_of_ble_eq_true rfl, Nat.le_of_ble_eq_true rfl⟩ rfl (Nat.le_of_ble_eq_true rfl) hI.kx rfl rfl) rfl (fun G1 hI1 => ?_)
  obtain ⟨hk1, hv1⟩ := hI1.sc hX
  refine hr_aload2 (q := 897) X dL_law_896 rfl ?_
  refine hr_aload0 (q := 898) X dL_law_897 rfl ?_
  refine hr_iload3 (q := 899) X dL_law_898 rfl ?_
  refine hr_iconst (v := (nI 1)) (q := 900) X dL_law_899 rfl rfl ?_
  refine hr_iadd (v := (nI (i + 1))) (q := 901) X dL_law_900 rfl (nI_add _ _) ?_
  refine hr_ialdN (a := b) (n := L) (t := 7) (j := i + 1) (v := xs (i + 1)) (q := 902) X dL_law_901 rfl (hk1) (Or.inr rfl) (by omega) (by omega) (hv1 _ (by omega)) ?_
  refine hr_aload0 (q := 903) X dL_law_902 rfl ?_
  refine hr_iload3 (q := 904) X dL_law_903 rfl ?_
  refine hr_iconst (v := (nI 2)) (q := 905) X dL_law_904 rfl rfl ?_
  refine hr_iadd (v := (nI (i + 2))) (q := 906) X dL_law_905 rfl (nI_add _ _) ?_
  refine hr_ialdN (a := b) (n := L) (t := 7) (j := i + 2) (v := xs (i + 2)) (q := 907) X dL_law_906 rfl (hk1) (Or.inr rfl) (by omega) (by omega) (hv1 _ (by omega)) ?_
  refine hr_callL0 (kr := kr) (nr := nr) (q := 910) (hc_V (n := 2) (ci := 5) (As := [.int (xs (i + 1)), .int (xs (i + 2))]) X dL_law_907 rfl (hI1.m (rm := rm_X5_glances) (v := .int (sq_glances (xs (i + 1)) (xs (i + 2)) A).1) (B' := (sq_glances (xs (i + 1)) (xs (i + 2)) A).2) (fun Gs u e1 e2 => tk_glances X.tr (hR := e1) (hA := e2) (hW := hA.w))) q1671 cv_X5_glances ⟨Nat.le_of_ble_eq_true rfl, Nat.le_of_ble_eq_true rfl⟩ rfl (Nat.le_of_ble_eq_true rfl) hI1.ko rfl rfl) rfl (fun G2 hI2 => ?_)
  refine hr_icmp_eq (q := 913) (tgt := 1452) X dL_law_910 rfl (by decide) (fun _ => ?_) (fun z => absurd rfl z)
  exact k _ _ hI2 hA1
theorem ll_c18 (X : hg_X p l s m args meth c D lo "TaxOnLooksLaw" cL_law 4) (hS : lq_S D lo G0) (hX : lq_X lo G0 b L xs) (hI : lq_I D lo x o am G0 G A A) (hA : ab_I A) (hi : i + 7 ≤ L) (hL : L ≤ 448)
    (k : ∀ (G' : hg_G) (A' : ab_S), lq_I D lo x o am G0 G' A' A' → ab_I A' → hg_W p l e room_1 s m args below meth c Q D lo C0 4 kr nr G' 1452 [some (.ref b), some (.ref x), some (.ref o), some (.int (nI i))] []) :
    hg_W p l e room_1 s m args below meth c Q D lo C0 4 (kr + 4000) (nr + 32000) G 915 [some (.ref b), some (.ref x), some (.ref o), some (.int (nI i))] [] := by
  obtain ⟨hk, hv⟩ := hI.sc hX
  refine hr_aload1 (q := 916) X dL_law_915 rfl ?_
  refine hr_aload0 (q := 917) X dL_law_916 rfl ?_
  refine hr_iload3 (q := 918) X dL_law_917 rfl ?_
  refine hr_iconst (v := (nI 1)) (q := 919) X dL_law_918 rfl rfl ?_
  refine hr_iadd (v := (nI (i + 1))) (q := 920) X dL_law_919 rfl (nI_add _ _) ?_
  refine hr_ialdN (a := b) (n := L) (t := 7) (j := i + 1) (v := xs (i + 1)) (q := 921) X dL_law_920 rfl (hk) (Or.inr rfl) (by omega) (by omega) (hv _ (by omega)) ?_
  refine hr_aload0 (q := 922) X dL_law_921 rfl ?_
  refine hr_iload3 (q := 923) X dL_law_922 rfl ?_
  refine hr_iconst (v := (nI 2)) (q := 924) X dL_law_923 rfl rfl ?_
  refine hr_iadd (v := (nI (i + 2))) (q := 925) X dL_law_924 rfl (nI_add _ _) ?_
  refine hr_ialdN (a := b) (n := L) (t := 7) (j := i + 2) (v := xs (i + 2)) (q := 926) X dL_law_925 rfl (hk) (Or.inr rfl) (by omega) (by omega) (hv _ (by omega)) ?_
  have hA1 : ab_I (sq_duty (xs (i + 1)) (xs (i + 2)) A).2 := hA.duty _ _
  refine hr_room (kr' := kr + 40) (nr' := nr + 3000) (Nat.add_le_add_left (by decide) _) (Nat.add_le_add_left (by decide) _) ?_
  refine hr_callL (kr := kr) (nr := nr) (q := 929) (hc_VX (n := 2) (ci := 0) (As := [.int (xs (i + 1)), .int (xs (i + 2))]) X dL_law_926 rfl (hI.c (rm := rk_X0_duty) (v := .int (sq_duty (xs (i + 1)) (xs (i + 2)) A).1) (A' := (sq_duty (xs (i + 1)) (xs (i + 2)) A).2) hS hA.w hA1.w (fun Gs ca e1 e2 e3 => by subst e1; exact tc_duty X.tr (h := e2) (hW := hA.w))) q1063 cv_X0_duty ⟨Nat.le_of_ble_eq_true rfl, Nat.le_of_ble_eq_true rfl⟩ rfl (Nat.le_of_ble_eq_true rfl) hI.kx rfl rfl) rfl (fun G1 hI1 => ?_)
  obtain ⟨hk1, hv1⟩ := hI1.sc hX
  refine hr_aload2 (q := 930) X dL_law_929 rfl ?_
  refine hr_aload0 (q := 931) X dL_law_930 rfl ?_
  refine hr_iload3 (q := 932) X dL_law_931 rfl ?_
  refine hr_iconst (v := (nI 1)) (q := 933) X dL_law_932 rfl rfl ?_
  refine hr_iadd (v := (nI (i + 1))) (q := 934) X dL_law_933 rfl (nI_add _ _) ?_
  refine hr_ialdN (a := b) (n := L) (t := 7) (j := i + 1) (v := xs (i + 1)) (q := 935) X dL_law_934 rfl (hk1) (Or.inr rfl) (by omega) (by omega) (hv1 _ (by omega)) ?_
  refine hr_aload0 (q := 936) X dL_law_935 rfl ?_
  refine hr_iload3 (q := 937) X dL_law_936 rfl ?_
  refine hr_iconst (v := (nI 2)) (q := 938) X dL_law_937 rfl rfl ?_
  refine hr_iadd (v := (nI (i + 2))) (q := 939) X dL_law_938 rfl (nI_add _ _) ?_
  refine hr_ialdN (a := b) (n := L) (t := 7) (j := i + 2) (v := xs (i + 2)) (q := 940) X dL_law_939 rfl (hk1) (Or.inr rfl) (by omega) (by omega) (hv1 _ (by omega)) ?_
  refine hr_callL0 (kr := kr) (nr := nr) (q := 943) (hc_V (n := 2) (ci := 5) (As := [.int (xs (i + 1)), .int (xs (i + 2))]) X dL_law_940 rfl (hI1.m (rm := rm_X5_duty) (v := .int (sq_duty (xs (i + 1)) (xs (i + 2)) A).1) (B' := (sq_duty (xs (i + 1)) (xs (i + 2)) A).2) (fun Gs u e1 e2 => tk_duty X.tr (hR := e1) (hA := e2) (hW := hA.w))) q1687 cv_X5_duty ⟨Nat.le_of_ble_eq_true rfl, Nat.le_of_ble_eq_true rfl⟩ rfl (Nat.le_of_ble_eq_true rfl) hI1.ko rfl rfl) rfl (fun G2 hI2 => ?_)
  refine hr_icmp_eq (q := 946) (tgt := 1452) X dL_law_943 rfl (by decide) (fun _ => ?_) (fun z => absurd rfl z)
  exact k _ _ hI2 hA1
theorem ll_c19 (X : hg_X p l s m args meth c D lo "TaxOnLooksLaw" cL_law 4) (hS : lq_S D lo G0) (hX : lq_X lo G0 b L xs) (hI : lq_I D lo x o am G0 G A A) (hA : ab_I A) (hi : i + 7 ≤ L) (hL : L ≤ 448)
    (k : ∀ (G' : hg_G) (A' : ab_S), lq_I D lo x o am G0 G' A' A' → ab_I A' → hg_W p l e room_1 s m args below meth c Q D lo C0 4 kr nr G' 1452 [some (.ref b), some (.ref x), some (.ref o), some (.int (nI i))] []) :
    hg_W p l e room_1 s m args below meth c Q D lo C0 4 (kr + 4000) (nr + 32000) G 948 [some (.ref b), some (.ref x), some (.ref o), some (.int (nI i))] [] := by
  obtain ⟨hk, hv⟩ := hI.sc hX
  refine hr_aload1 (q := 949) X dL_law_948 rfl ?_
  refine hr_aload0 (q := 950) X dL_law_949 rfl ?_
  refine hr_iload3 (q := 951) X dL_law_950 rfl ?_
  refine hr_iconst (v := (nI 1)) (q := 952) X dL_law_951 rfl rfl ?_
  refine hr_iadd (v := (nI (i + 1))) (q := 953) X dL_law_952 rfl (nI_add _ _) ?_
  refine hr_ialdN (a := b) (n := L) (t := 7) (j := i + 1) (v := xs (i + 1)) (q := 954) X dL_law_953 rfl (hk) (Or.inr rfl) (by omega) (by omega) (hv _ (by omega)) ?_
  have hA1 : ab_I (sq_all (xs (i + 1)) A).2 := hA.all _
  refine hr_room (kr' := kr + 40) (nr' := nr + 3000) (Nat.add_le_add_left (by decide) _) (Nat.add_le_add_left (by decide) _) ?_
  refine hr_callL (kr := kr) (nr := nr) (q := 957) (hc_VX (n := 1) (ci := 0) (As := [.int (xs (i + 1))]) X dL_law_954 rfl (hI.c (rm := rk_X0_all) (v := .int (sq_all (xs (i + 1)) A).1) (A' := (sq_all (xs (i + 1)) A).2) hS hA.w hA1.w (fun Gs ca e1 e2 e3 => by subst e1; exact tc_all X.tr (h := e2) (hW := hA.w))) q1105 cv_X0_all ⟨Nat.le_of_ble_eq_true rfl, Nat.le_of_ble_eq_true rfl⟩ rfl (Nat.le_of_ble_eq_true rfl) hI.kx rfl rfl) rfl (fun G1 hI1 => ?_)
  obtain ⟨hk1, hv1⟩ := hI1.sc hX
  refine hr_aload2 (q := 958) X dL_law_957 rfl ?_
  refine hr_aload0 (q := 959) X dL_law_958 rfl ?_
  refine hr_iload3 (q := 960) X dL_law_959 rfl ?_
  refine hr_iconst (v := (nI 1)) (q := 961) X dL_law_960 rfl rfl ?_
  refine hr_iadd (v := (nI (i + 1))) (q := 962) X dL_law_961 rfl (nI_add _ _) ?_
  refine hr_ialdN (a := b) (n := L) (t := 7) (j := i + 1) (v := xs (i + 1)) (q := 963) X dL_law_962 rfl (hk1) (Or.inr rfl) (by omega) (by omega) (hv1 _ (by omega)) ?_
  refine hr_callL0 (kr := kr) (nr := nr) (q := 966) (hc_V (n := 1) (ci := 5) (As := [.int (xs (i + 1))]) X dL_law_963 rfl (hI1.m (rm := rm_X5_all) (v := .int (sq_all (xs (i + 1)) A).1) (B' := (sq_all (xs (i + 1)) A).2) (fun Gs u e1 e2 => tk_all X.tr (hR := e1) (hA := e2) (hW := hA.w))) q1707 cv_X5_all ⟨Nat.le_of_ble_eq_true rfl, Nat.le_of_ble_eq_true rfl⟩ rfl (Nat.le_of_ble_eq_true rfl) hI1.ko rfl rfl) rfl (fun G2 hI2 => ?_)
  refine hr_icmp_eq (q := 969) (tgt := 1452) X dL_law_966 rfl (by decide) (fun _ => ?_) (fun z => absurd rfl z)
  exact k _ _ hI2 hA1
theorem ll_c20 (X : hg_X p l s m args meth c D lo "TaxOnLooksLaw" cL_law 4) (hS : lq_S D lo G0) (hX : lq_X lo G0 b L xs) (hI : lq_I D lo x o am G0 G A A) (hA : ab_I A) (hi : i + 7 ≤ L) (hL : L ≤ 448)
    (k : ∀ (G' : hg_G) (A' : ab_S), lq_I D lo x o am G0 G' A' A' → ab_I A' → hg_W p l e room_1 s m args below meth c Q D lo C0 4 kr nr G' 1452 [some (.ref b), some (.ref x), some (.ref o), some (.int (nI i))] []) :
    hg_W p l e room_1 s m args below meth c Q D lo C0 4 (kr + 4000) (nr + 32000) G 971 [some (.ref b), some (.ref x), some (.ref o), some (.int (nI i))] [] := by
  obtain ⟨hk, hv⟩ := hI.sc hX
  refine hr_aload1 (q := 972) X dL_law_971 rfl ?_
  refine hr_aload0 (q := 973) X dL_law_972 rfl ?_
  refine hr_iload3 (q := 974) X dL_law_973 rfl ?_
  refine hr_iconst (v := (nI 1)) (q := 975) X dL_law_974 rfl rfl ?_
  refine hr_iadd (v := (nI (i + 1))) (q := 976) X dL_law_975 rfl (nI_add _ _) ?_
  refine hr_ialdN (a := b) (n := L) (t := 7) (j := i + 1) (v := xs (i + 1)) (q := 977) X dL_law_976 rfl (hk) (Or.inr rfl) (by omega) (by omega) (hv _ (by omega)) ?_
  refine hr_aload0 (q := 978) X dL_law_977 rfl ?_
  refine hr_iload3 (q := 979) X dL_law_978 rfl ?_
  refine hr_iconst (v := (nI 2)) (q := 980) X dL_law_979 rfl rfl ?_
  refine hr_iadd (v := (nI (i + 2))) (q := 981) X dL_law_980 rfl (nI_add _ _) ?_
  refine hr_ialdN (a := b) (n := L) (t := 7) (j := i + 2) (v := xs (i + 2)) (q := 982) X dL_law_981 rfl (hk) (Or.inr rfl) (by omega) (by omega) (hv _ (by omega)) ?_
  refine hr_aload0 (q := 983) X dL_law_982 rfl ?_
  refine hr_iload3 (q := 984) X dL_law_983 rfl ?_
  refine hr_iconst (v := (nI 3)) (q := 985) X dL_law_984 rfl rfl ?_
  refine hr_iadd (v := (nI (i + 3))) (q := 986) X dL_law_985 rfl (nI_add _ _) ?_
  refine hr_ialdN (a := b) (n := L) (t := 7) (j := i + 3) (v := xs (i + 3)) (q := 987) X dL_law_986 rfl (hk) (Or.inr rfl) (by omega) (by omega) (hv _ (by omega)) ?_
  have hA1 : ab_I (sq_walk (xs (i + 1)) (xs (i + 2)) (xs (i + 3)) A).2 := hA.walk _ _ _
  refine hr_room (kr' := kr + 40) (nr' := nr + 3000) (Nat.add_le_add_left (by decide) _) (Nat.add_le_add_left (by decide) _) ?_
  refine hr_callL (kr := kr) (nr := nr) (q := 990) (hc_VX (n := 3) (ci := 0) (As := [.int (xs (i + 1)), .int (xs (i + 2)), .int (xs (i + 3))]) X dL_law_987 rfl (hI.c (rm := rk_X0_walk) (v := .int (sq_walk (xs (i + 1)) (xs (i + 2)) (xs (i + 3)) A).1) (A' := (sq_walk (xs (i + 1)) (xs (i + 2)) (xs (i + 3)) A).2) hS hA.w hA1.w (fun Gs ca e1 e2 e3 => by subst e1; exact tc_walk X.tr (h := e2) (hW := hA.w))) q1114 cv_X0_walk ⟨Nat.le_of_ble_eq_true rfl, Nat.le_of_ble_eq_true rfl⟩ rfl (Nat.le_of_ble_eq_true rfl) hI.kx rfl rfl) rfl (fun G1 hI1 => ?_)
  obtain ⟨hk1, hv1⟩ := hI1.sc hX
  refine hr_aload2 (q := 991) X dL_law_990 rfl ?_
  refine hr_aload0 (q := 992) X dL_law_991 rfl ?_
  refine hr_iload3 (q := 993) X dL_law_992 rfl ?_
  refine hr_iconst (v := (nI 1)) (q := 994) X dL_law_993 rfl rfl ?_
  refine hr_iadd (v := (nI (i + 1))) (q := 995) X dL_law_994 rfl (nI_add _ _) ?_
  refine hr_ialdN (a := b) (n := L) (t := 7) (j := i + 1) (v := xs (i + 1)) (q := 996) X dL_law_995 rfl (hk1) (Or.inr rfl) (by omega) (by omega) (hv1 _ (by omega)) ?_
  refine hr_aload0 (q := 997) X dL_law_996 rfl ?_
  refine hr_iload3 (q := 998) X dL_law_997 rfl ?_
  refine hr_iconst (v := (nI 2)) (q := 999) X dL_law_998 rfl rfl ?_
  refine hr_iadd (v := (nI (i + 2))) (q := 1000) X dL_law_999 rfl (nI_add _ _) ?_
  refine hr_ialdN (a := b) (n := L) (t := 7) (j := i + 2) (v := xs (i + 2)) (q := 1001) X dL_law_1000 rfl (hk1) (Or.inr rfl) (by omega) (by omega) (hv1 _ (by omega)) ?_
  refine hr_aload0 (q := 1002) X dL_law_1001 rfl ?_
  refine hr_iload3 (q := 1003) X dL_law_1002 rfl ?_
  refine hr_iconst (v := (nI 3)) (q := 1004) X dL_law_1003 rfl rfl ?_
  refine hr_iadd (v := (nI (i + 3))) (q := 1005) X dL_law_1004 rfl (nI_add _ _) ?_
  refine hr_ialdN (a := b) (n := L) (t := 7) (j := i + 3) (v := xs (i + 3)) (q := 1006) X dL_law_1005 rfl (hk1) (Or.inr rfl) (by omega) (by omega) (hv1 _ (by omega)) ?_
  refine hr_callL0 (kr := kr) (nr := nr) (q := 1009) (hc_V (n := 3) (ci := 5) (As := [.int (xs (i + 1)), .int (xs (i + 2)), .int (xs (i + 3))]) X dL_law_1006 rfl (hI1.m (rm := rm_X5_walk) (v := .int (sq_walk (xs (i + 1)) (xs (i + 2)) (xs (i + 3)) A).1) (B' := (sq_walk (xs (i + 1)) (xs (i + 2)) (xs (i + 3)) A).2) (fun Gs u e1 e2 => tk_walk X.tr (hR := e1) (hA := e2) (hW := hA.w))) q1711 cv_X5_walk ⟨Nat.le_of_ble_eq_true rfl, Nat.le_of_ble_eq_true rfl⟩ rfl (Nat.le_of_ble_eq_true rfl) hI1.ko rfl rfl) rfl (fun G2 hI2 => ?_)
  refine hr_icmp_eq (q := 1012) (tgt := 1452) X dL_law_1009 rfl (by decide) (fun _ => ?_) (fun z => absurd rfl z)
  exact k _ _ hI2 hA1
theorem ll_c21 (X : hg_X p l s m args meth c D lo "TaxOnLooksLaw" cL_law 4) (hS : lq_S D lo G0) (hX : lq_X lo G0 b L xs) (hI : lq_I D lo x o am G0 G A A) (hA : ab_I A) (hi : i + 7 ≤ L) (hL : L ≤ 448)
    (k : ∀ (G' : hg_G) (A' : ab_S), lq_I D lo x o am G0 G' A' A' → ab_I A' → hg_W p l e room_1 s m args below meth c Q D lo C0 4 kr nr G' 1452 [some (.ref b), some (.ref x), some (.ref o), some (.int (nI i))] []) :
    hg_W p l e room_1 s m args below meth c Q D lo C0 4 (kr + 4000) (nr + 32000) G 1014 [some (.ref b), some (.ref x), some (.ref o), some (.int (nI i))] [] := by
  obtain ⟨hk, hv⟩ := hI.sc hX
  refine hr_aload1 (q := 1015) X dL_law_1014 rfl ?_
  refine hr_aload0 (q := 1016) X dL_law_1015 rfl ?_
  refine hr_iload3 (q := 1017) X dL_law_1016 rfl ?_
  refine hr_iconst (v := (nI 1)) (q := 1018) X dL_law_1017 rfl rfl ?_
  refine hr_iadd (v := (nI (i + 1))) (q := 1019) X dL_law_1018 rfl (nI_add _ _) ?_
  refine hr_ialdN (a := b) (n := L) (t := 7) (j := i + 1) (v := xs (i + 1)) (q := 1020) X dL_law_1019 rfl (hk) (Or.inr rfl) (by omega) (by omega) (hv _ (by omega)) ?_
  refine hr_aload0 (q := 1021) X dL_law_1020 rfl ?_
  refine hr_iload3 (q := 1022) X dL_law_1021 rfl ?_
  refine hr_iconst (v := (nI 2)) (q := 1023) X dL_law_1022 rfl rfl ?_
  refine hr_iadd (v := (nI (i + 2))) (q := 1024) X dL_law_1023 rfl (nI_add _ _) ?_
  refine hr_ialdN (a := b) (n := L) (t := 7) (j := i + 2) (v := xs (i + 2)) (q := 1025) X dL_law_1024 rfl (hk) (Or.inr rfl) (by omega) (by omega) (hv _ (by omega)) ?_
  have hA1 : ab_I (sq_stand (xs (i + 1)) (xs (i + 2)) A).2 := hA.stand _ _
  refine hr_room (kr' := kr + 40) (nr' := nr + 3000) (Nat.add_le_add_left (by decide) _) (Nat.add_le_add_left (by decide) _) ?_
  refine hr_callL (kr := kr) (nr := nr) (q := 1028) (hc_VX (n := 2) (ci := 0) (As := [.int (xs (i + 1)), .int (xs (i + 2))]) X dL_law_1025 rfl (hI.c (rm := rk_X0_stand) (v := .int (sq_stand (xs (i + 1)) (xs (i + 2)) A).1) (A' := (sq_stand (xs (i + 1)) (xs (i + 2)) A).2) hS hA.w hA1.w (fun Gs ca e1 e2 e3 => by subst e1; exact tc_stand X.tr (h := e2) (hW := hA.w))) q1157 cv_X0_stand ⟨Nat.le_of_ble_eq_true rfl, Nat.le_of_ble_eq_true rfl⟩ rfl (Nat.le_of_ble_eq_true rfl) hI.kx rfl rfl) rfl (fun G1 hI1 => ?_)
  obtain ⟨hk1, hv1⟩ := hI1.sc hX
  refine hr_aload2 (q := 1029) X dL_law_1028 rfl ?_
  refine hr_aload0 (q := 1030) X dL_law_1029 rfl ?_
  refine hr_iload3 (q := 1031) X dL_law_1030 rfl ?_
  refine hr_iconst (v := (nI 1)) (q := 1032) X dL_law_1031 rfl rfl ?_
  refine hr_iadd (v := (nI (i + 1))) (q := 1033) X dL_law_1032 rfl (nI_add _ _) ?_
  refine hr_ialdN (a := b) (n := L) (t := 7) (j := i + 1) (v := xs (i + 1)) (q := 1034) X dL_law_1033 rfl (hk1) (Or.inr rfl) (by omega) (by omega) (hv1 _ (by omega)) ?_
  refine hr_aload0 (q := 1035) X dL_law_1034 rfl ?_
  refine hr_iload3 (q := 1036) X dL_law_1035 rfl ?_
  refine hr_iconst (v := (nI 2)) (q := 1037) X dL_law_1036 rfl rfl ?_
  refine hr_iadd (v := (nI (i + 2))) (q := 1038) X dL_law_1037 rfl (nI_add _ _) ?_
  refine hr_ialdN (a := b) (n := L) (t := 7) (j := i + 2) (v := xs (i + 2)) (q := 1039) X dL_law_1038 rfl (hk1) (Or.inr rfl) (by omega) (by omega) (hv1 _ (by omega)) ?_
  refine hr_callL0 (kr := kr) (nr := nr) (q := 1042) (hc_V (n := 2) (ci := 5) (As := [.int (xs (i + 1)), .int (xs (i + 2))]) X dL_law_1039 rfl (hI1.m (rm := rm_X5_stand) (v := .int (sq_stand (xs (i + 1)) (xs (i + 2)) A).1) (B' := (sq_stand (xs (i + 1)) (xs (i + 2)) A).2) (fun Gs u e1 e2 => tk_stand X.tr (hR := e1) (hA := e2) (hW := hA.w))) q1736 cv_X5_stand ⟨Nat.le_of_ble_eq_true rfl, Nat.le_of_ble_eq_true rfl⟩ rfl (Nat.le_of_ble_eq_true rfl) hI1.ko rfl rfl) rfl (fun G2 hI2 => ?_)
  refine hr_icmp_eq (q := 1045) (tgt := 1452) X dL_law_1042 rfl (by decide) (fun _ => ?_) (fun z => absurd rfl z)
  exact k _ _ hI2 hA1
theorem ll_c22 (X : hg_X p l s m args meth c D lo "TaxOnLooksLaw" cL_law 4) (hS : lq_S D lo G0) (hX : lq_X lo G0 b L xs) (hI : lq_I D lo x o am G0 G A A) (hA : ab_I A) (hi : i + 7 ≤ L) (hL : L ≤ 448)
    (k : ∀ (G' : hg_G) (A' : ab_S), lq_I D lo x o am G0 G' A' A' → ab_I A' → hg_W p l e room_1 s m args below meth c Q D lo C0 4 kr nr G' 1452 [some (.ref b), some (.ref x), some (.ref o), some (.int (nI i))] []) :
    hg_W p l e room_1 s m args below meth c Q D lo C0 4 (kr + 4000) (nr + 32000) G 1047 [some (.ref b), some (.ref x), some (.ref o), some (.int (nI i))] [] := by
  obtain ⟨hk, hv⟩ := hI.sc hX
  refine hr_aload1 (q := 1048) X dL_law_1047 rfl ?_
  refine hr_aload0 (q := 1049) X dL_law_1048 rfl ?_
  refine hr_iload3 (q := 1050) X dL_law_1049 rfl ?_
  refine hr_iconst (v := (nI 1)) (q := 1051) X dL_law_1050 rfl rfl ?_
  refine hr_iadd (v := (nI (i + 1))) (q := 1052) X dL_law_1051 rfl (nI_add _ _) ?_
  refine hr_ialdN (a := b) (n := L) (t := 7) (j := i + 1) (v := xs (i + 1)) (q := 1053) X dL_law_1052 rfl (hk) (Or.inr rfl) (by omega) (by omega) (hv _ (by omega)) ?_
  refine hr_aload0 (q := 1054) X dL_law_1053 rfl ?_
  refine hr_iload3 (q := 1055) X dL_law_1054 rfl ?_
  refine hr_iconst (v := (nI 2)) (q := 1056) X dL_law_1055 rfl rfl ?_
  refine hr_iadd (v := (nI (i + 2))) (q := 1057) X dL_law_1056 rfl (nI_add _ _) ?_
  refine hr_ialdN (a := b) (n := L) (t := 7) (j := i + 2) (v := xs (i + 2)) (q := 1058) X dL_law_1057 rfl (hk) (Or.inr rfl) (by omega) (by omega) (hv _ (by omega)) ?_
  have hA1 : ab_I (sq_sacks (xs (i + 1)) (xs (i + 2)) A).2 := hA.sacks _ _
  refine hr_room (kr' := kr + 40) (nr' := nr + 3000) (Nat.add_le_add_left (by decide) _) (Nat.add_le_add_left (by decide) _) ?_
  refine hr_callL (kr := kr) (nr := nr) (q := 1061) (hc_VX (n := 2) (ci := 0) (As := [.int (xs (i + 1)), .int (xs (i + 2))]) X dL_law_1058 rfl (hI.c (rm := rk_X0_sacks) (v := .int (sq_sacks (xs (i + 1)) (xs (i + 2)) A).1) (A' := (sq_sacks (xs (i + 1)) (xs (i + 2)) A).2) hS hA.w hA1.w (fun Gs ca e1 e2 e3 => by subst e1; exact tc_sacks X.tr (h := e2) (hW := hA.w))) q1165 cv_X0_sacks ⟨Nat.le_of_ble_eq_true rfl, Nat.le_of_ble_eq_true rfl⟩ rfl (Nat.le_of_ble_eq_true rfl) hI.kx rfl rfl) rfl (fun G1 hI1 => ?_)
  obtain ⟨hk1, hv1⟩ := hI1.sc hX
  refine hr_aload2 (q := 1062) X dL_law_1061 rfl ?_
  refine hr_aload0 (q := 1063) X dL_law_1062 rfl ?_
  refine hr_iload3 (q := 1064) X dL_law_1063 rfl ?_
  refine hr_iconst (v := (nI 1)) (q := 1065) X dL_law_1064 rfl rfl ?_
  refine hr_iadd (v := (nI (i + 1))) (q := 1066) X dL_law_1065 rfl (nI_add _ _) ?_
  refine hr_ialdN (a := b) (n := L) (t := 7) (j := i + 1) (v := xs (i + 1)) (q := 1067) X dL_law_1066 rfl (hk1) (Or.inr rfl) (by omega) (by omega) (hv1 _ (by omega)) ?_
  refine hr_aload0 (q := 1068) X dL_law_1067 rfl ?_
  refine hr_iload3 (q := 1069) X dL_law_1068 rfl ?_
  refine hr_iconst (v := (nI 2)) (q := 1070) X dL_law_1069 rfl rfl ?_
  refine hr_iadd (v := (nI (i + 2))) (q := 1071) X dL_law_1070 rfl (nI_add _ _) ?_
  refine hr_ialdN (a := b) (n := L) (t := 7) (j := i + 2) (v := xs (i + 2)) (q := 1072) X dL_law_1071 rfl (hk1) (Or.inr rfl) (by omega) (by omega) (hv1 _ (by omega)) ?_
  refine hr_callL0 (kr := kr) (nr := nr) (q := 1075) (hc_V (n := 2) (ci := 5) (As := [.int (xs (i + 1)), .int (xs (i + 2))]) X dL_law_1072 rfl (hI1.m (rm := rm_X5_sacks) (v := .int (sq_sacks (xs (i + 1)) (xs (i + 2)) A).1) (B' := (sq_sacks (xs (i + 1)) (xs (i + 2)) A).2) (fun Gs u e1 e2 => tk_sacks X.tr (hR := e1) (hA := e2) (hW := hA.w))) q1740 cv_X5_sacks ⟨Nat.le_of_ble_eq_true rfl, Nat.le_of_ble_eq_true rfl⟩ rfl (Nat.le_of_ble_eq_true rfl) hI1.ko rfl rfl) rfl (fun G2 hI2 => ?_)
  refine hr_icmp_eq (q := 1078) (tgt := 1452) X dL_law_1075 rfl (by decide) (fun _ => ?_) (fun z => absurd rfl z)
  exact k _ _ hI2 hA1
theorem ll_c23 (X : hg_X p l s m args meth c D lo "TaxOnLooksLaw" cL_law 4) (hS : lq_S D lo G0) (hX : lq_X lo G0 b L xs) (hI : lq_I D lo x o am G0 G A A) (hA : ab_I A) (hi : i + 7 ≤ L) (hL : L ≤ 448)
    (k : ∀ (G' : hg_G) (A' : ab_S), lq_I D lo x o am G0 G' A' A' → ab_I A' → hg_W p l e room_1 s m args below meth c Q D lo C0 4 kr nr G' 1452 [some (.ref b), some (.ref x), some (.ref o), some (.int (nI i))] []) :
    hg_W p l e room_1 s m args below meth c Q D lo C0 4 (kr + 4000) (nr + 32000) G 1080 [some (.ref b), some (.ref x), some (.ref o), some (.int (nI i))] [] := by
  obtain ⟨hk, hv⟩ := hI.sc hX
  refine hr_aload1 (q := 1081) X dL_law_1080 rfl ?_
  refine hr_aload0 (q := 1082) X dL_law_1081 rfl ?_
  refine hr_iload3 (q := 1083) X dL_law_1082 rfl ?_
  refine hr_iconst (v := (nI 1)) (q := 1084) X dL_law_1083 rfl rfl ?_
  refine hr_iadd (v := (nI (i + 1))) (q := 1085) X dL_law_1084 rfl (nI_add _ _) ?_
  refine hr_ialdN (a := b) (n := L) (t := 7) (j := i + 1) (v := xs (i + 1)) (q := 1086) X dL_law_1085 rfl (hk) (Or.inr rfl) (by omega) (by omega) (hv _ (by omega)) ?_
  have hA1 : ab_I (sq_balconies (xs (i + 1)) A).2 := hA.balconies _
  refine hr_room (kr' := kr + 40) (nr' := nr + 3000) (Nat.add_le_add_left (by decide) _) (Nat.add_le_add_left (by decide) _) ?_
  refine hr_callL (kr := kr) (nr := nr) (q := 1089) (hc_VX (n := 1) (ci := 0) (As := [.int (xs (i + 1))]) X dL_law_1086 rfl (hI.c (rm := rk_X0_balconies) (v := .int (sq_balconies (xs (i + 1)) A).1) (A' := (sq_balconies (xs (i + 1)) A).2) hS hA.w hA1.w (fun Gs ca e1 e2 e3 => by subst e1; exact tc_balconies X.tr (h := e2) (hW := hA.w))) q1178 cv_X0_balconies ⟨Nat.le_of_ble_eq_true rfl, Nat.le_of_ble_eq_true rfl⟩ rfl (Nat.le_of_ble_eq_true rfl) hI.kx rfl rfl) rfl (fun G1 hI1 => ?_)
  obtain ⟨hk1, hv1⟩ := hI1.sc hX
  refine hr_aload2 (q := 1090) X dL_law_1089 rfl ?_
  refine hr_aload0 (q := 1091) X dL_law_1090 rfl ?_
  refine hr_iload3 (q := 1092) X dL_law_1091 rfl ?_
  refine hr_iconst (v := (nI 1)) (q := 1093) X dL_law_1092 rfl rfl ?_
  refine hr_iadd (v := (nI (i + 1))) (q := 1094) X dL_law_1093 rfl (nI_add _ _) ?_
  refine hr_ialdN (a := b) (n := L) (t := 7) (j := i + 1) (v := xs (i + 1)) (q := 1095) X dL_law_1094 rfl (hk1) (Or.inr rfl) (by omega) (by omega) (hv1 _ (by omega)) ?_
  refine hr_callL0 (kr := kr) (nr := nr) (q := 1098) (hc_V (n := 1) (ci := 5) (As := [.int (xs (i + 1))]) X dL_law_1095 rfl (hI1.m (rm := rm_X5_balconies) (v := .int (sq_balconies (xs (i + 1)) A).1) (B' := (sq_balconies (xs (i + 1)) A).2) (fun Gs u e1 e2 => tk_balconies X.tr (hR := e1) (hA := e2) (hW := hA.w))) q1748 cv_X5_balconies ⟨Nat.le_of_ble_eq_true rfl, Nat.le_of_ble_eq_true rfl⟩ rfl (Nat.le_of_ble_eq_true rfl) hI1.ko rfl rfl) rfl (fun G2 hI2 => ?_)
  refine hr_icmp_eq (q := 1101) (tgt := 1452) X dL_law_1098 rfl (by decide) (fun _ => ?_) (fun z => absurd rfl z)
  exact k _ _ hI2 hA1
theorem ll_c24 (X : hg_X p l s m args meth c D lo "TaxOnLooksLaw" cL_law 4) (hS : lq_S D lo G0) (hX : lq_X lo G0 b L xs) (hI : lq_I D lo x o am G0 G A A) (hA : ab_I A) (hi : i + 7 ≤ L) (hL : L ≤ 448)
    (k : ∀ (G' : hg_G) (A' : ab_S), lq_I D lo x o am G0 G' A' A' → ab_I A' → hg_W p l e room_1 s m args below meth c Q D lo C0 4 kr nr G' 1452 [some (.ref b), some (.ref x), some (.ref o), some (.int (nI i))] []) :
    hg_W p l e room_1 s m args below meth c Q D lo C0 4 (kr + 4000) (nr + 32000) G 1103 [some (.ref b), some (.ref x), some (.ref o), some (.int (nI i))] [] := by
  obtain ⟨hk, hv⟩ := hI.sc hX
  refine hr_aload1 (q := 1104) X dL_law_1103 rfl ?_
  refine hr_aload0 (q := 1105) X dL_law_1104 rfl ?_
  refine hr_iload3 (q := 1106) X dL_law_1105 rfl ?_
  refine hr_iconst (v := (nI 1)) (q := 1107) X dL_law_1106 rfl rfl ?_
  refine hr_iadd (v := (nI (i + 1))) (q := 1108) X dL_law_1107 rfl (nI_add _ _) ?_
  refine hr_ialdN (a := b) (n := L) (t := 7) (j := i + 1) (v := xs (i + 1)) (q := 1109) X dL_law_1108 rfl (hk) (Or.inr rfl) (by omega) (by omega) (hv _ (by omega)) ?_
  refine hr_aload0 (q := 1110) X dL_law_1109 rfl ?_
  refine hr_iload3 (q := 1111) X dL_law_1110 rfl ?_
  refine hr_iconst (v := (nI 2)) (q := 1112) X dL_law_1111 rfl rfl ?_
  refine hr_iadd (v := (nI (i + 2))) (q := 1113) X dL_law_1112 rfl (nI_add _ _) ?_
  refine hr_ialdN (a := b) (n := L) (t := 7) (j := i + 2) (v := xs (i + 2)) (q := 1114) X dL_law_1113 rfl (hk) (Or.inr rfl) (by omega) (by omega) (hv _ (by omega)) ?_
  have hA1 : ab_I (sq_fits (xs (i + 1)) (xs (i + 2)) A).2 := hA.fits _ _
  refine hr_room (kr' := kr + 40) (nr' := nr + 3000) (Nat.add_le_add_left (by decide) _) (Nat.add_le_add_left (by decide) _) ?_
  refine hr_callL (kr := kr) (nr := nr) (q := 1117) (hc_VX (n := 2) (ci := 0) (As := [.int (xs (i + 1)), .int (xs (i + 2))]) X dL_law_1114 rfl (hI.c (rm := rk_X0_fits) (v := .int (sq_fits (xs (i + 1)) (xs (i + 2)) A).1) (A' := (sq_fits (xs (i + 1)) (xs (i + 2)) A).2) hS hA.w hA1.w (fun Gs ca e1 e2 e3 => by subst e1; exact tc_fits X.tr (h := e2) (hW := hA.w))) q1191 cv_X0_fits ⟨Nat.le_of_ble_eq_true rfl, Nat.le_of_ble_eq_true rfl⟩ rfl (Nat.le_of_ble_eq_true rfl) hI.kx rfl rfl) rfl (fun G1 hI1 => ?_)
  obtain ⟨hk1, hv1⟩ := hI1.sc hX
  refine hr_aload2 (q := 1118) X dL_law_1117 rfl ?_
  refine hr_aload0 (q := 1119) X dL_law_1118 rfl ?_
  refine hr_iload3 (q := 1120) X dL_law_1119 rfl ?_
  refine hr_iconst (v := (nI 1)) (q := 1121) X dL_law_1120 rfl rfl ?_
  refine hr_iadd (v := (nI (i + 1))) (q := 1122) X dL_law_1121 rfl (nI_add _ _) ?_
  refine hr_ialdN (a := b) (n := L) (t := 7) (j := i + 1) (v := xs (i + 1)) (q := 1123) X dL_law_1122 rfl (hk1) (Or.inr rfl) (by omega) (by omega) (hv1 _ (by omega)) ?_
  refine hr_aload0 (q := 1124) X dL_law_1123 rfl ?_
  refine hr_iload3 (q := 1125) X dL_law_1124 rfl ?_
  refine hr_iconst (v := (nI 2)) (q := 1126) X dL_law_1125 rfl rfl ?_
  refine hr_iadd (v := (nI (i + 2))) (q := 1127) X dL_law_1126 rfl (nI_add _ _) ?_
  refine hr_ialdN (a := b) (n := L) (t := 7) (j := i + 2) (v := xs (i + 2)) (q := 1128) X dL_law_1127 rfl (hk1) (Or.inr rfl) (by omega) (by omega) (hv1 _ (by omega)) ?_
  refine hr_callL0 (kr := kr) (nr := nr) (q := 1131) (hc_V (n := 2) (ci := 5) (As := [.int (xs (i + 1)), .int (xs (i + 2))]) X dL_law_1128 rfl (hI1.m (rm := rm_X5_fits) (v := .int (sq_fits (xs (i + 1)) (xs (i + 2)) A).1) (B' := (sq_fits (xs (i + 1)) (xs (i + 2)) A).2) (fun Gs u e1 e2 => tk_fits X.tr (hR := e1) (hA := e2) (hW := hA.w))) q1756 cv_X5_fits ⟨Nat.le_of_ble_eq_true rfl, Nat.le_of_ble_eq_true rfl⟩ rfl (Nat.le_of_ble_eq_true rfl) hI1.ko rfl rfl) rfl (fun G2 hI2 => ?_)
  refine hr_icmp_eq (q := 1134) (tgt := 1452) X dL_law_1131 rfl (by decide) (fun _ => ?_) (fun z => absurd rfl z)
  exact k _ _ hI2 hA1
theorem ll_c25 (X : hg_X p l s m args meth c D lo "TaxOnLooksLaw" cL_law 4) (hS : lq_S D lo G0) (hX : lq_X lo G0 b L xs) (hI : lq_I D lo x o am G0 G A A) (hA : ab_I A) (hi : i + 7 ≤ L) (hL : L ≤ 448)
    (k : ∀ (G' : hg_G) (A' : ab_S), lq_I D lo x o am G0 G' A' A' → ab_I A' → hg_W p l e room_1 s m args below meth c Q D lo C0 4 kr nr G' 1452 [some (.ref b), some (.ref x), some (.ref o), some (.int (nI i))] []) :
    hg_W p l e room_1 s m args below meth c Q D lo C0 4 (kr + 4000) (nr + 32000) G 1136 [some (.ref b), some (.ref x), some (.ref o), some (.int (nI i))] [] := by
  obtain ⟨hk, hv⟩ := hI.sc hX
  refine hr_aload1 (q := 1137) X dL_law_1136 rfl ?_
  refine hr_aload0 (q := 1138) X dL_law_1137 rfl ?_
  refine hr_iload3 (q := 1139) X dL_law_1138 rfl ?_
  refine hr_iconst (v := (nI 1)) (q := 1140) X dL_law_1139 rfl rfl ?_
  refine hr_iadd (v := (nI (i + 1))) (q := 1141) X dL_law_1140 rfl (nI_add _ _) ?_
  refine hr_ialdN (a := b) (n := L) (t := 7) (j := i + 1) (v := xs (i + 1)) (q := 1142) X dL_law_1141 rfl (hk) (Or.inr rfl) (by omega) (by omega) (hv _ (by omega)) ?_
  have hA1 : ab_I (sq_most (xs (i + 1)) A).2 := hA.most _
  refine hr_room (kr' := kr + 40) (nr' := nr + 3000) (Nat.add_le_add_left (by decide) _) (Nat.add_le_add_left (by decide) _) ?_
  refine hr_callL (kr := kr) (nr := nr) (q := 1145) (hc_VX (n := 1) (ci := 0) (As := [.int (xs (i + 1))]) X dL_law_1142 rfl (hI.c (rm := rk_X0_most) (v := .int (sq_most (xs (i + 1)) A).1) (A' := (sq_most (xs (i + 1)) A).2) hS hA.w hA1.w (fun Gs ca e1 e2 e3 => by subst e1; exact tc_most X.tr (h := e2) (hW := hA.w))) q1201 cv_X0_most ⟨Nat.le_of_ble_eq_true rfl, Nat.le_of_ble_eq_true rfl⟩ rfl (Nat.le_of_ble_eq_true rfl) hI.kx rfl rfl) rfl (fun G1 hI1 => ?_)
  obtain ⟨hk1, hv1⟩ := hI1.sc hX
  refine hr_aload2 (q := 1146) X dL_law_1145 rfl ?_
  refine hr_aload0 (q := 1147) X dL_law_1146 rfl ?_
  refine hr_iload3 (q := 1148) X dL_law_1147 rfl ?_
  refine hr_iconst (v := (nI 1)) (q := 1149) X dL_law_1148 rfl rfl ?_
  refine hr_iadd (v := (nI (i + 1))) (q := 1150) X dL_law_1149 rfl (nI_add _ _) ?_
  refine hr_ialdN (a := b) (n := L) (t := 7) (j := i + 1) (v := xs (i + 1)) (q := 1151) X dL_law_1150 rfl (hk1) (Or.inr rfl) (by omega) (by omega) (hv1 _ (by omega)) ?_
  refine hr_callL0 (kr := kr) (nr := nr) (q := 1154) (hc_V (n := 1) (ci := 5) (As := [.int (xs (i + 1))]) X dL_law_1151 rfl (hI1.m (rm := rm_X5_most) (v := .int (sq_most (xs (i + 1)) A).1) (B' := (sq_most (xs (i + 1)) A).2) (fun Gs u e1 e2 => tk_most X.tr (hR := e1) (hA := e2) (hW := hA.w))) q1764 cv_X5_most ⟨Nat.le_of_ble_eq_true rfl, Nat.le_of_ble_eq_true rfl⟩ rfl (Nat.le_of_ble_eq_true rfl) hI1.ko rfl rfl) rfl (fun G2 hI2 => ?_)
  refine hr_icmp_eq (q := 1157) (tgt := 1452) X dL_law_1154 rfl (by decide) (fun _ => ?_) (fun z => absurd rfl z)
  exact k _ _ hI2 hA1
theorem ll_c26 (X : hg_X p l s m args meth c D lo "TaxOnLooksLaw" cL_law 4) (hS : lq_S D lo G0) (hX : lq_X lo G0 b L xs) (hI : lq_I D lo x o am G0 G A A) (hA : ab_I A) (hi : i + 7 ≤ L) (hL : L ≤ 448)
    (k : ∀ (G' : hg_G) (A' : ab_S), lq_I D lo x o am G0 G' A' A' → ab_I A' → hg_W p l e room_1 s m args below meth c Q D lo C0 4 kr nr G' 1452 [some (.ref b), some (.ref x), some (.ref o), some (.int (nI i))] []) :
    hg_W p l e room_1 s m args below meth c Q D lo C0 4 (kr + 4000) (nr + 32000) G 1159 [some (.ref b), some (.ref x), some (.ref o), some (.int (nI i))] [] := by
  obtain ⟨hk, hv⟩ := hI.sc hX
  refine hr_aload1 (q := 1160) X dL_law_1159 rfl ?_
  refine hr_aload0 (q := 1161) X dL_law_1160 rfl ?_
  refine hr_iload3 (q := 1162) X dL_law_1161 rfl ?_
  refine hr_iconst (v := (nI 1)) (q := 1163) X dL_law_1162 rfl rfl ?_
  refine hr_iadd (v := (nI (i + 1))) (q := 1164) X dL_law_1163 rfl (nI_add _ _) ?_
  refine hr_ialdN (a := b) (n := L) (t := 7) (j := i + 1) (v := xs (i + 1)) (q := 1165) X dL_law_1164 rfl (hk) (Or.inr rfl) (by omega) (by omega) (hv _ (by omega)) ?_
  have hA1 : ab_I (sq_crowd (xs (i + 1)) A).2 := hA.crowd _
  refine hr_room (kr' := kr + 40) (nr' := nr + 3000) (Nat.add_le_add_left (by decide) _) (Nat.add_le_add_left (by decide) _) ?_
  refine hr_callL (kr := kr) (nr := nr) (q := 1168) (hc_VX (n := 1) (ci := 0) (As := [.int (xs (i + 1))]) X dL_law_1165 rfl (hI.c (rm := rk_X0_crowd) (v := .int (sq_crowd (xs (i + 1)) A).1) (A' := (sq_crowd (xs (i + 1)) A).2) hS hA.w hA1.w (fun Gs ca e1 e2 e3 => by subst e1; exact tc_crowd X.tr (h := e2) (hW := hA.w))) q1209 cv_X0_crowd ⟨Nat.le_of_ble_eq_true rfl, Nat.le_of_ble_eq_true rfl⟩ rfl (Nat.le_of_ble_eq_true rfl) hI.kx rfl rfl) rfl (fun G1 hI1 => ?_)
  obtain ⟨hk1, hv1⟩ := hI1.sc hX
  refine hr_aload2 (q := 1169) X dL_law_1168 rfl ?_
  refine hr_aload0 (q := 1170) X dL_law_1169 rfl ?_
  refine hr_iload3 (q := 1171) X dL_law_1170 rfl ?_
  refine hr_iconst (v := (nI 1)) (q := 1172) X dL_law_1171 rfl rfl ?_
  refine hr_iadd (v := (nI (i + 1))) (q := 1173) X dL_law_1172 rfl (nI_add _ _) ?_
  refine hr_ialdN (a := b) (n := L) (t := 7) (j := i + 1) (v := xs (i + 1)) (q := 1174) X dL_law_1173 rfl (hk1) (Or.inr rfl) (by omega) (by omega) (hv1 _ (by omega)) ?_
  refine hr_callL0 (kr := kr) (nr := nr) (q := 1177) (hc_V (n := 1) (ci := 5) (As := [.int (xs (i + 1))]) X dL_law_1174 rfl (hI1.m (rm := rm_X5_crowd) (v := .int (sq_crowd (xs (i + 1)) A).1) (B' := (sq_crowd (xs (i + 1)) A).2) (fun Gs u e1 e2 => tk_crowd X.tr (hR := e1) (hA := e2) (hW := hA.w))) q1772 cv_X5_crowd ⟨Nat.le_of_ble_eq_true rfl, Nat.le_of_ble_eq_true rfl⟩ rfl (Nat.le_of_ble_eq_true rfl) hI1.ko rfl rfl) rfl (fun G2 hI2 => ?_)
  refine hr_icmp_eq (q := 1180) (tgt := 1452) X dL_law_1177 rfl (by decide) (fun _ => ?_) (fun z => absurd rfl z)
  exact k _ _ hI2 hA1
theorem ll_c27 (X : hg_X p l s m args meth c D lo "TaxOnLooksLaw" cL_law 4) (hS : lq_S D lo G0) (hX : lq_X lo G0 b L xs) (hI : lq_I D lo x o am G0 G A A) (hA : ab_I A) (hi : i + 7 ≤ L) (hL : L ≤ 448)
    (k : ∀ (G' : hg_G) (A' : ab_S), lq_I D lo x o am G0 G' A' A' → ab_I A' → hg_W p l e room_1 s m args below meth c Q D lo C0 4 kr nr G' 1452 [some (.ref b), some (.ref x), some (.ref o), some (.int (nI i))] []) :
    hg_W p l e room_1 s m args below meth c Q D lo C0 4 (kr + 4000) (nr + 32000) G 1182 [some (.ref b), some (.ref x), some (.ref o), some (.int (nI i))] [] := by
  obtain ⟨hk, hv⟩ := hI.sc hX
  refine hr_aload1 (q := 1183) X dL_law_1182 rfl ?_
  refine hr_aload0 (q := 1184) X dL_law_1183 rfl ?_
  refine hr_iload3 (q := 1185) X dL_law_1184 rfl ?_
  refine hr_iconst (v := (nI 1)) (q := 1186) X dL_law_1185 rfl rfl ?_
  refine hr_iadd (v := (nI (i + 1))) (q := 1187) X dL_law_1186 rfl (nI_add _ _) ?_
  refine hr_ialdN (a := b) (n := L) (t := 7) (j := i + 1) (v := xs (i + 1)) (q := 1188) X dL_law_1187 rfl (hk) (Or.inr rfl) (by omega) (by omega) (hv _ (by omega)) ?_
  refine hr_aload0 (q := 1189) X dL_law_1188 rfl ?_
  refine hr_iload3 (q := 1190) X dL_law_1189 rfl ?_
  refine hr_iconst (v := (nI 2)) (q := 1191) X dL_law_1190 rfl rfl ?_
  refine hr_iadd (v := (nI (i + 2))) (q := 1192) X dL_law_1191 rfl (nI_add _ _) ?_
  refine hr_ialdN (a := b) (n := L) (t := 7) (j := i + 2) (v := xs (i + 2)) (q := 1193) X dL_law_1192 rfl (hk) (Or.inr rfl) (by omega) (by omega) (hv _ (by omega)) ?_
  have hA1 : ab_I (sq_judge (xs (i + 1)) (xs (i + 2)) A).2 := hA.judge _ _
  refine hr_room (kr' := kr + 40) (nr' := nr + 3000) (Nat.add_le_add_left (by decide) _) (Nat.add_le_add_left (by decide) _) ?_
  refine hr_callL (kr := kr) (nr := nr) (q := 1196) (hc_VX (n := 2) (ci := 0) (As := [.int (xs (i + 1)), .int (xs (i + 2))]) X dL_law_1193 rfl (hI.c (rm := rk_X0_judge) (v := .int (sq_judge (xs (i + 1)) (xs (i + 2)) A).1) (A' := (sq_judge (xs (i + 1)) (xs (i + 2)) A).2) hS hA.w hA1.w (fun Gs ca e1 e2 e3 => by subst e1; exact tc_judge X.tr (h := e2) (hW := hA.w))) q1219 cv_X0_judge ⟨Nat.le_of_ble_eq_true rfl, Nat.le_of_ble_eq_true rfl⟩ rfl (Nat.le_of_ble_eq_true rfl) hI.kx rfl rfl) rfl (fun G1 hI1 => ?_)
  obtain ⟨hk1, hv1⟩ := hI1.sc hX
  refine hr_aload2 (q := 1197) X dL_law_1196 rfl ?_
  refine hr_aload0 (q := 1198) X dL_law_1197 rfl ?_
  refine hr_iload3 (q := 1199) X dL_law_1198 rfl ?_
  refine hr_iconst (v := (nI 1)) (q := 1200) X dL_law_1199 rfl rfl ?_
  refine hr_iadd (v := (nI (i + 1))) (q := 1201) X dL_law_1200 rfl (nI_add _ _) ?_
  refine hr_ialdN (a := b) (n := L) (t := 7) (j := i + 1) (v := xs (i + 1)) (q := 1202) X dL_law_1201 rfl (hk1) (Or.inr rfl) (by omega) (by omega) (hv1 _ (by omega)) ?_
  refine hr_aload0 (q := 1203) X dL_law_1202 rfl ?_
  refine hr_iload3 (q := 1204) X dL_law_1203 rfl ?_
  refine hr_iconst (v := (nI 2)) (q := 1205) X dL_law_1204 rfl rfl ?_
  refine hr_iadd (v := (nI (i + 2))) (q := 1206) X dL_law_1205 rfl (nI_add _ _) ?_
  refine hr_ialdN (a := b) (n := L) (t := 7) (j := i + 2) (v := xs (i + 2)) (q := 1207) X dL_law_1206 rfl (hk1) (Or.inr rfl) (by omega) (by omega) (hv1 _ (by omega)) ?_
  refine hr_callL0 (kr := kr) (nr := nr) (q := 1210) (hc_V (n := 2) (ci := 5) (As := [.int (xs (i + 1)), .int (xs (i + 2))]) X dL_law_1207 rfl (hI1.m (rm := rm_X5_judge) (v := .int (sq_judge (xs (i + 1)) (xs (i + 2)) A).1) (B' := (sq_judge (xs (i + 1)) (xs (i + 2)) A).2) (fun Gs u e1 e2 => tk_judge X.tr (hR := e1) (hA := e2) (hW := hA.w))) q1780 cv_X5_judge ⟨Nat.le_of_ble_eq_true rfl, Nat.le_of_ble_eq_true rfl⟩ rfl (Nat.le_of_ble_eq_true rfl) hI1.ko rfl rfl) rfl (fun G2 hI2 => ?_)
  refine hr_icmp_eq (q := 1213) (tgt := 1452) X dL_law_1210 rfl (by decide) (fun _ => ?_) (fun z => absurd rfl z)
  exact k _ _ hI2 hA1
theorem ll_c28 (X : hg_X p l s m args meth c D lo "TaxOnLooksLaw" cL_law 4) (hS : lq_S D lo G0) (hX : lq_X lo G0 b L xs) (hI : lq_I D lo x o am G0 G A A) (hA : ab_I A) (hi : i + 7 ≤ L) (hL : L ≤ 448)
    (k : ∀ (G' : hg_G) (A' : ab_S), lq_I D lo x o am G0 G' A' A' → ab_I A' → hg_W p l e room_1 s m args below meth c Q D lo C0 4 kr nr G' 1452 [some (.ref b), some (.ref x), some (.ref o), some (.int (nI i))] []) :
    hg_W p l e room_1 s m args below meth c Q D lo C0 4 (kr + 4000) (nr + 32000) G 1215 [some (.ref b), some (.ref x), some (.ref o), some (.int (nI i))] [] := by
  obtain ⟨hk, hv⟩ := hI.sc hX
  refine hr_aload1 (q := 1216) X dL_law_1215 rfl ?_
  refine hr_aload0 (q := 1217) X dL_law_1216 rfl ?_
  refine hr_iload3 (q := 1218) X dL_law_1217 rfl ?_
  refine hr_iconst (v := (nI 1)) (q := 1219) X dL_law_1218 rfl rfl ?_
  refine hr_iadd (v := (nI (i + 1))) (q := 1220) X dL_law_1219 rfl (nI_add _ _) ?_
  refine hr_ialdN (a := b) (n := L) (t := 7) (j := i + 1) (v := xs (i + 1)) (q := 1221) X dL_law_1220 rfl (hk) (Or.inr rfl) (by omega) (by omega) (hv _ (by omega)) ?_
  refine hr_aload0 (q := 1222) X dL_law_1221 rfl ?_
  refine hr_iload3 (q := 1223) X dL_law_1222 rfl ?_
  refine hr_iconst (v := (nI 2)) (q := 1224) X dL_law_1223 rfl rfl ?_
  refine hr_iadd (v := (nI (i + 2))) (q := 1225) X dL_law_1224 rfl (nI_add _ _) ?_
  refine hr_ialdN (a := b) (n := L) (t := 7) (j := i + 2) (v := xs (i + 2)) (q := 1226) X dL_law_1225 rfl (hk) (Or.inr rfl) (by omega) (by omega) (hv _ (by omega)) ?_
  refine hr_aload0 (q := 1227) X dL_law_1226 rfl ?_
  refine hr_iload3 (q := 1228) X dL_law_1227 rfl ?_
  refine hr_iconst (v := (nI 3)) (q := 1229) X dL_law_1228 rfl rfl ?_
  refine hr_iadd (v := (nI (i + 3))) (q := 1230) X dL_law_1229 rfl (nI_add _ _) ?_
  refine hr_ialdN (a := b) (n := L) (t := 7) (j := i + 3) (v := xs (i + 3)) (q := 1231) X dL_law_1230 rfl (hk) (Or.inr rfl) (by omega) (by omega) (hv _ (by omega)) ?_
  have hA1 : ab_I (sq_behind (xs (i + 1)) (xs (i + 2)) (xs (i + 3)) A).2 := hA.behind _ _ _
  refine hr_room (kr' := kr + 40) (nr' := nr + 3000) (Nat.add_le_add_left (by decide) _) (Nat.add_le_add_left (by decide) _) ?_
  refine hr_callL (kr := kr) (nr := nr) (q := 1234) (hc_VX (n := 3) (ci := 0) (As := [.int (xs (i + 1)), .int (xs (i + 2)), .int (xs (i + 3))]) X dL_law_1231 rfl (hI.c (rm := rk_X0_behind) (v := .int (sq_behind (xs (i + 1)) (xs (i + 2)) (xs (i + 3)) A).1) (A' := (sq_behind (xs (i + 1)) (xs (i + 2)) (xs (i + 3)) A).2) hS hA.w hA1.w (fun Gs ca e1 e2 e3 => by subst e1; exact tc_behind X.tr (h := e2) (hW := hA.w))) q1236 cv_X0_behind ⟨Nat.le_of_ble_eq_true rfl, Nat.le_of_ble_eq_true rfl⟩ rfl (Nat.le_of_ble_eq_true rfl) hI.kx rfl rfl) rfl (fun G1 hI1 => ?_)
  obtain ⟨hk1, hv1⟩ := hI1.sc hX
  refine hr_aload2 (q := 1235) X dL_law_1234 rfl ?_
  refine hr_aload0 (q := 1236) X dL_law_1235 rfl ?_
  refine hr_iload3 (q := 1237) X dL_law_1236 rfl ?_
  refine hr_iconst (v := (nI 1)) (q := 1238) X dL_law_1237 rfl rfl ?_
  refine hr_iadd (v := (nI (i + 1))) (q := 1239) X dL_law_1238 rfl (nI_add _ _) ?_
  refine hr_ialdN (a := b) (n := L) (t := 7) (j := i + 1) (v := xs (i + 1)) (q := 1240) X dL_law_1239 rfl (hk1) (Or.inr rfl) (by omega) (by omega) (hv1 _ (by omega)) ?_
  refine hr_aload0 (q := 1241) X dL_law_1240 rfl ?_
  refine hr_iload3 (q := 1242) X dL_law_1241 rfl ?_
  refine hr_iconst (v := (nI 2)) (q := 1243) X dL_law_1242 rfl rfl ?_
  refine hr_iadd (v := (nI (i + 2))) (q := 1244) X dL_law_1243 rfl (nI_add _ _) ?_
  refine hr_ialdN (a := b) (n := L) (t := 7) (j := i + 2) (v := xs (i + 2)) (q := 1245) X dL_law_1244 rfl (hk1) (Or.inr rfl) (by omega) (by omega) (hv1 _ (by omega)) ?_
  refine hr_aload0 (q := 1246) X dL_law_1245 rfl ?_
  refine hr_iload3 (q := 1247) X dL_law_1246 rfl ?_
  refine hr_iconst (v := (nI 3)) (q := 1248) X dL_law_1247 rfl rfl ?_
  refine hr_iadd (v := (nI (i + 3))) (q := 1249) X dL_law_1248 rfl (nI_add _ _) ?_
  refine hr_ialdN (a := b) (n := L) (t := 7) (j := i + 3) (v := xs (i + 3)) (q := 1250) X dL_law_1249 rfl (hk1) (Or.inr rfl) (by omega) (by omega) (hv1 _ (by omega)) ?_
  refine hr_callL0 (kr := kr) (nr := nr) (q := 1253) (hc_V (n := 3) (ci := 5) (As := [.int (xs (i + 1)), .int (xs (i + 2)), .int (xs (i + 3))]) X dL_law_1250 rfl (hI1.m (rm := rm_X5_behind) (v := .int (sq_behind (xs (i + 1)) (xs (i + 2)) (xs (i + 3)) A).1) (B' := (sq_behind (xs (i + 1)) (xs (i + 2)) (xs (i + 3)) A).2) (fun Gs u e1 e2 => tk_behind X.tr (hR := e1) (hA := e2) (hW := hA.w))) q1796 cv_X5_behind ⟨Nat.le_of_ble_eq_true rfl, Nat.le_of_ble_eq_true rfl⟩ rfl (Nat.le_of_ble_eq_true rfl) hI1.ko rfl rfl) rfl (fun G2 hI2 => ?_)
  refine hr_icmp_eq (q := 1256) (tgt := 1452) X dL_law_1253 rfl (by decide) (fun _ => ?_) (fun z => absurd rfl z)
  exact k _ _ hI2 hA1
theorem ll_c29 (X : hg_X p l s m args meth c D lo "TaxOnLooksLaw" cL_law 4) (hS : lq_S D lo G0) (hX : lq_X lo G0 b L xs) (hI : lq_I D lo x o am G0 G A A) (hA : ab_I A) (hi : i + 7 ≤ L) (hL : L ≤ 448)
    (k : ∀ (G' : hg_G) (A' : ab_S), lq_I D lo x o am G0 G' A' A' → ab_I A' → hg_W p l e room_1 s m args below meth c Q D lo C0 4 kr nr G' 1452 [some (.ref b), some (.ref x), some (.ref o), some (.int (nI i))] []) :
    hg_W p l e room_1 s m args below meth c Q D lo C0 4 (kr + 4000) (nr + 32000) G 1258 [some (.ref b), some (.ref x), some (.ref o), some (.int (nI i))] [] := by
  obtain ⟨hk, hv⟩ := hI.sc hX
  refine hr_aload1 (q := 1259) X dL_law_1258 rfl ?_
  refine hr_aload0 (q := 1260) X dL_law_1259 rfl ?_
  refine hr_iload3 (q := 1261) X dL_law_1260 rfl ?_
  refine hr_iconst (v := (nI 1)) (q := 1262) X dL_law_1261 rfl rfl ?_
  refine hr_iadd (v := (nI (i + 1))) (q := 1263) X dL_law_1262 rfl (nI_add _ _) ?_
  refine hr_ialdN (a := b) (n := L) (t := 7) (j := i + 1) (v := xs (i + 1)) (q := 1264) X dL_law_1263 rfl (hk) (Or.inr rfl) (by omega) (by omega) (hv _ (by omega)) ?_
  refine hr_aload0 (q := 1265) X dL_law_1264 rfl ?_
  refine hr_iload3 (q := 1266) X dL_law_1265 rfl ?_
  refine hr_iconst (v := (nI 2)) (q := 1267) X dL_law_1266 rfl rfl ?_
  refine hr_iadd (v := (nI (i + 2))) (q := 1268) X dL_law_1267 rfl (nI_add _ _) ?_
  refine hr_ialdN (a := b) (n := L) (t := 7) (j := i + 2) (v := xs (i + 2)) (q := 1269) X dL_law_1268 rfl (hk) (Or.inr rfl) (by omega) (by omega) (hv _ (by omega)) ?_
  have hA1 : ab_I (sq_done (xs (i + 1)) (xs (i + 2)) A).2 := hA.done _ _
  refine hr_room (kr' := kr + 40) (nr' := nr + 3000) (Nat.add_le_add_left (by decide) _) (Nat.add_le_add_left (by decide) _) ?_
  refine hr_callL (kr := kr) (nr := nr) (q := 1272) (hc_VX (n := 2) (ci := 0) (As := [.int (xs (i + 1)), .int (xs (i + 2))]) X dL_law_1269 rfl (hI.c (rm := rk_X0_done) (v := .int (sq_done (xs (i + 1)) (xs (i + 2)) A).1) (A' := (sq_done (xs (i + 1)) (xs (i + 2)) A).2) hS hA.w hA1.w (fun Gs ca e1 e2 e3 => by subst e1; exact tc_done X.tr (h := e2) (hW := hA.w))) q1244 cv_X0_done ⟨Nat.le_of_ble_eq_true rfl, Nat.le_of_ble_eq_true rfl⟩ rfl (Nat.le_of_ble_eq_true rfl) hI.kx rfl rfl) rfl (fun G1 hI1 => ?_)
  obtain ⟨hk1, hv1⟩ := hI1.sc hX
  refine hr_aload2 (q := 1273) X dL_law_1272 rfl ?_
  refine hr_aload0 (q := 1274) X dL_law_1273 rfl ?_
  refine hr_iload3 (q := 1275) X dL_law_1274 rfl ?_
  refine hr_iconst (v := (nI 1)) (q := 1276) X dL_law_1275 rfl rfl ?_
  refine hr_iadd (v := (nI (i + 1))) (q := 1277) X dL_law_1276 rfl (nI_add _ _) ?_
  refine hr_ialdN (a := b) (n := L) (t := 7) (j := i + 1) (v := xs (i + 1)) (q := 1278) X dL_law_1277 rfl (hk1) (Or.inr rfl) (by omega) (by omega) (hv1 _ (by omega)) ?_
  refine hr_aload0 (q := 1279) X dL_law_1278 rfl ?_
  refine hr_iload3 (q := 1280) X dL_law_1279 rfl ?_
  refine hr_iconst (v := (nI 2)) (q := 1281) X dL_law_1280 rfl rfl ?_
  refine hr_iadd (v := (nI (i + 2))) (q := 1282) X dL_law_1281 rfl (nI_add _ _) ?_
  refine hr_ialdN (a := b) (n := L) (t := 7) (j := i + 2) (v := xs (i + 2)) (q := 1283) X dL_law_1282 rfl (hk1) (Or.inr rfl) (by omega) (by omega) (hv1 _ (by omega)) ?_
  refine hr_callL0 (kr := kr) (nr := nr) (q := 1286) (hc_V (n := 2) (ci := 5) (As := [.int (xs (i + 1)), .int (xs (i + 2))]) X dL_law_1283 rfl (hI1.m (rm := rm_X5_done) (v := .int (sq_done (xs (i + 1)) (xs (i + 2)) A).1) (B' := (sq_done (xs (i + 1)) (xs (i + 2)) A).2) (fun Gs u e1 e2 => tk_done X.tr (hR := e1) (hA := e2) (hW := hA.w))) q1804 cv_X5_done ⟨Nat.le_of_ble_eq_true rfl, Nat.le_of_ble_eq_true rfl⟩ rfl (Nat.le_of_ble_eq_true rfl) hI1.ko rfl rfl) rfl (fun G2 hI2 => ?_)
  refine hr_icmp_eq (q := 1289) (tgt := 1452) X dL_law_1286 rfl (by decide) (fun _ => ?_) (fun z => absurd rfl z)
  exact k _ _ hI2 hA1
theorem ll_c30 (X : hg_X p l s m args meth c D lo "TaxOnLooksLaw" cL_law 4) (hS : lq_S D lo G0) (hX : lq_X lo G0 b L xs) (hI : lq_I D lo x o am G0 G A A) (hA : ab_I A) (hi : i + 7 ≤ L) (hL : L ≤ 448)
    (k : ∀ (G' : hg_G) (A' : ab_S), lq_I D lo x o am G0 G' A' A' → ab_I A' → hg_W p l e room_1 s m args below meth c Q D lo C0 4 kr nr G' 1452 [some (.ref b), some (.ref x), some (.ref o), some (.int (nI i))] []) :
    hg_W p l e room_1 s m args below meth c Q D lo C0 4 (kr + 4000) (nr + 32000) G 1291 [some (.ref b), some (.ref x), some (.ref o), some (.int (nI i))] [] := by
  obtain ⟨hk, hv⟩ := hI.sc hX
  refine hr_aload1 (q := 1292) X dL_law_1291 rfl ?_
  refine hr_aload0 (q := 1293) X dL_law_1292 rfl ?_
  refine hr_iload3 (q := 1294) X dL_law_1293 rfl ?_
  refine hr_iconst (v := (nI 1)) (q := 1295) X dL_law_1294 rfl rfl ?_
  refine hr_iadd (v := (nI (i + 1))) (q := 1296) X dL_law_1295 rfl (nI_add _ _) ?_
  refine hr_ialdN (a := b) (n := L) (t := 7) (j := i + 1) (v := xs (i + 1)) (q := 1297) X dL_law_1296 rfl (hk) (Or.inr rfl) (by omega) (by omega) (hv _ (by omega)) ?_
  have hA1 : ab_I (sq_hours (xs (i + 1)) A).2 := hA.hours _
  refine hr_room (kr' := kr + 40) (nr' := nr + 3000) (Nat.add_le_add_left (by decide) _) (Nat.add_le_add_left (by decide) _) ?_
  refine hr_callL (kr := kr) (nr := nr) (q := 1300) (hc_VX (n := 1) (ci := 0) (As := [.int (xs (i + 1))]) X dL_law_1297 rfl (hI.c (rm := rk_X0_hours) (v := .int (sq_hours (xs (i + 1)) A).1) (A' := (sq_hours (xs (i + 1)) A).2) hS hA.w hA1.w (fun Gs ca e1 e2 e3 => by subst e1; exact tc_hours X.tr (h := e2) (hW := hA.w))) q1248 cv_X0_hours ⟨Nat.le_of_ble_eq_true rfl, Nat.le_of_ble_eq_true rfl⟩ rfl (Nat.le_of_ble_eq_true rfl) hI.kx rfl rfl) rfl (fun G1 hI1 => ?_)
  obtain ⟨hk1, hv1⟩ := hI1.sc hX
  refine hr_aload2 (q := 1301) X dL_law_1300 rfl ?_
  refine hr_aload0 (q := 1302) X dL_law_1301 rfl ?_
  refine hr_iload3 (q := 1303) X dL_law_1302 rfl ?_
  refine hr_iconst (v := (nI 1)) (q := 1304) X dL_law_1303 rfl rfl ?_
  refine hr_iadd (v := (nI (i + 1))) (q := 1305) X dL_law_1304 rfl (nI_add _ _) ?_
  refine hr_ialdN (a := b) (n := L) (t := 7) (j := i + 1) (v := xs (i + 1)) (q := 1306) X dL_law_1305 rfl (hk1) (Or.inr rfl) (by omega) (by omega) (hv1 _ (by omega)) ?_
  refine hr_callL0 (kr := kr) (nr := nr) (q := 1309) (hc_V (n := 1) (ci := 5) (As := [.int (xs (i + 1))]) X dL_law_1306 rfl (hI1.m (rm := rm_X5_hours) (v := .int (sq_hours (xs (i + 1)) A).1) (B' := (sq_hours (xs (i + 1)) A).2) (fun Gs u e1 e2 => tk_hours X.tr (hR := e1) (hA := e2) (hW := hA.w))) q1808 cv_X5_hours ⟨Nat.le_of_ble_eq_true rfl, Nat.le_of_ble_eq_true rfl⟩ rfl (Nat.le_of_ble_eq_true rfl) hI1.ko rfl rfl) rfl (fun G2 hI2 => ?_)
  refine hr_icmp_eq (q := 1312) (tgt := 1452) X dL_law_1309 rfl (by decide) (fun _ => ?_) (fun z => absurd rfl z)
  exact k _ _ hI2 hA1
theorem ll_c31 (X : hg_X p l s m args meth c D lo "TaxOnLooksLaw" cL_law 4) (hS : lq_S D lo G0) (hX : lq_X lo G0 b L xs) (hI : lq_I D lo x o am G0 G A A) (hA : ab_I A) (hi : i + 7 ≤ L) (hL : L ≤ 448)
    (k : ∀ (G' : hg_G) (A' : ab_S), lq_I D lo x o am G0 G' A' A' → ab_I A' → hg_W p l e room_1 s m args below meth c Q D lo C0 4 kr nr G' 1452 [some (.ref b), some (.ref x), some (.ref o), some (.int (nI i))] []) :
    hg_W p l e room_1 s m args below meth c Q D lo C0 4 (kr + 4000) (nr + 32000) G 1314 [some (.ref b), some (.ref x), some (.ref o), some (.int (nI i))] [] := by
  obtain ⟨hk, hv⟩ := hI.sc hX
  refine hr_aload1 (q := 1315) X dL_law_1314 rfl ?_
  refine hr_aload0 (q := 1316) X dL_law_1315 rfl ?_
  refine hr_iload3 (q := 1317) X dL_law_1316 rfl ?_
  refine hr_iconst (v := (nI 1)) (q := 1318) X dL_law_1317 rfl rfl ?_
  refine hr_iadd (v := (nI (i + 1))) (q := 1319) X dL_law_1318 rfl (nI_add _ _) ?_
  refine hr_ialdN (a := b) (n := L) (t := 7) (j := i + 1) (v := xs (i + 1)) (q := 1320) X dL_law_1319 rfl (hk) (Or.inr rfl) (by omega) (by omega) (hv _ (by omega)) ?_
  have hA1 : ab_I (sq_seed (xs (i + 1)) A).2 := hA.seed _
  refine hr_room (kr' := kr + 0) (nr' := nr + 0) (Nat.add_le_add_left (by decide) _) (Nat.add_le_add_left (by decide) _) ?_
  refine hr_callL (kr := kr) (nr := nr) (q := 1323) (hc_V (n := 1) (ci := 0) (As := [.int (xs (i + 1))]) X dL_law_1320 rfl (hI.c (rm := rk_X0_seed) (v := .int (sq_seed (xs (i + 1)) A).1) (A' := (sq_seed (xs (i + 1)) A).2) hS hA.w hA1.w (fun Gs ca e1 e2 e3 => by subst e1; exact tc_seed X.tr (h := e2) (hW := hA.w))) q1262 cv_X0_seed ⟨Nat.le_of_ble_eq_true rfl, Nat.le_of_ble_eq_true rfl⟩ rfl (Nat.le_of_ble_eq_true rfl) hI.kx rfl rfl) rfl (fun G1 hI1 => ?_)
  obtain ⟨hk1, hv1⟩ := hI1.sc hX
  refine hr_aload2 (q := 1324) X dL_law_1323 rfl ?_
  refine hr_aload0 (q := 1325) X dL_law_1324 rfl ?_
  refine hr_iload3 (q := 1326) X dL_law_1325 rfl ?_
  refine hr_iconst (v := (nI 1)) (q := 1327) X dL_law_1326 rfl rfl ?_
  refine hr_iadd (v := (nI (i + 1))) (q := 1328) X dL_law_1327 rfl (nI_add _ _) ?_
  refine hr_ialdN (a := b) (n := L) (t := 7) (j := i + 1) (v := xs (i + 1)) (q := 1329) X dL_law_1328 rfl (hk1) (Or.inr rfl) (by omega) (by omega) (hv1 _ (by omega)) ?_
  refine hr_callL0 (kr := kr) (nr := nr) (q := 1332) (hc_V (n := 1) (ci := 5) (As := [.int (xs (i + 1))]) X dL_law_1329 rfl (hI1.m (rm := rm_X5_seed) (v := .int (sq_seed (xs (i + 1)) A).1) (B' := (sq_seed (xs (i + 1)) A).2) (fun Gs u e1 e2 => tk_seed X.tr (hR := e1) (hA := e2) (hW := hA.w))) q1817 cv_X5_seed ⟨Nat.le_of_ble_eq_true rfl, Nat.le_of_ble_eq_true rfl⟩ rfl (Nat.le_of_ble_eq_true rfl) hI1.ko rfl rfl) rfl (fun G2 hI2 => ?_)
  refine hr_icmp_eq (q := 1335) (tgt := 1452) X dL_law_1332 rfl (by decide) (fun _ => ?_) (fun z => absurd rfl z)
  exact k _ _ hI2 hA1
theorem ll_c32 (X : hg_X p l s m args meth c D lo "TaxOnLooksLaw" cL_law 4) (hS : lq_S D lo G0) (hX : lq_X lo G0 b L xs) (hI : lq_I D lo x o am G0 G A A) (hA : ab_I A) (hi : i + 7 ≤ L) (hL : L ≤ 448)
    (k : ∀ (G' : hg_G) (A' : ab_S), lq_I D lo x o am G0 G' A' A' → ab_I A' → hg_W p l e room_1 s m args below meth c Q D lo C0 4 kr nr G' 1452 [some (.ref b), some (.ref x), some (.ref o), some (.int (nI i))] []) :
    hg_W p l e room_1 s m args below meth c Q D lo C0 4 (kr + 4000) (nr + 32000) G 1337 [some (.ref b), some (.ref x), some (.ref o), some (.int (nI i))] [] := by
  obtain ⟨hk, hv⟩ := hI.sc hX
  refine hr_aload1 (q := 1338) X dL_law_1337 rfl ?_
  refine hr_aload0 (q := 1339) X dL_law_1338 rfl ?_
  refine hr_iload3 (q := 1340) X dL_law_1339 rfl ?_
  refine hr_iconst (v := (nI 1)) (q := 1341) X dL_law_1340 rfl rfl ?_
  refine hr_iadd (v := (nI (i + 1))) (q := 1342) X dL_law_1341 rfl (nI_add _ _) ?_
  refine hr_ialdN (a := b) (n := L) (t := 7) (j := i + 1) (v := xs (i + 1)) (q := 1343) X dL_law_1342 rfl (hk) (Or.inr rfl) (by omega) (by omega) (hv _ (by omega)) ?_
  refine hr_aload0 (q := 1344) X dL_law_1343 rfl ?_
  refine hr_iload3 (q := 1345) X dL_law_1344 rfl ?_
  refine hr_iconst (v := (nI 2)) (q := 1346) X dL_law_1345 rfl rfl ?_
  refine hr_iadd (v := (nI (i + 2))) (q := 1347) X dL_law_1346 rfl (nI_add _ _) ?_
  refine hr_ialdN (a := b) (n := L) (t := 7) (j := i + 2) (v := xs (i + 2)) (q := 1348) X dL_law_1347 rfl (hk) (Or.inr rfl) (by omega) (by omega) (hv _ (by omega)) ?_
  refine hr_aload0 (q := 1349) X dL_law_1348 rfl ?_
  refine hr_iload3 (q := 1350) X dL_law_1349 rfl ?_
  refine hr_iconst (v := (nI 3)) (q := 1351) X dL_law_1350 rfl rfl ?_
  refine hr_iadd (v := (nI (i + 3))) (q := 1352) X dL_law_1351 rfl (nI_add _ _) ?_
  refine hr_ialdN (a := b) (n := L) (t := 7) (j := i + 3) (v := xs (i + 3)) (q := 1353) X dL_law_1352 rfl (hk) (Or.inr rfl) (by omega) (by omega) (hv _ (by omega)) ?_
  have hA1 : ab_I (sq_act (xs (i + 1)) (xs (i + 2)) (xs (i + 3)) A).2 := hA.act _ _ _
  refine hr_room (kr' := kr + 0) (nr' := nr + 0) (Nat.add_le_add_left (by decide) _) (Nat.add_le_add_left (by decide) _) ?_
  refine hr_callL (kr := kr) (nr := nr) (q := 1356) (hc_V (n := 3) (ci := 0) (As := [.int (xs (i + 1)), .int (xs (i + 2)), .int (xs (i + 3))]) X dL_law_1353 rfl (hI.c (rm := rk_X0_act) (v := .int (sq_act (xs (i + 1)) (xs (i + 2)) (xs (i + 3)) A).1) (A' := (sq_act (xs (i + 1)) (xs (i + 2)) (xs (i + 3)) A).2) hS hA.w hA1.w (fun Gs ca e1 e2 e3 => by subst e1; exact tc_act X.tr (h := e2) (hW := hA.w))) q1266 cv_X0_act ⟨Nat.le_of_ble_eq_true rfl, Nat.le_of_ble_eq_true rfl⟩ rfl (Nat.le_of_ble_eq_true rfl) hI.kx rfl rfl) rfl (fun G1 hI1 => ?_)
  obtain ⟨hk1, hv1⟩ := hI1.sc hX
  refine hr_aload2 (q := 1357) X dL_law_1356 rfl ?_
  refine hr_aload0 (q := 1358) X dL_law_1357 rfl ?_
  refine hr_iload3 (q := 1359) X dL_law_1358 rfl ?_
  refine hr_iconst (v := (nI 1)) (q := 1360) X dL_law_1359 rfl rfl ?_
  refine hr_iadd (v := (nI (i + 1))) (q := 1361) X dL_law_1360 rfl (nI_add _ _) ?_
  refine hr_ialdN (a := b) (n := L) (t := 7) (j := i + 1) (v := xs (i + 1)) (q := 1362) X dL_law_1361 rfl (hk1) (Or.inr rfl) (by omega) (by omega) (hv1 _ (by omega)) ?_
  refine hr_aload0 (q := 1363) X dL_law_1362 rfl ?_
  refine hr_iload3 (q := 1364) X dL_law_1363 rfl ?_
  refine hr_iconst (v := (nI 2)) (q := 1365) X dL_law_1364 rfl rfl ?_
  refine hr_iadd (v := (nI (i + 2))) (q := 1366) X dL_law_1365 rfl (nI_add _ _) ?_
  refine hr_ialdN (a := b) (n := L) (t := 7) (j := i + 2) (v := xs (i + 2)) (q := 1367) X dL_law_1366 rfl (hk1) (Or.inr rfl) (by omega) (by omega) (hv1 _ (by omega)) ?_
  refine hr_aload0 (q := 1368) X dL_law_1367 rfl ?_
  refine hr_iload3 (q := 1369) X dL_law_1368 rfl ?_
  refine hr_iconst (v := (nI 3)) (q := 1370) X dL_law_1369 rfl rfl ?_
  refine hr_iadd (v := (nI (i + 3))) (q := 1371) X dL_law_1370 rfl (nI_add _ _) ?_
  refine hr_ialdN (a := b) (n := L) (t := 7) (j := i + 3) (v := xs (i + 3)) (q := 1372) X dL_law_1371 rfl (hk1) (Or.inr rfl) (by omega) (by omega) (hv1 _ (by omega)) ?_
  refine hr_callL0 (kr := kr) (nr := nr) (q := 1375) (hc_V (n := 3) (ci := 5) (As := [.int (xs (i + 1)), .int (xs (i + 2)), .int (xs (i + 3))]) X dL_law_1372 rfl (hI1.m (rm := rm_X5_act) (v := .int (sq_act (xs (i + 1)) (xs (i + 2)) (xs (i + 3)) A).1) (B' := (sq_act (xs (i + 1)) (xs (i + 2)) (xs (i + 3)) A).2) (fun Gs u e1 e2 => tk_act X.tr (hR := e1) (hA := e2) (hW := hA.w))) q1821 cv_X5_act ⟨Nat.le_of_ble_eq_true rfl, Nat.le_of_ble_eq_true rfl⟩ rfl (Nat.le_of_ble_eq_true rfl) hI1.ko rfl rfl) rfl (fun G2 hI2 => ?_)
  refine hr_icmp_eq (q := 1378) (tgt := 1452) X dL_law_1375 rfl (by decide) (fun _ => ?_) (fun z => absurd rfl z)
  exact k _ _ hI2 hA1
theorem ll_c33 (X : hg_X p l s m args meth c D lo "TaxOnLooksLaw" cL_law 4) (hS : lq_S D lo G0) (hX : lq_X lo G0 b L xs) (hI : lq_I D lo x o am G0 G A A) (hA : ab_I A) (hi : i + 7 ≤ L) (hL : L ≤ 448)
    (k : ∀ (G' : hg_G) (A' : ab_S), lq_I D lo x o am G0 G' A' A' → ab_I A' → hg_W p l e room_1 s m args below meth c Q D lo C0 4 kr nr G' 1452 [some (.ref b), some (.ref x), some (.ref o), some (.int (nI i))] []) :
    hg_W p l e room_1 s m args below meth c Q D lo C0 4 (kr + 4000) (nr + 32000) G 1380 [some (.ref b), some (.ref x), some (.ref o), some (.int (nI i))] [] := by
  obtain ⟨hk, hv⟩ := hI.sc hX
  refine hr_aload1 (q := 1381) X dL_law_1380 rfl ?_
  refine hr_aload0 (q := 1382) X dL_law_1381 rfl ?_
  refine hr_iload3 (q := 1383) X dL_law_1382 rfl ?_
  refine hr_iconst (v := (nI 1)) (q := 1384) X dL_law_1383 rfl rfl ?_
  refine hr_iadd (v := (nI (i + 1))) (q := 1385) X dL_law_1384 rfl (nI_add _ _) ?_
  refine hr_ialdN (a := b) (n := L) (t := 7) (j := i + 1) (v := xs (i + 1)) (q := 1386) X dL_law_1385 rfl (hk) (Or.inr rfl) (by omega) (by omega) (hv _ (by omega)) ?_
  have hA1 : ab_I (sq_trace (xs (i + 1)) A).2 := hA.trace _
  refine hr_room (kr' := kr + 40) (nr' := nr + 3000) (Nat.add_le_add_left (by decide) _) (Nat.add_le_add_left (by decide) _) ?_
  refine hr_callL (kr := kr) (nr := nr) (q := 1389) (hc_V (n := 1) (ci := 0) (As := [.int (xs (i + 1))]) X dL_law_1386 rfl (hI.c (rm := rk_X0_trace) (v := .int (sq_trace (xs (i + 1)) A).1) (A' := (sq_trace (xs (i + 1)) A).2) hS hA.w hA1.w (fun Gs ca e1 e2 e3 => by subst e1; obtain ⟨r, hr40, h42⟩ := hA.1.2; exact tc_trace X.tr (h := e2) (hW := hA.w) hr40 h42)) q1343 cv_X0_trace ⟨Nat.le_of_ble_eq_true rfl, Nat.le_of_ble_eq_true rfl⟩ rfl (Nat.le_of_ble_eq_true rfl) hI.kx rfl rfl) rfl (fun G1 hI1 => ?_)
  obtain ⟨hk1, hv1⟩ := hI1.sc hX
  refine hr_aload2 (q := 1390) X dL_law_1389 rfl ?_
  refine hr_aload0 (q := 1391) X dL_law_1390 rfl ?_
  refine hr_iload3 (q := 1392) X dL_law_1391 rfl ?_
  refine hr_iconst (v := (nI 1)) (q := 1393) X dL_law_1392 rfl rfl ?_
  refine hr_iadd (v := (nI (i + 1))) (q := 1394) X dL_law_1393 rfl (nI_add _ _) ?_
  refine hr_ialdN (a := b) (n := L) (t := 7) (j := i + 1) (v := xs (i + 1)) (q := 1395) X dL_law_1394 rfl (hk1) (Or.inr rfl) (by omega) (by omega) (hv1 _ (by omega)) ?_
  refine hr_callL0 (kr := kr) (nr := nr) (q := 1398) (hc_V (n := 1) (ci := 5) (As := [.int (xs (i + 1))]) X dL_law_1395 rfl (hI1.m (rm := rm_X5_trace) (v := .int (sq_trace (xs (i + 1)) A).1) (B' := (sq_trace (xs (i + 1)) A).2) (fun Gs u e1 e2 => tk_trace X.tr (hR := e1) (hA := e2) (hW := hA.w))) q1841 cv_X5_trace ⟨Nat.le_of_ble_eq_true rfl, Nat.le_of_ble_eq_true rfl⟩ rfl (Nat.le_of_ble_eq_true rfl) hI1.ko rfl rfl) rfl (fun G2 hI2 => ?_)
  refine hr_icmp_eq (q := 1401) (tgt := 1452) X dL_law_1398 rfl (by decide) (fun _ => ?_) (fun z => absurd rfl z)
  exact k _ _ hI2 hA1
theorem ll_c34 (X : hg_X p l s m args meth c D lo "TaxOnLooksLaw" cL_law 4) (hS : lq_S D lo G0) (hX : lq_X lo G0 b L xs) (hI : lq_I D lo x o am G0 G A A) (hA : ab_I A) (hi : i + 7 ≤ L) (hL : L ≤ 448)
    (k : ∀ (G' : hg_G) (A' : ab_S), lq_I D lo x o am G0 G' A' A' → ab_I A' → hg_W p l e room_1 s m args below meth c Q D lo C0 4 kr nr G' 1452 [some (.ref b), some (.ref x), some (.ref o), some (.int (nI i))] []) :
    hg_W p l e room_1 s m args below meth c Q D lo C0 4 (kr + 4000) (nr + 32000) G 1403 [some (.ref b), some (.ref x), some (.ref o), some (.int (nI i))] [] := by
  obtain ⟨hk, hv⟩ := hI.sc hX
  refine hr_aload1 (q := 1404) X dL_law_1403 rfl ?_
  have hA1 : ab_I ((nI (A.1.1 0 0), (sp_set A.1 43 0 1, A.1, A.2.2))).2 := hA.image
  refine hr_room (kr' := kr + 40) (nr' := nr + 3000) (Nat.add_le_add_left (by decide) _) (Nat.add_le_add_left (by decide) _) ?_
  refine hr_callL (kr := kr) (nr := nr) (q := 1407) (hc_V (n := 0) (ci := 0) (As := []) X dL_law_1404 rfl (hI.c (rm := rk_X0_image) (v := .int ((nI (A.1.1 0 0), (sp_set A.1 43 0 1, A.1, A.2.2))).1) (A' := ((nI (A.1.1 0 0), (sp_set A.1 43 0 1, A.1, A.2.2))).2) hS hA.w hA1.w (fun Gs ca e1 e2 e3 => by subst e1; exact tc_image X.tr (h := e2) (hW := hA.w))) q1348 cv_X0_image ⟨Nat.le_of_ble_eq_true rfl, Nat.le_of_ble_eq_true rfl⟩ rfl (Nat.le_of_ble_eq_true rfl) hI.kx rfl rfl) rfl (fun G1 hI1 => ?_)
  obtain ⟨hk1, hv1⟩ := hI1.sc hX
  refine hr_aload2 (q := 1408) X dL_law_1407 rfl ?_
  refine hr_callL0 (kr := kr) (nr := nr) (q := 1411) (hc_V (n := 0) (ci := 5) (As := []) X dL_law_1408 rfl (hI1.m (rm := rm_X5_image) (v := .int ((nI (A.1.1 0 0), (sp_set A.1 43 0 1, A.1, A.2.2))).1) (B' := ((nI (A.1.1 0 0), (sp_set A.1 43 0 1, A.1, A.2.2))).2) (fun Gs u e1 e2 => tk_image X.tr (hR := e1) (hA := e2) (hW := hA.w))) q1845 cv_X5_image ⟨Nat.le_of_ble_eq_true rfl, Nat.le_of_ble_eq_true rfl⟩ rfl (Nat.le_of_ble_eq_true rfl) hI1.ko rfl rfl) rfl (fun G2 hI2 => ?_)
  refine hr_icmp_eq (q := 1414) (tgt := 1452) X dL_law_1411 rfl (by decide) (fun _ => ?_) (fun z => absurd rfl z)
  exact k _ _ hI2 hA1
theorem ll_c35 (X : hg_X p l s m args meth c D lo "TaxOnLooksLaw" cL_law 4) (hS : lq_S D lo G0) (hX : lq_X lo G0 b L xs) (hI : lq_I D lo x o am G0 G A A) (hA : ab_I A) (hi : i + 7 ≤ L) (hL : L ≤ 448)
    (k : ∀ (G' : hg_G) (A' : ab_S), lq_I D lo x o am G0 G' A' A' → ab_I A' → hg_W p l e room_1 s m args below meth c Q D lo C0 4 kr nr G' 1452 [some (.ref b), some (.ref x), some (.ref o), some (.int (nI i))] []) :
    hg_W p l e room_1 s m args below meth c Q D lo C0 4 (kr + 4000) (nr + 32000) G 1416 [some (.ref b), some (.ref x), some (.ref o), some (.int (nI i))] [] := by
  obtain ⟨hk, hv⟩ := hI.sc hX
  refine hr_aload1 (q := 1417) X dL_law_1416 rfl ?_
  have hA1 : ab_I (sq_restore A).2 := hA.restore
  refine hr_room (kr' := kr + 40) (nr' := nr + 3000) (Nat.add_le_add_left (by decide) _) (Nat.add_le_add_left (by decide) _) ?_
  refine hr_callL (kr := kr) (nr := nr) (q := 1420) (hc_VX (n := 0) (ci := 0) (As := []) X dL_law_1417 rfl (hI.c (rm := rk_X0_restore) (v := .int (sq_restore A).1) (A' := (sq_restore A).2) hS hA.w hA1.w (fun Gs ca e1 e2 e3 => by subst e1; exact tc_restore X.tr (h := e2) (hW := hA.w))) q1352 cv_X0_restore ⟨Nat.le_of_ble_eq_true rfl, Nat.le_of_ble_eq_true rfl⟩ rfl (Nat.le_of_ble_eq_true rfl) hI.kx rfl rfl) rfl (fun G1 hI1 => ?_)
  obtain ⟨hk1, hv1⟩ := hI1.sc hX
  refine hr_aload2 (q := 1421) X dL_law_1420 rfl ?_
  refine hr_callL0 (kr := kr) (nr := nr) (q := 1424) (hc_V (n := 0) (ci := 5) (As := []) X dL_law_1421 rfl (hI1.m (rm := rm_X5_restore) (v := .int (sq_restore A).1) (B' := (sq_restore A).2) (fun Gs u e1 e2 => tk_restore X.tr (hR := e1) (hA := e2) (hW := hA.w))) q1849 cv_X5_restore ⟨Nat.le_of_ble_eq_true rfl, Nat.le_of_ble_eq_true rfl⟩ rfl (Nat.le_of_ble_eq_true rfl) hI1.ko rfl rfl) rfl (fun G2 hI2 => ?_)
  refine hr_icmp_eq (q := 1427) (tgt := 1452) X dL_law_1424 rfl (by decide) (fun _ => ?_) (fun z => absurd rfl z)
  exact k _ _ hI2 hA1
theorem ll_c36 (X : hg_X p l s m args meth c D lo "TaxOnLooksLaw" cL_law 4) (hS : lq_S D lo G0) (hX : lq_X lo G0 b L xs) (hI : lq_I D lo x o am G0 G A A) (hA : ab_I A) (hi : i + 7 ≤ L) (hL : L ≤ 448)
    (k : ∀ (G' : hg_G) (A' : ab_S), lq_I D lo x o am G0 G' A' A' → ab_I A' → hg_W p l e room_1 s m args below meth c Q D lo C0 4 kr nr G' 1452 [some (.ref b), some (.ref x), some (.ref o), some (.int (nI i))] []) :
    hg_W p l e room_1 s m args below meth c Q D lo C0 4 (kr + 4000) (nr + 32000) G 1429 [some (.ref b), some (.ref x), some (.ref o), some (.int (nI i))] [] := by
  obtain ⟨hk, hv⟩ := hI.sc hX
  refine hr_aload1 (q := 1430) X dL_law_1429 rfl ?_
  refine hr_aload0 (q := 1431) X dL_law_1430 rfl ?_
  refine hr_iload3 (q := 1432) X dL_law_1431 rfl ?_
  refine hr_iconst (v := (nI 1)) (q := 1433) X dL_law_1432 rfl rfl ?_
  refine hr_iadd (v := (nI (i + 1))) (q := 1434) X dL_law_1433 rfl (nI_add _ _) ?_
  refine hr_ialdN (a := b) (n := L) (t := 7) (j := i + 1) (v := xs (i + 1)) (q := 1435) X dL_law_1434 rfl (hk) (Or.inr rfl) (by omega) (by omega) (hv _ (by omega)) ?_
  have hA1 : ab_I (sq_status (xs (i + 1)) A).2 := hA.status _
  refine hr_room (kr' := kr + 40) (nr' := nr + 3000) (Nat.add_le_add_left (by decide) _) (Nat.add_le_add_left (by decide) _) ?_
  refine hr_callL (kr := kr) (nr := nr) (q := 1438) (hc_V (n := 1) (ci := 0) (As := [.int (xs (i + 1))]) X dL_law_1435 rfl (hI.c (rm := rk_X0_status) (v := .int (sq_status (xs (i + 1)) A).1) (A' := (sq_status (xs (i + 1)) A).2) hS hA.w hA1.w (fun Gs ca e1 e2 e3 => by subst e1; exact tc_status X.tr (h := e2) (hW := hA.w))) q1360 cv_X0_status ⟨Nat.le_of_ble_eq_true rfl, Nat.le_of_ble_eq_true rfl⟩ rfl (Nat.le_of_ble_eq_true rfl) hI.kx rfl rfl) rfl (fun G1 hI1 => ?_)
  obtain ⟨hk1, hv1⟩ := hI1.sc hX
  refine hr_aload2 (q := 1439) X dL_law_1438 rfl ?_
  refine hr_aload0 (q := 1440) X dL_law_1439 rfl ?_
  refine hr_iload3 (q := 1441) X dL_law_1440 rfl ?_
  refine hr_iconst (v := (nI 1)) (q := 1442) X dL_law_1441 rfl rfl ?_
  refine hr_iadd (v := (nI (i + 1))) (q := 1443) X dL_law_1442 rfl (nI_add _ _) ?_
  refine hr_ialdN (a := b) (n := L) (t := 7) (j := i + 1) (v := xs (i + 1)) (q := 1444) X dL_law_1443 rfl (hk1) (Or.inr rfl) (by omega) (by omega) (hv1 _ (by omega)) ?_
  refine hr_callL0 (kr := kr) (nr := nr) (q := 1447) (hc_V (n := 1) (ci := 5) (As := [.int (xs (i + 1))]) X dL_law_1444 rfl (hI1.m (rm := rm_X5_status) (v := .int (sq_status (xs (i + 1)) A).1) (B' := (sq_status (xs (i + 1)) A).2) (fun Gs u e1 e2 => tk_status X.tr (hR := e1) (hA := e2) (hW := hA.w))) q1853 cv_X5_status ⟨Nat.le_of_ble_eq_true rfl, Nat.le_of_ble_eq_true rfl⟩ rfl (Nat.le_of_ble_eq_true rfl) hI1.ko rfl rfl) rfl (fun G2 hI2 => ?_)
  refine hr_icmp_eq (q := 1450) (tgt := 1452) X dL_law_1447 rfl (by decide) (fun _ => ?_) (fun z => absurd rfl z)
  exact k _ _ hI2 hA1
theorem ll_step (X : hg_X p l s m args meth c D lo "TaxOnLooksLaw" cL_law 4) (hX : lq_X lo G0 b L xs) (hI : lq_I D lo x o am G0 G A A) (hi : i ≤ 455) (hL : L ≤ 448) (hcont : i + 7 ≤ L → hg_W p l e room_1 s m args below meth c Q D lo C0 4 kr nr G 27 [some (.ref b), some (.ref x), some (.ref o), some (.int (nI i))] []) (hend : hg_W p l e room_1 s m args below meth c Q D lo C0 4 kr nr G 1458 [some (.ref b), some (.ref x), some (.ref o), some (.int (nI i))] []) : hg_W p l e room_1 s m args below meth c Q D lo C0 4 kr nr G 18 [some (.ref b), some (.ref x), some (.ref o), some (.int (nI i))] [] := by
  obtain ⟨hk, hv⟩ := hI.sc hX
  refine hr_iload3 (q := 19) X dL_law_18 rfl ?_
  refine hr_aload0 (q := 20) X dL_law_19 rfl ?_
  refine hr_alen (a := b) (n := L) (t := 7) (v := nI L) (q := 21) X dL_law_20 rfl hk (by decide) rfl ?_
  refine hr_bipush (v := (nI 7)) (q := 23) X dL_law_21 rfl rfl ?_
  refine hr_isub (v := ((nI L) - (nI 7))) (q := 24) X dL_law_23 rfl rfl ?_
  refine hr_icmp_gt (q := 27) (tgt := 1458) X dL_law_24 rfl (by decide) (fun _ => hend) (fun c24 => hcont (by have := mt (ll_gt hL hi).mpr c24; omega))
theorem ll_sw (X : hg_X p l s m args meth c D lo "TaxOnLooksLaw" cL_law 4) (hS : lq_S D lo G0) (hX : lq_X lo G0 b L xs) (hI : lq_I D lo x o am G0 G A A) (hA : ab_I A) (hi : i + 7 ≤ L) (hL : L ≤ 448)
    (k : ∀ (G' : hg_G) (A' : ab_S), lq_I D lo x o am G0 G' A' A' → ab_I A' → hg_W p l e room_1 s m args below meth c Q D lo C0 4 kr nr G' 1452 [some (.ref b), some (.ref x), some (.ref o), some (.int (nI i))] []) :
    hg_W p l e room_1 s m args below meth c Q D lo C0 4 (kr + 4000) (nr + 32000) G 27 [some (.ref b), some (.ref x), some (.ref o), some (.int (nI i))] [] := by
  obtain ⟨hk, hv⟩ := hI.sc hX
  refine hr_aload0 (q := 28) X dL_law_27 rfl ?_
  refine hr_iload3 (q := 29) X dL_law_28 rfl ?_
  refine hr_ialdN (a := b) (n := L) (t := 7) (j := i) (v := xs i) (q := 30) X dL_law_29 rfl (hk) (Or.inr rfl) (by omega) (by omega) (hv _ (by omega)) ?_
  refine hr_bipush (v := (nI 63)) (q := 32) X dL_law_30 rfl rfl ?_
  refine hr_iand (v := ((xs i) &&& (nI 63))) (q := 33) X dL_law_32 rfl rfl ?_
  by_cases h0 : (xs i &&& nI 63).toInt < 0 ∨ 36 < (xs i &&& nI 63).toInt
  · refine hr_tableOut (tgt := 1452) X dL_law_33 h0 (by decide) ?_
    exact hr_room (Nat.le_add_right _ _) (Nat.le_add_right _ _) (k _ _ hI hA)
  have hc : (xs i &&& nI 63).toInt = 0 ∨ (xs i &&& nI 63).toInt = 1 ∨ (xs i &&& nI 63).toInt = 2 ∨ (xs i &&& nI 63).toInt = 3 ∨ (xs i &&& nI 63).toInt = 4 ∨ (xs i &&& nI 63).toInt = 5 ∨ (xs i &&& nI 63).toInt = 6 ∨ (xs i &&& nI 63).toInt = 7 ∨ (xs i &&& nI 63).toInt = 8 ∨ (xs i &&& nI 63).toInt = 9 ∨ (xs i &&& nI 63).toInt = 10 ∨ (xs i &&& nI 63).toInt = 11 ∨ (xs i &&& nI 63).toInt = 12 ∨ (xs i &&& nI 63).toInt = 13 ∨ (xs i &&& nI 63).toInt = 14 ∨ (xs i &&& nI 63).toInt = 15 ∨ (xs i &&& nI 63).toInt = 16 ∨ (xs i &&& nI 63).toInt = 17 ∨ (xs i &&& nI 63).toInt = 18 ∨ (xs i &&& nI 63).toInt = 19 ∨ (xs i &&& nI 63).toInt = 20 ∨ (xs i &&& nI 63).toInt = 21 ∨ (xs i &&& nI 63).toInt = 22 ∨ (xs i &&& nI 63).toInt = 23 ∨ (xs i &&& nI 63).toInt = 24 ∨ (xs i &&& nI 63).toInt = 25 ∨ (xs i &&& nI 63).toInt = 26 ∨ (xs i &&& nI 63).toInt = 27 ∨ (xs i &&& nI 63).toInt = 28 ∨ (xs i &&& nI 63).toInt = 29 ∨ (xs i &&& nI 63).toInt = 30 ∨ (xs i &&& nI 63).toInt = 31 ∨ (xs i &&& nI 63).toInt = 32 ∨ (xs i &&& nI 63).toInt = 33 ∨ (xs i &&& nI 63).toInt = 34 ∨ (xs i &&& nI 63).toInt = 35 ∨ (xs i &&& nI 63).toInt = 36 := by omega
  rcases hc with h | h | h | h | h | h | h | h | h | h | h | h | h | h | h | h | h | h | h | h | h | h | h | h | h | h | h | h | h | h | h | h | h | h | h | h | h
  · exact hr_tableIn (off := 163) (tgt := 196) X dL_law_33 (by omega) (by omega) (by rw [h]; rfl) (by decide) (ll_c0 X hS hX hI hA hi hL k)
  · exact hr_tableIn (off := 206) (tgt := 239) X dL_law_33 (by omega) (by omega) (by rw [h]; rfl) (by decide) (ll_c1 X hS hX hI hA hi hL k)
  · exact hr_tableIn (off := 279) (tgt := 312) X dL_law_33 (by omega) (by omega) (by rw [h]; rfl) (by decide) (ll_c2 X hS hX hI hA hi hL k)
  · exact hr_tableIn (off := 342) (tgt := 375) X dL_law_33 (by omega) (by omega) (by rw [h]; rfl) (by decide) (ll_c3 X hS hX hI hA hi hL k)
  · exact hr_tableIn (off := 376) (tgt := 409) X dL_law_33 (by omega) (by omega) (by rw [h]; rfl) (by decide) (ll_c4 X hS hX hI hA hi hL k)
  · exact hr_tableIn (off := 409) (tgt := 442) X dL_law_33 (by omega) (by omega) (by rw [h]; rfl) (by decide) (ll_c5 X hS hX hI hA hi hL k)
  · exact hr_tableIn (off := 432) (tgt := 465) X dL_law_33 (by omega) (by omega) (by rw [h]; rfl) (by decide) (ll_c6 X hS hX hI hA hi hL k)
  · exact hr_tableIn (off := 465) (tgt := 498) X dL_law_33 (by omega) (by omega) (by rw [h]; rfl) (by decide) (ll_c7 X hS hX hI hA hi hL k)
  · exact hr_tableIn (off := 540) (tgt := 573) X dL_law_33 (by omega) (by omega) (by rw [h]; rfl) (by decide) (ll_c8 X hS hX hI hA hi hL k)
  · exact hr_tableIn (off := 599) (tgt := 632) X dL_law_33 (by omega) (by omega) (by rw [h]; rfl) (by decide) (ll_c9 X hS hX hI hA hi hL k)
  · exact hr_tableIn (off := 632) (tgt := 665) X dL_law_33 (by omega) (by omega) (by rw [h]; rfl) (by decide) (ll_c10 X hS hX hI hA hi hL k)
  · exact hr_tableIn (off := 681) (tgt := 714) X dL_law_33 (by omega) (by omega) (by rw [h]; rfl) (by decide) (ll_c11 X hS hX hI hA hi hL k)
  · exact hr_tableIn (off := 714) (tgt := 747) X dL_law_33 (by omega) (by omega) (by rw [h]; rfl) (by decide) (ll_c12 X hS hX hI hA hi hL k)
  · exact hr_tableIn (off := 747) (tgt := 780) X dL_law_33 (by omega) (by omega) (by rw [h]; rfl) (by decide) (ll_c13 X hS hX hI hA hi hL k)
  · exact hr_tableIn (off := 780) (tgt := 813) X dL_law_33 (by omega) (by omega) (by rw [h]; rfl) (by decide) (ll_c14 X hS hX hI hA hi hL k)
  · exact hr_tableIn (off := 803) (tgt := 836) X dL_law_33 (by omega) (by omega) (by rw [h]; rfl) (by decide) (ll_c15 X hS hX hI hA hi hL k)
  · exact hr_tableIn (off := 816) (tgt := 849) X dL_law_33 (by omega) (by omega) (by rw [h]; rfl) (by decide) (ll_c16 X hS hX hI hA hi hL k)
  · exact hr_tableIn (off := 849) (tgt := 882) X dL_law_33 (by omega) (by omega) (by rw [h]; rfl) (by decide) (ll_c17 X hS hX hI hA hi hL k)
  · exact hr_tableIn (off := 882) (tgt := 915) X dL_law_33 (by omega) (by omega) (by rw [h]; rfl) (by decide) (ll_c18 X hS hX hI hA hi hL k)
  · exact hr_tableIn (off := 915) (tgt := 948) X dL_law_33 (by omega) (by omega) (by rw [h]; rfl) (by decide) (ll_c19 X hS hX hI hA hi hL k)
  · exact hr_tableIn (off := 938) (tgt := 971) X dL_law_33 (by omega) (by omega) (by rw [h]; rfl) (by decide) (ll_c20 X hS hX hI hA hi hL k)
  · exact hr_tableIn (off := 981) (tgt := 1014) X dL_law_33 (by omega) (by omega) (by rw [h]; rfl) (by decide) (ll_c21 X hS hX hI hA hi hL k)
  · exact hr_tableIn (off := 1014) (tgt := 1047) X dL_law_33 (by omega) (by omega) (by rw [h]; rfl) (by decide) (ll_c22 X hS hX hI hA hi hL k)
  · exact hr_tableIn (off := 1047) (tgt := 1080) X dL_law_33 (by omega) (by omega) (by rw [h]; rfl) (by decide) (ll_c23 X hS hX hI hA hi hL k)
  · exact hr_tableIn (off := 1070) (tgt := 1103) X dL_law_33 (by omega) (by omega) (by rw [h]; rfl) (by decide) (ll_c24 X hS hX hI hA hi hL k)
  · exact hr_tableIn (off := 1103) (tgt := 1136) X dL_law_33 (by omega) (by omega) (by rw [h]; rfl) (by decide) (ll_c25 X hS hX hI hA hi hL k)
  · exact hr_tableIn (off := 1126) (tgt := 1159) X dL_law_33 (by omega) (by omega) (by rw [h]; rfl) (by decide) (ll_c26 X hS hX hI hA hi hL k)
  · exact hr_tableIn (off := 1149) (tgt := 1182) X dL_law_33 (by omega) (by omega) (by rw [h]; rfl) (by decide) (ll_c27 X hS hX hI hA hi hL k)
  · exact hr_tableIn (off := 1182) (tgt := 1215) X dL_law_33 (by omega) (by omega) (by rw [h]; rfl) (by decide) (ll_c28 X hS hX hI hA hi hL k)
  · exact hr_tableIn (off := 1225) (tgt := 1258) X dL_law_33 (by omega) (by omega) (by rw [h]; rfl) (by decide) (ll_c29 X hS hX hI hA hi hL k)
  · exact hr_tableIn (off := 1258) (tgt := 1291) X dL_law_33 (by omega) (by omega) (by rw [h]; rfl) (by decide) (ll_c30 X hS hX hI hA hi hL k)
  · exact hr_tableIn (off := 1281) (tgt := 1314) X dL_law_33 (by omega) (by omega) (by rw [h]; rfl) (by decide) (ll_c31 X hS hX hI hA hi hL k)
  · exact hr_tableIn (off := 1304) (tgt := 1337) X dL_law_33 (by omega) (by omega) (by rw [h]; rfl) (by decide) (ll_c32 X hS hX hI hA hi hL k)
  · exact hr_tableIn (off := 1347) (tgt := 1380) X dL_law_33 (by omega) (by omega) (by rw [h]; rfl) (by decide) (ll_c33 X hS hX hI hA hi hL k)
  · exact hr_tableIn (off := 1370) (tgt := 1403) X dL_law_33 (by omega) (by omega) (by rw [h]; rfl) (by decide) (ll_c34 X hS hX hI hA hi hL k)
  · exact hr_tableIn (off := 1383) (tgt := 1416) X dL_law_33 (by omega) (by omega) (by rw [h]; rfl) (by decide) (ll_c35 X hS hX hI hA hi hL k)
  · exact hr_tableIn (off := 1396) (tgt := 1429) X dL_law_33 (by omega) (by omega) (by rw [h]; rfl) (by decide) (ll_c36 X hS hX hI hA hi hL k)
theorem ll_loop (X : hg_X p l s m args meth c D lo "TaxOnLooksLaw" cL_law 4) (hS : lq_S D lo G0) (hX : lq_X lo G0 b L xs) (hL : L ≤ 448) (hend : ∀ (kr nr i : Nat) (G : hg_G), hg_W p l e room_1 s m args below meth c Q D lo C0 4 kr nr G 1458 [some (.ref b), some (.ref x), some (.ref o), some (.int (nI i))] []) :
    ∀ (n i : Nat) (G : hg_G) (A : ab_S), L < i + 7 * n + 7 → i ≤ 455 → lq_I D lo x o am G0 G A A → ab_I A → hg_W p l e room_1 s m args below meth c Q D lo C0 4 (4000 * n) (32000 * n) G 18 [some (.ref b), some (.ref x), some (.ref o), some (.int (nI i))] []
  | 0, i, G, A, h1, h2, hI, hA => ll_step X hX hI h2 hL (fun z => absurd z (by omega)) (hend _ _ _ _)
  | n + 1, i, G, A, h1, h2, hI, hA => ll_step X hX hI h2 hL (fun z => by
      refine hr_room (kr' := 4000 * n + 4000) (nr' := 32000 * n + 32000) (by omega) (by omega) ?_
      refine ll_sw X hS hX hI hA z hL (fun G' A' hI' hA' => ?_)
      refine hr_iinc3 (v := nI (i + 7)) (q := 1455) X dL_law_1452 rfl (nI_add _ _) rfl (Nat.le_of_ble_eq_true rfl) ?_
      refine hr_goto (tgt := 18) X dL_law_1455 (by decide) ?_
      exact ll_loop X hS hX hL hend n (i + 7) G' A' (by omega) (by omega) hI' hA') (hend _ _ _ _)
end LLC
