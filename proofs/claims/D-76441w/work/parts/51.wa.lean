/-! the component's walks, in the picture: x the object, y what is owed at squares, z labels -/
def wa_R (G : hg_G) (ta : Nat → Nat) (t : sp_S) (x y z : Nat) (du q : Nat → Nat) : Prop :=
  G.1 x = some (0, 3) ∧ G.2.2.2 x 0 = some y ∧ G.2.2.2 x 1 = some z ∧ G.1 y = some (1, 36) ∧ G.1 z = some (1, 36) ∧ y ≠ z ∧ tn_R G ta t ∧
  (∀ d, d < 36 → ¬ t.1 16 d = 1 → G.2.1 y d = nI (du d)) ∧ ∀ c, c < 36 → G.2.1 z c = nI (wk_cv (q c))
section WAR
variable {G : hg_G} {ta : Nat → Nat} {t : sp_S} {x y z : Nat} {du q : Nat → Nat}
theorem tn_R.ka (h : tn_R G ta t) {a n : Nat} (ha : G.1 a = some (1, n)) (hn : n ≠ 7) : ∀ j, j < 5 → ta j ≠ a := fun j hj e => by
  have hj2 : j = 0 ∨ j = 1 ∨ j = 2 ∨ j = 3 ∨ j = 4 := by omega
  rw [← e] at ha
  rcases hj2 with rfl | rfl | rfl | rfl | rfl
  · rw [h.ob] at ha
    have := (Prod.mk.inj (Option.some.inj ha)).1
    omega
  · rw [h.k1] at ha
    have := (Prod.mk.inj (Option.some.inj ha)).1
    omega
  · rw [h.k2] at ha
    have := (Prod.mk.inj (Option.some.inj ha)).2
    omega
  · rw [h.k3] at ha
    have := (Prod.mk.inj (Option.some.inj ha)).2
    omega
  · rw [h.k4] at ha
    have := (Prod.mk.inj (Option.some.inj ha)).2
    omega
/-- a town stays where an array of other length is written -/
theorem tn_R.putO (h : tn_R G ta t) {a n k : Nat} {v : Int32} (ha : G.1 a = some (1, n)) (hn : n ≠ 7) : tn_R (hs_I G a k v) ta t :=
  h.fr (W := fun b => b = a) (hg_fr.rf.I rfl) (fun j hj e => h.ka ha hn j hj e) (fun p q' hp hq e => by
    obtain ⟨q2, h1, h2, -⟩ := h.pe hp
    cases hq.symm.trans h1
    rw [e, ha] at h2
    have := (Prod.mk.inj (Option.some.inj h2)).1
    omega)
theorem wa_R.set (h : wa_R G ta t x y z du q) {c v : Nat} : wa_R (hs_I G z c (nI (wk_cv v))) ta t x y z du (fun j => if j = c then v else q j) := by
  obtain ⟨h1, h2, h3, h4, h5, h6, h7, h8, h9⟩ := h
  refine ⟨h1, h2, h3, h4, h5, h6, h7.putO h5 (by decide), fun d hd hf => (hs_Ine h6).trans (h8 d hd hf), fun j hj => ?_⟩
  rw [hs_Iif]
  by_cases e : j = c
  · show (if j = c then _ else _) = nI (wk_cv (if j = c then v else q j)); rw [if_pos e, if_pos e]
  · show (if j = c then _ else _) = nI (wk_cv (if j = c then v else q j)); rw [if_neg e, if_neg e]; exact h9 j hj
theorem bI_or (a b : Bool) : bI a ||| bI b = bI (a || b) := by cases a <;> cases b <;> decide
/-! the flag is carried on -/
theorem wk_rel_b (b : Bool) (m : Nat → Nat) (c w : Nat) : wk_rel t du (m, b) c w = ((wk_rel t du (m, false) c w).1, b || (wk_rel t du (m, false) c w).2) := by
  unfold wk_rel
  (repeat' split) <;> simp_all
theorem wk_rel_f (f : wk_S) (c w : Nat) : wk_rel t du f c w = ((wk_rel t du (f.1, false) c w).1, f.2 || (wk_rel t du (f.1, false) c w).2) := wk_rel_b f.2 f.1 c w
theorem wk_ws_b (b : Bool) (m : Nat → Nat) (c : Nat) : ∀ w, wk_ws t du (m, b) c w = ((wk_ws t du (m, false) c w).1, b || (wk_ws t du (m, false) c w).2)
  | 0 => by simp [wk_ws]
  | w + 1 => by
    rw [wk_ws, wk_ws, wk_ws_b b m c w, wk_rel_f, wk_rel_f (wk_ws t du (m, false) c w)]
    simp only [Bool.or_assoc]
theorem wk_sq_b (b : Bool) (m : Nat → Nat) (c : Nat) : wk_sq t du (m, b) c = ((wk_sq t du (m, false) c).1, b || (wk_sq t du (m, false) c).2) := by
  unfold wk_sq
  split
  · simp
  · exact wk_ws_b b m c 4
theorem sp_bes_n {c w : Nat} (h : ¬ sp_bes t c w = 99) : ¬ sp_beside c w = 99 ∧ ¬ t.1 16 (sp_beside c w) = 1 ∧ sp_bes t c w = sp_beside c w := by
  unfold sp_bes at h ⊢
  (repeat' split at h) <;> simp_all
theorem sp_bes_y {c w : Nat} (h : sp_bes t c w = 99) : sp_beside c w = 99 ∨ t.1 16 (sp_beside c w) = 1 := by
  unfold sp_bes at h
  (repeat' split at h) <;> simp_all
theorem sp_bes_le {c w : Nat} (hc : c < 36) : sp_bes t c w ≤ 99 := by
  have := sp_beside_lt (c := c) (w := w) hc
  unfold sp_bes
  (repeat' split) <;> omega
theorem wk_by_le (du q : Nat → Nat) (d : Nat) (h : du d ≤ 63) : wk_by du q d ≤ 1006300 := by
  unfold wk_by
  split <;> omega
end WAR
section WAF
variable {t : sp_S} {du z : Nat → Nat} {c : Nat}
/-- the first step so far, c: none yet -/
def wk_F (t : sp_S) (du z : Nat → Nat) (c v : Nat) : Nat := if wk_fst t du z c v = 99 then c else wk_fst t du z c v
theorem wk_fst_ne (hc : c < 36) : ∀ w, w ≤ 4 → wk_fst t du z c w = 99 ∨ ¬ wk_fst t du z c w = c
  | 0, _ => Or.inl rfl
  | w + 1, hw => by
    have ih := wk_fst_ne hc w (by omega)
    have h2 := sp_beside_ne c hc w (by omega)
    rw [wk_fst]
    (repeat' split) <;> first | exact ih | (right; exact h2)
theorem wk_F_k {w : Nat} (h : sp_beside c w = 99 ∨ t.1 16 (sp_beside c w) = 1 ∨ z (sp_beside c w) = 100000000 ∨ ¬ z (sp_beside c w) + 1000 * du (sp_beside c w) + 1 = z c ∨ ¬ (wk_fst t du z c w = 99 ∨ sp_beside c w < wk_fst t du z c w)) : wk_F t du z c (w + 1) = wk_F t du z c w := by
  unfold wk_F
  rw [wk_fst_k h]
theorem wk_F_y {w : Nat} (h1 : ¬ sp_beside c w = 99) (h2 : ¬ t.1 16 (sp_beside c w) = 1) (h3 : ¬ z (sp_beside c w) = 100000000) (h4 : z (sp_beside c w) + 1000 * du (sp_beside c w) + 1 = z c) (h5 : wk_fst t du z c w = 99 ∨ sp_beside c w < wk_fst t du z c w) : wk_F t du z c (w + 1) = sp_beside c w := by
  unfold wk_F
  rw [wk_fst_y h1 h2 h3 h4 h5, if_neg h1]
theorem wk_F_c (hc : c < 36) {w : Nat} (hw : w ≤ 4) (h : wk_F t du z c w = c) : wk_fst t du z c w = 99 := by
  unfold wk_F at h
  have := wk_fst_ne (t := t) (du := du) (z := z) hc w hw
  split at h <;> omega
theorem wk_F_n {w : Nat} (h : ¬ wk_F t du z c w = c) : ¬ wk_fst t du z c w = 99 ∧ wk_fst t du z c w = wk_F t du z c w := by
  unfold wk_F at h ⊢
  split at h
  · exact absurd rfl h
  · next e => exact ⟨e, by rw [if_neg e]⟩
theorem wk_F_lt (hc : c < 36) (w : Nat) : wk_F t du z c w < 36 := by
  unfold wk_F
  have := wk_fst_lt (t := t) (du := du) (z := z) hc w
  split <;> omega
theorem wk_fst_0 (h0 : z c = 0) : ∀ w, wk_fst t du z c w = 99
  | 0 => rfl
  | w + 1 => by
    have ih := wk_fst_0 h0 w
    rw [wk_fst_k (Or.inr (Or.inr (Or.inr (Or.inl (by omega)))))]
    exact ih
theorem wk_F_end (hJ : wk_J t du z) (hz : (wk_pass t du (z, false) 36).2 = false) (hc : c < 36) (h1 : ¬ z c = 100000000) : wk_F t du z c 4 = wk_first t du z c := by
  unfold wk_first wk_F
  by_cases h0 : z c = 0
  · rw [if_pos h0, wk_fst_0 h0 4, if_pos rfl]
  · obtain ⟨w, g1, g2, g3, g4, g5⟩ := wk_end hJ hz hc h0 h1
    rw [if_neg h0, if_neg (wk_fst_some hc 4 w g1 g2 g3 g4 g5)]
theorem wk_cv_0 {q : Nat → Nat} (hI : wk_I q) (hc : c < 36) (h : wk_cv (q c) = 0) : q c = 0 := by
  rcases wk_cv_lt hI hc with g | ⟨-, -, D, S, -, -, g3, g4⟩ <;> omega
theorem wk_cv_p {q : Nat → Nat} (h : q c = 0) : wk_cv (q c) = 0 := by rw [h]; rfl
/-- what the walks change -/
def wa_W (ta : Nat → Nat) (y z : Nat) (a : Nat) : Prop := a = y ∨ a = z ∨ a = ta 4
def wa_K (G : hg_G) (x y z : Nat) : Prop := G.1 x = some (0, 3) ∧ G.2.2.2 x 0 = some y ∧ G.2.2.2 x 1 = some z ∧ G.1 y = some (1, 36) ∧ G.1 z = some (1, 36) ∧ y ≠ z
theorem wa_K.st {G : hg_G} {x y z a k : Nat} {v : Int32} (h : wa_K G x y z) : wa_K (hs_I G a k v) x y z := h
theorem hg_fr.wd {G G' : hg_G} {ta : Nat → Nat} {y z : Nat} (h : hg_fr (fun a => a = z) G G') : hg_fr (wa_W ta y z) G G' := fun a ha => h a (fun e => ha (Or.inr (Or.inl e)))
theorem wk_sq_n1 {t : sp_S} {du m : Nat → Nat} {n : Nat} : wk_pass t du (m, false) (n + 1) = ((wk_sq t du ((wk_pass t du (m, false) n).1, false) n).1, (wk_pass t du (m, false) n).2 || (wk_sq t du ((wk_pass t du (m, false) n).1, false) n).2) := by
  rw [wk_pass]
  exact wk_sq_b _ _ _
theorem wk_m0_v {to c : Nat} (hto : ¬ t.1 16 to = 1) (h01 : t.1 16 to ≤ 1) : wk_m0 t to c = if c = to then 0 else 100000000 := by
  unfold wk_m0
  by_cases e : c = to
  · rw [if_pos ⟨e, by rw [e]; omega⟩, if_pos e]
  · rw [if_neg (fun h => e h.1), if_neg e]
end WAF
theorem wa_by {l : Launch} {D : hg_D} {lo : Nat} (htr : l.stackTraces = false) {G : hg_G} {ta : Nat → Nat} {t : sp_S} {x y z : Nat} {du q : Nat → Nat} (hR : wa_R G ta t x y z du q) (hw : sp_wf t) (hdu : ∀ d, d < 36 → ¬ t.1 16 d = 1 → du d ≤ 63) (hI : wk_I q) {d : Nat} (hd : d < 36) (hf : ¬ t.1 16 d = 1) :
    hg_M l D lo yX3_by (ws_ yX3_by cX3_by 2 ((some FieldType.int))) rm_X3_by [.ref x, .int (nI d)] G (hg_Pv G (.int (nI (wk_by du q d)))) := by
  refine hg_M.of htr (by decide) [some (.ref x), some (.int (nI d))] rfl (Nat.le_of_ble_eq_true rfl) ?_
  intro p e s m args below meth c X hr hnm htab
  have X : hg_X p l s m args meth c D lo "TaxOnLooks$Walks" cX3_by 2 := X
  have hcv : wk_cv (q d) ≤ 1000000 := by rcases wk_cv_lt hI hd with h | h <;> omega
  refine hr_aload0 (q := 1) X dX3_by_0 rfl ?_
  refine hr_getR (v := z) (q := 4) X dX3_by_1 rfl fr_q229_3 rfl hR.1 hR.2.2.1 ?_
  refine hr_iload1 (q := 5) X dX3_by_4 rfl ?_
  refine hr_ialdN (v := (nI (wk_cv (q d)))) (q := 6) X dX3_by_5 rfl hR.2.2.2.2.1 (Or.inl rfl) (by omega) (by decide) (hR.2.2.2.2.2.2.2.2 _ (by omega)) ?_
  refine hr_ldc (q := 8) X dX3_by_6 rfl q1123 ?_
  refine hr_st1 (v' := .int (nI 1000000)) (congrArg Value.int rfl) ?_
  refine hr_icmpN_lt (q := 11) (tgt := 16) X dX3_by_8 rfl (by decide) (by omega) (by omega) (fun c8 => ?_) (fun c8 => ?_)
  · refine hr_aload0 (q := 17) X dX3_by_16 rfl ?_
    refine hr_getR (v := z) (q := 20) X dX3_by_17 rfl fr_q229_3 rfl hR.1 hR.2.2.1 ?_
    refine hr_iload1 (q := 21) X dX3_by_20 rfl ?_
    refine hr_ialdN (v := (nI (wk_cv (q d)))) (q := 22) X dX3_by_21 rfl hR.2.2.2.2.1 (Or.inl rfl) (by omega) (by decide) (hR.2.2.2.2.2.2.2.2 _ (by omega)) ?_
    refine hr_bipush (v := (nI 100)) (q := 24) X dX3_by_22 rfl rfl ?_
    refine hr_aload0 (q := 25) X dX3_by_24 rfl ?_
    refine hr_getR (v := y) (q := 28) X dX3_by_25 rfl fr_q228_3 rfl hR.1 hR.2.1 ?_
    refine hr_iload1 (q := 29) X dX3_by_28 rfl ?_
    refine hr_ialdN (v := (nI (du d))) (q := 30) X dX3_by_29 rfl hR.2.2.2.1 (Or.inl rfl) (by omega) (by decide) (hR.2.2.2.2.2.2.2.1 _ (by omega) hf) ?_
    refine hr_imul (v := (nI (100 * (du d)))) (q := 31) X dX3_by_30 rfl (pk_mul _ _) ?_
    refine hr_iadd (v := (nI (wk_cv (q d) + (100 * (du d))))) (q := 32) X dX3_by_31 rfl (nI_add _ _) ?_
    refine hr_iconst (v := (nI 1)) (q := 33) X dX3_by_32 rfl rfl ?_
    refine hr_iadd (v := (nI (wk_cv (q d) + (100 * (du d)) + 1))) (q := 34) X dX3_by_33 rfl (nI_add _ _) ?_
    exact hr_iret X hr dX3_by_34 ⟨hz_i (congrArg nI (by rw [wk_by, if_neg (by omega)])), rfl⟩
  · refine hr_ldc (q := 13) X dX3_by_11 rfl q1123 ?_
    refine hr_st1 (v' := .int (nI 1000000)) (congrArg Value.int rfl) ?_
    refine hr_goto (tgt := 34) X dX3_by_13 (by decide) ?_
    exact hr_iret X hr dX3_by_34 ⟨hz_i (congrArg nI (by rw [wk_by, if_pos (by omega)])), rfl⟩

theorem wa_comes {l : Launch} {D : hg_D} {lo : Nat} (htr : l.stackTraces = false) {G : hg_G} {ta : Nat → Nat} {t : sp_S} {x y z : Nat} {du q : Nat → Nat} (hR : wa_R G ta t x y z du q) (hw : sp_wf t) (hdu : ∀ d, d < 36 → ¬ t.1 16 d = 1 → du d ≤ 63) (hI : wk_I q) {d : Nat} (hd : d < 36) :
    hg_M l D lo yX3_comes (ws_ yX3_comes cX3_comes 2 ((some FieldType.boolean))) rm_X3_comes [.ref x, .int (nI d)] G (hg_Pv G (.int (bI (decide (wk_cv (q d) < 1000000))))) := by
  refine hg_M.of htr (by decide) [some (.ref x), some (.int (nI d))] rfl (Nat.le_of_ble_eq_true rfl) ?_
  intro p e s m args below meth c X hr hnm htab
  have X : hg_X p l s m args meth c D lo "TaxOnLooks$Walks" cX3_comes 2 := X
  have hcv : wk_cv (q d) ≤ 1000000 := by rcases wk_cv_lt hI hd with h | h <;> omega
  refine hr_aload0 (q := 1) X dX3_comes_0 rfl ?_
  refine hr_getR (v := z) (q := 4) X dX3_comes_1 rfl fr_q229_3 rfl hR.1 hR.2.2.1 ?_
  refine hr_iload1 (q := 5) X dX3_comes_4 rfl ?_
  refine hr_ialdN (v := (nI (wk_cv (q d)))) (q := 6) X dX3_comes_5 rfl hR.2.2.2.2.1 (Or.inl rfl) (by omega) (by decide) (hR.2.2.2.2.2.2.2.2 _ (by omega)) ?_
  refine hr_ldc (q := 8) X dX3_comes_6 rfl q1123 ?_
  refine hr_st1 (v' := .int (nI 1000000)) (congrArg Value.int rfl) ?_
  refine hr_icmpN_ge (q := 11) (tgt := 15) X dX3_comes_8 rfl (by decide) (by omega) (by omega) (fun c8 => ?_) (fun c8 => ?_)
  · refine hr_iconst (v := (nI 0)) (q := 16) X dX3_comes_15 rfl rfl ?_
    exact hr_zret X hr rfl dX3_comes_16 ⟨hz_b0 (decide_eq_false (by omega)), rfl⟩
  · refine hr_iconst (v := (nI 1)) (q := 12) X dX3_comes_11 rfl rfl ?_
    refine hr_goto (tgt := 16) X dX3_comes_12 (by decide) ?_
    exact hr_zret X hr rfl dX3_comes_16 ⟨hz_b1 (decide_eq_true (by omega)), rfl⟩

theorem wa_cost {l : Launch} {D : hg_D} {lo : Nat} (htr : l.stackTraces = false) {G : hg_G} {ta : Nat → Nat} {t : sp_S} {x y z : Nat} {du q : Nat → Nat} (hR : wa_R G ta t x y z du q) (hw : sp_wf t) (hdu : ∀ d, d < 36 → ¬ t.1 16 d = 1 → du d ≤ 63) (hI : wk_I q) {d : Nat} (hd : d < 36) :
    hg_M l D lo yX3_cost (ws_ yX3_cost cX3_cost 2 ((some FieldType.int))) rm_X3_cost [.ref x, .int (nI d)] G (hg_Pv G (.int (nI (wk_cv (q d) / 100)))) := by
  refine hg_M.of htr (by decide) [some (.ref x), some (.int (nI d))] rfl (Nat.le_of_ble_eq_true rfl) ?_
  intro p e s m args below meth c X hr hnm htab
  have X : hg_X p l s m args meth c D lo "TaxOnLooks$Walks" cX3_cost 2 := X
  have hcv : wk_cv (q d) ≤ 1000000 := by rcases wk_cv_lt hI hd with h | h <;> omega
  refine hr_aload0 (q := 1) X dX3_cost_0 rfl ?_
  refine hr_getR (v := z) (q := 4) X dX3_cost_1 rfl fr_q229_3 rfl hR.1 hR.2.2.1 ?_
  refine hr_iload1 (q := 5) X dX3_cost_4 rfl ?_
  refine hr_ialdN (v := (nI (wk_cv (q d)))) (q := 6) X dX3_cost_5 rfl hR.2.2.2.2.1 (Or.inl rfl) (by omega) (by decide) (hR.2.2.2.2.2.2.2.2 _ (by omega)) ?_
  refine hr_bipush (v := (nI 100)) (q := 8) X dX3_cost_6 rfl rfl ?_
  refine hr_idiv (v := (nI ((wk_cv (q d)) / 100))) (q := 9) X dX3_cost_8 rfl (by decide) (pk_div (by omega) (by decide) (by decide)) ?_
  exact hr_iret X hr dX3_cost_9 ⟨rfl, rfl⟩

theorem wa_steps {l : Launch} {D : hg_D} {lo : Nat} (htr : l.stackTraces = false) {G : hg_G} {ta : Nat → Nat} {t : sp_S} {x y z : Nat} {du q : Nat → Nat} (hR : wa_R G ta t x y z du q) (hw : sp_wf t) (hdu : ∀ d, d < 36 → ¬ t.1 16 d = 1 → du d ≤ 63) (hI : wk_I q) {d : Nat} (hd : d < 36) :
    hg_M l D lo yX3_steps (ws_ yX3_steps cX3_steps 2 ((some FieldType.int))) rm_X3_steps [.ref x, .int (nI d)] G (hg_Pv G (.int (nI (wk_cv (q d) % 100)))) := by
  refine hg_M.of htr (by decide) [some (.ref x), some (.int (nI d))] rfl (Nat.le_of_ble_eq_true rfl) ?_
  intro p e s m args below meth c X hr hnm htab
  have X : hg_X p l s m args meth c D lo "TaxOnLooks$Walks" cX3_steps 2 := X
  have hcv : wk_cv (q d) ≤ 1000000 := by rcases wk_cv_lt hI hd with h | h <;> omega
  refine hr_aload0 (q := 1) X dX3_steps_0 rfl ?_
  refine hr_getR (v := z) (q := 4) X dX3_steps_1 rfl fr_q229_3 rfl hR.1 hR.2.2.1 ?_
  refine hr_iload1 (q := 5) X dX3_steps_4 rfl ?_
  refine hr_ialdN (v := (nI (wk_cv (q d)))) (q := 6) X dX3_steps_5 rfl hR.2.2.2.2.1 (Or.inl rfl) (by omega) (by decide) (hR.2.2.2.2.2.2.2.2 _ (by omega)) ?_
  refine hr_bipush (v := (nI 100)) (q := 8) X dX3_steps_6 rfl rfl ?_
  refine hr_irem (v := (nI ((wk_cv (q d)) % 100))) (q := 9) X dX3_steps_8 rfl (by decide) (pk_rem (by omega) (by decide) (by decide)) ?_
  exact hr_iret X hr dX3_steps_9 ⟨rfl, rfl⟩

theorem wa_owes {l : Launch} {D : hg_D} {lo : Nat} (htr : l.stackTraces = false) {G : hg_G} {ta : Nat → Nat} {t : sp_S} {x y z : Nat} {du q : Nat → Nat} (hR : wa_R G ta t x y z du q) (hw : sp_wf t) (hdu : ∀ d, d < 36 → ¬ t.1 16 d = 1 → du d ≤ 63) (hI : wk_I q) {d : Nat} (hd : d < 36) (hf : ¬ t.1 16 d = 1) :
    hg_M l D lo yX3_owes (ws_ yX3_owes cX3_owes 2 ((some FieldType.int))) rm_X3_owes [.ref x, .int (nI d)] G (hg_Pv G (.int (nI (du d)))) := by
  refine hg_M.of htr (by decide) [some (.ref x), some (.int (nI d))] rfl (Nat.le_of_ble_eq_true rfl) ?_
  intro p e s m args below meth c X hr hnm htab
  have X : hg_X p l s m args meth c D lo "TaxOnLooks$Walks" cX3_owes 2 := X
  have hcv : wk_cv (q d) ≤ 1000000 := by rcases wk_cv_lt hI hd with h | h <;> omega
  refine hr_aload0 (q := 1) X dX3_owes_0 rfl ?_
  refine hr_getR (v := y) (q := 4) X dX3_owes_1 rfl fr_q228_3 rfl hR.1 hR.2.1 ?_
  refine hr_iload1 (q := 5) X dX3_owes_4 rfl ?_
  refine hr_ialdN (v := (nI (du d))) (q := 6) X dX3_owes_5 rfl hR.2.2.2.1 (Or.inl rfl) (by omega) (by decide) (hR.2.2.2.2.2.2.2.1 _ (by omega) hf) ?_
  exact hr_iret X hr dX3_owes_6 ⟨rfl, rfl⟩

theorem wa_shortens {l : Launch} {D : hg_D} {lo : Nat} (htr : l.stackTraces = false) {G : hg_G} {ta : Nat → Nat} {t : sp_S} {x y z : Nat} {du q : Nat → Nat} (hR : wa_R G ta t x y z du q) (hw : sp_wf t) (hdu : ∀ d, d < 36 → ¬ t.1 16 d = 1 → du d ≤ 63) (hI : wk_I q) {i : Nat} (hc : i < 36) :
    hg_M l D lo yX3_shortens (ws_ yX3_shortens cX3_shortens 6 ((some FieldType.boolean))) rm_X3_shortens [.ref x, .ref (ta 0), .int (nI i)] G (fun r G' => r = .inl (some (.int (bI (wk_sq t du (q, false) i).2))) ∧ wa_R G' ta t x y z du (wk_sq t du (q, false) i).1 ∧ hg_fr (fun a => a = z) G G') := by
  refine hg_M.of htr (by decide) [some (.ref x), some (.ref (ta 0)), some (.int (nI i)), none, none, none] rfl (Nat.le_of_ble_eq_true rfl) ?_
  intro p e s m args below meth c X hr hnm htab
  have X : hg_X p l s m args meth c D lo "TaxOnLooks$Walks" cX3_shortens 6 := X
  have hfr : hg_fr (fun a => a = z) G G := hg_fr.rf
  refine hr_iconst (v := (nI 0)) (q := 1) X dX3_shortens_0 rfl rfl ?_
  refine hr_st1 (v' := .int (bI false)) (congrArg Value.int rfl) ?_
  refine hr_istore3 (q := 2) X dX3_shortens_1 rfl rfl (Nat.le_of_ble_eq_true rfl) ?_
  refine hr_iconst (v := (nI 0)) (q := 3) X dX3_shortens_2 rfl rfl ?_
  refine hr_istore4 (q := 5) X dX3_shortens_3 rfl rfl (Nat.le_of_ble_eq_true rfl) ?_
  have loop5 : ∀ (kr nr n : Nat) (v : Nat) (G1 : hg_G), (v ≤ 4) → (5 ≤ v + n) → (wa_R G1 ta t x y z du (wk_ws t du (q, false) i v).1) → (hg_fr (fun a => a = z) G G1) → (t.1 16 i = 1 → v = 0) → hg_W p l e rm_X3_shortens s m args below meth c (hg_Q below D lo args s rm_X3_shortens G (fun r G' => r = .inl (some (.int (bI (wk_sq t du (q, false) i).2))) ∧ wa_R G' ta t x y z du (wk_sq t du (q, false) i).1 ∧ hg_fr (fun a => a = z) G G')) D lo G.1 6 kr nr G1 5 [some (.ref x), some (.ref (ta 0)), some (.int (nI i)), some (.int (bI ((wk_ws t du (q, false) i v).2))), some (.int (nI v)), none] [] := by
    intro kr nr n
    induction n with
    | zero =>
      intro v G1 h5_0 h5_1 h5_2 h5_3 h5_4
      omega
    | succ n ih =>
      intro v G1 h5_0 h5_1 h5_2 h5_3 h5_4
      refine hr_iload4 (q := 7) X dX3_shortens_5 rfl ?_
      refine hr_iconst (v := (nI 4)) (q := 8) X dX3_shortens_7 rfl rfl ?_
      refine hr_icmpN_ge (q := 11) (tgt := 69) X dX3_shortens_8 rfl (by decide) (by omega) (by omega) (fun c8 => ?_) (fun c8 => ?_)
      · refine hr_iload3 (q := 70) X dX3_shortens_69 rfl ?_
        have hv4 : v = 4 := by omega
        subst hv4
        have hsq : wk_sq t du (q, false) i = wk_ws t du (q, false) i 4 := if_neg (fun h => absurd (h5_4 h) (by decide))
        exact hr_zret X hr (bI_nar _) dX3_shortens_70 (by rw [hsq]; exact ⟨rfl, h5_2, h5_3⟩)
      · have hIv : wk_I (wk_ws t du (q, false) i v).1 := wk_ws_I hdu hI hc v
        refine hr_aload1 (q := 12) X dX3_shortens_11 rfl ?_
        refine hr_iload2 (q := 13) X dX3_shortens_12 rfl ?_
        refine hr_callP (q := 16) (hc_V (n := 1) (ci := 2) (As := [.int (nI i)]) X dX3_shortens_13 rfl (tn_isFreeN X.tr h5_2.2.2.2.2.2.2.1 hw (z := i) (by omega)) q1124 cv_X2_isFree ⟨Nat.le_of_ble_eq_true rfl, Nat.le_of_ble_eq_true rfl⟩ rfl (Nat.le_of_ble_eq_true rfl) h5_2.2.2.2.2.2.2.1.ob rfl rfl) rfl ?_
        refine hr_ifB_eq (q := 19) (tgt := 69) X dX3_shortens_16 rfl (by decide) (fun c16 => ?_) (fun c16 => ?_)
        · refine hr_iload3 (q := 70) X dX3_shortens_69 rfl ?_
          have hwall : t.1 16 i = 1 := by simpa using c16
          have hv0 := h5_4 hwall
          subst hv0
          have hsq : wk_sq t du (q, false) i = (q, false) := if_pos hwall
          exact hr_zret X hr (bI_nar _) dX3_shortens_70 (by rw [hsq]; exact ⟨rfl, h5_2, h5_3⟩)
        · have hfree : ¬ t.1 16 i = 1 := by simpa using c16
          refine hr_aload1 (q := 20) X dX3_shortens_19 rfl ?_
          refine hr_iload2 (q := 21) X dX3_shortens_20 rfl ?_
          refine hr_iload4 (q := 23) X dX3_shortens_21 rfl ?_
          refine hr_callP (q := 26) (hc_V (n := 2) (ci := 2) (As := [.int (nI i), .int (nI v)]) X dX3_shortens_23 rfl (tn_beside X.tr h5_2.2.2.2.2.2.2.1 hw (z := i) (v := v) (by omega) (by omega)) q1130 cv_X2_beside ⟨Nat.le_of_ble_eq_true rfl, Nat.le_of_ble_eq_true rfl⟩ rfl (Nat.le_of_ble_eq_true rfl) h5_2.2.2.2.2.2.2.1.ob rfl rfl) rfl ?_
          refine hr_istore5 (q := 28) X dX3_shortens_26 rfl rfl (Nat.le_of_ble_eq_true rfl) ?_
          have hb99 := sp_bes_le (t := t) (w := v) hc
          refine hr_iload5 (q := 30) X dX3_shortens_28 rfl ?_
          refine hr_iconst (v := (-1)) (q := 31) X dX3_shortens_30 rfl rfl ?_
          refine hr_icmpO_eq (q := 34) (tgt := 63) X dX3_shortens_31 rfl (by decide) (by omega) (fun c31 => ?_) (fun c31 => ?_)
          · have hQ : wk_ws t du (q, false) i (v + 1) = wk_ws t du (q, false) i v := wk_rel_k (by have := sp_bes_y c31; omega)
            refine hr_iinc4 (v := (nI (v + 1))) (q := 66) X dX3_shortens_63 rfl (nI_add _ _) rfl (Nat.le_of_ble_eq_true rfl) ?_
            refine hr_goto (tgt := 5) X dX3_shortens_66 (by decide) ?_
            refine hr_fg5 ?_
            refine hr_L (L' := [some (.ref x), some (.ref (ta 0)), some (.int (nI i)), some (.int (bI ((wk_ws t du (q, false) i (v + 1)).2))), some (.int (nI (v + 1))), none]) (by rw [hQ]) ?_
            exact ih (v + 1) G1 (by omega) (by omega) (by rw [hQ]; exact h5_2) h5_3 (fun h => absurd h hfree)
          · have hbe := sp_bes_n c31
            have hbl := (sp_beside_lt (c := i) (w := v) hc).resolve_left hbe.1
            have hby := wk_by_lt (z := (wk_ws t du (q, false) i v).1) (c := i) (d := sp_beside i v) hIv hc hbl (hdu _ hbl hbe.2.1)
            have hbb := wk_by_le du (wk_ws t du (q, false) i v).1 (sp_beside i v) (hdu _ hbl hbe.2.1)
            have hcv : wk_cv ((wk_ws t du (q, false) i v).1 i) ≤ 1000000 := by rcases wk_cv_lt hIv hc with h | h <;> omega
            refine hr_L (L' := [some (.ref x), some (.ref (ta 0)), some (.int (nI i)), some (.int (bI ((wk_ws t du (q, false) i v).2))), some (.int (nI v)), some (.int (nI (sp_beside i v)))]) (by rw [hbe.2.2, oI_of (by omega)]) ?_
            refine hr_aload0 (q := 35) X dX3_shortens_34 rfl ?_
            refine hr_iload5 (q := 37) X dX3_shortens_35 rfl ?_
            refine hr_callP (q := 40) (hc_V (n := 1) (ci := 3) (As := [.int (nI (sp_beside i v))]) X dX3_shortens_37 rfl (wa_by X.tr h5_2 hw hdu hIv (d := sp_beside i v) (by omega) hbe.2.1) q1137 cv_X3_by ⟨Nat.le_of_ble_eq_true rfl, Nat.le_of_ble_eq_true rfl⟩ rfl (Nat.le_of_ble_eq_true rfl) h5_2.1 rfl rfl) rfl ?_
            refine hr_aload0 (q := 41) X dX3_shortens_40 rfl ?_
            refine hr_getR (v := z) (q := 44) X dX3_shortens_41 rfl fr_q229_3 rfl h5_2.1 h5_2.2.2.1 ?_
            refine hr_iload2 (q := 45) X dX3_shortens_44 rfl ?_
            refine hr_ialdN (v := (nI (wk_cv ((wk_ws t du (q, false) i v).1 i)))) (q := 46) X dX3_shortens_45 rfl h5_2.2.2.2.2.1 (Or.inl rfl) (by omega) (by decide) (h5_2.2.2.2.2.2.2.2.2 _ (by omega)) ?_
            refine hr_icmpN_ge (q := 49) (tgt := 63) X dX3_shortens_46 rfl (by decide) (by omega) (by omega) (fun c46 => ?_) (fun c46 => ?_)
            · have hQ : wk_ws t du (q, false) i (v + 1) = wk_ws t du (q, false) i v := wk_rel_k ((Decidable.em ((wk_ws t du (q, false) i v).1 (sp_beside i v) = 100000000)).elim (fun e => Or.inr (Or.inr (Or.inl e))) (fun e => Or.inr (Or.inr (Or.inr (Nat.not_lt.mp (fun h => absurd (hby.1.mpr ⟨e, h⟩) (by omega)))))))
              refine hr_iinc4 (v := (nI (v + 1))) (q := 66) X dX3_shortens_63 rfl (nI_add _ _) rfl (Nat.le_of_ble_eq_true rfl) ?_
              refine hr_goto (tgt := 5) X dX3_shortens_66 (by decide) ?_
              refine hr_fg5 ?_
              refine hr_L (L' := [some (.ref x), some (.ref (ta 0)), some (.int (nI i)), some (.int (bI ((wk_ws t du (q, false) i (v + 1)).2))), some (.int (nI (v + 1))), none]) (by rw [hQ]) ?_
              exact ih (v + 1) G1 (by omega) (by omega) (by rw [hQ]; exact h5_2) h5_3 (fun h => absurd h hfree)
            · have hby1 := hby.1.mp (by omega)
              have hQ : wk_ws t du (q, false) i (v + 1) = ((fun j => if j = i then (wk_ws t du (q, false) i v).1 (sp_beside i v) + 1000 * du (sp_beside i v) + 1 else (wk_ws t du (q, false) i v).1 j), true) := wk_rel_s hbe.1 hbe.2.1 hby1.1 hby1.2
              refine hr_aload0 (q := 50) X dX3_shortens_49 rfl ?_
              refine hr_getR (v := z) (q := 53) X dX3_shortens_50 rfl fr_q229_3 rfl h5_2.1 h5_2.2.2.1 ?_
              refine hr_iload2 (q := 54) X dX3_shortens_53 rfl ?_
              refine hr_aload0 (q := 55) X dX3_shortens_54 rfl ?_
              refine hr_iload5 (q := 57) X dX3_shortens_55 rfl ?_
              refine hr_callP (q := 60) (hc_V (n := 1) (ci := 3) (As := [.int (nI (sp_beside i v))]) X dX3_shortens_57 rfl (wa_by X.tr h5_2 hw hdu hIv (d := sp_beside i v) (by omega) hbe.2.1) q1137 cv_X3_by ⟨Nat.le_of_ble_eq_true rfl, Nat.le_of_ble_eq_true rfl⟩ rfl (Nat.le_of_ble_eq_true rfl) h5_2.1 rfl rfl) rfl ?_
              refine hr_iastN (q := 61) X dX3_shortens_60 rfl h5_2.2.2.2.2.1 (by omega) (by decide) ?_
              refine hr_iconst (v := (nI 1)) (q := 62) X dX3_shortens_61 rfl rfl ?_
              refine hr_st1 (v' := .int (bI true)) (congrArg Value.int rfl) ?_
              refine hr_istore3 (q := 63) X dX3_shortens_62 rfl rfl (Nat.le_of_ble_eq_true rfl) ?_
              refine hr_iinc4 (v := (nI (v + 1))) (q := 66) X dX3_shortens_63 rfl (nI_add _ _) rfl (Nat.le_of_ble_eq_true rfl) ?_
              refine hr_goto (tgt := 5) X dX3_shortens_66 (by decide) ?_
              refine hr_fg5 ?_
              refine hr_L (L' := [some (.ref x), some (.ref (ta 0)), some (.int (nI i)), some (.int (bI ((wk_ws t du (q, false) i (v + 1)).2))), some (.int (nI (v + 1))), none]) (by rw [hQ]) ?_
              exact ih (v + 1) _ (by omega) (by omega) (by rw [hQ]; rw [hby.2.1 hby1.1]; exact h5_2.set) (h5_3.I rfl) (fun h => absurd h hfree)
  exact loop5 _ _ 5 0 G (by omega) (by omega) hR hfr (fun _ => rfl)

theorem wa_first {l : Launch} {D : hg_D} {lo : Nat} (htr : l.stackTraces = false) {G : hg_G} {ta : Nat → Nat} {t : sp_S} {x y z : Nat} {du q : Nat → Nat} (hR : wa_R G ta t x y z du q) (hw : sp_wf t) (hdu : ∀ d, d < 36 → ¬ t.1 16 d = 1 → du d ≤ 63) (hI : wk_I q) (hJ : wk_J t du q) (hz : (wk_pass t du (q, false) 36).2 = false) {i : Nat} (hi : i < 36) (hm : ¬ q i = 100000000) :
    hg_M l D lo yX3_first (ws_ yX3_first cX3_first 7 ((some FieldType.int))) rm_X3_first [.ref x, .ref (ta 0), .int (nI i)] G (hg_Pv G (.int (nI (wk_first t du q i)))) := by
  refine hg_M.of htr (by decide) [some (.ref x), some (.ref (ta 0)), some (.int (nI i)), none, none, none, none] rfl (Nat.le_of_ble_eq_true rfl) ?_
  intro p e s m args below meth c X hr hnm htab
  have X : hg_X p l s m args meth c D lo "TaxOnLooks$Walks" cX3_first 7 := X
  have hcv : wk_cv (q i) ≤ 1000000 := by rcases wk_cv_lt hI hi with h | h <;> omega
  refine hr_iload2 (q := 1) X dX3_first_0 rfl ?_
  refine hr_istore3 (q := 2) X dX3_first_1 rfl rfl (Nat.le_of_ble_eq_true rfl) ?_
  refine hr_iconst (v := (nI 0)) (q := 3) X dX3_first_2 rfl rfl ?_
  refine hr_istore4 (q := 5) X dX3_first_3 rfl rfl (Nat.le_of_ble_eq_true rfl) ?_
  have loop5 : ∀ (kr nr n : Nat) (v : Nat), (v ≤ 4) → (5 ≤ v + n) → hg_W p l e rm_X3_first s m args below meth c (hg_Q below D lo args s rm_X3_first G (hg_Pv G (.int (nI (wk_first t du q i))))) D lo G.1 7 kr nr G 5 [some (.ref x), some (.ref (ta 0)), some (.int (nI i)), some (.int (nI (wk_F t du q i v))), some (.int (nI v)), none, none] [] := by
    intro kr nr n
    induction n with
    | zero =>
      intro v h5_0 h5_1
      omega
    | succ n ih =>
      intro v h5_0 h5_1
      refine hr_iload4 (q := 7) X dX3_first_5 rfl ?_
      refine hr_iconst (v := (nI 4)) (q := 8) X dX3_first_7 rfl rfl ?_
      refine hr_icmpN_ge (q := 11) (tgt := 86) X dX3_first_8 rfl (by decide) (by omega) (by omega) (fun c8 => ?_) (fun c8 => ?_)
      · refine hr_iload3 (q := 87) X dX3_first_86 rfl ?_
        exact hr_iret X hr dX3_first_87 ⟨hz_i (congrArg nI (by rw [show v = 4 by omega]; exact wk_F_end hJ hz hi hm)), rfl⟩
      · have hb99 := sp_bes_le (t := t) (w := v) hi
        have hFl := wk_F_lt (t := t) (du := du) (z := q) hi v
        refine hr_aload1 (q := 12) X dX3_first_11 rfl ?_
        refine hr_iload2 (q := 13) X dX3_first_12 rfl ?_
        refine hr_iload4 (q := 15) X dX3_first_13 rfl ?_
        refine hr_callP (q := 18) (hc_V (n := 2) (ci := 2) (As := [.int (nI i), .int (nI v)]) X dX3_first_15 rfl (tn_beside X.tr hR.2.2.2.2.2.2.1 hw (z := i) (v := v) (by omega) (by omega)) q1130 cv_X2_beside ⟨Nat.le_of_ble_eq_true rfl, Nat.le_of_ble_eq_true rfl⟩ rfl (Nat.le_of_ble_eq_true rfl) hR.2.2.2.2.2.2.1.ob rfl rfl) rfl ?_
        refine hr_istore5 (q := 20) X dX3_first_18 rfl rfl (Nat.le_of_ble_eq_true rfl) ?_
        refine hr_aload0 (q := 21) X dX3_first_20 rfl ?_
        refine hr_getR (v := z) (q := 24) X dX3_first_21 rfl fr_q229_3 rfl hR.1 hR.2.2.1 ?_
        refine hr_iload2 (q := 25) X dX3_first_24 rfl ?_
        refine hr_ialdN (v := (nI (wk_cv (q i)))) (q := 26) X dX3_first_25 rfl hR.2.2.2.2.1 (Or.inl rfl) (by omega) (by decide) (hR.2.2.2.2.2.2.2.2 _ (by omega)) ?_
        refine hr_ifN_le (q := 29) (tgt := 54) X dX3_first_26 rfl (by decide) (by omega) (fun c26 => ?_) (fun c26 => ?_)
        · have hq0 := wk_cv_0 hI hi (by omega)
          have hQ : wk_F t du q i (v + 1) = wk_F t du q i v := wk_F_k (Or.inr (Or.inr (Or.inr (Or.inl (by omega)))))
          refine hr_iconst (v := (nI 0)) (q := 55) X dX3_first_54 rfl rfl ?_
          refine hr_istore6 (q := 57) X dX3_first_55 rfl rfl (Nat.le_of_ble_eq_true rfl) ?_
          refine hr_iload6 (q := 59) X dX3_first_57 rfl ?_
          refine hr_if_eq (q := 62) (tgt := 78) X dX3_first_59 rfl (by decide) (fun _ => ?_) (fun z => absurd z (by decide))
          refine hr_iload3 (q := 79) X dX3_first_78 rfl ?_
          refine hr_istore3 (q := 80) X dX3_first_79 rfl rfl (Nat.le_of_ble_eq_true rfl) ?_
          refine hr_iinc4 (v := (nI (v + 1))) (q := 83) X dX3_first_80 rfl (nI_add _ _) rfl (Nat.le_of_ble_eq_true rfl) ?_
          refine hr_goto (tgt := 5) X dX3_first_83 (by decide) ?_
          refine hr_fg5 ?_
          refine hr_fg6 ?_
          refine hr_L (L' := [some (.ref x), some (.ref (ta 0)), some (.int (nI i)), some (.int (nI (wk_F t du q i (v + 1)))), some (.int (nI (v + 1))), none, none]) (by rw [hQ]) ?_
          exact ih (v + 1) (by omega) (by omega)
        · refine hr_iload5 (q := 31) X dX3_first_29 rfl ?_
          refine hr_iconst (v := (-1)) (q := 32) X dX3_first_31 rfl rfl ?_
          refine hr_icmpO_eq (q := 35) (tgt := 54) X dX3_first_32 rfl (by decide) (by omega) (fun c32 => ?_) (fun c32 => ?_)
          · have hQ : wk_F t du q i (v + 1) = wk_F t du q i v := wk_F_k (by have := sp_bes_y c32; omega)
            refine hr_iconst (v := (nI 0)) (q := 55) X dX3_first_54 rfl rfl ?_
            refine hr_istore6 (q := 57) X dX3_first_55 rfl rfl (Nat.le_of_ble_eq_true rfl) ?_
            refine hr_iload6 (q := 59) X dX3_first_57 rfl ?_
            refine hr_if_eq (q := 62) (tgt := 78) X dX3_first_59 rfl (by decide) (fun _ => ?_) (fun z => absurd z (by decide))
            refine hr_iload3 (q := 79) X dX3_first_78 rfl ?_
            refine hr_istore3 (q := 80) X dX3_first_79 rfl rfl (Nat.le_of_ble_eq_true rfl) ?_
            refine hr_iinc4 (v := (nI (v + 1))) (q := 83) X dX3_first_80 rfl (nI_add _ _) rfl (Nat.le_of_ble_eq_true rfl) ?_
            refine hr_goto (tgt := 5) X dX3_first_83 (by decide) ?_
            refine hr_fg5 ?_
            refine hr_fg6 ?_
            refine hr_L (L' := [some (.ref x), some (.ref (ta 0)), some (.int (nI i)), some (.int (nI (wk_F t du q i (v + 1)))), some (.int (nI (v + 1))), none, none]) (by rw [hQ]) ?_
            exact ih (v + 1) (by omega) (by omega)
          · have hbe := sp_bes_n c32
            have hbl := (sp_beside_lt (c := i) (w := v) hi).resolve_left hbe.1
            have hby := (wk_by_lt (z := q) (c := i) (d := sp_beside i v) hI hi hbl (hdu _ hbl hbe.2.1)).2.2 hm
            have hbb := wk_by_le du q (sp_beside i v) (hdu _ hbl hbe.2.1)
            refine hr_L (L' := [some (.ref x), some (.ref (ta 0)), some (.int (nI i)), some (.int (nI (wk_F t du q i v))), some (.int (nI v)), some (.int (nI (sp_beside i v))), none]) (by rw [hbe.2.2, oI_of (by omega)]) ?_
            refine hr_aload0 (q := 36) X dX3_first_35 rfl ?_
            refine hr_iload5 (q := 38) X dX3_first_36 rfl ?_
            refine hr_callP (q := 41) (hc_V (n := 1) (ci := 3) (As := [.int (nI (sp_beside i v))]) X dX3_first_38 rfl (wa_by X.tr hR hw hdu hI (d := sp_beside i v) (by omega) hbe.2.1) q1137 cv_X3_by ⟨Nat.le_of_ble_eq_true rfl, Nat.le_of_ble_eq_true rfl⟩ rfl (Nat.le_of_ble_eq_true rfl) hR.1 rfl rfl) rfl ?_
            refine hr_aload0 (q := 42) X dX3_first_41 rfl ?_
            refine hr_getR (v := z) (q := 45) X dX3_first_42 rfl fr_q229_3 rfl hR.1 hR.2.2.1 ?_
            refine hr_iload2 (q := 46) X dX3_first_45 rfl ?_
            refine hr_ialdN (v := (nI (wk_cv (q i)))) (q := 47) X dX3_first_46 rfl hR.2.2.2.2.1 (Or.inl rfl) (by omega) (by decide) (hR.2.2.2.2.2.2.2.2 _ (by omega)) ?_
            refine hr_icmpN_ne (q := 50) (tgt := 54) X dX3_first_47 rfl (by decide) (by omega) (by omega) (fun c47 => ?_) (fun c47 => ?_)
            · have hQ : wk_F t du q i (v + 1) = wk_F t du q i v := wk_F_k ((Decidable.em (q (sp_beside i v) = 100000000)).elim (fun e => Or.inr (Or.inr (Or.inl e))) (fun e => Or.inr (Or.inr (Or.inr (Or.inl (fun h => absurd (hby.mpr ⟨e, h⟩) (by omega)))))))
              refine hr_iconst (v := (nI 0)) (q := 55) X dX3_first_54 rfl rfl ?_
              refine hr_istore6 (q := 57) X dX3_first_55 rfl rfl (Nat.le_of_ble_eq_true rfl) ?_
              refine hr_iload6 (q := 59) X dX3_first_57 rfl ?_
              refine hr_if_eq (q := 62) (tgt := 78) X dX3_first_59 rfl (by decide) (fun _ => ?_) (fun z => absurd z (by decide))
              refine hr_iload3 (q := 79) X dX3_first_78 rfl ?_
              refine hr_istore3 (q := 80) X dX3_first_79 rfl rfl (Nat.le_of_ble_eq_true rfl) ?_
              refine hr_iinc4 (v := (nI (v + 1))) (q := 83) X dX3_first_80 rfl (nI_add _ _) rfl (Nat.le_of_ble_eq_true rfl) ?_
              refine hr_goto (tgt := 5) X dX3_first_83 (by decide) ?_
              refine hr_fg5 ?_
              refine hr_fg6 ?_
              refine hr_L (L' := [some (.ref x), some (.ref (ta 0)), some (.int (nI i)), some (.int (nI (wk_F t du q i (v + 1)))), some (.int (nI (v + 1))), none, none]) (by rw [hQ]) ?_
              exact ih (v + 1) (by omega) (by omega)
            · have hb1 := hby.mp (by omega)
              refine hr_iconst (v := (nI 1)) (q := 51) X dX3_first_50 rfl rfl ?_
              refine hr_goto (tgt := 55) X dX3_first_51 (by decide) ?_
              refine hr_istore6 (q := 57) X dX3_first_55 rfl rfl (Nat.le_of_ble_eq_true rfl) ?_
              refine hr_iload6 (q := 59) X dX3_first_57 rfl ?_
              refine hr_if_eq (q := 62) (tgt := 78) X dX3_first_59 rfl (by decide) (fun z => absurd z (by decide)) (fun _ => ?_)
              refine hr_iload3 (q := 63) X dX3_first_62 rfl ?_
              refine hr_iload2 (q := 64) X dX3_first_63 rfl ?_
              refine hr_icmpN_eq (q := 67) (tgt := 73) X dX3_first_64 rfl (by decide) (by omega) (by omega) (fun c64 => ?_) (fun c64 => ?_)
              · have hQ : wk_F t du q i (v + 1) = sp_beside i v := wk_F_y hbe.1 hbe.2.1 hb1.1 hb1.2 (Or.inl (wk_F_c hi (by omega) (by omega)))
                refine hr_iload5 (q := 75) X dX3_first_73 rfl ?_
                refine hr_goto (tgt := 79) X dX3_first_75 (by decide) ?_
                refine hr_istore3 (q := 80) X dX3_first_79 rfl rfl (Nat.le_of_ble_eq_true rfl) ?_
                refine hr_iinc4 (v := (nI (v + 1))) (q := 83) X dX3_first_80 rfl (nI_add _ _) rfl (Nat.le_of_ble_eq_true rfl) ?_
                refine hr_goto (tgt := 5) X dX3_first_83 (by decide) ?_
                refine hr_fg5 ?_
                refine hr_fg6 ?_
                refine hr_L (L' := [some (.ref x), some (.ref (ta 0)), some (.int (nI i)), some (.int (nI (wk_F t du q i (v + 1)))), some (.int (nI (v + 1))), none, none]) (by rw [hQ]) ?_
                exact ih (v + 1) (by omega) (by omega)
              · have hFn := wk_F_n (t := t) (du := du) (z := q) (c := i) (w := v) (by omega)
                refine hr_iload5 (q := 69) X dX3_first_67 rfl ?_
                refine hr_iload3 (q := 70) X dX3_first_69 rfl ?_
                refine hr_icmpN_ge (q := 73) (tgt := 78) X dX3_first_70 rfl (by decide) (by omega) (by omega) (fun c70 => ?_) (fun c70 => ?_)
                · have hQ : wk_F t du q i (v + 1) = wk_F t du q i v := wk_F_k (Or.inr (Or.inr (Or.inr (Or.inr (by omega)))))
                  refine hr_iload3 (q := 79) X dX3_first_78 rfl ?_
                  refine hr_istore3 (q := 80) X dX3_first_79 rfl rfl (Nat.le_of_ble_eq_true rfl) ?_
                  refine hr_iinc4 (v := (nI (v + 1))) (q := 83) X dX3_first_80 rfl (nI_add _ _) rfl (Nat.le_of_ble_eq_true rfl) ?_
                  refine hr_goto (tgt := 5) X dX3_first_83 (by decide) ?_
                  refine hr_fg5 ?_
                  refine hr_fg6 ?_
                  refine hr_L (L' := [some (.ref x), some (.ref (ta 0)), some (.int (nI i)), some (.int (nI (wk_F t du q i (v + 1)))), some (.int (nI (v + 1))), none, none]) (by rw [hQ]) ?_
                  exact ih (v + 1) (by omega) (by omega)
                · have hQ : wk_F t du q i (v + 1) = sp_beside i v := wk_F_y hbe.1 hbe.2.1 hb1.1 hb1.2 (Or.inr (by omega))
                  refine hr_iload5 (q := 75) X dX3_first_73 rfl ?_
                  refine hr_goto (tgt := 79) X dX3_first_75 (by decide) ?_
                  refine hr_istore3 (q := 80) X dX3_first_79 rfl rfl (Nat.le_of_ble_eq_true rfl) ?_
                  refine hr_iinc4 (v := (nI (v + 1))) (q := 83) X dX3_first_80 rfl (nI_add _ _) rfl (Nat.le_of_ble_eq_true rfl) ?_
                  refine hr_goto (tgt := 5) X dX3_first_83 (by decide) ?_
                  refine hr_fg5 ?_
                  refine hr_fg6 ?_
                  refine hr_L (L' := [some (.ref x), some (.ref (ta 0)), some (.int (nI i)), some (.int (nI (wk_F t du q i (v + 1)))), some (.int (nI (v + 1))), none, none]) (by rw [hQ]) ?_
                  exact ih (v + 1) (by omega) (by omega)
  exact loop5 _ _ 5 0 (by omega) (by omega)

theorem wa_find {l : Launch} {D : hg_D} {lo : Nat} (htr : l.stackTraces = false) {G : hg_G} {ta : Nat → Nat} {t : sp_S} {x y z : Nat} (hK : wa_K G x y z) (hT : tn_R G ta t) (hD : tn_D ta) (hw : sp_wf t) {i to : Nat} (hi : i < t.1 0 0) (hto : to < 36) (hf : ¬ t.1 16 to = 1) :
    hg_M l D lo yX3_find (ws_ yX3_find cX3_find 7 (none)) rm_X3_find [.ref x, .ref (ta 0), .int (nI i), .int (nI to)] G (fun r G' => r = .inl none ∧ wa_R G' ta t x y z (sp_dutyAt t i) (wk_fin t (sp_dutyAt t i) to) ∧ hg_fr (wa_W ta y z) G G') := by
  refine hg_M.of htr (by decide) [some (.ref x), some (.ref (ta 0)), some (.int (nI i)), some (.int (nI to)), none, none, none] rfl (Nat.le_of_ble_eq_true rfl) ?_
  intro p e s m args below meth c X hr hnm htab
  have X : hg_X p l s m args meth c D lo "TaxOnLooks$Walks" cX3_find 7 := X
  have w0 := hw.b0
  have h14 := hw.b14 (p := i) (by omega)
  have hto1 := hw.b16 hto
  have hfr : hg_fr (wa_W ta y z) G G := hg_fr.rf
  have hfree0 : t.1 16 (t.1 14 i) = 0 := hw.2.2.2.2.2.2.1 i hi
  refine hr_aload1 (q := 1) X dX3_find_0 rfl ?_
  refine hr_getR (v := (ta 4)) (q := 4) X dX3_find_1 rfl fr_q188_2 rfl hT.ob hT.f14 ?_
  refine hr_iload2 (q := 5) X dX3_find_4 rfl ?_
  have b1 := hw.b14 (p := i) (by omega)
  refine hr_ialdN (v := (nI (t.1 14 i))) (q := 6) X dX3_find_5 rfl hT.k4 (Or.inl rfl) (by omega) (by decide) (hT.e4 (by omega)) ?_
  refine hr_istore4 (q := 8) X dX3_find_6 rfl rfl (Nat.le_of_ble_eq_true rfl) ?_
  refine hr_iconst (v := (nI 0)) (q := 9) X dX3_find_8 rfl rfl ?_
  refine hr_istore5 (q := 11) X dX3_find_9 rfl rfl (Nat.le_of_ble_eq_true rfl) ?_
  have loop11 : ∀ (kr nr n : Nat) (c9 b : Nat) (G1 : hg_G), (c9 ≤ 36) → (37 ≤ c9 + n) → (wa_K G1 x y z) → (∀ j, j < c9 → G1.2.1 z j = nI (wk_cv (wk_m0 t to j))) → (∀ j, j < c9 → ¬ t.1 16 j = 1 → G1.2.1 y j = nI (sp_dutyAt t i j)) → (tn_R G1 ta (sp_set t 14 i b)) → (hg_fr (wa_W ta y z) G G1) → (b < 36 ∧ t.1 16 b = 0) → hg_W p l e rm_X3_find s m args below meth c (hg_Q below D lo args s rm_X3_find G (fun r G' => r = .inl none ∧ wa_R G' ta t x y z (sp_dutyAt t i) (wk_fin t (sp_dutyAt t i) to) ∧ hg_fr (wa_W ta y z) G G')) D lo G.1 7 kr nr G1 11 [some (.ref x), some (.ref (ta 0)), some (.int (nI i)), some (.int (nI to)), some (.int (nI (t.1 14 i))), some (.int (nI c9)), none] [] := by
    intro kr nr n
    induction n with
    | zero =>
      intro c9 b G1 h11_0 h11_1 h11_2 h11_3 h11_4 h11_5 h11_6 h11_7
      omega
    | succ n ih =>
      intro c9 b G1 h11_0 h11_1 h11_2 h11_3 h11_4 h11_5 h11_6 h11_7
      refine hr_iload5 (q := 13) X dX3_find_11 rfl ?_
      refine hr_bipush (v := (nI 36)) (q := 15) X dX3_find_13 rfl rfl ?_
      refine hr_icmpN_ge (q := 18) (tgt := 72) X dX3_find_15 rfl (by decide) (by omega) (by omega) (fun c15 => ?_) (fun c15 => ?_)
      · have hc36 : c9 = 36 := by omega
        subst hc36
        have hK11 := h11_2
        have hT11 := h11_5
        refine hr_aload1 (q := 73) X dX3_find_72 rfl ?_
        refine hr_getR (v := (ta 4)) (q := 76) X dX3_find_73 rfl fr_q188_2 rfl hT11.ob hT11.f14 ?_
        refine hr_iload2 (q := 77) X dX3_find_76 rfl ?_
        refine hr_iload4 (q := 79) X dX3_find_77 rfl ?_
        refine hr_iastN (q := 80) X dX3_find_79 rfl hT11.k4 (by omega) (by decide) ?_
        have Tg2 : tn_R (hs_I G1 (ta 4) i (nI (t.1 14 i))) ta (sp_set t 14 i (t.1 14 i)) := by have h := hT11.putA hD (i := 4) (a := 14) (p := i) (n := t.1 14 i) (Or.inr (Or.inr ⟨rfl, rfl⟩)); rw [sp_set_set] at h; exact h
        have hTt := Tg2
        rw [sp_set_id] at hTt
        have hR0 : wa_R (hs_I G1 (ta 4) i ((nI (t.1 14 i)))) ta t x y z (sp_dutyAt t i) (wk_m0 t to) := ⟨hK11.1, hK11.2.1, hK11.2.2.1, hK11.2.2.2.1, hK11.2.2.2.2.1, hK11.2.2.2.2.2, hTt, fun d hd hfd => (hs_Ine (Ne.symm (hT11.ka hK11.2.2.2.1 (by decide) 4 (by decide)))).trans (h11_4 d hd hfd), fun d hd => (hs_Ine (Ne.symm (hT11.ka hK11.2.2.2.2.1 (by decide) 4 (by decide)))).trans (h11_3 d hd)⟩
        have hdu : ∀ d, d < 36 → ¬ t.1 16 d = 1 → sp_dutyAt t i d ≤ 63 := fun d hd hfd => sp_dutyAt_free hw hd hfd
        refine hr_iconst (v := (nI 1)) (q := 81) X dX3_find_80 rfl rfl ?_
        refine hr_st1 (v' := .int (bI true)) (congrArg Value.int rfl) ?_
        refine hr_istore5 (q := 83) X dX3_find_81 rfl rfl (Nat.le_of_ble_eq_true rfl) ?_
        have loop83 : ∀ (n : Nat) (mm : Nat → Nat) (g : Bool) (G2 : hg_G), (1 ≤ n) → (g = true → sp_sum mm 36 + 2 ≤ n ∧ wk_run t (sp_dutyAt t i) n mm = wk_fin t (sp_dutyAt t i) to) → (g = false → mm = wk_fin t (sp_dutyAt t i) to) → (wa_R G2 ta t x y z (sp_dutyAt t i) mm) → (wk_I mm) → (hg_fr (wa_W ta y z) G G2) → hg_W p l e rm_X3_find s m args below meth c (hg_Q below D lo args s rm_X3_find G (fun r G' => r = .inl none ∧ wa_R G' ta t x y z (sp_dutyAt t i) (wk_fin t (sp_dutyAt t i) to) ∧ hg_fr (wa_W ta y z) G G')) D lo G.1 7 kr nr G2 83 [some (.ref x), some (.ref (ta 0)), some (.int (nI i)), some (.int (nI to)), some (.int (nI (t.1 14 i))), some (.int (bI g)), none] [] := by
          intro n
          induction n with
          | zero =>
            intro mm g G2 h83_0 h83_1 h83_2 h83_3 h83_4 h83_5
            omega
          | succ n ih =>
            intro mm g G2 h83_0 h83_1 h83_2 h83_3 h83_4 h83_5
            refine hr_iload5 (q := 85) X dX3_find_83 rfl ?_
            refine hr_ifB_eq (q := 88) (tgt := 122) X dX3_find_85 rfl (by decide) (fun c85 => ?_) (fun c85 => ?_)
            · exact hr_vret X hr dX3_find_122 ⟨rfl, by rw [← h83_2 (by simpa using c85)]; exact h83_3, h83_5⟩
            · refine hr_iconst (v := (nI 0)) (q := 89) X dX3_find_88 rfl rfl ?_
              refine hr_st1 (v' := .int (bI false)) (congrArg Value.int rfl) ?_
              refine hr_istore5 (q := 91) X dX3_find_89 rfl rfl (Nat.le_of_ble_eq_true rfl) ?_
              refine hr_iconst (v := (nI 0)) (q := 92) X dX3_find_91 rfl rfl ?_
              refine hr_istore6 (q := 94) X dX3_find_92 rfl rfl (Nat.le_of_ble_eq_true rfl) ?_
              have loop94 : ∀ (n : Nat) (c8 : Nat) (G3 : hg_G), (c8 ≤ 36) → (37 ≤ c8 + n) → (wa_R G3 ta t x y z (sp_dutyAt t i) (wk_pass t (sp_dutyAt t i) (mm, false) c8).1) → (hg_fr (wa_W ta y z) G G3) → hg_W p l e rm_X3_find s m args below meth c (hg_Q below D lo args s rm_X3_find G (fun r G' => r = .inl none ∧ wa_R G' ta t x y z (sp_dutyAt t i) (wk_fin t (sp_dutyAt t i) to) ∧ hg_fr (wa_W ta y z) G G')) D lo G.1 7 kr nr G3 94 [some (.ref x), some (.ref (ta 0)), some (.int (nI i)), some (.int (nI to)), some (.int (nI (t.1 14 i))), some (.int (bI ((wk_pass t (sp_dutyAt t i) (mm, false) c8).2))), some (.int (nI c8))] [] := by
                intro n
                induction n with
                | zero =>
                  intro c8 G3 h94_0 h94_1 h94_2 h94_3
                  omega
                | succ n ih94 =>
                  intro c8 G3 h94_0 h94_1 h94_2 h94_3
                  refine hr_iload6 (q := 96) X dX3_find_94 rfl ?_
                  refine hr_bipush (v := (nI 36)) (q := 98) X dX3_find_96 rfl rfl ?_
                  refine hr_icmpN_ge (q := 101) (tgt := 119) X dX3_find_98 rfl (by decide) (by omega) (by omega) (fun c98 => ?_) (fun c98 => ?_)
                  · have hc36 : c8 = 36 := by omega
                    subst hc36
                    refine hr_goto (tgt := 83) X dX3_find_119 (by decide) ?_
                    refine hr_fg6 ?_
                    exact ih (wk_pass t (sp_dutyAt t i) (mm, false) 36).1 (wk_pass t (sp_dutyAt t i) (mm, false) 36).2 G3 (by have := h83_1 c85; omega) (fun hz => ⟨by have := h83_1 c85; have := wk_pass_sum hz; omega, by rw [← (h83_1 c85).2]; exact (wk_run_y hz).symm⟩) (fun hz => by rw [← (h83_1 c85).2]; exact (wk_run_n hz).symm) h94_2 (wk_pass_I (q := (mm, false)) hdu h83_4 36 (Nat.le_refl _)) h94_3
                  · refine hr_iload5 (q := 103) X dX3_find_101 rfl ?_
                    refine hr_aload0 (q := 104) X dX3_find_103 rfl ?_
                    refine hr_aload1 (q := 105) X dX3_find_104 rfl ?_
                    refine hr_iload6 (q := 107) X dX3_find_105 rfl ?_
                    refine hr_call0 (q := 110) (hc_V (n := 2) (ci := 3) (As := [.ref (ta 0), .int (nI c8)]) X dX3_find_107 rfl (wa_shortens X.tr h94_2 hw hdu (wk_pass_I (q := (mm, false)) hdu h83_4 c8 (by omega)) (i := c8) (by omega)) q1126 cv_X3_shortens ⟨Nat.le_of_ble_eq_true rfl, Nat.le_of_ble_eq_true rfl⟩ rfl (Nat.le_of_ble_eq_true rfl) h94_2.1 rfl rfl) rfl (fun qx E G' hp => by cases hp.1) (fun r G4 hp _ => ?_)
                    obtain ⟨hv4, hR4, hf4⟩ := hp
                    cases hv4
                    refine hr_ior (v := (bI ((wk_pass t (sp_dutyAt t i) (mm, false) c8).2 || (wk_sq t (sp_dutyAt t i) ((wk_pass t (sp_dutyAt t i) (mm, false) c8).1, false) c8).2))) (q := 111) X dX3_find_110 rfl (bI_or _ _) ?_
                    refine hr_istore5 (q := 113) X dX3_find_111 rfl rfl (Nat.le_of_ble_eq_true rfl) ?_
                    refine hr_iinc6 (v := (nI (c8 + 1))) (q := 116) X dX3_find_113 rfl (nI_add _ _) rfl (Nat.le_of_ble_eq_true rfl) ?_
                    refine hr_goto (tgt := 94) X dX3_find_116 (by decide) ?_
                    have hsq : wk_pass t (sp_dutyAt t i) (mm, false) (c8 + 1) = _ := wk_sq_n1
                    refine hr_L (L' := [some (.ref x), some (.ref (ta 0)), some (.int (nI i)), some (.int (nI to)), some (.int (nI (t.1 14 i))), some (.int (bI ((wk_pass t (sp_dutyAt t i) (mm, false) (c8 + 1)).2))), some (.int (nI (c8 + 1)))]) (by rw [hsq]) ?_
                    exact ih94 (c8 + 1) G4 (by omega) (by omega) (by rw [hsq]; exact hR4) (h94_3.tr (hg_fr.wd hf4))
              exact loop94 37 0 G2 (by omega) (by omega) h83_3 h83_5
        exact loop83 (sp_sum (wk_m0 t to) 36 + 2) (wk_m0 t to) true (hs_I G1 (ta 4) i ((nI (t.1 14 i)))) (Nat.le_add_left 1 _) (fun _ => ⟨Nat.le_refl _, rfl⟩) (fun hz => nomatch hz) hR0 (wk_m0_I hto) (h11_6.I (Or.inr (Or.inr rfl)))
      · have hK11 := h11_2
        have hT11 := h11_5
        have hw11 : sp_wf (sp_set t 14 i b) := sp_wf_at hw h11_7.1 h11_7.2
        refine hr_aload0 (q := 19) X dX3_find_18 rfl ?_
        refine hr_getR (v := z) (q := 22) X dX3_find_19 rfl fr_q229_3 rfl hK11.1 hK11.2.2.1 ?_
        refine hr_iload5 (q := 24) X dX3_find_22 rfl ?_
        refine hr_iload5 (q := 26) X dX3_find_24 rfl ?_
        refine hr_iload3 (q := 27) X dX3_find_26 rfl ?_
        refine hr_icmpN_ne (q := 30) (tgt := 34) X dX3_find_27 rfl (by decide) (by omega) (by omega) (fun c27 => ?_) (fun c27 => ?_)
        · refine hr_ldc (q := 36) X dX3_find_34 rfl q1123 ?_
          refine hr_st1 (v' := .int (nI 1000000)) (congrArg Value.int rfl) ?_
          refine hr_iastN (q := 37) X dX3_find_36 rfl hK11.2.2.2.2.1 (by omega) (by decide) ?_
          have Tg3 : tn_R (hs_I G1 z c9 ((nI 1000000))) ta (sp_set t 14 i b) := hT11.putO (n := 36) hK11.2.2.2.2.1 (by decide)
          have hK37 : wa_K (hs_I G1 z c9 ((nI 1000000))) x y z := hK11
          refine hr_aload1 (q := 38) X dX3_find_37 rfl ?_
          refine hr_iload5 (q := 40) X dX3_find_38 rfl ?_
          refine hr_callP (q := 43) (hc_V (n := 1) (ci := 2) (As := [.int (nI c9)]) X dX3_find_40 rfl (tn_isFreeN X.tr Tg3 hw11 (z := c9) (by omega)) q1124 cv_X2_isFree ⟨Nat.le_of_ble_eq_true rfl, Nat.le_of_ble_eq_true rfl⟩ rfl (Nat.le_of_ble_eq_true rfl) Tg3.ob rfl rfl) rfl ?_
          refine hr_ifB_eq (q := 46) (tgt := 66) X dX3_find_43 rfl (by decide) (fun c43 => ?_) (fun c43 => ?_)
          · refine hr_iinc5 (v := (nI (c9 + 1))) (q := 69) X dX3_find_66 rfl (nI_add _ _) rfl (Nat.le_of_ble_eq_true rfl) ?_
            refine hr_goto (tgt := 11) X dX3_find_69 (by decide) ?_
            have hlo : ∀ j, j < c9 + 1 → (hs_I G1 z c9 ((nI 1000000))).2.1 z j = nI (wk_cv (wk_m0 t to j)) := fun j hj => by
              show (hs_I G1 z c9 (nI 1000000)).2.1 z j = _
              rw [hs_Iif]
              by_cases e : j = c9
              · rw [if_pos e, e, wk_m0_v hf hto1, if_neg c27]; rfl
              · rw [if_neg e]; exact h11_3 j (by omega)
            have how : ∀ j, j < c9 + 1 → ¬ t.1 16 j = 1 → (hs_I G1 z c9 ((nI 1000000))).2.1 y j = nI (sp_dutyAt t i j) := fun j hj hfj => by
              refine (hs_Ine hK11.2.2.2.2.2).trans (h11_4 j ?_ hfj)
              have hwl : t.1 16 c9 = 1 := by simpa [sp_set_o] using c43
              by_cases e : j = c9
              · rw [e] at hfj; exact absurd hwl hfj
              · omega
            exact ih (c9 + 1) b (hs_I G1 z c9 ((nI 1000000))) (by omega) (by omega) hK11 hlo how Tg3 (h11_6.I (Or.inr (Or.inl rfl))) ⟨by omega, by omega⟩
          · have hfc : ¬ t.1 16 c9 = 1 := by simpa [sp_set_o] using c43
            have h16c := hw.b16 (c := c9) (by omega)
            have hw9 : sp_wf (sp_set t 14 i c9) := sp_wf_at hw (by omega) (by omega)
            refine hr_aload1 (q := 47) X dX3_find_46 rfl ?_
            refine hr_getR (v := (ta 4)) (q := 50) X dX3_find_47 rfl fr_q188_2 rfl Tg3.ob Tg3.f14 ?_
            refine hr_iload2 (q := 51) X dX3_find_50 rfl ?_
            refine hr_iload5 (q := 53) X dX3_find_51 rfl ?_
            refine hr_iastN (q := 54) X dX3_find_53 rfl Tg3.k4 (by omega) (by decide) ?_
            have Tg4 : tn_R (hs_I (hs_I G1 z c9 ((nI 1000000))) (ta 4) i (nI c9)) ta (sp_set t 14 i c9) := by have h := Tg3.putA hD (i := 4) (a := 14) (p := i) (n := c9) (Or.inr (Or.inr ⟨rfl, rfl⟩)); rw [sp_set_set] at h; exact h
            refine hr_aload0 (q := 55) X dX3_find_54 rfl ?_
            refine hr_getR (v := y) (q := 58) X dX3_find_55 rfl fr_q228_3 rfl hK11.1 hK11.2.1 ?_
            refine hr_iload5 (q := 60) X dX3_find_58 rfl ?_
            refine hr_aload1 (q := 61) X dX3_find_60 rfl ?_
            refine hr_iload2 (q := 62) X dX3_find_61 rfl ?_
            refine hr_callP (q := 65) (hc_V (n := 1) (ci := 2) (As := [.int (nI i)]) X dX3_find_62 rfl (tn_duty X.tr Tg4 hw9 (x := i) (by have : (sp_set t 14 i c9).1 0 0 = t.1 0 0 := rfl; omega)) q1125 cv_X2_duty ⟨Nat.le_of_ble_eq_true rfl, Nat.le_of_ble_eq_true rfl⟩ rfl (Nat.le_of_ble_eq_true rfl) Tg4.ob rfl rfl) rfl ?_
            refine hr_iastN (q := 66) X dX3_find_65 rfl hK11.2.2.2.1 (by omega) (by decide) ?_
            have Tg5 : tn_R (hs_I (hs_I (hs_I G1 z c9 ((nI 1000000))) (ta 4) i ((nI c9))) y c9 ((nI (sp_owes (sp_set t 14 i c9) i)))) ta (sp_set t 14 i c9) := Tg4.putO (n := 36) hK11.2.2.2.1 (by decide)
            refine hr_iinc5 (v := (nI (c9 + 1))) (q := 69) X dX3_find_66 rfl (nI_add _ _) rfl (Nat.le_of_ble_eq_true rfl) ?_
            refine hr_goto (tgt := 11) X dX3_find_69 (by decide) ?_
            have hlo : ∀ j, j < c9 + 1 → (hs_I (hs_I (hs_I G1 z c9 ((nI 1000000))) (ta 4) i ((nI c9))) y c9 ((nI (sp_owes (sp_set t 14 i c9) i)))).2.1 z j = nI (wk_cv (wk_m0 t to j)) := fun j hj => by
              refine (hs_Ine (Ne.symm hK11.2.2.2.2.2)).trans ((hs_Ine (Ne.symm (hT11.ka hK11.2.2.2.2.1 (by decide) 4 (by decide)))).trans ?_)
              show (hs_I G1 z c9 (nI 1000000)).2.1 z j = _
              rw [hs_Iif]
              by_cases e : j = c9
              · rw [if_pos e, e, wk_m0_v hf hto1, if_neg c27]; rfl
              · rw [if_neg e]; exact h11_3 j (by omega)
            have how : ∀ j, j < c9 + 1 → ¬ t.1 16 j = 1 → (hs_I (hs_I (hs_I G1 z c9 ((nI 1000000))) (ta 4) i ((nI c9))) y c9 ((nI (sp_owes (sp_set t 14 i c9) i)))).2.1 y j = nI (sp_dutyAt t i j) := fun j hj hfj => by
              rw [hs_Iif]
              by_cases e : j = c9
              · rw [if_pos e, e, sp_dutyAt, if_neg (by rw [← e]; exact hfj)]
              · rw [if_neg e]
                exact (hs_Ine (Ne.symm (hT11.ka hK11.2.2.2.1 (by decide) 4 (by decide)))).trans ((hs_Ine hK11.2.2.2.2.2).trans (h11_4 j (by omega) hfj))
            exact ih (c9 + 1) c9 (hs_I (hs_I (hs_I G1 z c9 ((nI 1000000))) (ta 4) i ((nI c9))) y c9 ((nI (sp_owes (sp_set t 14 i c9) i)))) (by omega) (by omega) hK11 hlo how Tg5 (((h11_6.I (Or.inr (Or.inl rfl))).I (Or.inr (Or.inr rfl))).I (Or.inl rfl)) ⟨by omega, by omega⟩
        · refine hr_iconst (v := (nI 0)) (q := 31) X dX3_find_30 rfl rfl ?_
          refine hr_goto (tgt := 36) X dX3_find_31 (by decide) ?_
          refine hr_iastN (q := 37) X dX3_find_36 rfl hK11.2.2.2.2.1 (by omega) (by decide) ?_
          have Tg6 : tn_R (hs_I G1 z c9 ((nI 0))) ta (sp_set t 14 i b) := hT11.putO (n := 36) hK11.2.2.2.2.1 (by decide)
          have hK37 : wa_K (hs_I G1 z c9 ((nI 0))) x y z := hK11
          refine hr_aload1 (q := 38) X dX3_find_37 rfl ?_
          refine hr_iload5 (q := 40) X dX3_find_38 rfl ?_
          refine hr_callP (q := 43) (hc_V (n := 1) (ci := 2) (As := [.int (nI c9)]) X dX3_find_40 rfl (tn_isFreeN X.tr Tg6 hw11 (z := c9) (by omega)) q1124 cv_X2_isFree ⟨Nat.le_of_ble_eq_true rfl, Nat.le_of_ble_eq_true rfl⟩ rfl (Nat.le_of_ble_eq_true rfl) Tg6.ob rfl rfl) rfl ?_
          refine hr_ifB_eq (q := 46) (tgt := 66) X dX3_find_43 rfl (by decide) (fun c43 => ?_) (fun c43 => ?_)
          · refine hr_iinc5 (v := (nI (c9 + 1))) (q := 69) X dX3_find_66 rfl (nI_add _ _) rfl (Nat.le_of_ble_eq_true rfl) ?_
            refine hr_goto (tgt := 11) X dX3_find_69 (by decide) ?_
            have hlo : ∀ j, j < c9 + 1 → (hs_I G1 z c9 ((nI 0))).2.1 z j = nI (wk_cv (wk_m0 t to j)) := fun j hj => by
              show (hs_I G1 z c9 (nI 0)).2.1 z j = _
              rw [hs_Iif]
              by_cases e : j = c9
              · rw [if_pos e, e, wk_m0_v hf hto1, if_pos c27]; rfl
              · rw [if_neg e]; exact h11_3 j (by omega)
            have how : ∀ j, j < c9 + 1 → ¬ t.1 16 j = 1 → (hs_I G1 z c9 ((nI 0))).2.1 y j = nI (sp_dutyAt t i j) := fun j hj hfj => by
              refine (hs_Ine hK11.2.2.2.2.2).trans (h11_4 j ?_ hfj)
              have hwl : t.1 16 c9 = 1 := by simpa [sp_set_o] using c43
              by_cases e : j = c9
              · rw [e] at hfj; exact absurd hwl hfj
              · omega
            exact ih (c9 + 1) b (hs_I G1 z c9 ((nI 0))) (by omega) (by omega) hK11 hlo how Tg6 (h11_6.I (Or.inr (Or.inl rfl))) ⟨by omega, by omega⟩
          · have hfc : ¬ t.1 16 c9 = 1 := by simpa [sp_set_o] using c43
            have h16c := hw.b16 (c := c9) (by omega)
            have hw9 : sp_wf (sp_set t 14 i c9) := sp_wf_at hw (by omega) (by omega)
            refine hr_aload1 (q := 47) X dX3_find_46 rfl ?_
            refine hr_getR (v := (ta 4)) (q := 50) X dX3_find_47 rfl fr_q188_2 rfl Tg6.ob Tg6.f14 ?_
            refine hr_iload2 (q := 51) X dX3_find_50 rfl ?_
            refine hr_iload5 (q := 53) X dX3_find_51 rfl ?_
            refine hr_iastN (q := 54) X dX3_find_53 rfl Tg6.k4 (by omega) (by decide) ?_
            have Tg7 : tn_R (hs_I (hs_I G1 z c9 ((nI 0))) (ta 4) i (nI c9)) ta (sp_set t 14 i c9) := by have h := Tg6.putA hD (i := 4) (a := 14) (p := i) (n := c9) (Or.inr (Or.inr ⟨rfl, rfl⟩)); rw [sp_set_set] at h; exact h
            refine hr_aload0 (q := 55) X dX3_find_54 rfl ?_
            refine hr_getR (v := y) (q := 58) X dX3_find_55 rfl fr_q228_3 rfl hK11.1 hK11.2.1 ?_
            refine hr_iload5 (q := 60) X dX3_find_58 rfl ?_
            refine hr_aload1 (q := 61) X dX3_find_60 rfl ?_
            refine hr_iload2 (q := 62) X dX3_find_61 rfl ?_
            refine hr_callP (q := 65) (hc_V (n := 1) (ci := 2) (As := [.int (nI i)]) X dX3_find_62 rfl (tn_duty X.tr Tg7 hw9 (x := i) (by have : (sp_set t 14 i c9).1 0 0 = t.1 0 0 := rfl; omega)) q1125 cv_X2_duty ⟨Nat.le_of_ble_eq_true rfl, Nat.le_of_ble_eq_true rfl⟩ rfl (Nat.le_of_ble_eq_true rfl) Tg7.ob rfl rfl) rfl ?_
            refine hr_iastN (q := 66) X dX3_find_65 rfl hK11.2.2.2.1 (by omega) (by decide) ?_
            have Tg8 : tn_R (hs_I (hs_I (hs_I G1 z c9 ((nI 0))) (ta 4) i ((nI c9))) y c9 ((nI (sp_owes (sp_set t 14 i c9) i)))) ta (sp_set t 14 i c9) := Tg7.putO (n := 36) hK11.2.2.2.1 (by decide)
            refine hr_iinc5 (v := (nI (c9 + 1))) (q := 69) X dX3_find_66 rfl (nI_add _ _) rfl (Nat.le_of_ble_eq_true rfl) ?_
            refine hr_goto (tgt := 11) X dX3_find_69 (by decide) ?_
            have hlo : ∀ j, j < c9 + 1 → (hs_I (hs_I (hs_I G1 z c9 ((nI 0))) (ta 4) i ((nI c9))) y c9 ((nI (sp_owes (sp_set t 14 i c9) i)))).2.1 z j = nI (wk_cv (wk_m0 t to j)) := fun j hj => by
              refine (hs_Ine (Ne.symm hK11.2.2.2.2.2)).trans ((hs_Ine (Ne.symm (hT11.ka hK11.2.2.2.2.1 (by decide) 4 (by decide)))).trans ?_)
              show (hs_I G1 z c9 (nI 0)).2.1 z j = _
              rw [hs_Iif]
              by_cases e : j = c9
              · rw [if_pos e, e, wk_m0_v hf hto1, if_pos c27]; rfl
              · rw [if_neg e]; exact h11_3 j (by omega)
            have how : ∀ j, j < c9 + 1 → ¬ t.1 16 j = 1 → (hs_I (hs_I (hs_I G1 z c9 ((nI 0))) (ta 4) i ((nI c9))) y c9 ((nI (sp_owes (sp_set t 14 i c9) i)))).2.1 y j = nI (sp_dutyAt t i j) := fun j hj hfj => by
              rw [hs_Iif]
              by_cases e : j = c9
              · rw [if_pos e, e, sp_dutyAt, if_neg (by rw [← e]; exact hfj)]
              · rw [if_neg e]
                exact (hs_Ine (Ne.symm (hT11.ka hK11.2.2.2.1 (by decide) 4 (by decide)))).trans ((hs_Ine hK11.2.2.2.2.2).trans (h11_4 j (by omega) hfj))
            exact ih (c9 + 1) c9 (hs_I (hs_I (hs_I G1 z c9 ((nI 0))) (ta 4) i ((nI c9))) y c9 ((nI (sp_owes (sp_set t 14 i c9) i)))) (by omega) (by omega) hK11 hlo how Tg8 (((h11_6.I (Or.inr (Or.inl rfl))).I (Or.inr (Or.inr rfl))).I (Or.inl rfl)) ⟨by omega, by omega⟩
  exact loop11 _ _ 37 0 (t.1 14 i) G (by omega) (by omega) hK (fun j hj => absurd hj (Nat.not_lt_zero _)) (fun j hj => absurd hj (Nat.not_lt_zero _)) (by rw [sp_set_id]; exact hT) hfr ⟨h14, hfree0⟩

