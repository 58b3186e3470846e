theorem ab_i42 {u : tw_S} {A : ab_S} (h : tw_A u A) (v : Int32) : tw_A (tw_setS u 42 v) (ab_i A 42 v) := h.iS (by decide) v

def sq_act (a1 : Int32) (a2 : Int32) (a3 : Int32) (A : ab_S) : Int32 × ab_S :=
  if sp_in a1 (A.1.1 0 0) = true then if a2 < 0 then ((nI 0), ab_i A 42 (nI 0))
    else if a2 ≤ (nI 2) then if a2 = 0 then (((sq_looking (iN a1) a3 0 (ab_i A 42 (nI 0))).1), (sq_looking (iN a1) a3 0 (ab_i A 42 (nI 0))).2)
      else if a2 = (nI 1) then (((sq_walking (iN a1) a3 0 (ab_i A 42 (nI 0))).1), (sq_walking (iN a1) a3 0 (ab_i A 42 (nI 0))).2)
      else (((sq_paying (iN a1) a3 0 (ab_i A 42 (nI 0))).1), (sq_paying (iN a1) a3 0 (ab_i A 42 (nI 0))).2)
    else ((nI 0), ab_i A 42 (nI 0))
  else ((nI 0), ab_i A 42 (nI 0))
theorem tk_act {l : Launch} {D : hg_D} {lo : Nat} (htr : l.stackTraces = false) {G : hg_G} {o : Nat} {am : Nat → Nat} {u : tw_S} {A : ab_S} (hR : tw_R G o am u) (hA : tw_A u A) {a1 : Int32} {a2 : Int32} {a3 : Int32} (hW : ab_wf A) :
    hg_M l D lo yX5_act (ws_ yX5_act cX5_act 4 ((some FieldType.int))) rm_X5_act [.ref o, .int a1, .int a2, .int a3] G (tw_Po o am (sq_act a1 a2 a3 A)) := by
  have hw := hW.w; have w0 := hw.b0; have w1 := hw.b1; have w2 := hw.b2; have w3 := hw.b3; have w36 := hW.b36; have w43 := hW.b43
  refine hg_M.of htr (by decide) [some (.ref o), some (.int a1), some (.int a2), some (.int a3)] rfl (Nat.le_of_ble_eq_true rfl) ?_
  intro p e s m args below meth c X hr hnm htab
  have X : hg_X p l s m args meth c D lo "TaxOnLooksModel" cX5_act 4 := X
  refine hr_aload0 (q := 1) X dX5_act_0 rfl ?_
  refine hr_iconst (v := (nI 0)) (q := 2) X dX5_act_1 rfl rfl ?_
  refine hr_putI (q := 5) X dX5_act_2 rfl fw_q1424_5 (fun h => nomatch h) rfl rfl rfl hR.om ?_
  have hR1 := hR.setS 42 (nI 0)
  have hA1 := hA.iS (k := 42) (by decide) (nI 0)
  refine hr_aload0 (q := 6) X dX5_act_5 rfl ?_
  refine hr_iload1 (q := 7) X dX5_act_6 rfl ?_
  refine hr_callP (v := .int (bI (sp_in a1 (A.1.1 0 0)))) (q := 10) (hc_V (n := 1) (ci := 5) (As := [.int a1]) X dX5_act_7 rfl (tk_isOne X.tr hR1 hA1.t a1) q1543 cv_X5_isOne ⟨Nat.le_of_ble_eq_true rfl, Nat.le_of_ble_eq_true rfl⟩ rfl (Nat.le_of_ble_eq_true rfl) hR1.om rfl rfl) rfl ?_
  refine hr_ifB_eq (q := 13) (tgt := 22) X dX5_act_10 rfl (by decide) (fun c10 => ?_) (fun c10 => ?_)
  · refine hr_iconst (v := (nI 0)) (q := 23) X dX5_act_22 rfl rfl ?_
    exact hr_iret X hr dX5_act_23 (tw_end (by rw [sq_act, if_neg (by rw [c10]; decide)]) hR1 hA1)
  · have n13_1 := sp_inN (by omega) c10
    refine hr_L (L' := [some (.ref o), some (.int (nI (iN a1))), some (.int a2), some (.int a3)]) (by rw [← n13_1.1]) ?_
    refine hr_iload2 (q := 14) X dX5_act_13 rfl ?_
    refine hr_if_lt (q := 17) (tgt := 22) X dX5_act_14 rfl (by decide) (fun c14 => ?_) (fun c14 => ?_)
    · refine hr_iconst (v := (nI 0)) (q := 23) X dX5_act_22 rfl rfl ?_
      exact hr_iret X hr dX5_act_23 (tw_end (by rw [sq_act, if_pos c10, if_pos c14]) hR1 hA1)
    · refine hr_iload2 (q := 18) X dX5_act_17 rfl ?_
      refine hr_iconst (v := (nI 2)) (q := 19) X dX5_act_18 rfl rfl ?_
      refine hr_icmp_le (q := 22) (tgt := 24) X dX5_act_19 rfl (by decide) (fun c19 => ?_) (fun c19 => ?_)
      · refine hr_iload2 (q := 25) X dX5_act_24 rfl ?_
        refine hr_if_ne (q := 28) (tgt := 37) X dX5_act_25 rfl (by decide) (fun c25 => ?_) (fun c25 => ?_)
        · refine hr_iload2 (q := 38) X dX5_act_37 rfl ?_
          refine hr_iconst (v := (nI 1)) (q := 39) X dX5_act_38 rfl rfl ?_
          refine hr_icmp_ne (q := 42) (tgt := 51) X dX5_act_39 rfl (by decide) (fun c39 => ?_) (fun c39 => ?_)
          · refine hr_aload0 (q := 52) X dX5_act_51 rfl ?_
            refine hr_iload1 (q := 53) X dX5_act_52 rfl ?_
            refine hr_iload3 (q := 54) X dX5_act_53 rfl ?_
            refine hr_callT (q := 57) (hc_V (n := 2) (ci := 5) (As := [.int (nI (iN a1)), .int a3]) X dX5_act_54 rfl (tk_paying X.tr hR1 hA1 (hW.same rfl rfl) (k1 := iN a1) (a2 := a3) (r := 0) (by show iN a1 < A.1.1 0 0; omega) rfl (by decide)) q1837 cv_X5_paying ⟨Nat.le_of_ble_eq_true rfl, Nat.le_of_ble_eq_true rfl⟩ rfl (Nat.le_of_ble_eq_true rfl) hR1.om rfl rfl) rfl (fun G2 u2 hR2 hA2 => ?_)
            exact hr_iret X hr dX5_act_57 (tw_end (by rw [sq_act, if_pos c10, if_neg c14, if_pos c19, if_neg c25, if_neg c39]) hR2 hA2)
          · refine hr_aload0 (q := 43) X dX5_act_42 rfl ?_
            refine hr_iload1 (q := 44) X dX5_act_43 rfl ?_
            refine hr_iload3 (q := 45) X dX5_act_44 rfl ?_
            refine hr_callT (q := 48) (hc_V (n := 2) (ci := 5) (As := [.int (nI (iN a1)), .int a3]) X dX5_act_45 rfl (tk_walking X.tr hR1 hA1 (hW.same rfl rfl) (k1 := iN a1) (a2 := a3) (r := 0) (by show iN a1 < A.1.1 0 0; omega) rfl (by decide)) q1833 cv_X5_walking ⟨Nat.le_of_ble_eq_true rfl, Nat.le_of_ble_eq_true rfl⟩ rfl (Nat.le_of_ble_eq_true rfl) hR1.om rfl rfl) rfl (fun G3 u3 hR3 hA3 => ?_)
            refine hr_goto (tgt := 57) X dX5_act_48 (by decide) ?_
            exact hr_iret X hr dX5_act_57 (tw_end (by rw [sq_act, if_pos c10, if_neg c14, if_pos c19, if_neg c25, if_pos c39]) hR3 hA3)
        · refine hr_aload0 (q := 29) X dX5_act_28 rfl ?_
          refine hr_iload1 (q := 30) X dX5_act_29 rfl ?_
          refine hr_iload3 (q := 31) X dX5_act_30 rfl ?_
          refine hr_callT (q := 34) (hc_V (n := 2) (ci := 5) (As := [.int (nI (iN a1)), .int a3]) X dX5_act_31 rfl (tk_looking X.tr hR1 hA1 (hW.same rfl rfl) (k1 := iN a1) (a2 := a3) (r := 0) (by show iN a1 < A.1.1 0 0; omega) rfl (by decide)) q1825 cv_X5_looking ⟨Nat.le_of_ble_eq_true rfl, Nat.le_of_ble_eq_true rfl⟩ rfl (Nat.le_of_ble_eq_true rfl) hR1.om rfl rfl) rfl (fun G4 u4 hR4 hA4 => ?_)
          refine hr_goto (tgt := 57) X dX5_act_34 (by decide) ?_
          exact hr_iret X hr dX5_act_57 (tw_end (by rw [sq_act, if_pos c10, if_neg c14, if_pos c19, if_pos c25]) hR4 hA4)
      · refine hr_iconst (v := (nI 0)) (q := 23) X dX5_act_22 rfl rfl ?_
        exact hr_iret X hr dX5_act_23 (tw_end (by rw [sq_act, if_pos c10, if_neg c14, if_neg c19]) hR1 hA1)

theorem tk_draw {l : Launch} {D : hg_D} {lo : Nat} (htr : l.stackTraces = false) {G : hg_G} {o : Nat} {am : Nat → Nat} {u : tw_S} {A : ab_S} (hR : tw_R G o am u) (hA : tw_A u A) {k : Nat} (hk : 0 < k) (hk2 : k < 2 ^ 31) :
    hg_M l D lo yX5_draw (ws_ yX5_draw cX5_draw 2 ((some FieldType.int))) rm_X5_draw [.ref o, .int (nI k)] G (tw_Po o am (sq_drawn k (sq_next (A.1.2 6)), ab_i A 6 (sq_next (A.1.2 6)))) := by
  refine hg_M.of htr (by decide) [some (.ref o), some (.int (nI k))] rfl (Nat.le_of_ble_eq_true rfl) ?_
  intro p e s m args below meth c X hr hnm htab
  have X : hg_X p l s m args meth c D lo "TaxOnLooksModel" cX5_draw 2 := X
  refine hr_aload0 (q := 1) X dX5_draw_0 rfl ?_
  refine hr_aload0 (q := 2) X dX5_draw_1 rfl ?_
  refine hr_getI (v := (A.1.2 6)) (q := 5) X dX5_draw_2 rfl fr_q1388_5 rfl hR.om ((hR.sc 6).trans (hA.f6)) ?_
  refine hr_ldcw (q := 8) X dX5_draw_5 rfl q1816 ?_
  refine hr_imul (v := ((A.1.2 6) * 1103515245)) (q := 9) X dX5_draw_8 rfl rfl ?_
  refine hr_sipush (v := (nI 12345)) (q := 12) X dX5_draw_9 rfl rfl ?_
  refine hr_iadd (v := (sq_next (A.1.2 6))) (q := 13) X dX5_draw_12 rfl (sq_next_eq _) ?_
  refine hr_putI (q := 16) X dX5_draw_13 rfl fw_q1388_5 (fun h => nomatch h) rfl rfl rfl hR.om ?_
  have hR1 := hR.setS 6 (sq_next (A.1.2 6))
  have hA1 := hA.iS (k := 6) (by decide) (sq_next (A.1.2 6))
  refine hr_aload0 (q := 17) X dX5_draw_16 rfl ?_
  refine hr_getI (v := (sq_next (A.1.2 6))) (q := 20) X dX5_draw_17 rfl fr_q1388_5 rfl hR1.om ((hR1.sc 6).trans (hA1.f6)) ?_
  refine hr_bipush (v := (nI 16)) (q := 22) X dX5_draw_20 rfl rfl ?_
  refine hr_iushr (v := (((sq_next (A.1.2 6)).toUInt32 >>> ((nI 16).toUInt32 &&& Int32.toUInt32 31)).toInt32)) (q := 23) X dX5_draw_22 rfl rfl ?_
  refine hr_iload1 (q := 24) X dX5_draw_23 rfl ?_
  refine hr_irem (v := (sq_drawn k (sq_next (A.1.2 6)))) (q := 25) X dX5_draw_24 rfl (fun z => absurd ((nI_eq (by omega) (by decide)).mp (z.trans nI_0.symm)) (by omega)) rfl ?_
  exact hr_iret X hr dX5_draw_25 (tw_end rfl hR1 hA1)

theorem tk_empty {l : Launch} {D : hg_D} {lo : Nat} (htr : l.stackTraces = false) {G : hg_G} {o : Nat} {am : Nat → Nat} {u : tw_S} (hR : tw_R G o am u) {t : sp_S} (hT : tw_T u t) (hw : sp_wf t) :
    hg_M l D lo yX5_empty (ws_ yX5_empty cX5_empty 3 ((some FieldType.int))) rm_X5_empty [.ref o] G (hg_Pv G (.int (nI (sp_empty t)))) := by
  refine hg_M.of htr (by decide) [some (.ref o), none, none] rfl (Nat.le_of_ble_eq_true rfl) ?_
  intro p e s m args below meth c X hr hnm htab
  have X : hg_X p l s m args meth c D lo "TaxOnLooksModel" cX5_empty 3 := X
  have w0 := hw.b0; have w1 := hw.b1; have w2 := hw.b2; have w3 := hw.b3
  have w36 := hw.b36
  refine hr_iconst (v := (nI 0)) (q := 1) X dX5_empty_0 rfl rfl ?_
  refine hr_istore1 (q := 2) X dX5_empty_1 rfl rfl (Nat.le_of_ble_eq_true rfl) ?_
  refine hr_iconst (v := (nI 0)) (q := 3) X dX5_empty_2 rfl rfl ?_
  refine hr_istore2 (q := 4) X dX5_empty_3 rfl rfl (Nat.le_of_ble_eq_true rfl) ?_
  have loop4 : ∀ (kr nr n : Nat) (i S : Nat), (i ≤ t.1 0 0) → (t.1 0 0 + 1 ≤ i + n) → (S = sp_sum (fun x => if (t.1 13 x == 0) = true then 1 else 0) i) → hg_W p l e rm_X5_empty s m args below meth c (hg_Q below D lo args s rm_X5_empty G (hg_Pv G (.int (nI (sp_empty t))))) D lo G.1 3 kr nr G 4 [some (.ref o), some (.int (nI S)), some (.int (nI i))] [] := by
    intro kr nr n
    induction n with
    | zero =>
      intro i S h4_0 h4_1 h4_2
      omega
    | succ n ih =>
      intro i S h4_0 h4_1 h4_2
      refine hr_iload2 (q := 5) X dX5_empty_4 rfl ?_
      refine hr_aload0 (q := 6) X dX5_empty_5 rfl ?_
      refine hr_getI (v := (nI (t.1 0 0))) (q := 9) X dX5_empty_6 rfl fr_q1382_5 rfl hR.om ((hR.sc 0).trans (hT.sc (by decide))) ?_
      refine hr_icmpN_ge (q := 12) (tgt := 30) X dX5_empty_9 rfl (by decide) (by omega) (by omega) (fun c9 => ?_) (fun c9 => ?_)
      · refine hr_iload1 (q := 31) X dX5_empty_30 rfl ?_
        exact hr_iret X hr dX5_empty_31 ⟨hz_i (congrArg nI (by rw [h4_2, show i = t.1 0 0 by omega]; rfl)), rfl⟩
      · refine hr_aload0 (q := 13) X dX5_empty_12 rfl ?_
        refine hr_getR (v := am 13) (q := 16) X dX5_empty_13 rfl fr_q1395_5 rfl hR.om (hR.f rfl) ?_
        refine hr_iload2 (q := 17) X dX5_empty_16 rfl ?_
        refine hr_ialdN (v := (nI (t.1 13 i))) (q := 18) X dX5_empty_17 rfl (hR.ka (n := 7) rfl rfl rfl) (Or.inl rfl) (by omega) (by decide) ((hR.ar rfl _).trans (hT.p (by decide) (by decide) (by omega))) ?_
        have b17 := hw.b13 (show i < 7 by omega)
        refine hr_ifN_ne (q := 21) (tgt := 24) X dX5_empty_18 rfl (by decide) (by omega) (fun c18 => ?_) (fun c18 => ?_)
        · refine hr_iinc2 (v := (nI (i + 1))) (q := 27) X dX5_empty_24 rfl (nI_add _ _) rfl (Nat.le_of_ble_eq_true rfl) ?_
          refine hr_goto (tgt := 4) X dX5_empty_27 (by decide) ?_
          exact ih (i + 1) S (by omega) (by omega) (sp_sum_f (f := fun x => t.1 13 x == 0) h4_2 (beq_eq_false_iff_ne.mpr (by omega)))
        · refine hr_iinc1 (v := (nI (S + 1))) (q := 24) X dX5_empty_21 rfl (nI_add _ _) rfl (Nat.le_of_ble_eq_true rfl) ?_
          refine hr_iinc2 (v := (nI (i + 1))) (q := 27) X dX5_empty_24 rfl (nI_add _ _) rfl (Nat.le_of_ble_eq_true rfl) ?_
          refine hr_goto (tgt := 4) X dX5_empty_27 (by decide) ?_
          exact ih (i + 1) (S + 1) (by omega) (by omega) (sp_sum_t (f := fun x => t.1 13 x == 0) h4_2 (beq_iff_eq.mpr (by omega)))
  exact loop4 _ _ (t.1 0 0 + 1) 0 0 (by omega) (by omega) rfl

theorem tk_pays {l : Launch} {D : hg_D} {lo : Nat} (htr : l.stackTraces = false) {G : hg_G} {o : Nat} {am : Nat → Nat} {u : tw_S} {A : ab_S} (hR : tw_R G o am u) (hA : tw_A u A) (hW : ab_wf A) {x : Nat} (hx : x < A.1.1 0 0) :
    hg_M l D lo yX5_pays (ws_ yX5_pays cX5_pays 3 (none)) rm_X5_pays [.ref o, .int (nI x)] G (fun r G' => r = .inl none ∧ ∃ u', tw_R G' o am u' ∧ tw_A u' (sq_pay A x) ∧ u'.1 40 = u.1 40 + nI (sp_paid A.1 x) ∧ u'.2.1 35 = u.2.1 35) := by
  have hw := hW.w; have w0 := hw.b0; have w1 := hw.b1; have w2 := hw.b2; have w3 := hw.b3; have w36 := hW.b36; have w43 := hW.b43
  refine hg_M.of htr (by decide) [some (.ref o), some (.int (nI x)), none] rfl (Nat.le_of_ble_eq_true rfl) ?_
  intro p e s m args below meth c X hr hnm htab
  have X : hg_X p l s m args meth c D lo "TaxOnLooksModel" cX5_pays 3 := X
  refine hr_aload0 (q := 1) X dX5_pays_0 rfl ?_
  refine hr_iload1 (q := 2) X dX5_pays_1 rfl ?_
  refine hr_callP (q := 5) (hc_V (n := 1) (ci := 5) (As := [.int (nI x)]) X dX5_pays_2 rfl (tk_owes X.tr hR hA.t hw (x := x) (by omega)) q1691 cv_X5_owes ⟨Nat.le_of_ble_eq_true rfl, Nat.le_of_ble_eq_true rfl⟩ rfl (Nat.le_of_ble_eq_true rfl) hR.om rfl rfl) rfl ?_
  have := sp_owes_lt (t := A.1) hw x
  refine hr_istore2 (q := 6) X dX5_pays_5 rfl rfl (Nat.le_of_ble_eq_true rfl) ?_
  refine hr_iload2 (q := 7) X dX5_pays_6 rfl ?_
  refine hr_aload0 (q := 8) X dX5_pays_7 rfl ?_
  refine hr_getR (v := am 13) (q := 11) X dX5_pays_8 rfl fr_q1395_5 rfl hR.om (hR.f rfl) ?_
  refine hr_iload1 (q := 12) X dX5_pays_11 rfl ?_
  refine hr_ialdN (v := (nI (A.1.1 13 x))) (q := 13) X dX5_pays_12 rfl (hR.ka (n := 7) rfl rfl rfl) (Or.inl rfl) (by omega) (by decide) ((hR.ar rfl _).trans (hA.p (by decide) (by decide) (by omega))) ?_
  have b12 := hW.w.b13 (show x < 7 by omega)
  refine hr_icmpN_le (q := 16) (tgt := 23) X dX5_pays_13 rfl (by decide) (by omega) (by omega) (fun c13 => ?_) (fun c13 => ?_)
  · have hp : sp_paid A.1 x = sp_owes A.1 x := by rw [sp_paid]; exact if_pos c13
    have hpl := sp_paid_le A.1 x
    refine hr_aload0 (q := 24) X dX5_pays_23 rfl ?_
    refine hr_getR (v := am 13) (q := 27) X dX5_pays_24 rfl fr_q1395_5 rfl hR.om (hR.f rfl) ?_
    refine hr_iload1 (q := 28) X dX5_pays_27 rfl ?_
    refine hr_dup2 (q := 29) X dX5_pays_28 rfl rfl rfl ?_
    refine hr_ialdN (v := (nI (A.1.1 13 x))) (q := 30) X dX5_pays_29 rfl (hR.ka (n := 7) rfl rfl rfl) (Or.inl rfl) (by omega) (by decide) ((hR.ar rfl _).trans (hA.p (by decide) (by decide) (by omega))) ?_
    have b29 := hW.w.b13 (show x < 7 by omega)
    refine hr_iload2 (q := 31) X dX5_pays_30 rfl ?_
    refine hr_isub (v := (nI ((A.1.1 13 x) - (sp_owes A.1 x)))) (q := 32) X dX5_pays_31 rfl (pk_sub (by omega)) ?_
    refine hr_iastN (q := 33) X dX5_pays_32 rfl (hR.ka (n := 7) rfl rfl rfl) (by omega) (by decide) ?_
    have hR1 := hR.setA (k := 13) rfl x (nI ((A.1.1 13 x) - (sp_owes A.1 x)))
    have hA1 := hA.nA (k := 13) (j := x) (n := (A.1.1 13 x) - (sp_owes A.1 x)) (by decide) rfl
    refine hr_aload0 (q := 34) X dX5_pays_33 rfl ?_
    refine hr_dup (q := 35) X dX5_pays_34 rfl rfl ?_
    refine hr_getI (v := (u.1 40)) (q := 38) X dX5_pays_35 rfl fr_q1422_5 rfl hR1.om (hR1.sc 40) ?_
    refine hr_iload2 (q := 39) X dX5_pays_38 rfl ?_
    refine hr_iadd (v := ((u.1 40) + (nI (sp_owes A.1 x)))) (q := 40) X dX5_pays_39 rfl rfl ?_
    refine hr_putI (q := 43) X dX5_pays_40 rfl fw_q1422_5 (fun h => nomatch h) rfl rfl rfl hR1.om ?_
    have hR2 := hR1.setS 40 ((u.1 40) + (nI (sp_owes A.1 x)))
    have hA2 := hA1.scS (k := 40) rfl ((u.1 40) + (nI (sp_owes A.1 x)))
    exact hr_vret X hr dX5_pays_43 ⟨rfl, _, hR2, (by rw [sq_pay, hp]; exact hA2), (by rw [hp]; rfl), rfl⟩
  · refine hr_aload0 (q := 17) X dX5_pays_16 rfl ?_
    refine hr_getR (v := am 13) (q := 20) X dX5_pays_17 rfl fr_q1395_5 rfl hR.om (hR.f rfl) ?_
    refine hr_iload1 (q := 21) X dX5_pays_20 rfl ?_
    refine hr_ialdN (v := (nI (A.1.1 13 x))) (q := 22) X dX5_pays_21 rfl (hR.ka (n := 7) rfl rfl rfl) (Or.inl rfl) (by omega) (by decide) ((hR.ar rfl _).trans (hA.p (by decide) (by decide) (by omega))) ?_
    have b21 := hW.w.b13 (show x < 7 by omega)
    refine hr_istore2 (q := 23) X dX5_pays_22 rfl rfl (Nat.le_of_ble_eq_true rfl) ?_
    have hp : sp_paid A.1 x = A.1.1 13 x := by rw [sp_paid]; exact if_neg (by omega)
    have hpl := sp_paid_le A.1 x
    refine hr_aload0 (q := 24) X dX5_pays_23 rfl ?_
    refine hr_getR (v := am 13) (q := 27) X dX5_pays_24 rfl fr_q1395_5 rfl hR.om (hR.f rfl) ?_
    refine hr_iload1 (q := 28) X dX5_pays_27 rfl ?_
    refine hr_dup2 (q := 29) X dX5_pays_28 rfl rfl rfl ?_
    refine hr_ialdN (v := (nI (A.1.1 13 x))) (q := 30) X dX5_pays_29 rfl (hR.ka (n := 7) rfl rfl rfl) (Or.inl rfl) (by omega) (by decide) ((hR.ar rfl _).trans (hA.p (by decide) (by decide) (by omega))) ?_
    have b29 := hW.w.b13 (show x < 7 by omega)
    refine hr_iload2 (q := 31) X dX5_pays_30 rfl ?_
    refine hr_isub (v := (nI ((A.1.1 13 x) - (A.1.1 13 x)))) (q := 32) X dX5_pays_31 rfl (pk_sub (by omega)) ?_
    refine hr_iastN (q := 33) X dX5_pays_32 rfl (hR.ka (n := 7) rfl rfl rfl) (by omega) (by decide) ?_
    have hR3 := hR.setA (k := 13) rfl x (nI ((A.1.1 13 x) - (A.1.1 13 x)))
    have hA3 := hA.nA (k := 13) (j := x) (n := (A.1.1 13 x) - (A.1.1 13 x)) (by decide) rfl
    refine hr_aload0 (q := 34) X dX5_pays_33 rfl ?_
    refine hr_dup (q := 35) X dX5_pays_34 rfl rfl ?_
    refine hr_getI (v := (u.1 40)) (q := 38) X dX5_pays_35 rfl fr_q1422_5 rfl hR3.om (hR3.sc 40) ?_
    refine hr_iload2 (q := 39) X dX5_pays_38 rfl ?_
    refine hr_iadd (v := ((u.1 40) + (nI (A.1.1 13 x)))) (q := 40) X dX5_pays_39 rfl rfl ?_
    refine hr_putI (q := 43) X dX5_pays_40 rfl fw_q1422_5 (fun h => nomatch h) rfl rfl rfl hR3.om ?_
    have hR4 := hR3.setS 40 ((u.1 40) + (nI (A.1.1 13 x)))
    have hA4 := hA3.scS (k := 40) rfl ((u.1 40) + (nI (A.1.1 13 x)))
    exact hr_vret X hr dX5_pays_43 ⟨rfl, _, hR4, (by rw [sq_pay, hp]; exact hA4), (by rw [hp]; rfl), rfl⟩

theorem sp_ite_le {p : Prop} [Decidable p] {a b n : Nat} (ha : a ≤ n) (hb : b ≤ n) : (if p then a else b) ≤ n := by split <;> assumption

def sq_sacks (a1 : Int32) (a2 : Int32) (A : ab_S) : Int32 × ab_S :=
  if a2 < 0 then (((sq_noTen (-5) A).1), (sq_noTen (-5) A).2)
  else if a2 ≤ (nI 1) then if sp_fr a1 (nI 0) (nI 3) = true then if a2 = 0 then ((oI (sp_sax A (iN a1) (2 ^ A.1.1 0 0))), A)
      else ((sp_mst (sp_skd A) (sp_sax A (iN a1) (2 ^ A.1.1 0 0))), A)
    else (((sq_noTen (-6) A).1), (sq_noTen (-6) A).2)
  else (((sq_noTen (-5) A).1), (sq_noTen (-5) A).2)
theorem tk_sacks {l : Launch} {D : hg_D} {lo : Nat} (htr : l.stackTraces = false) {G : hg_G} {o : Nat} {am : Nat → Nat} {u : tw_S} {A : ab_S} (hR : tw_R G o am u) (hA : tw_A u A) {a1 : Int32} {a2 : Int32} (hW : ab_wf A) :
    hg_M l D lo yX5_sacks (ws_ yX5_sacks cX5_sacks 7 ((some FieldType.int))) rm_X5_sacks [.ref o, .int a1, .int a2] G (tw_Po o am (sq_sacks a1 a2 A)) := by
  have hw := hW.w; have w0 := hw.b0; have w1 := hw.b1; have w2 := hw.b2; have w3 := hw.b3; have w36 := hW.b36; have w43 := hW.b43
  refine hg_M.of htr (by decide) [some (.ref o), some (.int a1), some (.int a2), none, none, none, none] rfl (Nat.le_of_ble_eq_true rfl) ?_
  intro p e s m args below meth c X hr hnm htab
  have X : hg_X p l s m args meth c D lo "TaxOnLooksModel" cX5_sacks 7 := X
  refine hr_iload2 (q := 1) X dX5_sacks_0 rfl ?_
  refine hr_if_lt (q := 4) (tgt := 9) X dX5_sacks_1 rfl (by decide) (fun c1 => ?_) (fun c1 => ?_)
  · refine hr_aload0 (q := 10) X dX5_sacks_9 rfl ?_
    refine hr_bipush (v := (-5)) (q := 12) X dX5_sacks_10 rfl rfl ?_
    refine hr_callT (q := 15) (hc_V (n := 1) (ci := 5) (As := [.int (-5)]) X dX5_sacks_12 rfl (tk_noTen X.tr hR hA (b := (-5)) (by decide)) q1715 cv_X5_noTen ⟨Nat.le_of_ble_eq_true rfl, Nat.le_of_ble_eq_true rfl⟩ rfl (Nat.le_of_ble_eq_true rfl) hR.om rfl rfl) rfl (fun G1 u1 hR1 hA1 => ?_)
    exact hr_iret X hr dX5_sacks_15 (tw_end (by rw [sq_sacks, if_pos c1]) hR1 hA1)
  · refine hr_iload2 (q := 5) X dX5_sacks_4 rfl ?_
    refine hr_iconst (v := (nI 1)) (q := 6) X dX5_sacks_5 rfl rfl ?_
    refine hr_icmp_le (q := 9) (tgt := 16) X dX5_sacks_6 rfl (by decide) (fun c6 => ?_) (fun c6 => ?_)
    · refine hr_aload0 (q := 17) X dX5_sacks_16 rfl ?_
      refine hr_iload1 (q := 18) X dX5_sacks_17 rfl ?_
      refine hr_iconst (v := (nI 0)) (q := 19) X dX5_sacks_18 rfl rfl ?_
      refine hr_iconst (v := (nI 3)) (q := 20) X dX5_sacks_19 rfl rfl ?_
      refine hr_callP (q := 23) (hc_V (n := 3) (ci := 5) (As := [.int a1, .int (nI 0), .int (nI 3)]) X dX5_sacks_20 rfl (tk_isFrom X.tr hR a1 (nI 0) (nI 3)) q1563 cv_X5_isFrom ⟨Nat.le_of_ble_eq_true rfl, Nat.le_of_ble_eq_true rfl⟩ rfl (Nat.le_of_ble_eq_true rfl) hR.om rfl rfl) rfl ?_
      refine hr_ifB_ne (q := 26) (tgt := 33) X dX5_sacks_23 rfl (by decide) (fun c23 => ?_) (fun c23 => ?_)
      · have n33_1 := sp_frN (by decide) (by decide) c23
        refine hr_L (L' := [some (.ref o), some (.int (nI (iN a1))), some (.int a2), none, none, none, none]) (by rw [← n33_1.1]) ?_
        refine hr_iconst (v := (-1)) (q := 34) X dX5_sacks_33 rfl rfl ?_
        refine hr_istore3 (q := 35) X dX5_sacks_34 rfl rfl (Nat.le_of_ble_eq_true rfl) ?_
        refine hr_iconst (v := (-1)) (q := 36) X dX5_sacks_35 rfl rfl ?_
        refine hr_istore4 (q := 38) X dX5_sacks_36 rfl rfl (Nat.le_of_ble_eq_true rfl) ?_
        refine hr_iconst (v := (nI 0)) (q := 39) X dX5_sacks_38 rfl rfl ?_
        refine hr_istore5 (q := 41) X dX5_sacks_39 rfl rfl (Nat.le_of_ble_eq_true rfl) ?_
        have loop41 : ∀ (kr nr n : Nat) (G41 : hg_G) (u41 : tw_S) (j : Nat), tw_R G41 o am u41 → tw_A u41 (A) → (j ≤ A.1.1 0 0) → (A.1.1 0 0 + 1 ≤ j + n) → (∀ i, i < j → u41.2.1 39 i = nI (A.1.1 15 i)) → hg_W p l e rm_X5_sacks s m args below meth c (hg_Q below D lo args s rm_X5_sacks G (tw_Po o am (sq_sacks a1 a2 A))) D lo G.1 7 kr nr G41 41 [some (.ref o), some (.int (nI (iN a1))), some (.int a2), some (.int (-1)), some (.int (-1)), some (.int (nI j)), none] [] := by
          intro kr nr n
          induction n with
          | zero =>
            intro G41 u41 j hR41 hA41 h41_0 h41_1 h41_2
            omega
          | succ n ih41 =>
            intro G41 u41 j hR41 hA41 h41_0 h41_1 h41_2
            refine hr_iload5 (q := 43) X dX5_sacks_41 rfl ?_
            refine hr_aload0 (q := 44) X dX5_sacks_43 rfl ?_
            refine hr_getI (v := (nI (A.1.1 0 0))) (q := 47) X dX5_sacks_44 rfl fr_q1382_5 rfl hR41.om ((hR41.sc 0).trans (hA41.sc (by decide))) ?_
            refine hr_icmpN_ge (q := 50) (tgt := 70) X dX5_sacks_47 rfl (by decide) (by omega) (by omega) (fun c47 => ?_) (fun c47 => ?_)
            · have z2 : j = A.1.1 0 0 := by omega
              subst z2
              refine hr_iconst (v := (nI 0)) (q := 71) X dX5_sacks_70 rfl rfl ?_
              refine hr_istore5 (q := 73) X dX5_sacks_71 rfl rfl (Nat.le_of_ble_eq_true rfl) ?_
              have loop73 : ∀ (n : Nat) (G73 : hg_G) (u73 : tw_S) (i B : Nat) (g : Nat → Nat), tw_R G73 o am u73 → tw_A u73 (ab_f A g) → (i ≤ 2 ^ A.1.1 0 0) → (2 ^ A.1.1 0 0 + 1 ≤ i + n) → (B = sp_sax A (iN a1) i) → (∀ j, j < A.1.1 0 0 → u73.2.1 39 j = nI (A.1.1 15 j)) → (∀ x, A.1.1 0 0 ≤ x → g x = A.1.1 15 x) → (∀ x, x < 7 → g x ≤ 1) → hg_W p l e rm_X5_sacks s m args below meth c (hg_Q below D lo args s rm_X5_sacks G (tw_Po o am (sq_sacks a1 a2 A))) D lo G.1 7 kr nr G73 73 [some (.ref o), some (.int (nI (iN a1))), some (.int a2), some (.int (oI B)), some (.int (sp_mst (sp_skd A) B)), some (.int (nI i)), none] [] := by
                intro n
                induction n with
                | zero =>
                  intro G73 u73 i B g hR73 hA73 h73_0 h73_1 h73_2 h73_3 h73_4 h73_5
                  omega
                | succ n ih73 =>
                  intro G73 u73 i B g hR73 hA73 h73_0 h73_1 h73_2 h73_3 h73_4 h73_5
                  refine hr_iload5 (q := 75) X dX5_sacks_73 rfl ?_
                  have hpw := sp_pow (i := A.1.1 0 0) (by omega)
                  have hB := sp_bst_lt (fun z => decide (sp_cnt z 7 = iN a1)) (fun a b => decide (sp_skd A a < sp_skd A b)) i
                  rw [← (show B = sp_bst _ _ i from h73_2)] at hB
                  have hF := sp_skd_le hw (A := A) B
                  have hF2 := sp_skd_le hw (A := A) i
                  refine hr_iconst (v := (nI 1)) (q := 76) X dX5_sacks_75 rfl rfl ?_
                  refine hr_aload0 (q := 77) X dX5_sacks_76 rfl ?_
                  refine hr_getI (v := (nI (A.1.1 0 0))) (q := 80) X dX5_sacks_77 rfl fr_q1382_5 rfl hR73.om ((hR73.sc 0).trans (hA73.sc (by decide))) ?_
                  refine hr_ishl (v := (nI (2 ^ (A.1.1 0 0)))) (q := 81) X dX5_sacks_80 rfl (sp_shl (by omega)) ?_
                  refine hr_icmpN_ge (q := 84) (tgt := 178) X dX5_sacks_81 rfl (by decide) (by omega) (by omega) (fun c81 => ?_) (fun c81 => ?_)
                  · have hi : i = 2 ^ A.1.1 0 0 := by omega
                    subst hi
                    refine hr_iconst (v := (nI 0)) (q := 179) X dX5_sacks_178 rfl rfl ?_
                    refine hr_istore5 (q := 181) X dX5_sacks_179 rfl rfl (Nat.le_of_ble_eq_true rfl) ?_
                    have loop181 : ∀ (n : Nat) (G181 : hg_G) (u181 : tw_S) (y : Nat) (g2 : Nat → Nat), tw_R G181 o am u181 → tw_A u181 (ab_f A g2) → (y ≤ A.1.1 0 0) → (A.1.1 0 0 + 1 ≤ y + n) → (∀ x, x < y → g2 x = A.1.1 15 x) → (∀ x, A.1.1 0 0 ≤ x → g2 x = A.1.1 15 x) → (∀ j, j < A.1.1 0 0 → u181.2.1 39 j = nI (A.1.1 15 j)) → hg_W p l e rm_X5_sacks s m args below meth c (hg_Q below D lo args s rm_X5_sacks G (tw_Po o am (sq_sacks a1 a2 A))) D lo G.1 7 kr nr G181 181 [some (.ref o), some (.int (nI (iN a1))), some (.int a2), some (.int (oI B)), some (.int (sp_mst (sp_skd A) B)), some (.int (nI y)), none] [] := by
                      intro n
                      induction n with
                      | zero =>
                        intro G181 u181 y g2 hR181 hA181 h181_0 h181_1 h181_2 h181_3 h181_4
                        omega
                      | succ n ih181 =>
                        intro G181 u181 y g2 hR181 hA181 h181_0 h181_1 h181_2 h181_3 h181_4
                        refine hr_iload5 (q := 183) X dX5_sacks_181 rfl ?_
                        refine hr_aload0 (q := 184) X dX5_sacks_183 rfl ?_
                        refine hr_getI (v := (nI (A.1.1 0 0))) (q := 187) X dX5_sacks_184 rfl fr_q1382_5 rfl hR181.om ((hR181.sc 0).trans (hA181.sc (by decide))) ?_
                        refine hr_icmpN_ge (q := 190) (tgt := 210) X dX5_sacks_187 rfl (by decide) (by omega) (by omega) (fun c187 => ?_) (fun c187 => ?_)
                        · have hg : g2 = A.1.1 15 := by
                            funext x
                            by_cases hx : x < A.1.1 0 0
                            · exact h181_2 x (by omega)
                            · exact h181_3 x (by omega)
                          subst hg
                          rw [ab_f_id] at hA181
                          have hEq : B = sp_sax A (iN a1) (2 ^ A.1.1 0 0) := h73_2
                          refine hr_iload2 (q := 211) X dX5_sacks_210 rfl ?_
                          refine hr_if_ne (q := 214) (tgt := 218) X dX5_sacks_211 rfl (by decide) (fun c211 => ?_) (fun c211 => ?_)
                          · refine hr_iload4 (q := 220) X dX5_sacks_218 rfl ?_
                            exact hr_iret X hr dX5_sacks_220 (tw_end (by rw [sq_sacks, if_neg c1, if_pos c6, if_pos c23, if_neg c211, ← hEq]) hR181 hA181)
                          · refine hr_iload3 (q := 215) X dX5_sacks_214 rfl ?_
                            refine hr_goto (tgt := 220) X dX5_sacks_215 (by decide) ?_
                            exact hr_iret X hr dX5_sacks_220 (tw_end (by rw [sq_sacks, if_neg c1, if_pos c6, if_pos c23, if_pos c211, ← hEq]) hR181 hA181)
                        · refine hr_aload0 (q := 191) X dX5_sacks_190 rfl ?_
                          refine hr_getR (v := am 15) (q := 194) X dX5_sacks_191 rfl fr_q1397_5 rfl hR181.om (hR181.f rfl) ?_
                          refine hr_iload5 (q := 196) X dX5_sacks_194 rfl ?_
                          refine hr_aload0 (q := 197) X dX5_sacks_196 rfl ?_
                          refine hr_getR (v := am 39) (q := 200) X dX5_sacks_197 rfl fr_q1421_5 rfl hR181.om (hR181.f rfl) ?_
                          refine hr_iload5 (q := 202) X dX5_sacks_200 rfl ?_
                          refine hr_ialdN (v := (nI (A.1.1 15 y))) (q := 203) X dX5_sacks_202 rfl (hR181.ka (n := 7) rfl rfl rfl) (Or.inl rfl) (by omega) (by decide) ((hR181.ar rfl _).trans (h181_4 y (by omega))) ?_
                          refine hr_iastN (q := 204) X dX5_sacks_203 rfl (hR181.ka (n := 7) rfl rfl rfl) (by omega) (by decide) ?_
                          have hR3 := hR181.setA (k := 15) rfl y (nI (A.1.1 15 y))
                          have hA3 := hA181.nA (k := 15) (j := y) (n := A.1.1 15 y) (by decide) rfl
                          refine hr_iinc5 (v := (nI (y + 1))) (q := 207) X dX5_sacks_204 rfl (nI_add _ _) rfl (Nat.le_of_ble_eq_true rfl) ?_
                          refine hr_goto (tgt := 181) X dX5_sacks_207 (by decide) ?_
                          exact ih181 (hs_I G181 (am 15) y (nI (A.1.1 15 y))) (tw_setA u181 15 y (nI (A.1.1 15 y))) (y + 1) (fun x => if x = y then A.1.1 15 y else g2 x) hR3 (by rw [← ab_f_n]; exact hA3) (by omega) (by omega) (sp_ext (fun x hx => (if_neg (by omega)).trans (h181_2 x hx)) (if_pos rfl)) (fun x hx => (if_neg (by omega)).trans (h181_3 x hx)) h181_4
                    exact loop181 (A.1.1 0 0 + 1) G73 u73 0 g hR73 hA73 (by omega) (by omega) (fun x hx => absurd hx (Nat.not_lt_zero _)) h73_4 h73_3
                  · refine hr_aload0 (q := 85) X dX5_sacks_84 rfl ?_
                    refine hr_iload5 (q := 87) X dX5_sacks_85 rfl ?_
                    refine hr_callP (v := .int (nI (sp_cnt i 7))) (q := 90) (hc_V (n := 1) (ci := 5) (As := [.int (nI i)]) X dX5_sacks_87 rfl (tk_many X.tr hR73 (x := i) (by omega)) q1699 cv_X5_many ⟨Nat.le_of_ble_eq_true rfl, Nat.le_of_ble_eq_true rfl⟩ rfl (Nat.le_of_ble_eq_true rfl) hR73.om rfl rfl) rfl ?_
                    have := sp_cnt_le i 7
                    refine hr_iload1 (q := 91) X dX5_sacks_90 rfl ?_
                    refine hr_icmpN_eq (q := 94) (tgt := 97) X dX5_sacks_91 rfl (by decide) (by omega) (by omega) (fun c91 => ?_) (fun c91 => ?_)
                    · refine hr_iconst (v := (nI 0)) (q := 98) X dX5_sacks_97 rfl rfl ?_
                      refine hr_istore6 (q := 100) X dX5_sacks_98 rfl rfl (Nat.le_of_ble_eq_true rfl) ?_
                      have loop100 : ∀ (n : Nat) (G100 : hg_G) (u100 : tw_S) (k : Nat) (g1 : Nat → Nat), tw_R G100 o am u100 → tw_A u100 (ab_f A g1) → (k ≤ A.1.1 0 0) → (A.1.1 0 0 + 1 ≤ k + n) → (∀ x, x < k → g1 x = sp_sk A.1 i x) → (∀ x, A.1.1 0 0 ≤ x → g1 x = A.1.1 15 x) → (∀ x, x < 7 → g1 x ≤ 1) → (∀ j, j < A.1.1 0 0 → u100.2.1 39 j = nI (A.1.1 15 j)) → hg_W p l e rm_X5_sacks s m args below meth c (hg_Q below D lo args s rm_X5_sacks G (tw_Po o am (sq_sacks a1 a2 A))) D lo G.1 7 kr nr G100 100 [some (.ref o), some (.int (nI (iN a1))), some (.int a2), some (.int (oI B)), some (.int (sp_mst (sp_skd A) B)), some (.int (nI i)), some (.int (nI k))] [] := by
                        intro n
                        induction n with
                        | zero =>
                          intro G100 u100 k g1 hR100 hA100 h100_0 h100_1 h100_2 h100_3 h100_4 h100_5
                          omega
                        | succ n ih100 =>
                          intro G100 u100 k g1 hR100 hA100 h100_0 h100_1 h100_2 h100_3 h100_4 h100_5
                          refine hr_iload6 (q := 102) X dX5_sacks_100 rfl ?_
                          refine hr_aload0 (q := 103) X dX5_sacks_102 rfl ?_
                          refine hr_getI (v := (nI (A.1.1 0 0))) (q := 106) X dX5_sacks_103 rfl fr_q1382_5 rfl hR100.om ((hR100.sc 0).trans (hA100.sc (by decide))) ?_
                          refine hr_icmpN_ge (q := 109) (tgt := 144) X dX5_sacks_106 rfl (by decide) (by omega) (by omega) (fun c106 => ?_) (fun c106 => ?_)
                          · have hg : g1 = sp_sk A.1 i := by
                              funext x
                              by_cases hx : x < A.1.1 0 0
                              · exact h100_2 x (by omega)
                              · exact (h100_3 x (by omega)).trans (if_neg (by omega)).symm
                            subst hg
                            refine hr_aload0 (q := 145) X dX5_sacks_144 rfl ?_
                            refine hr_callP (v := .int (nI (sp_skd A i))) (q := 148) (hc_V (n := 0) (ci := 5) (As := []) X dX5_sacks_145 rfl (tk_allDuties X.tr hR100 hA100.t (sp_wf_f hw (sp_sk_le hw i))) q1744 cv_X5_allDuties ⟨Nat.le_of_ble_eq_true rfl, Nat.le_of_ble_eq_true rfl⟩ rfl (Nat.le_of_ble_eq_true rfl) hR100.om rfl rfl) rfl ?_
                            refine hr_istore6 (q := 150) X dX5_sacks_148 rfl rfl (Nat.le_of_ble_eq_true rfl) ?_
                            refine hr_iload3 (q := 151) X dX5_sacks_150 rfl ?_
                            refine hr_iconst (v := (-1)) (q := 152) X dX5_sacks_151 rfl rfl ?_
                            refine hr_icmpO_eq (q := 155) (tgt := 165) X dX5_sacks_152 rfl (by decide) (by omega) (fun c152 => ?_) (fun c152 => ?_)
                            · refine hr_iload5 (q := 167) X dX5_sacks_165 rfl ?_
                              refine hr_st1 (v' := .int (oI i)) (congrArg Value.int (oI_of (fun z => by subst z; exact absurd c91 (by rw [show sp_cnt 99 7 = 4 from rfl]; omega))).symm) ?_
                              refine hr_istore3 (q := 168) X dX5_sacks_167 rfl rfl (Nat.le_of_ble_eq_true rfl) ?_
                              refine hr_iload6 (q := 170) X dX5_sacks_168 rfl ?_
                              refine hr_st1 (v' := .int (sp_mst (sp_skd A) i)) (congrArg Value.int (sp_mst_n (f := sp_skd A) (fun z => by subst z; exact absurd c91 (by rw [show sp_cnt 99 7 = 4 from rfl]; omega))).symm) ?_
                              refine hr_istore4 (q := 172) X dX5_sacks_170 rfl rfl (Nat.le_of_ble_eq_true rfl) ?_
                              refine hr_iinc5 (v := (nI (i + 1))) (q := 175) X dX5_sacks_172 rfl (nI_add _ _) rfl (Nat.le_of_ble_eq_true rfl) ?_
                              refine hr_goto (tgt := 73) X dX5_sacks_175 (by decide) ?_
                              refine hr_fg6 ?_
                              exact ih73 G100 u100 (i + 1) i (sp_sk A.1 i) hR100 hA100 (by omega) (by omega) (sp_bst_y h73_2 (decide_eq_true c91) (Or.inl c152)) h100_5 (fun x hx => if_neg (by omega)) (sp_sk_le hw i)
                            · refine hr_iload6 (q := 157) X dX5_sacks_155 rfl ?_
                              refine hr_iload4 (q := 159) X dX5_sacks_157 rfl ?_
                              refine hr_st1 (v' := .int (nI (sp_skd A B))) (congrArg Value.int (sp_mst_n (f := sp_skd A) c152)) ?_
                              refine hr_icmpN_lt (q := 162) (tgt := 165) X dX5_sacks_159 rfl (by decide) (by omega) (by omega) (fun c159 => ?_) (fun c159 => ?_)
                              · refine hr_iload5 (q := 167) X dX5_sacks_165 rfl ?_
                                refine hr_st1 (v' := .int (oI i)) (congrArg Value.int (oI_of (fun z => by subst z; exact absurd c91 (by rw [show sp_cnt 99 7 = 4 from rfl]; omega))).symm) ?_
                                refine hr_istore3 (q := 168) X dX5_sacks_167 rfl rfl (Nat.le_of_ble_eq_true rfl) ?_
                                refine hr_iload6 (q := 170) X dX5_sacks_168 rfl ?_
                                refine hr_st1 (v' := .int (sp_mst (sp_skd A) i)) (congrArg Value.int (sp_mst_n (f := sp_skd A) (fun z => by subst z; exact absurd c91 (by rw [show sp_cnt 99 7 = 4 from rfl]; omega))).symm) ?_
                                refine hr_istore4 (q := 172) X dX5_sacks_170 rfl rfl (Nat.le_of_ble_eq_true rfl) ?_
                                refine hr_iinc5 (v := (nI (i + 1))) (q := 175) X dX5_sacks_172 rfl (nI_add _ _) rfl (Nat.le_of_ble_eq_true rfl) ?_
                                refine hr_goto (tgt := 73) X dX5_sacks_175 (by decide) ?_
                                refine hr_fg6 ?_
                                exact ih73 G100 u100 (i + 1) i (sp_sk A.1 i) hR100 hA100 (by omega) (by omega) (sp_bst_y h73_2 (decide_eq_true c91) (Or.inr (decide_eq_true c159))) h100_5 (fun x hx => if_neg (by omega)) (sp_sk_le hw i)
                              · refine hr_goto (tgt := 172) X dX5_sacks_162 (by decide) ?_
                                refine hr_iinc5 (v := (nI (i + 1))) (q := 175) X dX5_sacks_172 rfl (nI_add _ _) rfl (Nat.le_of_ble_eq_true rfl) ?_
                                refine hr_goto (tgt := 73) X dX5_sacks_175 (by decide) ?_
                                refine hr_fg6 ?_
                                exact ih73 G100 u100 (i + 1) B (sp_sk A.1 i) hR100 hA100 (by omega) (by omega) (sp_bst_k h73_2 (Or.inr ⟨c152, decide_eq_false (by omega)⟩)) h100_5 (fun x hx => if_neg (by omega)) (sp_sk_le hw i)
                          · refine hr_aload0 (q := 110) X dX5_sacks_109 rfl ?_
                            refine hr_getR (v := am 15) (q := 113) X dX5_sacks_110 rfl fr_q1397_5 rfl hR100.om (hR100.f rfl) ?_
                            refine hr_iload6 (q := 115) X dX5_sacks_113 rfl ?_
                            refine hr_iload5 (q := 117) X dX5_sacks_115 rfl ?_
                            refine hr_iload6 (q := 119) X dX5_sacks_117 rfl ?_
                            refine hr_ishr (v := (nI (i / 2 ^ k))) (q := 120) X dX5_sacks_119 rfl (sp_shr (by omega) (by omega)) ?_
                            refine hr_iconst (v := (nI 1)) (q := 121) X dX5_sacks_120 rfl rfl ?_
                            refine hr_iand (v := (nI ((i / 2 ^ k) % 2))) (q := 122) X dX5_sacks_121 rfl (sp_and1 (Nat.lt_of_le_of_lt (Nat.div_le_self _ _) (by omega))) ?_
                            refine hr_iconst (v := (nI 1)) (q := 123) X dX5_sacks_122 rfl rfl ?_
                            refine hr_icmpN_ne (q := 126) (tgt := 130) X dX5_sacks_123 rfl (by decide) (by omega) (by omega) (fun c123 => ?_) (fun c123 => ?_)
                            · refine hr_aload0 (q := 131) X dX5_sacks_130 rfl ?_
                              refine hr_getR (v := am 39) (q := 134) X dX5_sacks_131 rfl fr_q1421_5 rfl hR100.om (hR100.f rfl) ?_
                              refine hr_iload6 (q := 136) X dX5_sacks_134 rfl ?_
                              refine hr_ialdN (v := (nI (A.1.1 15 k))) (q := 137) X dX5_sacks_136 rfl (hR100.ka (n := 7) rfl rfl rfl) (Or.inl rfl) (by omega) (by decide) ((hR100.ar rfl _).trans (h100_5 k (by omega))) ?_
                              refine hr_iastN (q := 138) X dX5_sacks_137 rfl (hR100.ka (n := 7) rfl rfl rfl) (by omega) (by decide) ?_
                              have hR4 := hR100.setA (k := 15) rfl k (nI (A.1.1 15 k))
                              have hA4 := hA100.nA (k := 15) (j := k) (n := A.1.1 15 k) (by decide) rfl
                              refine hr_iinc6 (v := (nI (k + 1))) (q := 141) X dX5_sacks_138 rfl (nI_add _ _) rfl (Nat.le_of_ble_eq_true rfl) ?_
                              refine hr_goto (tgt := 100) X dX5_sacks_141 (by decide) ?_
                              exact ih100 (hs_I G100 (am 15) k (nI (A.1.1 15 k))) (tw_setA u100 15 k (nI (A.1.1 15 k))) (k + 1) (fun x => if x = k then A.1.1 15 k else g1 x) hR4 (by rw [← ab_f_n]; exact hA4) (by omega) (by omega) (sp_ext (fun x hx => (if_neg (by omega)).trans (h100_2 x hx)) ((if_pos rfl).trans (if_neg (fun z => (sp_bit_0.mp (sp_bit_0.mpr c123)) (sp_bit_1.mp z.2))).symm)) (fun x hx => (if_neg (by omega)).trans (h100_3 x hx)) (fun x hx => sp_ite_le (hw.b15 (by omega)) (h100_4 x hx)) h100_5
                            · refine hr_iconst (v := (nI 1)) (q := 127) X dX5_sacks_126 rfl rfl ?_
                              refine hr_goto (tgt := 137) X dX5_sacks_127 (by decide) ?_
                              refine hr_iastN (q := 138) X dX5_sacks_137 rfl (hR100.ka (n := 7) rfl rfl rfl) (by omega) (by decide) ?_
                              have hR5 := hR100.setA (k := 15) rfl k (nI 1)
                              have hA5 := hA100.nA (k := 15) (j := k) (n := 1) (by decide) rfl
                              refine hr_iinc6 (v := (nI (k + 1))) (q := 141) X dX5_sacks_138 rfl (nI_add _ _) rfl (Nat.le_of_ble_eq_true rfl) ?_
                              refine hr_goto (tgt := 100) X dX5_sacks_141 (by decide) ?_
                              exact ih100 (hs_I G100 (am 15) k (nI 1)) (tw_setA u100 15 k (nI 1)) (k + 1) (fun x => if x = k then 1 else g1 x) hR5 (by rw [← ab_f_n]; exact hA5) (by omega) (by omega) (sp_ext (fun x hx => (if_neg (by omega)).trans (h100_2 x hx)) ((if_pos rfl).trans (if_pos ⟨by omega, sp_bit_1.mpr c123⟩).symm)) (fun x hx => (if_neg (by omega)).trans (h100_3 x hx)) (fun x hx => sp_ite_le (by decide) (h100_4 x hx)) h100_5
                      exact loop100 (A.1.1 0 0 + 1) G73 u73 0 g hR73 hA73 (by omega) (by omega) (fun x hx => absurd hx (Nat.not_lt_zero _)) h73_4 h73_5 h73_3
                    · refine hr_goto (tgt := 172) X dX5_sacks_94 (by decide) ?_
                      refine hr_iinc5 (v := (nI (i + 1))) (q := 175) X dX5_sacks_172 rfl (nI_add _ _) rfl (Nat.le_of_ble_eq_true rfl) ?_
                      refine hr_goto (tgt := 73) X dX5_sacks_175 (by decide) ?_
                      exact ih73 G73 u73 (i + 1) B g hR73 hA73 (by omega) (by omega) (sp_bst_k h73_2 (Or.inl (decide_eq_false c91))) h73_3 h73_4 h73_5
              exact loop73 (2 ^ A.1.1 0 0 + 1) G41 u41 0 99 (A.1.1 15) hR41 (by rw [ab_f_id]; exact hA41) (Nat.zero_le _) (by omega) rfl h41_2 (fun _ _ => rfl) (fun x hx => hw.b15 hx)
            · refine hr_aload0 (q := 51) X dX5_sacks_50 rfl ?_
              refine hr_getR (v := am 39) (q := 54) X dX5_sacks_51 rfl fr_q1421_5 rfl hR41.om (hR41.f rfl) ?_
              refine hr_iload5 (q := 56) X dX5_sacks_54 rfl ?_
              refine hr_aload0 (q := 57) X dX5_sacks_56 rfl ?_
              refine hr_getR (v := am 15) (q := 60) X dX5_sacks_57 rfl fr_q1397_5 rfl hR41.om (hR41.f rfl) ?_
              refine hr_iload5 (q := 62) X dX5_sacks_60 rfl ?_
              refine hr_ialdN (v := (nI (A.1.1 15 j))) (q := 63) X dX5_sacks_62 rfl (hR41.ka (n := 7) rfl rfl rfl) (Or.inl rfl) (by omega) (by decide) ((hR41.ar rfl _).trans (hA41.p (by decide) (by decide) (by omega))) ?_
              have b62 := hW.w.b15 (show j < 7 by omega)
              refine hr_iastN (q := 64) X dX5_sacks_63 rfl (hR41.ka (n := 7) rfl rfl rfl) (by omega) (by decide) ?_
              have hR6 := hR41.setA (k := 39) rfl j (nI (A.1.1 15 j))
              have hA6 := hA41.scA (k := 39) rfl j (nI (A.1.1 15 j))
              refine hr_iinc5 (v := (nI (j + 1))) (q := 67) X dX5_sacks_64 rfl (nI_add _ _) rfl (Nat.le_of_ble_eq_true rfl) ?_
              refine hr_goto (tgt := 41) X dX5_sacks_67 (by decide) ?_
              exact ih41 (hs_I G41 (am 39) j (nI (A.1.1 15 j))) (tw_setA u41 39 j (nI (A.1.1 15 j))) (j + 1) hR6 hA6 (by omega) (by omega) (sp_ext (fun i hi => (if_neg (by omega)).trans (h41_2 i hi)) (if_pos rfl))
        exact loop41 _ _ (A.1.1 0 0 + 1) G u 0 hR hA (by omega) (by omega) (fun i hi => absurd hi (Nat.not_lt_zero _))
      · refine hr_aload0 (q := 27) X dX5_sacks_26 rfl ?_
        refine hr_bipush (v := (-6)) (q := 29) X dX5_sacks_27 rfl rfl ?_
        refine hr_callT (q := 32) (hc_V (n := 1) (ci := 5) (As := [.int (-6)]) X dX5_sacks_29 rfl (tk_noTen X.tr hR hA (b := (-6)) (by decide)) q1715 cv_X5_noTen ⟨Nat.le_of_ble_eq_true rfl, Nat.le_of_ble_eq_true rfl⟩ rfl (Nat.le_of_ble_eq_true rfl) hR.om rfl rfl) rfl (fun G7 u7 hR7 hA7 => ?_)
        exact hr_iret X hr dX5_sacks_32 (tw_end (by rw [sq_sacks, if_neg c1, if_pos c6, if_neg (by rw [c23]; decide)]) hR7 hA7)
    · refine hr_aload0 (q := 10) X dX5_sacks_9 rfl ?_
      refine hr_bipush (v := (-5)) (q := 12) X dX5_sacks_10 rfl rfl ?_
      refine hr_callT (q := 15) (hc_V (n := 1) (ci := 5) (As := [.int (-5)]) X dX5_sacks_12 rfl (tk_noTen X.tr hR hA (b := (-5)) (by decide)) q1715 cv_X5_noTen ⟨Nat.le_of_ble_eq_true rfl, Nat.le_of_ble_eq_true rfl⟩ rfl (Nat.le_of_ble_eq_true rfl) hR.om rfl rfl) rfl (fun G8 u8 hR8 hA8 => ?_)
      exact hr_iret X hr dX5_sacks_15 (tw_end (by rw [sq_sacks, if_neg c1, if_neg c6]) hR8 hA8)

