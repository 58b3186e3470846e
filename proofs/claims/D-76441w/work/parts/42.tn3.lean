theorem tn_draw {l : Launch} {D : hg_D} {lo : Nat} (htr : l.stackTraces = false) {G : hg_G} {ta : Nat → Nat} {t : sp_S} (hT : tn_R G ta t) (hw : sp_wf t) (hD : tn_D ta) {k : Nat} (hk : 0 < k) (hk2 : k < 2 ^ 31) :
    hg_M l D lo yX2_draw (ws_ yX2_draw cX2_draw 2 ((some FieldType.int))) rm_X2_draw [.ref (ta 0), .int (nI k)] G (tn_Po ta G t (sp_seti t 6 (sq_next (t.2 6))) (some (.int (sq_drawn k (sq_next (t.2 6)))))) := by
  refine hg_M.of htr (by decide) [some (.ref (ta 0)), some (.int (nI k))] rfl (Nat.le_of_ble_eq_true rfl) ?_
  intro p e s m args below meth c X hr hnm htab
  have X : hg_X p l s m args meth c D lo "TaxOnLooks$Town" cX2_draw 2 := X
  have w0 := hw.b0; have w1 := hw.b1; have w2 := hw.b2; have w3 := hw.b3; have w36 := hw.b36
  obtain ⟨K, hK, hKs, hKb⟩ := hT.sk
  refine hr_aload0 (q := 1) X dX2_draw_0 rfl ?_
  refine hr_aload0 (q := 2) X dX2_draw_1 rfl ?_
  refine hr_getI (v := (t.2 6)) (q := 5) X dX2_draw_2 rfl fr_q167_2 rfl hT.ob hT.f6 ?_
  refine hr_ldc (q := 7) X dX2_draw_5 rfl q1261 ?_
  refine hr_imul (v := ((t.2 6) * 1103515245)) (q := 8) X dX2_draw_7 rfl rfl ?_
  refine hr_sipush (v := (nI 12345)) (q := 11) X dX2_draw_8 rfl rfl ?_
  refine hr_iadd (v := (sq_next (t.2 6))) (q := 12) X dX2_draw_11 rfl (sq_next_eq _) ?_
  refine hr_putI (q := 15) X dX2_draw_12 rfl fw_q167_2 (fun h => nomatch h) rfl rfl rfl hT.ob ?_
  refine hr_aload0 (q := 16) X dX2_draw_15 rfl ?_
  refine hr_getI (v := (sq_next (t.2 6))) (q := 19) X dX2_draw_16 rfl fr_q167_2 rfl hT.ob hs_Ieq ?_
  refine hr_bipush (v := (nI 16)) (q := 21) X dX2_draw_19 rfl rfl ?_
  refine hr_iushr (v := (((sq_next (t.2 6)).toUInt32 >>> ((nI 16).toUInt32 &&& Int32.toUInt32 31)).toInt32)) (q := 22) X dX2_draw_21 rfl rfl ?_
  refine hr_iload1 (q := 23) X dX2_draw_22 rfl ?_
  refine hr_irem (v := (sq_drawn k (sq_next (t.2 6)))) (q := 24) X dX2_draw_23 rfl (fun z => absurd ((nI_eq (by omega) (by decide)).mp (z.trans nI_0.symm)) (by omega)) rfl ?_
  exact hr_iret X hr dX2_draw_24 ⟨rfl, hT.seti hD (by decide) _, rfl, hg_fr.rf.I ⟨0, by decide, rfl⟩, fun _ _ => rfl⟩

theorem tn_pays {l : Launch} {D : hg_D} {lo : Nat} (htr : l.stackTraces = false) {G : hg_G} {ta : Nat → Nat} {t : sp_S} (hT : tn_R G ta t) (hw : sp_wf t) (hD : tn_D ta) {x : Nat} (hx : x < t.1 0 0) :
    hg_M l D lo yX2_pays (ws_ yX2_pays cX2_pays 3 ((some FieldType.int))) rm_X2_pays [.ref (ta 0), .int (nI x)] G (tn_Po ta G t (sp_set t 13 x (t.1 13 x - sp_paid t x)) (some (.int (nI (sp_paid t x))))) := by
  refine hg_M.of htr (by decide) [some (.ref (ta 0)), some (.int (nI x)), none] rfl (Nat.le_of_ble_eq_true rfl) ?_
  intro p e s m args below meth c X hr hnm htab
  have X : hg_X p l s m args meth c D lo "TaxOnLooks$Town" cX2_pays 3 := X
  have w0 := hw.b0; have w1 := hw.b1; have w2 := hw.b2; have w3 := hw.b3; have w36 := hw.b36
  obtain ⟨K, hK, hKs, hKb⟩ := hT.sk
  refine hr_aload0 (q := 1) X dX2_pays_0 rfl ?_
  refine hr_getR (v := (ta 3)) (q := 4) X dX2_pays_1 rfl fr_q184_2 rfl hT.ob hT.f13 ?_
  refine hr_iload1 (q := 5) X dX2_pays_4 rfl ?_
  have b1 := hw.b13 (p := x) (by omega)
  refine hr_ialdN (v := (nI (t.1 13 x))) (q := 6) X dX2_pays_5 rfl hT.k3 (Or.inl rfl) (by omega) (by decide) (hT.e3 (by omega)) ?_
  refine hr_aload0 (q := 7) X dX2_pays_6 rfl ?_
  refine hr_iload1 (q := 8) X dX2_pays_7 rfl ?_
  refine hr_callP (q := 11) (hc_V (n := 1) (ci := 2) (As := [.int (nI x)]) X dX2_pays_8 rfl (tn_duty X.tr hT hw (x := x) (by omega)) q1113 cv_X2_duty ⟨Nat.le_of_ble_eq_true rfl, Nat.le_of_ble_eq_true rfl⟩ rfl (Nat.le_of_ble_eq_true rfl) hT.ob rfl rfl) rfl ?_
  have := sp_owes_lt (t := t) hw x
  refine hr_callP (v := .int (nI (min (t.1 13 x) (sp_owes t x)))) (q := 14) (hc_S (n := 2) (As := [.int (nI (t.1 13 x)), .int (nI (sp_owes t x))]) X dX2_pays_11 rfl (tj_min X.tr (a := t.1 13 x) (b := sp_owes t x) (by omega) (by omega)) q1010 cs_J8_min ⟨Nat.le_of_ble_eq_true rfl, Nat.le_of_ble_eq_true rfl⟩ rfl (Nat.le_of_ble_eq_true rfl)) rfl ?_
  refine hr_st1 (v' := .int (nI (sp_paid t x))) (congrArg Value.int (congrArg nI (by unfold sp_paid; split <;> omega))) ?_
  refine hr_istore2 (q := 15) X dX2_pays_14 rfl rfl (Nat.le_of_ble_eq_true rfl) ?_
  refine hr_aload0 (q := 16) X dX2_pays_15 rfl ?_
  refine hr_getR (v := (ta 3)) (q := 19) X dX2_pays_16 rfl fr_q184_2 rfl hT.ob hT.f13 ?_
  refine hr_iload1 (q := 20) X dX2_pays_19 rfl ?_
  refine hr_dup2 (q := 21) X dX2_pays_20 rfl rfl rfl ?_
  have b2 := hw.b13 (p := x) (by omega)
  refine hr_ialdN (v := (nI (t.1 13 x))) (q := 22) X dX2_pays_21 rfl hT.k3 (Or.inl rfl) (by omega) (by decide) (hT.e3 (by omega)) ?_
  refine hr_iload2 (q := 23) X dX2_pays_22 rfl ?_
  have hpl := sp_paid_le t x
  refine hr_isub (v := (nI ((t.1 13 x) - (sp_paid t x)))) (q := 24) X dX2_pays_23 rfl (pk_sub (by omega)) ?_
  refine hr_iastN (q := 25) X dX2_pays_24 rfl hT.k3 (by omega) (by decide) ?_
  refine hr_iload2 (q := 26) X dX2_pays_25 rfl ?_
  exact hr_iret X hr dX2_pays_26 ⟨rfl, hT.putA hD (by decide), rfl, hg_fr.rf.I ⟨3, by decide, rfl⟩, fun _ _ => rfl⟩

