theorem tk_no {l : Launch} {D : hg_D} {lo : Nat} (htr : l.stackTraces = false) {G : hg_G} {o : Nat} {am : Nat → Nat} {u : tw_S} {A : ab_S} (hR : tw_R G o am u) (hA : tw_A u A) {b : Int32} (hb : -b = nI (iN (-b)) ∧ iN (-b) < 8) :
    hg_M l D lo yX5_no (ws_ yX5_no cX5_no 2 ((some FieldType.int))) rm_X5_no [.ref o, .int b] G (tw_Po o am (sq_no b A)) := by
  refine hg_M.of htr (by decide) [some (.ref o), some (.int b)] rfl (Nat.le_of_ble_eq_true rfl) ?_
  intro p e s m args below meth c X hr hnm htab
  have X : hg_X p l s m args meth c D lo "TaxOnLooksModel" cX5_no 2 := X
  refine hr_aload0 (q := 1) X dX5_no_0 rfl ?_
  refine hr_getR (v := am 8) (q := 4) X dX5_no_1 rfl fr_q1390_5 rfl hR.om (hR.f rfl) ?_
  refine hr_iload1 (q := 5) X dX5_no_4 rfl ?_
  refine hr_ineg (v := (nI (iN (-b)))) (q := 6) X dX5_no_5 rfl hb.1 ?_
  refine hr_dup2 (q := 7) X dX5_no_6 rfl rfl rfl ?_
  refine hr_ialdN (v := (A.2.2.1 8 (iN (-b)))) (q := 8) X dX5_no_7 rfl (hR.ka (n := 8) rfl rfl rfl) (Or.inl rfl) hb.2 (by decide) ((hR.ar rfl _).trans (hA.r (by decide) _)) ?_
  refine hr_iconst (v := (nI 1)) (q := 9) X dX5_no_8 rfl rfl ?_
  refine hr_iadd (v := (A.2.2.1 8 (iN (-b)) + 1)) (q := 10) X dX5_no_9 rfl rfl ?_
  refine hr_iastN (q := 11) X dX5_no_10 rfl (hR.ka (n := 8) rfl rfl rfl) hb.2 (by decide) ?_
  have hR1 := hR.setA (k := 8) rfl (iN (-b)) (A.2.2.1 8 (iN (-b)) + 1)
  have hA1 := hA.rA (k := 8) (j := iN (-b)) (by decide) (A.2.2.1 8 (iN (-b)) + 1)
  refine hr_iload1 (q := 12) X dX5_no_11 rfl ?_
  exact hr_iret X hr dX5_no_12 (tw_end rfl hR1 hA1)

theorem tk_noTen {l : Launch} {D : hg_D} {lo : Nat} (htr : l.stackTraces = false) {G : hg_G} {o : Nat} {am : Nat → Nat} {u : tw_S} {A : ab_S} (hR : tw_R G o am u) (hA : tw_A u A) {b : Int32} (hb : -b = nI (iN (-b)) ∧ iN (-b) < 8) :
    hg_M l D lo yX5_noTen (ws_ yX5_noTen cX5_noTen 2 ((some FieldType.int))) rm_X5_noTen [.ref o, .int b] G (tw_Po o am (sq_noTen b A)) := by
  refine hg_M.of htr (by decide) [some (.ref o), some (.int b)] rfl (Nat.le_of_ble_eq_true rfl) ?_
  intro p e s m args below meth c X hr hnm htab
  have X : hg_X p l s m args meth c D lo "TaxOnLooksModel" cX5_noTen 2 := X
  refine hr_aload0 (q := 1) X dX5_noTen_0 rfl ?_
  refine hr_getR (v := am 8) (q := 4) X dX5_noTen_1 rfl fr_q1390_5 rfl hR.om (hR.f rfl) ?_
  refine hr_iload1 (q := 5) X dX5_noTen_4 rfl ?_
  refine hr_ineg (v := (nI (iN (-b)))) (q := 6) X dX5_noTen_5 rfl hb.1 ?_
  refine hr_dup2 (q := 7) X dX5_noTen_6 rfl rfl rfl ?_
  refine hr_ialdN (v := (A.2.2.1 8 (iN (-b)))) (q := 8) X dX5_noTen_7 rfl (hR.ka (n := 8) rfl rfl rfl) (Or.inl rfl) hb.2 (by decide) ((hR.ar rfl _).trans (hA.r (by decide) _)) ?_
  refine hr_iconst (v := (nI 1)) (q := 9) X dX5_noTen_8 rfl rfl ?_
  refine hr_iadd (v := (A.2.2.1 8 (iN (-b)) + 1)) (q := 10) X dX5_noTen_9 rfl rfl ?_
  refine hr_iastN (q := 11) X dX5_noTen_10 rfl (hR.ka (n := 8) rfl rfl rfl) hb.2 (by decide) ?_
  have hR1 := hR.setA (k := 8) rfl (iN (-b)) (A.2.2.1 8 (iN (-b)) + 1)
  have hA1 := hA.rA (k := 8) (j := iN (-b)) (by decide) (A.2.2.1 8 (iN (-b)) + 1)
  refine hr_iload1 (q := 12) X dX5_noTen_11 rfl ?_
  refine hr_bipush (v := (nI 10)) (q := 14) X dX5_noTen_12 rfl rfl ?_
  refine hr_isub (v := (b - (nI 10))) (q := 15) X dX5_noTen_14 rfl rfl ?_
  exact hr_iret X hr dX5_noTen_15 (tw_end rfl hR1 hA1)

def sp_asked (w v : Int32) : Bool := if w = 0 then sp_fr v (nI 1) (nI 9) else if w = nI 1 then sp_fr v (nI 1) (nI 5) else sp_fr v (nI 0) (nI 1)

theorem sp_askedN {w v : Int32} (h : sp_asked w v = true) : v = nI (iN v) ∧ iN v ≤ 9 := by
  unfold sp_asked at h
  split at h
  · have := sp_frN (by decide) (by decide) h; exact ⟨this.1, by omega⟩
  · split at h
    · have := sp_frN (by decide) (by decide) h; exact ⟨this.1, by omega⟩
    · have := sp_frN (by decide) (by decide) h; exact ⟨this.1, by omega⟩

theorem tk_isAsked {l : Launch} {D : hg_D} {lo : Nat} (htr : l.stackTraces = false) {G : hg_G} {o : Nat} {am : Nat → Nat} {u : tw_S} (hR : tw_R G o am u) (a1 a2 : Int32) :
    hg_M l D lo yX5_isAsked (ws_ yX5_isAsked cX5_isAsked 3 ((some FieldType.boolean))) rm_X5_isAsked [.ref o, .int a1, .int a2] G (hg_Pv G (.int (bI (sp_asked a1 a2)))) := by
  refine hg_M.of htr (by decide) [some (.ref o), some (.int a1), some (.int a2)] rfl (Nat.le_of_ble_eq_true rfl) ?_
  intro p e s m args below meth c X hr hnm htab
  have X : hg_X p l s m args meth c D lo "TaxOnLooksModel" cX5_isAsked 3 := X
  refine hr_iload1 (q := 1) X dX5_isAsked_0 rfl ?_
  refine hr_if_ne (q := 4) (tgt := 15) X dX5_isAsked_1 rfl (by decide) (fun c1 => ?_) (fun c1 => ?_)
  · refine hr_iload1 (q := 16) X dX5_isAsked_15 rfl ?_
    refine hr_iconst (v := (nI 1)) (q := 17) X dX5_isAsked_16 rfl rfl ?_
    refine hr_icmp_ne (q := 20) (tgt := 30) X dX5_isAsked_17 rfl (by decide) (fun c17 => ?_) (fun c17 => ?_)
    · refine hr_aload0 (q := 31) X dX5_isAsked_30 rfl ?_
      refine hr_iload2 (q := 32) X dX5_isAsked_31 rfl ?_
      refine hr_iconst (v := (nI 0)) (q := 33) X dX5_isAsked_32 rfl rfl ?_
      refine hr_iconst (v := (nI 1)) (q := 34) X dX5_isAsked_33 rfl rfl ?_
      refine hr_callP (q := 37) (hc_V (n := 3) (ci := 5) (As := [.int a2, .int (nI 0), .int (nI 1)]) X dX5_isAsked_34 rfl (tk_isFrom X.tr hR a2 (nI 0) (nI 1)) q1563 cv_X5_isFrom ⟨Nat.le_of_ble_eq_true rfl, Nat.le_of_ble_eq_true rfl⟩ rfl (Nat.le_of_ble_eq_true rfl) hR.om rfl rfl) rfl ?_
      exact hr_zret X hr (bI_nar _) dX5_isAsked_37 ⟨by rw [sp_asked, if_neg c1, if_neg c17], rfl⟩
    · refine hr_aload0 (q := 21) X dX5_isAsked_20 rfl ?_
      refine hr_iload2 (q := 22) X dX5_isAsked_21 rfl ?_
      refine hr_iconst (v := (nI 1)) (q := 23) X dX5_isAsked_22 rfl rfl ?_
      refine hr_iconst (v := (nI 5)) (q := 24) X dX5_isAsked_23 rfl rfl ?_
      refine hr_callP (q := 27) (hc_V (n := 3) (ci := 5) (As := [.int a2, .int (nI 1), .int (nI 5)]) X dX5_isAsked_24 rfl (tk_isFrom X.tr hR a2 (nI 1) (nI 5)) q1563 cv_X5_isFrom ⟨Nat.le_of_ble_eq_true rfl, Nat.le_of_ble_eq_true rfl⟩ rfl (Nat.le_of_ble_eq_true rfl) hR.om rfl rfl) rfl ?_
      refine hr_goto (tgt := 37) X dX5_isAsked_27 (by decide) ?_
      exact hr_zret X hr (bI_nar _) dX5_isAsked_37 ⟨by rw [sp_asked, if_neg c1, if_pos c17], rfl⟩
  · refine hr_aload0 (q := 5) X dX5_isAsked_4 rfl ?_
    refine hr_iload2 (q := 6) X dX5_isAsked_5 rfl ?_
    refine hr_iconst (v := (nI 1)) (q := 7) X dX5_isAsked_6 rfl rfl ?_
    refine hr_bipush (v := (nI 9)) (q := 9) X dX5_isAsked_7 rfl rfl ?_
    refine hr_callP (q := 12) (hc_V (n := 3) (ci := 5) (As := [.int a2, .int (nI 1), .int (nI 9)]) X dX5_isAsked_9 rfl (tk_isFrom X.tr hR a2 (nI 1) (nI 9)) q1563 cv_X5_isFrom ⟨Nat.le_of_ble_eq_true rfl, Nat.le_of_ble_eq_true rfl⟩ rfl (Nat.le_of_ble_eq_true rfl) hR.om rfl rfl) rfl ?_
    refine hr_goto (tgt := 37) X dX5_isAsked_12 (by decide) ?_
    exact hr_zret X hr (bI_nar _) dX5_isAsked_37 ⟨by rw [sp_asked, if_pos c1], rfl⟩

def sp_there (t : sp_S) (z : Nat) : Nat := sp_bits (fun x => t.1 14 x == z) (t.1 0 0)
theorem sp_there_lt {t : sp_S} (hw : sp_wf t) (z : Nat) : sp_there t z < 128 := sp_bits_128 _ hw.b0

theorem tk_thereAt {l : Launch} {D : hg_D} {lo : Nat} (htr : l.stackTraces = false) {G : hg_G} {o : Nat} {am : Nat → Nat} {u : tw_S} (hR : tw_R G o am u) {t : sp_S} (hT : tw_T u t) (hw : sp_wf t) {z : Nat} (hz : z < 36) :
    hg_M l D lo yX5_thereAt (ws_ yX5_thereAt cX5_thereAt 4 ((some FieldType.int))) rm_X5_thereAt [.ref o, .int (nI z)] G (hg_Pv G (.int (nI (sp_there t z)))) := by
  refine hg_M.of htr (by decide) [some (.ref o), some (.int (nI z)), none, none] rfl (Nat.le_of_ble_eq_true rfl) ?_
  intro p e s m args below meth c X hr hnm htab
  have X : hg_X p l s m args meth c D lo "TaxOnLooksModel" cX5_thereAt 4 := X
  have w0 := hw.b0; have w1 := hw.b1; have w2 := hw.b2; have w3 := hw.b3
  have w36 := hw.b36
  refine hr_iconst (v := (nI 0)) (q := 1) X dX5_thereAt_0 rfl rfl ?_
  refine hr_istore2 (q := 2) X dX5_thereAt_1 rfl rfl (Nat.le_of_ble_eq_true rfl) ?_
  refine hr_iconst (v := (nI 0)) (q := 3) X dX5_thereAt_2 rfl rfl ?_
  refine hr_istore3 (q := 4) X dX5_thereAt_3 rfl rfl (Nat.le_of_ble_eq_true rfl) ?_
  have loop4 : ∀ (kr nr n : Nat) (i S : Nat), (i ≤ t.1 0 0) → (t.1 0 0 + 1 ≤ i + n) → (S = sp_bits (fun x => t.1 14 x == z) i) → hg_W p l e rm_X5_thereAt s m args below meth c (hg_Q below D lo args s rm_X5_thereAt G (hg_Pv G (.int (nI (sp_there t z))))) D lo G.1 4 kr nr G 4 [some (.ref o), some (.int (nI z)), some (.int (nI S)), some (.int (nI i))] [] := by
    intro kr nr n
    induction n with
    | zero =>
      intro i S h4_0 h4_1 h4_2
      omega
    | succ n ih =>
      intro i S h4_0 h4_1 h4_2
      refine hr_iload3 (q := 5) X dX5_thereAt_4 rfl ?_
      refine hr_aload0 (q := 6) X dX5_thereAt_5 rfl ?_
      refine hr_getI (v := (nI (t.1 0 0))) (q := 9) X dX5_thereAt_6 rfl fr_q1382_5 rfl hR.om ((hR.sc 0).trans (hT.sc (by decide))) ?_
      refine hr_icmpN_ge (q := 12) (tgt := 34) X dX5_thereAt_9 rfl (by decide) (by omega) (by omega) (fun c9 => ?_) (fun c9 => ?_)
      · refine hr_iload2 (q := 35) X dX5_thereAt_34 rfl ?_
        exact hr_iret X hr dX5_thereAt_35 ⟨hz_i (congrArg nI (by rw [h4_2, show i = t.1 0 0 by omega]; rfl)), rfl⟩
      · refine hr_aload0 (q := 13) X dX5_thereAt_12 rfl ?_
        refine hr_getR (v := am 14) (q := 16) X dX5_thereAt_13 rfl fr_q1396_5 rfl hR.om (hR.f rfl) ?_
        refine hr_iload3 (q := 17) X dX5_thereAt_16 rfl ?_
        refine hr_ialdN (v := (nI (t.1 14 i))) (q := 18) X dX5_thereAt_17 rfl (hR.ka (n := 7) rfl rfl rfl) (Or.inl rfl) (by omega) (by decide) ((hR.ar rfl _).trans (hT.p (by decide) (by decide) (by omega))) ?_
        have b17 := hw.b14 (show i < 7 by omega)
        refine hr_iload1 (q := 19) X dX5_thereAt_18 rfl ?_
        refine hr_icmpN_ne (q := 22) (tgt := 28) X dX5_thereAt_19 rfl (by decide) (by omega) (by omega) (fun c19 => ?_) (fun c19 => ?_)
        · refine hr_iinc3 (v := (nI (i + 1))) (q := 31) X dX5_thereAt_28 rfl (nI_add _ _) rfl (Nat.le_of_ble_eq_true rfl) ?_
          refine hr_goto (tgt := 4) X dX5_thereAt_31 (by decide) ?_
          exact ih (i + 1) S (by omega) (by omega) (by rw [h4_2, sp_bits_f (f := fun x => t.1 14 x == z) (by simp [c19])])
        · refine hr_iload2 (q := 23) X dX5_thereAt_22 rfl ?_
          refine hr_iconst (v := (nI 1)) (q := 24) X dX5_thereAt_23 rfl rfl ?_
          refine hr_iload3 (q := 25) X dX5_thereAt_24 rfl ?_
          refine hr_ishl (v := (nI (2 ^ i))) (q := 26) X dX5_thereAt_25 rfl (sp_shl (by omega)) ?_
          refine hr_iadd (v := (nI (S + (2 ^ i)))) (q := 27) X dX5_thereAt_26 rfl (nI_add _ _) ?_
          refine hr_istore2 (q := 28) X dX5_thereAt_27 rfl rfl (Nat.le_of_ble_eq_true rfl) ?_
          refine hr_iinc3 (v := (nI (i + 1))) (q := 31) X dX5_thereAt_28 rfl (nI_add _ _) rfl (Nat.le_of_ble_eq_true rfl) ?_
          refine hr_goto (tgt := 4) X dX5_thereAt_31 (by decide) ?_
          exact ih (i + 1) (S + (2 ^ i)) (by omega) (by omega) (by rw [h4_2, sp_bits_t (f := fun x => t.1 14 x == z) (by simp [c19])])
  exact loop4 _ _ (t.1 0 0 + 1) 0 0 (by omega) (by omega) rfl

def sp_beside (c w : Nat) : Nat := if w = 0 then (if c / 6 = 0 then 99 else c - 6) else if w = 1 then (if c % 6 = 5 then 99 else c + 1) else if w = 2 then (if c / 6 = 5 then 99 else c + 6) else (if c % 6 = 0 then 99 else c - 1)

theorem tk_beside {l : Launch} {D : hg_D} {lo : Nat} (htr : l.stackTraces = false) {G : hg_G} {o : Nat} {am : Nat → Nat} {u : tw_S} (hR : tw_R G o am u) {z v : Nat} (hz : z < 36) (hv : v < 4) :
    hg_M l D lo yX5_beside (ws_ yX5_beside cX5_beside 5 ((some FieldType.int))) rm_X5_beside [.ref o, .int (nI z), .int (nI v)] G (hg_Pv G (.int (oI (sp_beside z v)))) := by
  refine hg_M.of htr (by decide) [some (.ref o), some (.int (nI z)), some (.int (nI v)), none, none] rfl (Nat.le_of_ble_eq_true rfl) ?_
  intro p e s m args below meth c X hr hnm htab
  have X : hg_X p l s m args meth c D lo "TaxOnLooksModel" cX5_beside 5 := X
  refine hr_iload1 (q := 1) X dX5_beside_0 rfl ?_
  refine hr_bipush (v := (nI 6)) (q := 3) X dX5_beside_1 rfl rfl ?_
  refine hr_idiv (v := (nI (z / 6))) (q := 4) X dX5_beside_3 rfl (by decide) (pk_div (by omega) (by decide) (by decide)) ?_
  refine hr_istore3 (q := 5) X dX5_beside_4 rfl rfl (Nat.le_of_ble_eq_true rfl) ?_
  refine hr_iload1 (q := 6) X dX5_beside_5 rfl ?_
  refine hr_bipush (v := (nI 6)) (q := 8) X dX5_beside_6 rfl rfl ?_
  refine hr_irem (v := (nI (z % 6))) (q := 9) X dX5_beside_8 rfl (by decide) (pk_rem (by omega) (by decide) (by decide)) ?_
  refine hr_istore4 (q := 11) X dX5_beside_9 rfl rfl (Nat.le_of_ble_eq_true rfl) ?_
  refine hr_iload2 (q := 12) X dX5_beside_11 rfl ?_
  refine hr_ifN_ne (q := 15) (tgt := 28) X dX5_beside_12 rfl (by decide) (by omega) (fun c12 => ?_) (fun c12 => ?_)
  · refine hr_iload2 (q := 29) X dX5_beside_28 rfl ?_
    refine hr_iconst (v := (nI 1)) (q := 30) X dX5_beside_29 rfl rfl ?_
    refine hr_icmpN_ne (q := 33) (tgt := 47) X dX5_beside_30 rfl (by decide) (by omega) (by omega) (fun c30 => ?_) (fun c30 => ?_)
    · refine hr_iload2 (q := 48) X dX5_beside_47 rfl ?_
      refine hr_iconst (v := (nI 2)) (q := 49) X dX5_beside_48 rfl rfl ?_
      refine hr_icmpN_ne (q := 52) (tgt := 66) X dX5_beside_49 rfl (by decide) (by omega) (by omega) (fun c49 => ?_) (fun c49 => ?_)
      · refine hr_iload4 (q := 68) X dX5_beside_66 rfl ?_
        refine hr_ifN_ne (q := 71) (tgt := 75) X dX5_beside_68 rfl (by decide) (by omega) (fun c68 => ?_) (fun c68 => ?_)
        · refine hr_iload1 (q := 76) X dX5_beside_75 rfl ?_
          refine hr_iconst (v := (nI 1)) (q := 77) X dX5_beside_76 rfl rfl ?_
          refine hr_isub (v := (nI (z - 1))) (q := 78) X dX5_beside_77 rfl (pk_sub (by omega)) ?_
          exact hr_iret X hr dX5_beside_78 ⟨hz_i (show (nI (z - 1)) = oI (sp_beside z v) by rw [show sp_beside z v = z - 1 by unfold sp_beside; (repeat' split) <;> omega]; exact (oI_of (by omega)).symm), rfl⟩
        · refine hr_iconst (v := (-1)) (q := 72) X dX5_beside_71 rfl rfl ?_
          refine hr_goto (tgt := 78) X dX5_beside_72 (by decide) ?_
          exact hr_iret X hr dX5_beside_78 ⟨hz_i (show -1 = oI (sp_beside z v) by rw [show sp_beside z v = 99 by unfold sp_beside; (repeat' split) <;> omega]; rfl), rfl⟩
      · refine hr_iload3 (q := 53) X dX5_beside_52 rfl ?_
        refine hr_iconst (v := (nI 5)) (q := 54) X dX5_beside_53 rfl rfl ?_
        refine hr_icmpN_ne (q := 57) (tgt := 61) X dX5_beside_54 rfl (by decide) (by omega) (by omega) (fun c54 => ?_) (fun c54 => ?_)
        · refine hr_iload1 (q := 62) X dX5_beside_61 rfl ?_
          refine hr_bipush (v := (nI 6)) (q := 64) X dX5_beside_62 rfl rfl ?_
          refine hr_iadd (v := (nI (z + 6))) (q := 65) X dX5_beside_64 rfl (nI_add _ _) ?_
          exact hr_iret X hr dX5_beside_65 ⟨hz_i (show (nI (z + 6)) = oI (sp_beside z v) by rw [show sp_beside z v = z + 6 by unfold sp_beside; (repeat' split) <;> omega]; exact (oI_of (by omega)).symm), rfl⟩
        · refine hr_iconst (v := (-1)) (q := 58) X dX5_beside_57 rfl rfl ?_
          refine hr_goto (tgt := 65) X dX5_beside_58 (by decide) ?_
          exact hr_iret X hr dX5_beside_65 ⟨hz_i (show -1 = oI (sp_beside z v) by rw [show sp_beside z v = 99 by unfold sp_beside; (repeat' split) <;> omega]; rfl), rfl⟩
    · refine hr_iload4 (q := 35) X dX5_beside_33 rfl ?_
      refine hr_iconst (v := (nI 5)) (q := 36) X dX5_beside_35 rfl rfl ?_
      refine hr_icmpN_ne (q := 39) (tgt := 43) X dX5_beside_36 rfl (by decide) (by omega) (by omega) (fun c36 => ?_) (fun c36 => ?_)
      · refine hr_iload1 (q := 44) X dX5_beside_43 rfl ?_
        refine hr_iconst (v := (nI 1)) (q := 45) X dX5_beside_44 rfl rfl ?_
        refine hr_iadd (v := (nI (z + 1))) (q := 46) X dX5_beside_45 rfl (nI_add _ _) ?_
        exact hr_iret X hr dX5_beside_46 ⟨hz_i (show (nI (z + 1)) = oI (sp_beside z v) by rw [show sp_beside z v = z + 1 by unfold sp_beside; (repeat' split) <;> omega]; exact (oI_of (by omega)).symm), rfl⟩
      · refine hr_iconst (v := (-1)) (q := 40) X dX5_beside_39 rfl rfl ?_
        refine hr_goto (tgt := 46) X dX5_beside_40 (by decide) ?_
        exact hr_iret X hr dX5_beside_46 ⟨hz_i (show -1 = oI (sp_beside z v) by rw [show sp_beside z v = 99 by unfold sp_beside; (repeat' split) <;> omega]; rfl), rfl⟩
  · refine hr_iload3 (q := 16) X dX5_beside_15 rfl ?_
    refine hr_ifN_ne (q := 19) (tgt := 23) X dX5_beside_16 rfl (by decide) (by omega) (fun c16 => ?_) (fun c16 => ?_)
    · refine hr_iload1 (q := 24) X dX5_beside_23 rfl ?_
      refine hr_bipush (v := (nI 6)) (q := 26) X dX5_beside_24 rfl rfl ?_
      refine hr_isub (v := (nI (z - 6))) (q := 27) X dX5_beside_26 rfl (pk_sub (by omega)) ?_
      exact hr_iret X hr dX5_beside_27 ⟨hz_i (show (nI (z - 6)) = oI (sp_beside z v) by rw [show sp_beside z v = z - 6 by unfold sp_beside; (repeat' split) <;> omega]; exact (oI_of (by omega)).symm), rfl⟩
    · refine hr_iconst (v := (-1)) (q := 20) X dX5_beside_19 rfl rfl ?_
      refine hr_goto (tgt := 27) X dX5_beside_20 (by decide) ?_
      exact hr_iret X hr dX5_beside_27 ⟨hz_i (show -1 = oI (sp_beside z v) by rw [show sp_beside z v = 99 by unfold sp_beside; (repeat' split) <;> omega]; rfl), rfl⟩

def sq_set (a1 : Int32) (a2 : Int32) (a3 : Int64) (A : ab_S) : Int32 × ab_S :=
  if sp_in a1 8 = true then if (A.1.1 18 (iN a1)) = 2 then (((sq_no (-2) A).1), (sq_no (-2) A).2)
    else if (A.1.1 18 (iN a1)) = 0 then (((sq_no (-3) A).1), (sq_no (-3) A).2)
    else if a2 < 0 then (((sq_no (-5) A).1), (sq_no (-5) A).2)
    else if a2 < (nI (A.1.1 20 (iN a1))) then if (A.1.1 19 (iN a1)) = 0 then ((nI 1), ab_c A (160 * (iN a1) + (iN a2)) a3.toInt32.toInt8.toInt32.toInt64)
      else if (A.1.1 19 (iN a1)) = 1 then ((nI 1), ab_c A (160 * (iN a1) + (iN a2)) a3.toInt32.toInt16.toInt32.toInt64)
      else if (A.1.1 19 (iN a1)) = 2 then ((nI 1), ab_c A (160 * (iN a1) + (iN a2)) a3.toInt32.toInt64)
      else ((nI 1), ab_c A (160 * (iN a1) + (iN a2)) a3)
    else (((sq_no (-5) A).1), (sq_no (-5) A).2)
  else (((sq_no (-1) A).1), (sq_no (-1) A).2)
theorem tk_set {l : Launch} {D : hg_D} {lo : Nat} (htr : l.stackTraces = false) {G : hg_G} {o : Nat} {am : Nat → Nat} {u : tw_S} {A : ab_S} (hR : tw_R G o am u) (hA : tw_A u A) {a1 : Int32} {a2 : Int32} {a3 : Int64} (hW : ab_wf A) :
    hg_M l D lo yX5_set (ws_ yX5_set cX5_set 5 ((some FieldType.int))) rm_X5_set [.ref o, .int a1, .int a2, .long a3] G (tw_Po o am (sq_set a1 a2 a3 A)) := by
  have hw := hW.w; have w0 := hw.b0; have w1 := hw.b1; have w2 := hw.b2; have w3 := hw.b3; have w36 := hW.b36; have w43 := hW.b43
  refine hg_M.of htr (by decide) [some (.ref o), some (.int a1), some (.int a2), some (.long a3), none] rfl (Nat.le_of_ble_eq_true rfl) ?_
  intro p e s m args below meth c X hr hnm htab
  have X : hg_X p l s m args meth c D lo "TaxOnLooksModel" cX5_set 5 := X
  refine hr_aload0 (q := 1) X dX5_set_0 rfl ?_
  refine hr_iload1 (q := 2) X dX5_set_1 rfl ?_
  refine hr_callP (q := 5) (hc_V (n := 1) (ci := 5) (As := [.int a1]) X dX5_set_2 rfl (tk_isShelf X.tr hR a1) q1519 cv_X5_isShelf ⟨Nat.le_of_ble_eq_true rfl, Nat.le_of_ble_eq_true rfl⟩ rfl (Nat.le_of_ble_eq_true rfl) hR.om rfl rfl) rfl ?_
  refine hr_ifB_ne (q := 8) (tgt := 14) X dX5_set_5 rfl (by decide) (fun c5 => ?_) (fun c5 => ?_)
  · have n14_1 := sp_inN (by decide) c5
    refine hr_L (L' := [some (.ref o), some (.int (nI (iN a1))), some (.int a2), some (.long a3), none]) (by rw [← n14_1.1]) ?_
    refine hr_aload0 (q := 15) X dX5_set_14 rfl ?_
    refine hr_getR (v := am 18) (q := 18) X dX5_set_15 rfl fr_q1400_5 rfl hR.om (hR.f rfl) ?_
    refine hr_iload1 (q := 19) X dX5_set_18 rfl ?_
    refine hr_ialdN (v := (nI (A.1.1 18 (iN a1)))) (q := 20) X dX5_set_19 rfl (hR.ka (n := 8) rfl rfl rfl) (Or.inl rfl) (by omega) (by decide) ((hR.ar rfl _).trans (hA.s (by decide) (by decide) (by omega))) ?_
    have b19 := hW.b18 (show iN a1 < 8 by omega)
    refine hr_iconst (v := (nI 2)) (q := 21) X dX5_set_20 rfl rfl ?_
    refine hr_icmpN_ne (q := 24) (tgt := 31) X dX5_set_21 rfl (by decide) (by omega) (by omega) (fun c21 => ?_) (fun c21 => ?_)
    · refine hr_aload0 (q := 32) X dX5_set_31 rfl ?_
      refine hr_getR (v := am 18) (q := 35) X dX5_set_32 rfl fr_q1400_5 rfl hR.om (hR.f rfl) ?_
      refine hr_iload1 (q := 36) X dX5_set_35 rfl ?_
      refine hr_ialdN (v := (nI (A.1.1 18 (iN a1)))) (q := 37) X dX5_set_36 rfl (hR.ka (n := 8) rfl rfl rfl) (Or.inl rfl) (by omega) (by decide) ((hR.ar rfl _).trans (hA.s (by decide) (by decide) (by omega))) ?_
      have b36 := hW.b18 (show iN a1 < 8 by omega)
      refine hr_ifN_ne (q := 40) (tgt := 47) X dX5_set_37 rfl (by decide) (by omega) (fun c37 => ?_) (fun c37 => ?_)
      · refine hr_iload2 (q := 48) X dX5_set_47 rfl ?_
        refine hr_if_lt (q := 51) (tgt := 61) X dX5_set_48 rfl (by decide) (fun c48 => ?_) (fun c48 => ?_)
        · refine hr_aload0 (q := 62) X dX5_set_61 rfl ?_
          refine hr_bipush (v := (-5)) (q := 64) X dX5_set_62 rfl rfl ?_
          refine hr_callT (q := 67) (hc_V (n := 1) (ci := 5) (As := [.int (-5)]) X dX5_set_64 rfl (tk_no X.tr hR hA (b := (-5)) (by decide)) q1523 cv_X5_no ⟨Nat.le_of_ble_eq_true rfl, Nat.le_of_ble_eq_true rfl⟩ rfl (Nat.le_of_ble_eq_true rfl) hR.om rfl rfl) rfl (fun G1 u1 hR1 hA1 => ?_)
          exact hr_iret X hr dX5_set_67 (tw_end (by rw [sq_set, if_pos c5, if_neg (show ¬ ((A.1.1 18 (iN a1)) = 2) by omega), if_neg (show ¬ ((A.1.1 18 (iN a1)) = 0) by omega), if_pos c48]) hR1 hA1)
        · refine hr_iload2 (q := 52) X dX5_set_51 rfl ?_
          refine hr_aload0 (q := 53) X dX5_set_52 rfl ?_
          refine hr_getR (v := am 20) (q := 56) X dX5_set_53 rfl fr_q1402_5 rfl hR.om (hR.f rfl) ?_
          refine hr_iload1 (q := 57) X dX5_set_56 rfl ?_
          refine hr_ialdN (v := (nI (A.1.1 20 (iN a1)))) (q := 58) X dX5_set_57 rfl (hR.ka (n := 8) rfl rfl rfl) (Or.inl rfl) (by omega) (by decide) ((hR.ar rfl _).trans (hA.s (by decide) (by decide) (by omega))) ?_
          have b57 := hW.b20 (show iN a1 < 8 by omega)
          refine hr_icmp_lt (q := 61) (tgt := 68) X dX5_set_58 rfl (by decide) (fun c58 => ?_) (fun c58 => ?_)
          · have n68_2 := sp_ltN (by omega) c48 c58
            refine hr_L (L' := [some (.ref o), some (.int (nI (iN a1))), some (.int (nI (iN a2))), some (.long a3), none]) (by rw [← n68_2.1]) ?_
            refine hr_aload0 (q := 69) X dX5_set_68 rfl ?_
            refine hr_getR (v := am 22) (q := 72) X dX5_set_69 rfl fr_q1404_5 rfl hR.om (hR.f rfl) ?_
            refine hr_sipush (v := (nI 160)) (q := 75) X dX5_set_72 rfl rfl ?_
            refine hr_iload1 (q := 76) X dX5_set_75 rfl ?_
            refine hr_imul (v := (nI (160 * (iN a1)))) (q := 77) X dX5_set_76 rfl (pk_mul _ _) ?_
            refine hr_iload2 (q := 78) X dX5_set_77 rfl ?_
            refine hr_iadd (v := (nI (160 * (iN a1) + (iN a2)))) (q := 79) X dX5_set_78 rfl (nI_add _ _) ?_
            refine hr_aload0 (q := 80) X dX5_set_79 rfl ?_
            refine hr_getR (v := am 19) (q := 83) X dX5_set_80 rfl fr_q1401_5 rfl hR.om (hR.f rfl) ?_
            refine hr_iload1 (q := 84) X dX5_set_83 rfl ?_
            refine hr_ialdN (v := (nI (A.1.1 19 (iN a1)))) (q := 85) X dX5_set_84 rfl (hR.ka (n := 8) rfl rfl rfl) (Or.inl rfl) (by omega) (by decide) ((hR.ar rfl _).trans (hA.s (by decide) (by decide) (by omega))) ?_
            have b84 := hW.b19 (show iN a1 < 8 by omega)
            refine hr_ifN_ne (q := 88) (tgt := 95) X dX5_set_85 rfl (by decide) (by omega) (fun c85 => ?_) (fun c85 => ?_)
            · refine hr_aload0 (q := 96) X dX5_set_95 rfl ?_
              refine hr_getR (v := am 19) (q := 99) X dX5_set_96 rfl fr_q1401_5 rfl hR.om (hR.f rfl) ?_
              refine hr_iload1 (q := 100) X dX5_set_99 rfl ?_
              refine hr_ialdN (v := (nI (A.1.1 19 (iN a1)))) (q := 101) X dX5_set_100 rfl (hR.ka (n := 8) rfl rfl rfl) (Or.inl rfl) (by omega) (by decide) ((hR.ar rfl _).trans (hA.s (by decide) (by decide) (by omega))) ?_
              have b100 := hW.b19 (show iN a1 < 8 by omega)
              refine hr_iconst (v := (nI 1)) (q := 102) X dX5_set_101 rfl rfl ?_
              refine hr_icmpN_ne (q := 105) (tgt := 112) X dX5_set_102 rfl (by decide) (by omega) (by omega) (fun c102 => ?_) (fun c102 => ?_)
              · refine hr_aload0 (q := 113) X dX5_set_112 rfl ?_
                refine hr_getR (v := am 19) (q := 116) X dX5_set_113 rfl fr_q1401_5 rfl hR.om (hR.f rfl) ?_
                refine hr_iload1 (q := 117) X dX5_set_116 rfl ?_
                refine hr_ialdN (v := (nI (A.1.1 19 (iN a1)))) (q := 118) X dX5_set_117 rfl (hR.ka (n := 8) rfl rfl rfl) (Or.inl rfl) (by omega) (by decide) ((hR.ar rfl _).trans (hA.s (by decide) (by decide) (by omega))) ?_
                have b117 := hW.b19 (show iN a1 < 8 by omega)
                refine hr_iconst (v := (nI 2)) (q := 119) X dX5_set_118 rfl rfl ?_
                refine hr_icmpN_ne (q := 122) (tgt := 128) X dX5_set_119 rfl (by decide) (by omega) (by omega) (fun c119 => ?_) (fun c119 => ?_)
                · refine hr_lload3 (q := 129) X dX5_set_128 rfl ?_
                  refine hr_lastN (q := 130) X dX5_set_129 rfl (hR.ka (n := 1280) rfl rfl rfl) (by omega) (by decide) ?_
                  have hR2 := hR.setJ (k := 22) rfl (160 * (iN a1) + (iN a2)) a3
                  have hA2 := hA.cJ (160 * (iN a1) + (iN a2)) a3
                  refine hr_iconst (v := (nI 1)) (q := 131) X dX5_set_130 rfl rfl ?_
                  exact hr_iret X hr dX5_set_131 (tw_end (by rw [sq_set, if_pos c5, if_neg (show ¬ ((A.1.1 18 (iN a1)) = 2) by omega), if_neg (show ¬ ((A.1.1 18 (iN a1)) = 0) by omega), if_neg c48, if_pos c58, if_neg (show ¬ ((A.1.1 19 (iN a1)) = 0) by omega), if_neg (show ¬ ((A.1.1 19 (iN a1)) = 1) by omega), if_neg (show ¬ ((A.1.1 19 (iN a1)) = 2) by omega)]) hR2 hA2)
                · refine hr_lload3 (q := 123) X dX5_set_122 rfl ?_
                  refine hr_l2i (v := a3.toInt32) (q := 124) X dX5_set_123 rfl rfl ?_
                  refine hr_i2l (v := a3.toInt32.toInt64) (q := 125) X dX5_set_124 rfl rfl ?_
                  refine hr_goto (tgt := 129) X dX5_set_125 (by decide) ?_
                  refine hr_lastN (q := 130) X dX5_set_129 rfl (hR.ka (n := 1280) rfl rfl rfl) (by omega) (by decide) ?_
                  have hR3 := hR.setJ (k := 22) rfl (160 * (iN a1) + (iN a2)) a3.toInt32.toInt64
                  have hA3 := hA.cJ (160 * (iN a1) + (iN a2)) a3.toInt32.toInt64
                  refine hr_iconst (v := (nI 1)) (q := 131) X dX5_set_130 rfl rfl ?_
                  exact hr_iret X hr dX5_set_131 (tw_end (by rw [sq_set, if_pos c5, if_neg (show ¬ ((A.1.1 18 (iN a1)) = 2) by omega), if_neg (show ¬ ((A.1.1 18 (iN a1)) = 0) by omega), if_neg c48, if_pos c58, if_neg (show ¬ ((A.1.1 19 (iN a1)) = 0) by omega), if_neg (show ¬ ((A.1.1 19 (iN a1)) = 1) by omega), if_pos (show (A.1.1 19 (iN a1)) = 2 by omega)]) hR3 hA3)
              · refine hr_lload3 (q := 106) X dX5_set_105 rfl ?_
                refine hr_l2i (v := a3.toInt32) (q := 107) X dX5_set_106 rfl rfl ?_
                refine hr_i2s (v := a3.toInt32.toInt16.toInt32) (q := 108) X dX5_set_107 rfl rfl ?_
                refine hr_i2l (v := a3.toInt32.toInt16.toInt32.toInt64) (q := 109) X dX5_set_108 rfl rfl ?_
                refine hr_goto (tgt := 129) X dX5_set_109 (by decide) ?_
                refine hr_lastN (q := 130) X dX5_set_129 rfl (hR.ka (n := 1280) rfl rfl rfl) (by omega) (by decide) ?_
                have hR4 := hR.setJ (k := 22) rfl (160 * (iN a1) + (iN a2)) a3.toInt32.toInt16.toInt32.toInt64
                have hA4 := hA.cJ (160 * (iN a1) + (iN a2)) a3.toInt32.toInt16.toInt32.toInt64
                refine hr_iconst (v := (nI 1)) (q := 131) X dX5_set_130 rfl rfl ?_
                exact hr_iret X hr dX5_set_131 (tw_end (by rw [sq_set, if_pos c5, if_neg (show ¬ ((A.1.1 18 (iN a1)) = 2) by omega), if_neg (show ¬ ((A.1.1 18 (iN a1)) = 0) by omega), if_neg c48, if_pos c58, if_neg (show ¬ ((A.1.1 19 (iN a1)) = 0) by omega), if_pos (show (A.1.1 19 (iN a1)) = 1 by omega)]) hR4 hA4)
            · refine hr_lload3 (q := 89) X dX5_set_88 rfl ?_
              refine hr_l2i (v := a3.toInt32) (q := 90) X dX5_set_89 rfl rfl ?_
              refine hr_i2b (v := a3.toInt32.toInt8.toInt32) (q := 91) X dX5_set_90 rfl rfl ?_
              refine hr_i2l (v := a3.toInt32.toInt8.toInt32.toInt64) (q := 92) X dX5_set_91 rfl rfl ?_
              refine hr_goto (tgt := 129) X dX5_set_92 (by decide) ?_
              refine hr_lastN (q := 130) X dX5_set_129 rfl (hR.ka (n := 1280) rfl rfl rfl) (by omega) (by decide) ?_
              have hR5 := hR.setJ (k := 22) rfl (160 * (iN a1) + (iN a2)) a3.toInt32.toInt8.toInt32.toInt64
              have hA5 := hA.cJ (160 * (iN a1) + (iN a2)) a3.toInt32.toInt8.toInt32.toInt64
              refine hr_iconst (v := (nI 1)) (q := 131) X dX5_set_130 rfl rfl ?_
              exact hr_iret X hr dX5_set_131 (tw_end (by rw [sq_set, if_pos c5, if_neg (show ¬ ((A.1.1 18 (iN a1)) = 2) by omega), if_neg (show ¬ ((A.1.1 18 (iN a1)) = 0) by omega), if_neg c48, if_pos c58, if_pos (show (A.1.1 19 (iN a1)) = 0 by omega)]) hR5 hA5)
          · refine hr_aload0 (q := 62) X dX5_set_61 rfl ?_
            refine hr_bipush (v := (-5)) (q := 64) X dX5_set_62 rfl rfl ?_
            refine hr_callT (q := 67) (hc_V (n := 1) (ci := 5) (As := [.int (-5)]) X dX5_set_64 rfl (tk_no X.tr hR hA (b := (-5)) (by decide)) q1523 cv_X5_no ⟨Nat.le_of_ble_eq_true rfl, Nat.le_of_ble_eq_true rfl⟩ rfl (Nat.le_of_ble_eq_true rfl) hR.om rfl rfl) rfl (fun G6 u6 hR6 hA6 => ?_)
            exact hr_iret X hr dX5_set_67 (tw_end (by rw [sq_set, if_pos c5, if_neg (show ¬ ((A.1.1 18 (iN a1)) = 2) by omega), if_neg (show ¬ ((A.1.1 18 (iN a1)) = 0) by omega), if_neg c48, if_neg c58]) hR6 hA6)
      · refine hr_aload0 (q := 41) X dX5_set_40 rfl ?_
        refine hr_bipush (v := (-3)) (q := 43) X dX5_set_41 rfl rfl ?_
        refine hr_callT (q := 46) (hc_V (n := 1) (ci := 5) (As := [.int (-3)]) X dX5_set_43 rfl (tk_no X.tr hR hA (b := (-3)) (by decide)) q1523 cv_X5_no ⟨Nat.le_of_ble_eq_true rfl, Nat.le_of_ble_eq_true rfl⟩ rfl (Nat.le_of_ble_eq_true rfl) hR.om rfl rfl) rfl (fun G7 u7 hR7 hA7 => ?_)
        exact hr_iret X hr dX5_set_46 (tw_end (by rw [sq_set, if_pos c5, if_neg (show ¬ ((A.1.1 18 (iN a1)) = 2) by omega), if_pos (show (A.1.1 18 (iN a1)) = 0 by omega)]) hR7 hA7)
    · refine hr_aload0 (q := 25) X dX5_set_24 rfl ?_
      refine hr_bipush (v := (-2)) (q := 27) X dX5_set_25 rfl rfl ?_
      refine hr_callT (q := 30) (hc_V (n := 1) (ci := 5) (As := [.int (-2)]) X dX5_set_27 rfl (tk_no X.tr hR hA (b := (-2)) (by decide)) q1523 cv_X5_no ⟨Nat.le_of_ble_eq_true rfl, Nat.le_of_ble_eq_true rfl⟩ rfl (Nat.le_of_ble_eq_true rfl) hR.om rfl rfl) rfl (fun G8 u8 hR8 hA8 => ?_)
      exact hr_iret X hr dX5_set_30 (tw_end (by rw [sq_set, if_pos c5, if_pos (show (A.1.1 18 (iN a1)) = 2 by omega)]) hR8 hA8)
  · refine hr_aload0 (q := 9) X dX5_set_8 rfl ?_
    refine hr_iconst (v := (-1)) (q := 10) X dX5_set_9 rfl rfl ?_
    refine hr_callT (q := 13) (hc_V (n := 1) (ci := 5) (As := [.int (-1)]) X dX5_set_10 rfl (tk_no X.tr hR hA (b := (-1)) (by decide)) q1523 cv_X5_no ⟨Nat.le_of_ble_eq_true rfl, Nat.le_of_ble_eq_true rfl⟩ rfl (Nat.le_of_ble_eq_true rfl) hR.om rfl rfl) rfl (fun G9 u9 hR9 hA9 => ?_)
    exact hr_iret X hr dX5_set_13 (tw_end (by rw [sq_set, if_neg (by rw [c5]; decide)]) hR9 hA9)

def sq_element (a1 : Int32) (a2 : Int32) (A : ab_S) : Int64 × ab_S :=
  if sp_in a1 8 = true then if (A.1.1 18 (iN a1)) = 1 then if a2 < 0 then (0, A)
      else if (nI (A.1.1 20 (iN a1))) ≤ a2 then (0, A)
      else ((A.2.2.2 (160 * (iN a1) + (iN a2))), A)
    else (0, A)
  else (0, A)
theorem tk_element {l : Launch} {D : hg_D} {lo : Nat} (htr : l.stackTraces = false) {G : hg_G} {o : Nat} {am : Nat → Nat} {u : tw_S} {A : ab_S} (hR : tw_R G o am u) (hA : tw_A u A) {a1 : Int32} {a2 : Int32} (hW : ab_wf A) :
    hg_M l D lo yX5_element (ws_ yX5_element cX5_element 3 ((some FieldType.long))) rm_X5_element [.ref o, .int a1, .int a2] G (tw_Pl o am (sq_element a1 a2 A)) := by
  have hw := hW.w; have w0 := hw.b0; have w1 := hw.b1; have w2 := hw.b2; have w3 := hw.b3; have w36 := hW.b36; have w43 := hW.b43
  refine hg_M.of htr (by decide) [some (.ref o), some (.int a1), some (.int a2)] rfl (Nat.le_of_ble_eq_true rfl) ?_
  intro p e s m args below meth c X hr hnm htab
  have X : hg_X p l s m args meth c D lo "TaxOnLooksModel" cX5_element 3 := X
  refine hr_aload0 (q := 1) X dX5_element_0 rfl ?_
  refine hr_iload1 (q := 2) X dX5_element_1 rfl ?_
  refine hr_callP (q := 5) (hc_V (n := 1) (ci := 5) (As := [.int a1]) X dX5_element_2 rfl (tk_isShelf X.tr hR a1) q1519 cv_X5_isShelf ⟨Nat.le_of_ble_eq_true rfl, Nat.le_of_ble_eq_true rfl⟩ rfl (Nat.le_of_ble_eq_true rfl) hR.om rfl rfl) rfl ?_
  refine hr_ifB_eq (q := 8) (tgt := 47) X dX5_element_5 rfl (by decide) (fun c5 => ?_) (fun c5 => ?_)
  · refine hr_lconst (v := 0) (q := 48) X dX5_element_47 rfl rfl ?_
    exact hr_lret X hr dX5_element_48 (tw_endl (by rw [sq_element, if_neg (by rw [c5]; decide)]) hR hA)
  · have n8_1 := sp_inN (by decide) c5
    refine hr_L (L' := [some (.ref o), some (.int (nI (iN a1))), some (.int a2)]) (by rw [← n8_1.1]) ?_
    refine hr_aload0 (q := 9) X dX5_element_8 rfl ?_
    refine hr_getR (v := am 18) (q := 12) X dX5_element_9 rfl fr_q1400_5 rfl hR.om (hR.f rfl) ?_
    refine hr_iload1 (q := 13) X dX5_element_12 rfl ?_
    refine hr_ialdN (v := (nI (A.1.1 18 (iN a1)))) (q := 14) X dX5_element_13 rfl (hR.ka (n := 8) rfl rfl rfl) (Or.inl rfl) (by omega) (by decide) ((hR.ar rfl _).trans (hA.s (by decide) (by decide) (by omega))) ?_
    have b13 := hW.b18 (show iN a1 < 8 by omega)
    refine hr_iconst (v := (nI 1)) (q := 15) X dX5_element_14 rfl rfl ?_
    refine hr_icmpN_ne (q := 18) (tgt := 47) X dX5_element_15 rfl (by decide) (by omega) (by omega) (fun c15 => ?_) (fun c15 => ?_)
    · refine hr_lconst (v := 0) (q := 48) X dX5_element_47 rfl rfl ?_
      exact hr_lret X hr dX5_element_48 (tw_endl (by rw [sq_element, if_pos c5, if_neg (show ¬ ((A.1.1 18 (iN a1)) = 1) by omega)]) hR hA)
    · refine hr_iload2 (q := 19) X dX5_element_18 rfl ?_
      refine hr_if_lt (q := 22) (tgt := 47) X dX5_element_19 rfl (by decide) (fun c19 => ?_) (fun c19 => ?_)
      · refine hr_lconst (v := 0) (q := 48) X dX5_element_47 rfl rfl ?_
        exact hr_lret X hr dX5_element_48 (tw_endl (by rw [sq_element, if_pos c5, if_pos (show (A.1.1 18 (iN a1)) = 1 by omega), if_pos c19]) hR hA)
      · refine hr_iload2 (q := 23) X dX5_element_22 rfl ?_
        refine hr_aload0 (q := 24) X dX5_element_23 rfl ?_
        refine hr_getR (v := am 20) (q := 27) X dX5_element_24 rfl fr_q1402_5 rfl hR.om (hR.f rfl) ?_
        refine hr_iload1 (q := 28) X dX5_element_27 rfl ?_
        refine hr_ialdN (v := (nI (A.1.1 20 (iN a1)))) (q := 29) X dX5_element_28 rfl (hR.ka (n := 8) rfl rfl rfl) (Or.inl rfl) (by omega) (by decide) ((hR.ar rfl _).trans (hA.s (by decide) (by decide) (by omega))) ?_
        have b28 := hW.b20 (show iN a1 < 8 by omega)
        refine hr_icmp_ge (q := 32) (tgt := 47) X dX5_element_29 rfl (by decide) (fun c29 => ?_) (fun c29 => ?_)
        · refine hr_lconst (v := 0) (q := 48) X dX5_element_47 rfl rfl ?_
          exact hr_lret X hr dX5_element_48 (tw_endl (by rw [sq_element, if_pos c5, if_pos (show (A.1.1 18 (iN a1)) = 1 by omega), if_neg c19, if_pos c29]) hR hA)
        · have n32_2 := sp_ltN (by omega) c19 (Int32.not_le.mp c29)
          refine hr_L (L' := [some (.ref o), some (.int (nI (iN a1))), some (.int (nI (iN a2)))]) (by rw [← n32_2.1]) ?_
          refine hr_aload0 (q := 33) X dX5_element_32 rfl ?_
          refine hr_getR (v := am 22) (q := 36) X dX5_element_33 rfl fr_q1404_5 rfl hR.om (hR.f rfl) ?_
          refine hr_sipush (v := (nI 160)) (q := 39) X dX5_element_36 rfl rfl ?_
          refine hr_iload1 (q := 40) X dX5_element_39 rfl ?_
          refine hr_imul (v := (nI (160 * (iN a1)))) (q := 41) X dX5_element_40 rfl (pk_mul _ _) ?_
          refine hr_iload2 (q := 42) X dX5_element_41 rfl ?_
          refine hr_iadd (v := (nI (160 * (iN a1) + (iN a2)))) (q := 43) X dX5_element_42 rfl (nI_add _ _) ?_
          refine hr_laldN (v := (A.2.2.2 (160 * (iN a1) + (iN a2)))) (q := 44) X dX5_element_43 rfl (hR.ka (n := 1280) rfl rfl rfl) (by omega) (by decide) ((hR.lg rfl _).trans (hA.ce _)) ?_
          refine hr_goto (tgt := 48) X dX5_element_44 (by decide) ?_
          exact hr_lret X hr dX5_element_48 (tw_endl (by rw [sq_element, if_pos c5, if_pos (show (A.1.1 18 (iN a1)) = 1 by omega), if_neg c19, if_neg c29]) hR hA)

theorem nI_m1 {n : Nat} (h : n < 2 ^ 31) : ¬ nI n = -1 := fun e => by
  have h1 := congrArg Int32.toInt e
  rw [nI_toInt h] at h1
  have h2 : (-1 : Int32).toInt = -1 := by decide
  omega

def sq_show (a1 : Int32) (a2 : Int32) (A : ab_S) : Int32 × ab_S :=
  if sp_in a1 8 = true then if a2 = (-1) then ((nI 0), ab_n (ab_n A 18 (iN a1) 0) 21 (iN a1) 99)
    else if sp_in a2 (A.1.1 0 0) = true then ((nI 1), ab_n (ab_n A 18 (iN a1) 2) 21 (iN a1) (iN a2))
    else (((sq_no (-1) A).1), (sq_no (-1) A).2)
  else (((sq_no (-1) A).1), (sq_no (-1) A).2)
theorem tk_show {l : Launch} {D : hg_D} {lo : Nat} (htr : l.stackTraces = false) {G : hg_G} {o : Nat} {am : Nat → Nat} {u : tw_S} {A : ab_S} (hR : tw_R G o am u) (hA : tw_A u A) {a1 : Int32} {a2 : Int32} (hW : ab_wf A) :
    hg_M l D lo yX5_show (ws_ yX5_show cX5_show 3 ((some FieldType.int))) rm_X5_show [.ref o, .int a1, .int a2] G (tw_Po o am (sq_show a1 a2 A)) := by
  have hw := hW.w; have w0 := hw.b0; have w1 := hw.b1; have w2 := hw.b2; have w3 := hw.b3; have w36 := hW.b36; have w43 := hW.b43
  refine hg_M.of htr (by decide) [some (.ref o), some (.int a1), some (.int a2)] rfl (Nat.le_of_ble_eq_true rfl) ?_
  intro p e s m args below meth c X hr hnm htab
  have X : hg_X p l s m args meth c D lo "TaxOnLooksModel" cX5_show 3 := X
  refine hr_aload0 (q := 1) X dX5_show_0 rfl ?_
  refine hr_iload1 (q := 2) X dX5_show_1 rfl ?_
  refine hr_callP (q := 5) (hc_V (n := 1) (ci := 5) (As := [.int a1]) X dX5_show_2 rfl (tk_isShelf X.tr hR a1) q1519 cv_X5_isShelf ⟨Nat.le_of_ble_eq_true rfl, Nat.le_of_ble_eq_true rfl⟩ rfl (Nat.le_of_ble_eq_true rfl) hR.om rfl rfl) rfl ?_
  refine hr_ifB_eq (q := 8) (tgt := 21) X dX5_show_5 rfl (by decide) (fun c5 => ?_) (fun c5 => ?_)
  · refine hr_aload0 (q := 22) X dX5_show_21 rfl ?_
    refine hr_iconst (v := (-1)) (q := 23) X dX5_show_22 rfl rfl ?_
    refine hr_callT (q := 26) (hc_V (n := 1) (ci := 5) (As := [.int (-1)]) X dX5_show_23 rfl (tk_no X.tr hR hA (b := (-1)) (by decide)) q1523 cv_X5_no ⟨Nat.le_of_ble_eq_true rfl, Nat.le_of_ble_eq_true rfl⟩ rfl (Nat.le_of_ble_eq_true rfl) hR.om rfl rfl) rfl (fun G1 u1 hR1 hA1 => ?_)
    exact hr_iret X hr dX5_show_26 (tw_end (by rw [sq_show, if_neg (by rw [c5]; decide)]) hR1 hA1)
  · refine hr_iload2 (q := 9) X dX5_show_8 rfl ?_
    refine hr_iconst (v := (-1)) (q := 10) X dX5_show_9 rfl rfl ?_
    refine hr_icmp_eq (q := 13) (tgt := 27) X dX5_show_10 rfl (by decide) (fun c10 => ?_) (fun c10 => ?_)
    · have n27_1 := sp_inN (by decide) c5
      refine hr_L (L' := [some (.ref o), some (.int (nI (iN a1))), some (.int a2)]) (by rw [← n27_1.1]) ?_
      refine hr_aload0 (q := 28) X dX5_show_27 rfl ?_
      refine hr_getR (v := am 18) (q := 31) X dX5_show_28 rfl fr_q1400_5 rfl hR.om (hR.f rfl) ?_
      refine hr_iload1 (q := 32) X dX5_show_31 rfl ?_
      refine hr_iload2 (q := 33) X dX5_show_32 rfl ?_
      refine hr_iconst (v := (-1)) (q := 34) X dX5_show_33 rfl rfl ?_
      refine hr_icmp_ne (q := 37) (tgt := 41) X dX5_show_34 rfl (by decide) (fun c34 => ?_) (fun c34 => ?_)
      · exact absurd c10 c34
      · refine hr_iconst (v := (nI 0)) (q := 38) X dX5_show_37 rfl rfl ?_
        refine hr_goto (tgt := 42) X dX5_show_38 (by decide) ?_
        refine hr_iastN (q := 43) X dX5_show_42 rfl (hR.ka (n := 8) rfl rfl rfl) (by omega) (by decide) ?_
        have hR2 := hR.setA (k := 18) rfl (iN a1) (nI 0)
        have hA2 := hA.nA (k := 18) (j := iN a1) (n := 0) (by decide) rfl
        refine hr_aload0 (q := 44) X dX5_show_43 rfl ?_
        refine hr_getR (v := am 21) (q := 47) X dX5_show_44 rfl fr_q1403_5 rfl hR2.om (hR2.f rfl) ?_
        refine hr_iload1 (q := 48) X dX5_show_47 rfl ?_
        refine hr_iload2 (q := 49) X dX5_show_48 rfl ?_
        refine hr_iastN (q := 50) X dX5_show_49 rfl (hR2.ka (n := 8) rfl rfl rfl) (by omega) (by decide) ?_
        have hR3 := hR2.setA (k := 21) rfl (iN a1) a2
        have hA3 := hA2.oA (j := iN a1) (n := 99) c10
        refine hr_iload2 (q := 51) X dX5_show_50 rfl ?_
        refine hr_iconst (v := (-1)) (q := 52) X dX5_show_51 rfl rfl ?_
        refine hr_icmp_ne (q := 55) (tgt := 59) X dX5_show_52 rfl (by decide) (fun c52 => ?_) (fun c52 => ?_)
        · exact absurd c10 c52
        · refine hr_iconst (v := (nI 0)) (q := 56) X dX5_show_55 rfl rfl ?_
          refine hr_goto (tgt := 60) X dX5_show_56 (by decide) ?_
          exact hr_iret X hr dX5_show_60 (tw_end (by rw [sq_show, if_pos c5, if_pos c10]) hR3 hA3)
    · refine hr_aload0 (q := 14) X dX5_show_13 rfl ?_
      refine hr_iload2 (q := 15) X dX5_show_14 rfl ?_
      refine hr_callP (q := 18) (hc_V (n := 1) (ci := 5) (As := [.int a2]) X dX5_show_15 rfl (tk_isOne X.tr hR hA.t a2) q1543 cv_X5_isOne ⟨Nat.le_of_ble_eq_true rfl, Nat.le_of_ble_eq_true rfl⟩ rfl (Nat.le_of_ble_eq_true rfl) hR.om rfl rfl) rfl ?_
      refine hr_ifB_ne (q := 21) (tgt := 27) X dX5_show_18 rfl (by decide) (fun c18 => ?_) (fun c18 => ?_)
      · have n27_1 := sp_inN (by decide) c5
        refine hr_L (L' := [some (.ref o), some (.int (nI (iN a1))), some (.int a2)]) (by rw [← n27_1.1]) ?_
        have n27_2 := sp_inN (by omega) c18
        refine hr_L (L' := [some (.ref o), some (.int (nI (iN a1))), some (.int (nI (iN a2)))]) (by rw [← n27_2.1]) ?_
        refine hr_aload0 (q := 28) X dX5_show_27 rfl ?_
        refine hr_getR (v := am 18) (q := 31) X dX5_show_28 rfl fr_q1400_5 rfl hR.om (hR.f rfl) ?_
        refine hr_iload1 (q := 32) X dX5_show_31 rfl ?_
        refine hr_iload2 (q := 33) X dX5_show_32 rfl ?_
        refine hr_iconst (v := (-1)) (q := 34) X dX5_show_33 rfl rfl ?_
        refine hr_icmp_ne (q := 37) (tgt := 41) X dX5_show_34 rfl (by decide) (fun c34 => ?_) (fun c34 => ?_)
        · refine hr_iconst (v := (nI 2)) (q := 42) X dX5_show_41 rfl rfl ?_
          refine hr_iastN (q := 43) X dX5_show_42 rfl (hR.ka (n := 8) rfl rfl rfl) (by omega) (by decide) ?_
          have hR4 := hR.setA (k := 18) rfl (iN a1) (nI 2)
          have hA4 := hA.nA (k := 18) (j := iN a1) (n := 2) (by decide) rfl
          refine hr_aload0 (q := 44) X dX5_show_43 rfl ?_
          refine hr_getR (v := am 21) (q := 47) X dX5_show_44 rfl fr_q1403_5 rfl hR4.om (hR4.f rfl) ?_
          refine hr_iload1 (q := 48) X dX5_show_47 rfl ?_
          refine hr_iload2 (q := 49) X dX5_show_48 rfl ?_
          refine hr_iastN (q := 50) X dX5_show_49 rfl (hR4.ka (n := 8) rfl rfl rfl) (by omega) (by decide) ?_
          have hR5 := hR4.setA (k := 21) rfl (iN a1) (nI (iN a2))
          have hA5 := hA4.oA (j := iN a1) (n := iN a2) (oI_of (by omega)).symm
          refine hr_iload2 (q := 51) X dX5_show_50 rfl ?_
          refine hr_iconst (v := (-1)) (q := 52) X dX5_show_51 rfl rfl ?_
          refine hr_icmp_ne (q := 55) (tgt := 59) X dX5_show_52 rfl (by decide) (fun c52 => ?_) (fun c52 => ?_)
          · refine hr_iconst (v := (nI 1)) (q := 60) X dX5_show_59 rfl rfl ?_
            exact hr_iret X hr dX5_show_60 (tw_end (by rw [sq_show, if_pos c5, if_neg c10, if_pos c18]) hR5 hA5)
          · exact absurd c52 (nI_m1 (by omega))
        · exact absurd c34 (nI_m1 (by omega))
      · refine hr_aload0 (q := 22) X dX5_show_21 rfl ?_
        refine hr_iconst (v := (-1)) (q := 23) X dX5_show_22 rfl rfl ?_
        refine hr_callT (q := 26) (hc_V (n := 1) (ci := 5) (As := [.int (-1)]) X dX5_show_23 rfl (tk_no X.tr hR hA (b := (-1)) (by decide)) q1523 cv_X5_no ⟨Nat.le_of_ble_eq_true rfl, Nat.le_of_ble_eq_true rfl⟩ rfl (Nat.le_of_ble_eq_true rfl) hR.om rfl rfl) rfl (fun G6 u6 hR6 hA6 => ?_)
        exact hr_iret X hr dX5_show_26 (tw_end (by rw [sq_show, if_pos c5, if_neg c10, if_neg (by rw [c18]; decide)]) hR6 hA6)

def sq_holds (a1 : Int32) (A : ab_S) : Int32 × ab_S :=
  if sp_in a1 8 = true then if (A.1.1 18 (iN a1)) = 0 then ((-1), A)
    else if (A.1.1 18 (iN a1)) = 1 then ((nI (100 + (A.1.1 19 (iN a1)))), A)
    else ((oI (A.1.1 21 (iN a1))), A)
  else ((-1), A)
theorem tk_holds {l : Launch} {D : hg_D} {lo : Nat} (htr : l.stackTraces = false) {G : hg_G} {o : Nat} {am : Nat → Nat} {u : tw_S} {A : ab_S} (hR : tw_R G o am u) (hA : tw_A u A) {a1 : Int32} (hW : ab_wf A) :
    hg_M l D lo yX5_holds (ws_ yX5_holds cX5_holds 2 ((some FieldType.int))) rm_X5_holds [.ref o, .int a1] G (tw_Po o am (sq_holds a1 A)) := by
  have hw := hW.w; have w0 := hw.b0; have w1 := hw.b1; have w2 := hw.b2; have w3 := hw.b3; have w36 := hW.b36; have w43 := hW.b43
  refine hg_M.of htr (by decide) [some (.ref o), some (.int a1)] rfl (Nat.le_of_ble_eq_true rfl) ?_
  intro p e s m args below meth c X hr hnm htab
  have X : hg_X p l s m args meth c D lo "TaxOnLooksModel" cX5_holds 2 := X
  refine hr_aload0 (q := 1) X dX5_holds_0 rfl ?_
  refine hr_iload1 (q := 2) X dX5_holds_1 rfl ?_
  refine hr_callP (q := 5) (hc_V (n := 1) (ci := 5) (As := [.int a1]) X dX5_holds_2 rfl (tk_isShelf X.tr hR a1) q1519 cv_X5_isShelf ⟨Nat.le_of_ble_eq_true rfl, Nat.le_of_ble_eq_true rfl⟩ rfl (Nat.le_of_ble_eq_true rfl) hR.om rfl rfl) rfl ?_
  refine hr_ifB_eq (q := 8) (tgt := 17) X dX5_holds_5 rfl (by decide) (fun c5 => ?_) (fun c5 => ?_)
  · refine hr_iconst (v := (-1)) (q := 18) X dX5_holds_17 rfl rfl ?_
    exact hr_iret X hr dX5_holds_18 (tw_end (by rw [sq_holds, if_neg (by rw [c5]; decide)]) hR hA)
  · have n8_1 := sp_inN (by decide) c5
    refine hr_L (L' := [some (.ref o), some (.int (nI (iN a1)))]) (by rw [← n8_1.1]) ?_
    refine hr_aload0 (q := 9) X dX5_holds_8 rfl ?_
    refine hr_getR (v := am 18) (q := 12) X dX5_holds_9 rfl fr_q1400_5 rfl hR.om (hR.f rfl) ?_
    refine hr_iload1 (q := 13) X dX5_holds_12 rfl ?_
    refine hr_ialdN (v := (nI (A.1.1 18 (iN a1)))) (q := 14) X dX5_holds_13 rfl (hR.ka (n := 8) rfl rfl rfl) (Or.inl rfl) (by omega) (by decide) ((hR.ar rfl _).trans (hA.s (by decide) (by decide) (by omega))) ?_
    have b13 := hW.b18 (show iN a1 < 8 by omega)
    refine hr_ifN_ne (q := 17) (tgt := 19) X dX5_holds_14 rfl (by decide) (by omega) (fun c14 => ?_) (fun c14 => ?_)
    · refine hr_aload0 (q := 20) X dX5_holds_19 rfl ?_
      refine hr_getR (v := am 18) (q := 23) X dX5_holds_20 rfl fr_q1400_5 rfl hR.om (hR.f rfl) ?_
      refine hr_iload1 (q := 24) X dX5_holds_23 rfl ?_
      refine hr_ialdN (v := (nI (A.1.1 18 (iN a1)))) (q := 25) X dX5_holds_24 rfl (hR.ka (n := 8) rfl rfl rfl) (Or.inl rfl) (by omega) (by decide) ((hR.ar rfl _).trans (hA.s (by decide) (by decide) (by omega))) ?_
      have b24 := hW.b18 (show iN a1 < 8 by omega)
      refine hr_iconst (v := (nI 1)) (q := 26) X dX5_holds_25 rfl rfl ?_
      refine hr_icmpN_ne (q := 29) (tgt := 41) X dX5_holds_26 rfl (by decide) (by omega) (by omega) (fun c26 => ?_) (fun c26 => ?_)
      · refine hr_aload0 (q := 42) X dX5_holds_41 rfl ?_
        refine hr_getR (v := am 21) (q := 45) X dX5_holds_42 rfl fr_q1403_5 rfl hR.om (hR.f rfl) ?_
        refine hr_iload1 (q := 46) X dX5_holds_45 rfl ?_
        refine hr_ialdN (v := (oI (A.1.1 21 (iN a1)))) (q := 47) X dX5_holds_46 rfl (hR.ka (n := 8) rfl rfl rfl) (Or.inl rfl) (by omega) (by decide) ((hR.ar rfl _).trans (hA.sh (by omega))) ?_
        exact hr_iret X hr dX5_holds_47 (tw_end (by rw [sq_holds, if_pos c5, if_neg (show ¬ ((A.1.1 18 (iN a1)) = 0) by omega), if_neg (show ¬ ((A.1.1 18 (iN a1)) = 1) by omega)]) hR hA)
      · refine hr_bipush (v := (nI 100)) (q := 31) X dX5_holds_29 rfl rfl ?_
        refine hr_aload0 (q := 32) X dX5_holds_31 rfl ?_
        refine hr_getR (v := am 19) (q := 35) X dX5_holds_32 rfl fr_q1401_5 rfl hR.om (hR.f rfl) ?_
        refine hr_iload1 (q := 36) X dX5_holds_35 rfl ?_
        refine hr_ialdN (v := (nI (A.1.1 19 (iN a1)))) (q := 37) X dX5_holds_36 rfl (hR.ka (n := 8) rfl rfl rfl) (Or.inl rfl) (by omega) (by decide) ((hR.ar rfl _).trans (hA.s (by decide) (by decide) (by omega))) ?_
        have b36 := hW.b19 (show iN a1 < 8 by omega)
        refine hr_iadd (v := (nI (100 + (A.1.1 19 (iN a1))))) (q := 38) X dX5_holds_37 rfl (nI_add _ _) ?_
        refine hr_goto (tgt := 47) X dX5_holds_38 (by decide) ?_
        exact hr_iret X hr dX5_holds_47 (tw_end (by rw [sq_holds, if_pos c5, if_neg (show ¬ ((A.1.1 18 (iN a1)) = 0) by omega), if_pos (show (A.1.1 18 (iN a1)) = 1 by omega)]) hR hA)
    · refine hr_iconst (v := (-1)) (q := 18) X dX5_holds_17 rfl rfl ?_
      exact hr_iret X hr dX5_holds_18 (tw_end (by rw [sq_holds, if_pos c5, if_pos (show (A.1.1 18 (iN a1)) = 0 by omega)]) hR hA)

def sq_wanted (a1 : Int32) (A : ab_S) : Int32 :=
  if sp_in a1 8 = true then if (A.1.1 18 (iN a1)) = 2 then (-2)
    else if (A.1.1 18 (iN a1)) = 0 then (-3)
    else (nI 0)
  else (-1)
theorem tk_wanted {l : Launch} {D : hg_D} {lo : Nat} (htr : l.stackTraces = false) {G : hg_G} {o : Nat} {am : Nat → Nat} {u : tw_S} {A : ab_S} (hR : tw_R G o am u) (hA : tw_A u A) {a1 : Int32} (hW : ab_wf A) :
    hg_M l D lo yX5_wanted (ws_ yX5_wanted cX5_wanted 2 ((some FieldType.int))) rm_X5_wanted [.ref o, .int a1] G (hg_Pv G (.int (sq_wanted a1 A))) := by
  have hw := hW.w; have w0 := hw.b0; have w1 := hw.b1; have w2 := hw.b2; have w3 := hw.b3; have w36 := hW.b36; have w43 := hW.b43
  refine hg_M.of htr (by decide) [some (.ref o), some (.int a1)] rfl (Nat.le_of_ble_eq_true rfl) ?_
  intro p e s m args below meth c X hr hnm htab
  have X : hg_X p l s m args meth c D lo "TaxOnLooksModel" cX5_wanted 2 := X
  refine hr_aload0 (q := 1) X dX5_wanted_0 rfl ?_
  refine hr_iload1 (q := 2) X dX5_wanted_1 rfl ?_
  refine hr_callP (q := 5) (hc_V (n := 1) (ci := 5) (As := [.int a1]) X dX5_wanted_2 rfl (tk_isShelf X.tr hR a1) q1519 cv_X5_isShelf ⟨Nat.le_of_ble_eq_true rfl, Nat.le_of_ble_eq_true rfl⟩ rfl (Nat.le_of_ble_eq_true rfl) hR.om rfl rfl) rfl ?_
  refine hr_ifB_ne (q := 8) (tgt := 12) X dX5_wanted_5 rfl (by decide) (fun c5 => ?_) (fun c5 => ?_)
  · have n12_1 := sp_inN (by decide) c5
    refine hr_L (L' := [some (.ref o), some (.int (nI (iN a1)))]) (by rw [← n12_1.1]) ?_
    refine hr_aload0 (q := 13) X dX5_wanted_12 rfl ?_
    refine hr_getR (v := am 18) (q := 16) X dX5_wanted_13 rfl fr_q1400_5 rfl hR.om (hR.f rfl) ?_
    refine hr_iload1 (q := 17) X dX5_wanted_16 rfl ?_
    refine hr_ialdN (v := (nI (A.1.1 18 (iN a1)))) (q := 18) X dX5_wanted_17 rfl (hR.ka (n := 8) rfl rfl rfl) (Or.inl rfl) (by omega) (by decide) ((hR.ar rfl _).trans (hA.s (by decide) (by decide) (by omega))) ?_
    have b17 := hW.b18 (show iN a1 < 8 by omega)
    refine hr_iconst (v := (nI 2)) (q := 19) X dX5_wanted_18 rfl rfl ?_
    refine hr_icmpN_ne (q := 22) (tgt := 27) X dX5_wanted_19 rfl (by decide) (by omega) (by omega) (fun c19 => ?_) (fun c19 => ?_)
    · refine hr_aload0 (q := 28) X dX5_wanted_27 rfl ?_
      refine hr_getR (v := am 18) (q := 31) X dX5_wanted_28 rfl fr_q1400_5 rfl hR.om (hR.f rfl) ?_
      refine hr_iload1 (q := 32) X dX5_wanted_31 rfl ?_
      refine hr_ialdN (v := (nI (A.1.1 18 (iN a1)))) (q := 33) X dX5_wanted_32 rfl (hR.ka (n := 8) rfl rfl rfl) (Or.inl rfl) (by omega) (by decide) ((hR.ar rfl _).trans (hA.s (by decide) (by decide) (by omega))) ?_
      have b32 := hW.b18 (show iN a1 < 8 by omega)
      refine hr_ifN_ne (q := 36) (tgt := 41) X dX5_wanted_33 rfl (by decide) (by omega) (fun c33 => ?_) (fun c33 => ?_)
      · refine hr_iconst (v := (nI 0)) (q := 42) X dX5_wanted_41 rfl rfl ?_
        exact hr_iret X hr dX5_wanted_42 ⟨hz_i (by rw [sq_wanted, if_pos c5, if_neg (show ¬ ((A.1.1 18 (iN a1)) = 2) by omega), if_neg (show ¬ ((A.1.1 18 (iN a1)) = 0) by omega)]), rfl⟩
      · refine hr_bipush (v := (-3)) (q := 38) X dX5_wanted_36 rfl rfl ?_
        refine hr_goto (tgt := 42) X dX5_wanted_38 (by decide) ?_
        exact hr_iret X hr dX5_wanted_42 ⟨hz_i (by rw [sq_wanted, if_pos c5, if_neg (show ¬ ((A.1.1 18 (iN a1)) = 2) by omega), if_pos (show (A.1.1 18 (iN a1)) = 0 by omega)]), rfl⟩
    · refine hr_bipush (v := (-2)) (q := 24) X dX5_wanted_22 rfl rfl ?_
      refine hr_goto (tgt := 42) X dX5_wanted_24 (by decide) ?_
      exact hr_iret X hr dX5_wanted_42 ⟨hz_i (by rw [sq_wanted, if_pos c5, if_pos (show (A.1.1 18 (iN a1)) = 2 by omega)]), rfl⟩
  · refine hr_iconst (v := (-1)) (q := 9) X dX5_wanted_8 rfl rfl ?_
    refine hr_goto (tgt := 42) X dX5_wanted_9 (by decide) ?_
    exact hr_iret X hr dX5_wanted_42 ⟨hz_i (by rw [sq_wanted, if_neg (by rw [c5]; decide)]), rfl⟩

theorem tk_intAt {l : Launch} {D : hg_D} {lo : Nat} (htr : l.stackTraces = false) {G : hg_G} {o : Nat} {am : Nat → Nat} {u : tw_S} {A : ab_S} (hR : tw_R G o am u) (hA : tw_A u A) {a b : Nat} (ha : a < 8) (hb : b < 160) :
    hg_M l D lo yX5_intAt (ws_ yX5_intAt cX5_intAt 3 ((some FieldType.int))) rm_X5_intAt [.ref o, .int (nI a), .int (nI b)] G (hg_Pv G (.int ((A.2.2.2 (160 * a + b)).toInt32))) := by
  refine hg_M.of htr (by decide) [some (.ref o), some (.int (nI a)), some (.int (nI b))] rfl (Nat.le_of_ble_eq_true rfl) ?_
  intro p e s m args below meth c X hr hnm htab
  have X : hg_X p l s m args meth c D lo "TaxOnLooksModel" cX5_intAt 3 := X
  refine hr_aload0 (q := 1) X dX5_intAt_0 rfl ?_
  refine hr_getR (v := am 22) (q := 4) X dX5_intAt_1 rfl fr_q1404_5 rfl hR.om (hR.f rfl) ?_
  refine hr_sipush (v := (nI 160)) (q := 7) X dX5_intAt_4 rfl rfl ?_
  refine hr_iload1 (q := 8) X dX5_intAt_7 rfl ?_
  refine hr_imul (v := (nI (160 * a))) (q := 9) X dX5_intAt_8 rfl (pk_mul _ _) ?_
  refine hr_iload2 (q := 10) X dX5_intAt_9 rfl ?_
  refine hr_iadd (v := (nI (160 * a + b))) (q := 11) X dX5_intAt_10 rfl (nI_add _ _) ?_
  refine hr_laldN (v := (A.2.2.2 (160 * a + b))) (q := 12) X dX5_intAt_11 rfl (hR.ka (n := 1280) rfl rfl rfl) (by omega) (by decide) ((hR.lg rfl _).trans (hA.ce _)) ?_
  refine hr_l2i (v := ((A.2.2.2 (160 * a + b)).toInt32)) (q := 13) X dX5_intAt_12 rfl rfl ?_
  exact hr_iret X hr dX5_intAt_13 ⟨rfl, rfl⟩

def sq_adds (k1 : Nat) (k2 : Nat) (k3 : Nat) (k4 : Nat) (k5 : Nat) (k6 : Nat) (A : ab_S) : Int32 × ab_S :=
  ((nI (A.1.1 0 0)), ab_n (ab_n (ab_n (ab_n (ab_n (ab_n (ab_n (ab_n A 9 (A.1.1 0 0) k1) 10 (A.1.1 0 0) k2) 11 (A.1.1 0 0) k3) 12 (A.1.1 0 0) k4) 13 (A.1.1 0 0) k5) 14 (A.1.1 0 0) k6) 15 (A.1.1 0 0) 0) 0 0 (A.1.1 0 0 + 1))
theorem tk_adds {l : Launch} {D : hg_D} {lo : Nat} (htr : l.stackTraces = false) {G : hg_G} {o : Nat} {am : Nat → Nat} {u : tw_S} {A : ab_S} (hR : tw_R G o am u) (hA : tw_A u A) {k1 : Nat} {k2 : Nat} {k3 : Nat} {k4 : Nat} {k5 : Nat} {k6 : Nat} (hW : ab_wf A) (h7 : A.1.1 0 0 < 7) :
    hg_M l D lo yX5_adds (ws_ yX5_adds cX5_adds 7 ((some FieldType.int))) rm_X5_adds [.ref o, .int (nI k1), .int (nI k2), .int (nI k3), .int (nI k4), .int (nI k5), .int (nI k6)] G (tw_Po o am (sq_adds k1 k2 k3 k4 k5 k6 A)) := by
  have hw := hW.w; have w0 := hw.b0; have w1 := hw.b1; have w2 := hw.b2; have w3 := hw.b3; have w36 := hW.b36; have w43 := hW.b43
  refine hg_M.of htr (by decide) [some (.ref o), some (.int (nI k1)), some (.int (nI k2)), some (.int (nI k3)), some (.int (nI k4)), some (.int (nI k5)), some (.int (nI k6))] rfl (Nat.le_of_ble_eq_true rfl) ?_
  intro p e s m args below meth c X hr hnm htab
  have X : hg_X p l s m args meth c D lo "TaxOnLooksModel" cX5_adds 7 := X
  refine hr_aload0 (q := 1) X dX5_adds_0 rfl ?_
  refine hr_getR (v := am 9) (q := 4) X dX5_adds_1 rfl fr_q1391_5 rfl hR.om (hR.f rfl) ?_
  refine hr_aload0 (q := 5) X dX5_adds_4 rfl ?_
  refine hr_getI (v := (nI (A.1.1 0 0))) (q := 8) X dX5_adds_5 rfl fr_q1382_5 rfl hR.om ((hR.sc 0).trans (hA.sc (by decide))) ?_
  refine hr_iload1 (q := 9) X dX5_adds_8 rfl ?_
  refine hr_iastN (q := 10) X dX5_adds_9 rfl (hR.ka (n := 7) rfl rfl rfl) (by omega) (by decide) ?_
  have hR1 := hR.setA (k := 9) rfl (A.1.1 0 0) (nI k1)
  have hA1 := hA.nA (k := 9) (j := A.1.1 0 0) (n := k1) (by decide) rfl
  refine hr_aload0 (q := 11) X dX5_adds_10 rfl ?_
  refine hr_getR (v := am 10) (q := 14) X dX5_adds_11 rfl fr_q1392_5 rfl hR1.om (hR1.f rfl) ?_
  refine hr_aload0 (q := 15) X dX5_adds_14 rfl ?_
  refine hr_getI (v := (nI (A.1.1 0 0))) (q := 18) X dX5_adds_15 rfl fr_q1382_5 rfl hR1.om ((hR1.sc 0).trans (hA1.sc (by decide))) ?_
  refine hr_iload2 (q := 19) X dX5_adds_18 rfl ?_
  refine hr_iastN (q := 20) X dX5_adds_19 rfl (hR1.ka (n := 7) rfl rfl rfl) (by omega) (by decide) ?_
  have hR2 := hR1.setA (k := 10) rfl (A.1.1 0 0) (nI k2)
  have hA2 := hA1.nA (k := 10) (j := A.1.1 0 0) (n := k2) (by decide) rfl
  refine hr_aload0 (q := 21) X dX5_adds_20 rfl ?_
  refine hr_getR (v := am 11) (q := 24) X dX5_adds_21 rfl fr_q1393_5 rfl hR2.om (hR2.f rfl) ?_
  refine hr_aload0 (q := 25) X dX5_adds_24 rfl ?_
  refine hr_getI (v := (nI (A.1.1 0 0))) (q := 28) X dX5_adds_25 rfl fr_q1382_5 rfl hR2.om ((hR2.sc 0).trans (hA2.sc (by decide))) ?_
  refine hr_iload3 (q := 29) X dX5_adds_28 rfl ?_
  refine hr_iastN (q := 30) X dX5_adds_29 rfl (hR2.ka (n := 7) rfl rfl rfl) (by omega) (by decide) ?_
  have hR3 := hR2.setA (k := 11) rfl (A.1.1 0 0) (nI k3)
  have hA3 := hA2.nA (k := 11) (j := A.1.1 0 0) (n := k3) (by decide) rfl
  refine hr_aload0 (q := 31) X dX5_adds_30 rfl ?_
  refine hr_getR (v := am 12) (q := 34) X dX5_adds_31 rfl fr_q1394_5 rfl hR3.om (hR3.f rfl) ?_
  refine hr_aload0 (q := 35) X dX5_adds_34 rfl ?_
  refine hr_getI (v := (nI (A.1.1 0 0))) (q := 38) X dX5_adds_35 rfl fr_q1382_5 rfl hR3.om ((hR3.sc 0).trans (hA3.sc (by decide))) ?_
  refine hr_iload4 (q := 40) X dX5_adds_38 rfl ?_
  refine hr_iastN (q := 41) X dX5_adds_40 rfl (hR3.ka (n := 7) rfl rfl rfl) (by omega) (by decide) ?_
  have hR4 := hR3.setA (k := 12) rfl (A.1.1 0 0) (nI k4)
  have hA4 := hA3.nA (k := 12) (j := A.1.1 0 0) (n := k4) (by decide) rfl
  refine hr_aload0 (q := 42) X dX5_adds_41 rfl ?_
  refine hr_getR (v := am 13) (q := 45) X dX5_adds_42 rfl fr_q1395_5 rfl hR4.om (hR4.f rfl) ?_
  refine hr_aload0 (q := 46) X dX5_adds_45 rfl ?_
  refine hr_getI (v := (nI (A.1.1 0 0))) (q := 49) X dX5_adds_46 rfl fr_q1382_5 rfl hR4.om ((hR4.sc 0).trans (hA4.sc (by decide))) ?_
  refine hr_iload5 (q := 51) X dX5_adds_49 rfl ?_
  refine hr_iastN (q := 52) X dX5_adds_51 rfl (hR4.ka (n := 7) rfl rfl rfl) (by omega) (by decide) ?_
  have hR5 := hR4.setA (k := 13) rfl (A.1.1 0 0) (nI k5)
  have hA5 := hA4.nA (k := 13) (j := A.1.1 0 0) (n := k5) (by decide) rfl
  refine hr_aload0 (q := 53) X dX5_adds_52 rfl ?_
  refine hr_getR (v := am 14) (q := 56) X dX5_adds_53 rfl fr_q1396_5 rfl hR5.om (hR5.f rfl) ?_
  refine hr_aload0 (q := 57) X dX5_adds_56 rfl ?_
  refine hr_getI (v := (nI (A.1.1 0 0))) (q := 60) X dX5_adds_57 rfl fr_q1382_5 rfl hR5.om ((hR5.sc 0).trans (hA5.sc (by decide))) ?_
  refine hr_iload6 (q := 62) X dX5_adds_60 rfl ?_
  refine hr_iastN (q := 63) X dX5_adds_62 rfl (hR5.ka (n := 7) rfl rfl rfl) (by omega) (by decide) ?_
  have hR6 := hR5.setA (k := 14) rfl (A.1.1 0 0) (nI k6)
  have hA6 := hA5.nA (k := 14) (j := A.1.1 0 0) (n := k6) (by decide) rfl
  refine hr_aload0 (q := 64) X dX5_adds_63 rfl ?_
  refine hr_getR (v := am 15) (q := 67) X dX5_adds_64 rfl fr_q1397_5 rfl hR6.om (hR6.f rfl) ?_
  refine hr_aload0 (q := 68) X dX5_adds_67 rfl ?_
  refine hr_getI (v := (nI (A.1.1 0 0))) (q := 71) X dX5_adds_68 rfl fr_q1382_5 rfl hR6.om ((hR6.sc 0).trans (hA6.sc (by decide))) ?_
  refine hr_iconst (v := (nI 0)) (q := 72) X dX5_adds_71 rfl rfl ?_
  refine hr_iastN (q := 73) X dX5_adds_72 rfl (hR6.ka (n := 7) rfl rfl rfl) (by omega) (by decide) ?_
  have hR7 := hR6.setA (k := 15) rfl (A.1.1 0 0) (nI 0)
  have hA7 := hA6.nA (k := 15) (j := A.1.1 0 0) (n := 0) (by decide) rfl
  refine hr_aload0 (q := 74) X dX5_adds_73 rfl ?_
  refine hr_dup (q := 75) X dX5_adds_74 rfl rfl ?_
  refine hr_getI (v := (nI (A.1.1 0 0))) (q := 78) X dX5_adds_75 rfl fr_q1382_5 rfl hR7.om ((hR7.sc 0).trans (hA7.sc (by decide))) ?_
  refine hr_dup_x1 (q := 79) X dX5_adds_78 rfl rfl rfl ?_
  refine hr_iconst (v := (nI 1)) (q := 80) X dX5_adds_79 rfl rfl ?_
  refine hr_iadd (v := (nI (A.1.1 0 0 + 1))) (q := 81) X dX5_adds_80 rfl (nI_add _ _) ?_
  refine hr_putI (q := 84) X dX5_adds_81 rfl fw_q1382_5 (fun h => nomatch h) rfl rfl rfl hR7.om ?_
  have hR8 := hR7.setS 0 (nI (A.1.1 0 0 + 1))
  have hA8 := hA7.nS (k := 0) (n := A.1.1 0 0 + 1) (by decide) rfl
  exact hr_iret X hr dX5_adds_84 (tw_end (by rw [sq_adds]) hR8 hA8)

def sq_person (a1 : Int32) (a2 : Int32) (a3 : Int32) (a4 : Int32) (a5 : Int32) (a6 : Int32) (A : ab_S) : Int32 × ab_S :=
  if a1 < 0 then (((sq_no (-1) A).1), (sq_no (-1) A).2)
  else if a1 ≤ (nI 6) then if sp_fr a2 (nI 0) (nI 9) = true then if sp_fr a3 (nI 0) (nI 20) = true then if sp_fr a4 (nI 0) (nI 9) = true then if sp_fr a5 (nI 0) (nI 9999) = true then if sp_in a6 36 = true then if (A.1.1 16 (iN a6)) = 1 then (((sq_no (-6) A).1), (sq_no (-6) A).2)
              else if (A.1.1 0 0) = 7 then (((sq_no (-7) A).1), (sq_no (-7) A).2)
              else (((sq_adds (iN a1) (iN a2) (iN a3) (iN a4) (iN a5) (iN a6) A).1), (sq_adds (iN a1) (iN a2) (iN a3) (iN a4) (iN a5) (iN a6) A).2)
            else (((sq_no (-6) A).1), (sq_no (-6) A).2)
          else (((sq_no (-6) A).1), (sq_no (-6) A).2)
        else (((sq_no (-6) A).1), (sq_no (-6) A).2)
      else (((sq_no (-6) A).1), (sq_no (-6) A).2)
    else (((sq_no (-6) A).1), (sq_no (-6) A).2)
  else (((sq_no (-1) A).1), (sq_no (-1) A).2)
theorem tk_person {l : Launch} {D : hg_D} {lo : Nat} (htr : l.stackTraces = false) {G : hg_G} {o : Nat} {am : Nat → Nat} {u : tw_S} {A : ab_S} (hR : tw_R G o am u) (hA : tw_A u A) {a1 : Int32} {a2 : Int32} {a3 : Int32} {a4 : Int32} {a5 : Int32} {a6 : Int32} (hW : ab_wf A) :
    hg_M l D lo yX5_person (ws_ yX5_person cX5_person 7 ((some FieldType.int))) rm_X5_person [.ref o, .int a1, .int a2, .int a3, .int a4, .int a5, .int a6] G (tw_Po o am (sq_person a1 a2 a3 a4 a5 a6 A)) := by
  have hw := hW.w; have w0 := hw.b0; have w1 := hw.b1; have w2 := hw.b2; have w3 := hw.b3; have w36 := hW.b36; have w43 := hW.b43
  refine hg_M.of htr (by decide) [some (.ref o), some (.int a1), some (.int a2), some (.int a3), some (.int a4), some (.int a5), some (.int a6)] rfl (Nat.le_of_ble_eq_true rfl) ?_
  intro p e s m args below meth c X hr hnm htab
  have X : hg_X p l s m args meth c D lo "TaxOnLooksModel" cX5_person 7 := X
  refine hr_iload1 (q := 1) X dX5_person_0 rfl ?_
  refine hr_if_lt (q := 4) (tgt := 10) X dX5_person_1 rfl (by decide) (fun c1 => ?_) (fun c1 => ?_)
  · refine hr_aload0 (q := 11) X dX5_person_10 rfl ?_
    refine hr_iconst (v := (-1)) (q := 12) X dX5_person_11 rfl rfl ?_
    refine hr_callT (q := 15) (hc_V (n := 1) (ci := 5) (As := [.int (-1)]) X dX5_person_12 rfl (tk_no X.tr hR hA (b := (-1)) (by decide)) q1523 cv_X5_no ⟨Nat.le_of_ble_eq_true rfl, Nat.le_of_ble_eq_true rfl⟩ rfl (Nat.le_of_ble_eq_true rfl) hR.om rfl rfl) rfl (fun G1 u1 hR1 hA1 => ?_)
    exact hr_iret X hr dX5_person_15 (tw_end (by rw [sq_person, if_pos c1]) hR1 hA1)
  · refine hr_iload1 (q := 5) X dX5_person_4 rfl ?_
    refine hr_bipush (v := (nI 6)) (q := 7) X dX5_person_5 rfl rfl ?_
    refine hr_icmp_le (q := 10) (tgt := 16) X dX5_person_7 rfl (by decide) (fun c7 => ?_) (fun c7 => ?_)
    · refine hr_aload0 (q := 17) X dX5_person_16 rfl ?_
      refine hr_iload2 (q := 18) X dX5_person_17 rfl ?_
      refine hr_iconst (v := (nI 0)) (q := 19) X dX5_person_18 rfl rfl ?_
      refine hr_bipush (v := (nI 9)) (q := 21) X dX5_person_19 rfl rfl ?_
      refine hr_callP (q := 24) (hc_V (n := 3) (ci := 5) (As := [.int a2, .int (nI 0), .int (nI 9)]) X dX5_person_21 rfl (tk_isFrom X.tr hR a2 (nI 0) (nI 9)) q1563 cv_X5_isFrom ⟨Nat.le_of_ble_eq_true rfl, Nat.le_of_ble_eq_true rfl⟩ rfl (Nat.le_of_ble_eq_true rfl) hR.om rfl rfl) rfl ?_
      refine hr_ifB_eq (q := 27) (tgt := 83) X dX5_person_24 rfl (by decide) (fun c24 => ?_) (fun c24 => ?_)
      · refine hr_aload0 (q := 84) X dX5_person_83 rfl ?_
        refine hr_bipush (v := (-6)) (q := 86) X dX5_person_84 rfl rfl ?_
        refine hr_callT (q := 89) (hc_V (n := 1) (ci := 5) (As := [.int (-6)]) X dX5_person_86 rfl (tk_no X.tr hR hA (b := (-6)) (by decide)) q1523 cv_X5_no ⟨Nat.le_of_ble_eq_true rfl, Nat.le_of_ble_eq_true rfl⟩ rfl (Nat.le_of_ble_eq_true rfl) hR.om rfl rfl) rfl (fun G2 u2 hR2 hA2 => ?_)
        exact hr_iret X hr dX5_person_89 (tw_end (by rw [sq_person, if_neg c1, if_pos c7, if_neg (by rw [c24]; decide)]) hR2 hA2)
      · refine hr_aload0 (q := 28) X dX5_person_27 rfl ?_
        refine hr_iload3 (q := 29) X dX5_person_28 rfl ?_
        refine hr_iconst (v := (nI 0)) (q := 30) X dX5_person_29 rfl rfl ?_
        refine hr_bipush (v := (nI 20)) (q := 32) X dX5_person_30 rfl rfl ?_
        refine hr_callP (q := 35) (hc_V (n := 3) (ci := 5) (As := [.int a3, .int (nI 0), .int (nI 20)]) X dX5_person_32 rfl (tk_isFrom X.tr hR a3 (nI 0) (nI 20)) q1563 cv_X5_isFrom ⟨Nat.le_of_ble_eq_true rfl, Nat.le_of_ble_eq_true rfl⟩ rfl (Nat.le_of_ble_eq_true rfl) hR.om rfl rfl) rfl ?_
        refine hr_ifB_eq (q := 38) (tgt := 83) X dX5_person_35 rfl (by decide) (fun c35 => ?_) (fun c35 => ?_)
        · refine hr_aload0 (q := 84) X dX5_person_83 rfl ?_
          refine hr_bipush (v := (-6)) (q := 86) X dX5_person_84 rfl rfl ?_
          refine hr_callT (q := 89) (hc_V (n := 1) (ci := 5) (As := [.int (-6)]) X dX5_person_86 rfl (tk_no X.tr hR hA (b := (-6)) (by decide)) q1523 cv_X5_no ⟨Nat.le_of_ble_eq_true rfl, Nat.le_of_ble_eq_true rfl⟩ rfl (Nat.le_of_ble_eq_true rfl) hR.om rfl rfl) rfl (fun G3 u3 hR3 hA3 => ?_)
          exact hr_iret X hr dX5_person_89 (tw_end (by rw [sq_person, if_neg c1, if_pos c7, if_pos c24, if_neg (by rw [c35]; decide)]) hR3 hA3)
        · refine hr_aload0 (q := 39) X dX5_person_38 rfl ?_
          refine hr_iload4 (q := 41) X dX5_person_39 rfl ?_
          refine hr_iconst (v := (nI 0)) (q := 42) X dX5_person_41 rfl rfl ?_
          refine hr_bipush (v := (nI 9)) (q := 44) X dX5_person_42 rfl rfl ?_
          refine hr_callP (q := 47) (hc_V (n := 3) (ci := 5) (As := [.int a4, .int (nI 0), .int (nI 9)]) X dX5_person_44 rfl (tk_isFrom X.tr hR a4 (nI 0) (nI 9)) q1563 cv_X5_isFrom ⟨Nat.le_of_ble_eq_true rfl, Nat.le_of_ble_eq_true rfl⟩ rfl (Nat.le_of_ble_eq_true rfl) hR.om rfl rfl) rfl ?_
          refine hr_ifB_eq (q := 50) (tgt := 83) X dX5_person_47 rfl (by decide) (fun c47 => ?_) (fun c47 => ?_)
          · refine hr_aload0 (q := 84) X dX5_person_83 rfl ?_
            refine hr_bipush (v := (-6)) (q := 86) X dX5_person_84 rfl rfl ?_
            refine hr_callT (q := 89) (hc_V (n := 1) (ci := 5) (As := [.int (-6)]) X dX5_person_86 rfl (tk_no X.tr hR hA (b := (-6)) (by decide)) q1523 cv_X5_no ⟨Nat.le_of_ble_eq_true rfl, Nat.le_of_ble_eq_true rfl⟩ rfl (Nat.le_of_ble_eq_true rfl) hR.om rfl rfl) rfl (fun G4 u4 hR4 hA4 => ?_)
            exact hr_iret X hr dX5_person_89 (tw_end (by rw [sq_person, if_neg c1, if_pos c7, if_pos c24, if_pos c35, if_neg (by rw [c47]; decide)]) hR4 hA4)
          · refine hr_aload0 (q := 51) X dX5_person_50 rfl ?_
            refine hr_iload5 (q := 53) X dX5_person_51 rfl ?_
            refine hr_iconst (v := (nI 0)) (q := 54) X dX5_person_53 rfl rfl ?_
            refine hr_sipush (v := (nI 9999)) (q := 57) X dX5_person_54 rfl rfl ?_
            refine hr_callP (q := 60) (hc_V (n := 3) (ci := 5) (As := [.int a5, .int (nI 0), .int (nI 9999)]) X dX5_person_57 rfl (tk_isFrom X.tr hR a5 (nI 0) (nI 9999)) q1563 cv_X5_isFrom ⟨Nat.le_of_ble_eq_true rfl, Nat.le_of_ble_eq_true rfl⟩ rfl (Nat.le_of_ble_eq_true rfl) hR.om rfl rfl) rfl ?_
            refine hr_ifB_eq (q := 63) (tgt := 83) X dX5_person_60 rfl (by decide) (fun c60 => ?_) (fun c60 => ?_)
            · refine hr_aload0 (q := 84) X dX5_person_83 rfl ?_
              refine hr_bipush (v := (-6)) (q := 86) X dX5_person_84 rfl rfl ?_
              refine hr_callT (q := 89) (hc_V (n := 1) (ci := 5) (As := [.int (-6)]) X dX5_person_86 rfl (tk_no X.tr hR hA (b := (-6)) (by decide)) q1523 cv_X5_no ⟨Nat.le_of_ble_eq_true rfl, Nat.le_of_ble_eq_true rfl⟩ rfl (Nat.le_of_ble_eq_true rfl) hR.om rfl rfl) rfl (fun G5 u5 hR5 hA5 => ?_)
              exact hr_iret X hr dX5_person_89 (tw_end (by rw [sq_person, if_neg c1, if_pos c7, if_pos c24, if_pos c35, if_pos c47, if_neg (by rw [c60]; decide)]) hR5 hA5)
            · refine hr_aload0 (q := 64) X dX5_person_63 rfl ?_
              refine hr_iload6 (q := 66) X dX5_person_64 rfl ?_
              refine hr_callP (q := 69) (hc_V (n := 1) (ci := 5) (As := [.int a6]) X dX5_person_66 rfl (tk_isSquare X.tr hR a6) q1567 cv_X5_isSquare ⟨Nat.le_of_ble_eq_true rfl, Nat.le_of_ble_eq_true rfl⟩ rfl (Nat.le_of_ble_eq_true rfl) hR.om rfl rfl) rfl ?_
              refine hr_ifB_eq (q := 72) (tgt := 83) X dX5_person_69 rfl (by decide) (fun c69 => ?_) (fun c69 => ?_)
              · refine hr_aload0 (q := 84) X dX5_person_83 rfl ?_
                refine hr_bipush (v := (-6)) (q := 86) X dX5_person_84 rfl rfl ?_
                refine hr_callT (q := 89) (hc_V (n := 1) (ci := 5) (As := [.int (-6)]) X dX5_person_86 rfl (tk_no X.tr hR hA (b := (-6)) (by decide)) q1523 cv_X5_no ⟨Nat.le_of_ble_eq_true rfl, Nat.le_of_ble_eq_true rfl⟩ rfl (Nat.le_of_ble_eq_true rfl) hR.om rfl rfl) rfl (fun G6 u6 hR6 hA6 => ?_)
                exact hr_iret X hr dX5_person_89 (tw_end (by rw [sq_person, if_neg c1, if_pos c7, if_pos c24, if_pos c35, if_pos c47, if_pos c60, if_neg (by rw [c69]; decide)]) hR6 hA6)
              · have n72_6 := sp_inN (by decide) c69
                refine hr_L (L' := [some (.ref o), some (.int a1), some (.int a2), some (.int a3), some (.int a4), some (.int a5), some (.int (nI (iN a6)))]) (by rw [← n72_6.1]) ?_
                refine hr_aload0 (q := 73) X dX5_person_72 rfl ?_
                refine hr_getR (v := am 16) (q := 76) X dX5_person_73 rfl fr_q1398_5 rfl hR.om (hR.f rfl) ?_
                refine hr_iload6 (q := 78) X dX5_person_76 rfl ?_
                refine hr_ialdN (v := (nI (A.1.1 16 (iN a6)))) (q := 79) X dX5_person_78 rfl (hR.ka (n := 36) rfl rfl rfl) (Or.inl rfl) (by omega) (by decide) ((hR.ar rfl _).trans (hA.c (by decide) (by decide) (by omega))) ?_
                have b78 := hW.w.b16 (show iN a6 < 36 by omega)
                refine hr_iconst (v := (nI 1)) (q := 80) X dX5_person_79 rfl rfl ?_
                refine hr_icmpN_ne (q := 83) (tgt := 90) X dX5_person_80 rfl (by decide) (by omega) (by omega) (fun c80 => ?_) (fun c80 => ?_)
                · have n90_1 := sp_leN (by decide) c1 c7
                  refine hr_L (L' := [some (.ref o), some (.int (nI (iN a1))), some (.int a2), some (.int a3), some (.int a4), some (.int a5), some (.int (nI (iN a6)))]) (by rw [← n90_1.1]) ?_
                  have n90_2 := sp_frN (by decide) (by decide) c24
                  refine hr_L (L' := [some (.ref o), some (.int (nI (iN a1))), some (.int (nI (iN a2))), some (.int a3), some (.int a4), some (.int a5), some (.int (nI (iN a6)))]) (by rw [← n90_2.1]) ?_
                  have n90_3 := sp_frN (by decide) (by decide) c35
                  refine hr_L (L' := [some (.ref o), some (.int (nI (iN a1))), some (.int (nI (iN a2))), some (.int (nI (iN a3))), some (.int a4), some (.int a5), some (.int (nI (iN a6)))]) (by rw [← n90_3.1]) ?_
                  have n90_4 := sp_frN (by decide) (by decide) c47
                  refine hr_L (L' := [some (.ref o), some (.int (nI (iN a1))), some (.int (nI (iN a2))), some (.int (nI (iN a3))), some (.int (nI (iN a4))), some (.int a5), some (.int (nI (iN a6)))]) (by rw [← n90_4.1]) ?_
                  have n90_5 := sp_frN (by decide) (by decide) c60
                  refine hr_L (L' := [some (.ref o), some (.int (nI (iN a1))), some (.int (nI (iN a2))), some (.int (nI (iN a3))), some (.int (nI (iN a4))), some (.int (nI (iN a5))), some (.int (nI (iN a6)))]) (by rw [← n90_5.1]) ?_
                  refine hr_aload0 (q := 91) X dX5_person_90 rfl ?_
                  refine hr_getI (v := (nI (A.1.1 0 0))) (q := 94) X dX5_person_91 rfl fr_q1382_5 rfl hR.om ((hR.sc 0).trans (hA.sc (by decide))) ?_
                  refine hr_bipush (v := (nI 7)) (q := 96) X dX5_person_94 rfl rfl ?_
                  refine hr_icmpN_ne (q := 99) (tgt := 108) X dX5_person_96 rfl (by decide) (by omega) (by omega) (fun c96 => ?_) (fun c96 => ?_)
                  · refine hr_aload0 (q := 109) X dX5_person_108 rfl ?_
                    refine hr_iload1 (q := 110) X dX5_person_109 rfl ?_
                    refine hr_iload2 (q := 111) X dX5_person_110 rfl ?_
                    refine hr_iload3 (q := 112) X dX5_person_111 rfl ?_
                    refine hr_iload4 (q := 114) X dX5_person_112 rfl ?_
                    refine hr_iload5 (q := 116) X dX5_person_114 rfl ?_
                    refine hr_iload6 (q := 118) X dX5_person_116 rfl ?_
                    refine hr_callT (q := 121) (hc_V (n := 6) (ci := 5) (As := [.int (nI (iN a1)), .int (nI (iN a2)), .int (nI (iN a3)), .int (nI (iN a4)), .int (nI (iN a5)), .int (nI (iN a6))]) X dX5_person_118 rfl (tk_adds X.tr hR hA hW (by omega) (k1 := iN a1) (k2 := iN a2) (k3 := iN a3) (k4 := iN a4) (k5 := iN a5) (k6 := iN a6)) q1571 cv_X5_adds ⟨Nat.le_of_ble_eq_true rfl, Nat.le_of_ble_eq_true rfl⟩ rfl (Nat.le_of_ble_eq_true rfl) hR.om rfl rfl) rfl (fun G7 u7 hR7 hA7 => ?_)
                    exact hr_iret X hr dX5_person_121 (tw_end (by rw [sq_person, if_neg c1, if_pos c7, if_pos c24, if_pos c35, if_pos c47, if_pos c60, if_pos c69, if_neg (show ¬ ((A.1.1 16 (iN a6)) = 1) by omega), if_neg (show ¬ ((A.1.1 0 0) = 7) by omega)]) hR7 hA7)
                  · refine hr_aload0 (q := 100) X dX5_person_99 rfl ?_
                    refine hr_bipush (v := (-7)) (q := 102) X dX5_person_100 rfl rfl ?_
                    refine hr_callT (q := 105) (hc_V (n := 1) (ci := 5) (As := [.int (-7)]) X dX5_person_102 rfl (tk_no X.tr hR hA (b := (-7)) (by decide)) q1523 cv_X5_no ⟨Nat.le_of_ble_eq_true rfl, Nat.le_of_ble_eq_true rfl⟩ rfl (Nat.le_of_ble_eq_true rfl) hR.om rfl rfl) rfl (fun G8 u8 hR8 hA8 => ?_)
                    refine hr_goto (tgt := 121) X dX5_person_105 (by decide) ?_
                    exact hr_iret X hr dX5_person_121 (tw_end (by rw [sq_person, if_neg c1, if_pos c7, if_pos c24, if_pos c35, if_pos c47, if_pos c60, if_pos c69, if_neg (show ¬ ((A.1.1 16 (iN a6)) = 1) by omega), if_pos (show (A.1.1 0 0) = 7 by omega)]) hR8 hA8)
                · refine hr_aload0 (q := 84) X dX5_person_83 rfl ?_
                  refine hr_bipush (v := (-6)) (q := 86) X dX5_person_84 rfl rfl ?_
                  refine hr_callT (q := 89) (hc_V (n := 1) (ci := 5) (As := [.int (-6)]) X dX5_person_86 rfl (tk_no X.tr hR hA (b := (-6)) (by decide)) q1523 cv_X5_no ⟨Nat.le_of_ble_eq_true rfl, Nat.le_of_ble_eq_true rfl⟩ rfl (Nat.le_of_ble_eq_true rfl) hR.om rfl rfl) rfl (fun G9 u9 hR9 hA9 => ?_)
                  exact hr_iret X hr dX5_person_89 (tw_end (by rw [sq_person, if_neg c1, if_pos c7, if_pos c24, if_pos c35, if_pos c47, if_pos c60, if_pos c69, if_pos (show (A.1.1 16 (iN a6)) = 1 by omega)]) hR9 hA9)
    · refine hr_aload0 (q := 11) X dX5_person_10 rfl ?_
      refine hr_iconst (v := (-1)) (q := 12) X dX5_person_11 rfl rfl ?_
      refine hr_callT (q := 15) (hc_V (n := 1) (ci := 5) (As := [.int (-1)]) X dX5_person_12 rfl (tk_no X.tr hR hA (b := (-1)) (by decide)) q1523 cv_X5_no ⟨Nat.le_of_ble_eq_true rfl, Nat.le_of_ble_eq_true rfl⟩ rfl (Nat.le_of_ble_eq_true rfl) hR.om rfl rfl) rfl (fun G10 u10 hR10 hA10 => ?_)
      exact hr_iret X hr dX5_person_15 (tw_end (by rw [sq_person, if_neg c1, if_neg c7]) hR10 hA10)

def sq_build (a1 : Int32) (a2 : Int32) (a3 : Bool) (A : ab_S) : Int32 × ab_S :=
  if sp_in a1 36 = true then if a2 < 0 then (((sq_no (-6) A).1), (sq_no (-6) A).2)
    else if (nI 1) < a2 then (((sq_no (-6) A).1), (sq_no (-6) A).2)
    else if a2 = 0 then if a3 = true then if (sp_there A.1 (iN a1)) = 0 then if a2 = 0 then if a2 = 0 then if a3 = true then ((nI (A.1.1 16 (iN a1))), ab_n A 16 (iN a1) 1)
              else ((nI (A.1.1 16 (iN a1))), ab_n A 16 (iN a1) 0)
            else if a3 = true then ((nI (A.1.1 16 (iN a1))), ab_n A 17 (iN a1) 1)
            else ((nI (A.1.1 16 (iN a1))), ab_n A 17 (iN a1) 0)
          else if a2 = 0 then if a3 = true then ((nI (A.1.1 17 (iN a1))), ab_n A 16 (iN a1) 1)
            else ((nI (A.1.1 17 (iN a1))), ab_n A 16 (iN a1) 0)
          else if a3 = true then ((nI (A.1.1 17 (iN a1))), ab_n A 17 (iN a1) 1)
          else ((nI (A.1.1 17 (iN a1))), ab_n A 17 (iN a1) 0)
        else (((sq_no (-6) A).1), (sq_no (-6) A).2)
      else if a2 = 0 then if a2 = 0 then if a3 = true then ((nI (A.1.1 16 (iN a1))), ab_n A 16 (iN a1) 1)
          else ((nI (A.1.1 16 (iN a1))), ab_n A 16 (iN a1) 0)
        else if a3 = true then ((nI (A.1.1 16 (iN a1))), ab_n A 17 (iN a1) 1)
        else ((nI (A.1.1 16 (iN a1))), ab_n A 17 (iN a1) 0)
      else if a2 = 0 then if a3 = true then ((nI (A.1.1 17 (iN a1))), ab_n A 16 (iN a1) 1)
        else ((nI (A.1.1 17 (iN a1))), ab_n A 16 (iN a1) 0)
      else if a3 = true then ((nI (A.1.1 17 (iN a1))), ab_n A 17 (iN a1) 1)
      else ((nI (A.1.1 17 (iN a1))), ab_n A 17 (iN a1) 0)
    else if a2 = 0 then if a2 = 0 then if a3 = true then ((nI (A.1.1 16 (iN a1))), ab_n A 16 (iN a1) 1)
        else ((nI (A.1.1 16 (iN a1))), ab_n A 16 (iN a1) 0)
      else if a3 = true then ((nI (A.1.1 16 (iN a1))), ab_n A 17 (iN a1) 1)
      else ((nI (A.1.1 16 (iN a1))), ab_n A 17 (iN a1) 0)
    else if a2 = 0 then if a3 = true then ((nI (A.1.1 17 (iN a1))), ab_n A 16 (iN a1) 1)
      else ((nI (A.1.1 17 (iN a1))), ab_n A 16 (iN a1) 0)
    else if a3 = true then ((nI (A.1.1 17 (iN a1))), ab_n A 17 (iN a1) 1)
    else ((nI (A.1.1 17 (iN a1))), ab_n A 17 (iN a1) 0)
  else (((sq_no (-6) A).1), (sq_no (-6) A).2)
theorem tk_build {l : Launch} {D : hg_D} {lo : Nat} (htr : l.stackTraces = false) {G : hg_G} {o : Nat} {am : Nat → Nat} {u : tw_S} {A : ab_S} (hR : tw_R G o am u) (hA : tw_A u A) {a1 : Int32} {a2 : Int32} {a3 : Bool} (hW : ab_wf A) :
    hg_M l D lo yX5_build (ws_ yX5_build cX5_build 5 ((some FieldType.int))) rm_X5_build [.ref o, .int a1, .int a2, .int (bI a3)] G (tw_Po o am (sq_build a1 a2 a3 A)) := by
  have hw := hW.w; have w0 := hw.b0; have w1 := hw.b1; have w2 := hw.b2; have w3 := hw.b3; have w36 := hW.b36; have w43 := hW.b43
  refine hg_M.of htr (by decide) [some (.ref o), some (.int a1), some (.int a2), some (.int (bI a3)), none] rfl (Nat.le_of_ble_eq_true rfl) ?_
  intro p e s m args below meth c X hr hnm htab
  have X : hg_X p l s m args meth c D lo "TaxOnLooksModel" cX5_build 5 := X
  refine hr_aload0 (q := 1) X dX5_build_0 rfl ?_
  refine hr_iload1 (q := 2) X dX5_build_1 rfl ?_
  refine hr_callP (q := 5) (hc_V (n := 1) (ci := 5) (As := [.int a1]) X dX5_build_2 rfl (tk_isSquare X.tr hR a1) q1567 cv_X5_isSquare ⟨Nat.le_of_ble_eq_true rfl, Nat.le_of_ble_eq_true rfl⟩ rfl (Nat.le_of_ble_eq_true rfl) hR.om rfl rfl) rfl ?_
  refine hr_ifB_eq (q := 8) (tgt := 33) X dX5_build_5 rfl (by decide) (fun c5 => ?_) (fun c5 => ?_)
  · refine hr_aload0 (q := 34) X dX5_build_33 rfl ?_
    refine hr_bipush (v := (-6)) (q := 36) X dX5_build_34 rfl rfl ?_
    refine hr_callT (q := 39) (hc_V (n := 1) (ci := 5) (As := [.int (-6)]) X dX5_build_36 rfl (tk_no X.tr hR hA (b := (-6)) (by decide)) q1523 cv_X5_no ⟨Nat.le_of_ble_eq_true rfl, Nat.le_of_ble_eq_true rfl⟩ rfl (Nat.le_of_ble_eq_true rfl) hR.om rfl rfl) rfl (fun G1 u1 hR1 hA1 => ?_)
    exact hr_iret X hr dX5_build_39 (tw_end (by rw [sq_build, if_neg (by rw [c5]; decide)]) hR1 hA1)
  · have n8_1 := sp_inN (by decide) c5
    refine hr_L (L' := [some (.ref o), some (.int (nI (iN a1))), some (.int a2), some (.int (bI a3)), none]) (by rw [← n8_1.1]) ?_
    refine hr_iload2 (q := 9) X dX5_build_8 rfl ?_
    refine hr_if_lt (q := 12) (tgt := 33) X dX5_build_9 rfl (by decide) (fun c9 => ?_) (fun c9 => ?_)
    · refine hr_aload0 (q := 34) X dX5_build_33 rfl ?_
      refine hr_bipush (v := (-6)) (q := 36) X dX5_build_34 rfl rfl ?_
      refine hr_callT (q := 39) (hc_V (n := 1) (ci := 5) (As := [.int (-6)]) X dX5_build_36 rfl (tk_no X.tr hR hA (b := (-6)) (by decide)) q1523 cv_X5_no ⟨Nat.le_of_ble_eq_true rfl, Nat.le_of_ble_eq_true rfl⟩ rfl (Nat.le_of_ble_eq_true rfl) hR.om rfl rfl) rfl (fun G2 u2 hR2 hA2 => ?_)
      exact hr_iret X hr dX5_build_39 (tw_end (by rw [sq_build, if_pos c5, if_pos c9]) hR2 hA2)
    · refine hr_iload2 (q := 13) X dX5_build_12 rfl ?_
      refine hr_iconst (v := (nI 1)) (q := 14) X dX5_build_13 rfl rfl ?_
      refine hr_icmp_gt (q := 17) (tgt := 33) X dX5_build_14 rfl (by decide) (fun c14 => ?_) (fun c14 => ?_)
      · refine hr_aload0 (q := 34) X dX5_build_33 rfl ?_
        refine hr_bipush (v := (-6)) (q := 36) X dX5_build_34 rfl rfl ?_
        refine hr_callT (q := 39) (hc_V (n := 1) (ci := 5) (As := [.int (-6)]) X dX5_build_36 rfl (tk_no X.tr hR hA (b := (-6)) (by decide)) q1523 cv_X5_no ⟨Nat.le_of_ble_eq_true rfl, Nat.le_of_ble_eq_true rfl⟩ rfl (Nat.le_of_ble_eq_true rfl) hR.om rfl rfl) rfl (fun G3 u3 hR3 hA3 => ?_)
        exact hr_iret X hr dX5_build_39 (tw_end (by rw [sq_build, if_pos c5, if_neg c9, if_pos c14]) hR3 hA3)
      · refine hr_iload2 (q := 18) X dX5_build_17 rfl ?_
        refine hr_if_ne (q := 21) (tgt := 40) X dX5_build_18 rfl (by decide) (fun c18 => ?_) (fun c18 => ?_)
        · refine hr_iload2 (q := 41) X dX5_build_40 rfl ?_
          refine hr_if_ne (q := 44) (tgt := 53) X dX5_build_41 rfl (by decide) (fun c41 => ?_) (fun c41 => ?_)
          · refine hr_aload0 (q := 54) X dX5_build_53 rfl ?_
            refine hr_getR (v := am 17) (q := 57) X dX5_build_54 rfl fr_q1399_5 rfl hR.om (hR.f rfl) ?_
            refine hr_iload1 (q := 58) X dX5_build_57 rfl ?_
            refine hr_ialdN (v := (nI (A.1.1 17 (iN a1)))) (q := 59) X dX5_build_58 rfl (hR.ka (n := 36) rfl rfl rfl) (Or.inl rfl) (by omega) (by decide) ((hR.ar rfl _).trans (hA.c (by decide) (by decide) (by omega))) ?_
            have b58 := hW.w.b17 (show iN a1 < 36 by omega)
            refine hr_istore4 (q := 61) X dX5_build_59 rfl rfl (Nat.le_of_ble_eq_true rfl) ?_
            refine hr_iload2 (q := 62) X dX5_build_61 rfl ?_
            refine hr_if_ne (q := 65) (tgt := 83) X dX5_build_62 rfl (by decide) (fun c62 => ?_) (fun c62 => ?_)
            · refine hr_aload0 (q := 84) X dX5_build_83 rfl ?_
              refine hr_getR (v := am 17) (q := 87) X dX5_build_84 rfl fr_q1399_5 rfl hR.om (hR.f rfl) ?_
              refine hr_iload1 (q := 88) X dX5_build_87 rfl ?_
              refine hr_iload3 (q := 89) X dX5_build_88 rfl ?_
              refine hr_ifB_eq (q := 92) (tgt := 96) X dX5_build_89 rfl (by decide) (fun c89 => ?_) (fun c89 => ?_)
              · refine hr_iconst (v := (nI 0)) (q := 97) X dX5_build_96 rfl rfl ?_
                refine hr_iastN (q := 98) X dX5_build_97 rfl (hR.ka (n := 36) rfl rfl rfl) (by omega) (by decide) ?_
                have hR4 := hR.setA (k := 17) rfl (iN a1) (nI 0)
                have hA4 := hA.nA (k := 17) (j := iN a1) (n := 0) (by decide) rfl
                refine hr_iload4 (q := 100) X dX5_build_98 rfl ?_
                exact hr_iret X hr dX5_build_100 (tw_end (by rw [sq_build, if_pos c5, if_neg c9, if_neg c14, if_neg c18, if_neg c41, if_neg c62, if_neg (by rw [c89]; decide)]) hR4 hA4)
              · refine hr_iconst (v := (nI 1)) (q := 93) X dX5_build_92 rfl rfl ?_
                refine hr_goto (tgt := 97) X dX5_build_93 (by decide) ?_
                refine hr_iastN (q := 98) X dX5_build_97 rfl (hR.ka (n := 36) rfl rfl rfl) (by omega) (by decide) ?_
                have hR5 := hR.setA (k := 17) rfl (iN a1) (nI 1)
                have hA5 := hA.nA (k := 17) (j := iN a1) (n := 1) (by decide) rfl
                refine hr_iload4 (q := 100) X dX5_build_98 rfl ?_
                exact hr_iret X hr dX5_build_100 (tw_end (by rw [sq_build, if_pos c5, if_neg c9, if_neg c14, if_neg c18, if_neg c41, if_neg c62, if_pos c89]) hR5 hA5)
            · refine hr_aload0 (q := 66) X dX5_build_65 rfl ?_
              refine hr_getR (v := am 16) (q := 69) X dX5_build_66 rfl fr_q1398_5 rfl hR.om (hR.f rfl) ?_
              refine hr_iload1 (q := 70) X dX5_build_69 rfl ?_
              refine hr_iload3 (q := 71) X dX5_build_70 rfl ?_
              refine hr_ifB_eq (q := 74) (tgt := 78) X dX5_build_71 rfl (by decide) (fun c71 => ?_) (fun c71 => ?_)
              · refine hr_iconst (v := (nI 0)) (q := 79) X dX5_build_78 rfl rfl ?_
                refine hr_iastN (q := 80) X dX5_build_79 rfl (hR.ka (n := 36) rfl rfl rfl) (by omega) (by decide) ?_
                have hR6 := hR.setA (k := 16) rfl (iN a1) (nI 0)
                have hA6 := hA.nA (k := 16) (j := iN a1) (n := 0) (by decide) rfl
                refine hr_goto (tgt := 98) X dX5_build_80 (by decide) ?_
                refine hr_iload4 (q := 100) X dX5_build_98 rfl ?_
                exact hr_iret X hr dX5_build_100 (tw_end (by rw [sq_build, if_pos c5, if_neg c9, if_neg c14, if_neg c18, if_neg c41, if_pos c62, if_neg (by rw [c71]; decide)]) hR6 hA6)
              · refine hr_iconst (v := (nI 1)) (q := 75) X dX5_build_74 rfl rfl ?_
                refine hr_goto (tgt := 79) X dX5_build_75 (by decide) ?_
                refine hr_iastN (q := 80) X dX5_build_79 rfl (hR.ka (n := 36) rfl rfl rfl) (by omega) (by decide) ?_
                have hR7 := hR.setA (k := 16) rfl (iN a1) (nI 1)
                have hA7 := hA.nA (k := 16) (j := iN a1) (n := 1) (by decide) rfl
                refine hr_goto (tgt := 98) X dX5_build_80 (by decide) ?_
                refine hr_iload4 (q := 100) X dX5_build_98 rfl ?_
                exact hr_iret X hr dX5_build_100 (tw_end (by rw [sq_build, if_pos c5, if_neg c9, if_neg c14, if_neg c18, if_neg c41, if_pos c62, if_pos c71]) hR7 hA7)
          · refine hr_aload0 (q := 45) X dX5_build_44 rfl ?_
            refine hr_getR (v := am 16) (q := 48) X dX5_build_45 rfl fr_q1398_5 rfl hR.om (hR.f rfl) ?_
            refine hr_iload1 (q := 49) X dX5_build_48 rfl ?_
            refine hr_ialdN (v := (nI (A.1.1 16 (iN a1)))) (q := 50) X dX5_build_49 rfl (hR.ka (n := 36) rfl rfl rfl) (Or.inl rfl) (by omega) (by decide) ((hR.ar rfl _).trans (hA.c (by decide) (by decide) (by omega))) ?_
            have b49 := hW.w.b16 (show iN a1 < 36 by omega)
            refine hr_goto (tgt := 59) X dX5_build_50 (by decide) ?_
            refine hr_istore4 (q := 61) X dX5_build_59 rfl rfl (Nat.le_of_ble_eq_true rfl) ?_
            refine hr_iload2 (q := 62) X dX5_build_61 rfl ?_
            refine hr_if_ne (q := 65) (tgt := 83) X dX5_build_62 rfl (by decide) (fun c62 => ?_) (fun c62 => ?_)
            · refine hr_aload0 (q := 84) X dX5_build_83 rfl ?_
              refine hr_getR (v := am 17) (q := 87) X dX5_build_84 rfl fr_q1399_5 rfl hR.om (hR.f rfl) ?_
              refine hr_iload1 (q := 88) X dX5_build_87 rfl ?_
              refine hr_iload3 (q := 89) X dX5_build_88 rfl ?_
              refine hr_ifB_eq (q := 92) (tgt := 96) X dX5_build_89 rfl (by decide) (fun c89 => ?_) (fun c89 => ?_)
              · refine hr_iconst (v := (nI 0)) (q := 97) X dX5_build_96 rfl rfl ?_
                refine hr_iastN (q := 98) X dX5_build_97 rfl (hR.ka (n := 36) rfl rfl rfl) (by omega) (by decide) ?_
                have hR8 := hR.setA (k := 17) rfl (iN a1) (nI 0)
                have hA8 := hA.nA (k := 17) (j := iN a1) (n := 0) (by decide) rfl
                refine hr_iload4 (q := 100) X dX5_build_98 rfl ?_
                exact hr_iret X hr dX5_build_100 (tw_end (by rw [sq_build, if_pos c5, if_neg c9, if_neg c14, if_neg c18, if_pos c41, if_neg c62, if_neg (by rw [c89]; decide)]) hR8 hA8)
              · refine hr_iconst (v := (nI 1)) (q := 93) X dX5_build_92 rfl rfl ?_
                refine hr_goto (tgt := 97) X dX5_build_93 (by decide) ?_
                refine hr_iastN (q := 98) X dX5_build_97 rfl (hR.ka (n := 36) rfl rfl rfl) (by omega) (by decide) ?_
                have hR9 := hR.setA (k := 17) rfl (iN a1) (nI 1)
                have hA9 := hA.nA (k := 17) (j := iN a1) (n := 1) (by decide) rfl
                refine hr_iload4 (q := 100) X dX5_build_98 rfl ?_
                exact hr_iret X hr dX5_build_100 (tw_end (by rw [sq_build, if_pos c5, if_neg c9, if_neg c14, if_neg c18, if_pos c41, if_neg c62, if_pos c89]) hR9 hA9)
            · refine hr_aload0 (q := 66) X dX5_build_65 rfl ?_
              refine hr_getR (v := am 16) (q := 69) X dX5_build_66 rfl fr_q1398_5 rfl hR.om (hR.f rfl) ?_
              refine hr_iload1 (q := 70) X dX5_build_69 rfl ?_
              refine hr_iload3 (q := 71) X dX5_build_70 rfl ?_
              refine hr_ifB_eq (q := 74) (tgt := 78) X dX5_build_71 rfl (by decide) (fun c71 => ?_) (fun c71 => ?_)
              · refine hr_iconst (v := (nI 0)) (q := 79) X dX5_build_78 rfl rfl ?_
                refine hr_iastN (q := 80) X dX5_build_79 rfl (hR.ka (n := 36) rfl rfl rfl) (by omega) (by decide) ?_
                have hR10 := hR.setA (k := 16) rfl (iN a1) (nI 0)
                have hA10 := hA.nA (k := 16) (j := iN a1) (n := 0) (by decide) rfl
                refine hr_goto (tgt := 98) X dX5_build_80 (by decide) ?_
                refine hr_iload4 (q := 100) X dX5_build_98 rfl ?_
                exact hr_iret X hr dX5_build_100 (tw_end (by rw [sq_build, if_pos c5, if_neg c9, if_neg c14, if_neg c18, if_pos c41, if_pos c62, if_neg (by rw [c71]; decide)]) hR10 hA10)
              · refine hr_iconst (v := (nI 1)) (q := 75) X dX5_build_74 rfl rfl ?_
                refine hr_goto (tgt := 79) X dX5_build_75 (by decide) ?_
                refine hr_iastN (q := 80) X dX5_build_79 rfl (hR.ka (n := 36) rfl rfl rfl) (by omega) (by decide) ?_
                have hR11 := hR.setA (k := 16) rfl (iN a1) (nI 1)
                have hA11 := hA.nA (k := 16) (j := iN a1) (n := 1) (by decide) rfl
                refine hr_goto (tgt := 98) X dX5_build_80 (by decide) ?_
                refine hr_iload4 (q := 100) X dX5_build_98 rfl ?_
                exact hr_iret X hr dX5_build_100 (tw_end (by rw [sq_build, if_pos c5, if_neg c9, if_neg c14, if_neg c18, if_pos c41, if_pos c62, if_pos c71]) hR11 hA11)
        · refine hr_iload3 (q := 22) X dX5_build_21 rfl ?_
          refine hr_ifB_eq (q := 25) (tgt := 40) X dX5_build_22 rfl (by decide) (fun c22 => ?_) (fun c22 => ?_)
          · refine hr_iload2 (q := 41) X dX5_build_40 rfl ?_
            refine hr_if_ne (q := 44) (tgt := 53) X dX5_build_41 rfl (by decide) (fun c41 => ?_) (fun c41 => ?_)
            · refine hr_aload0 (q := 54) X dX5_build_53 rfl ?_
              refine hr_getR (v := am 17) (q := 57) X dX5_build_54 rfl fr_q1399_5 rfl hR.om (hR.f rfl) ?_
              refine hr_iload1 (q := 58) X dX5_build_57 rfl ?_
              refine hr_ialdN (v := (nI (A.1.1 17 (iN a1)))) (q := 59) X dX5_build_58 rfl (hR.ka (n := 36) rfl rfl rfl) (Or.inl rfl) (by omega) (by decide) ((hR.ar rfl _).trans (hA.c (by decide) (by decide) (by omega))) ?_
              have b58 := hW.w.b17 (show iN a1 < 36 by omega)
              refine hr_istore4 (q := 61) X dX5_build_59 rfl rfl (Nat.le_of_ble_eq_true rfl) ?_
              refine hr_iload2 (q := 62) X dX5_build_61 rfl ?_
              refine hr_if_ne (q := 65) (tgt := 83) X dX5_build_62 rfl (by decide) (fun c62 => ?_) (fun c62 => ?_)
              · refine hr_aload0 (q := 84) X dX5_build_83 rfl ?_
                refine hr_getR (v := am 17) (q := 87) X dX5_build_84 rfl fr_q1399_5 rfl hR.om (hR.f rfl) ?_
                refine hr_iload1 (q := 88) X dX5_build_87 rfl ?_
                refine hr_iload3 (q := 89) X dX5_build_88 rfl ?_
                refine hr_ifB_eq (q := 92) (tgt := 96) X dX5_build_89 rfl (by decide) (fun c89 => ?_) (fun c89 => ?_)
                · refine hr_iconst (v := (nI 0)) (q := 97) X dX5_build_96 rfl rfl ?_
                  refine hr_iastN (q := 98) X dX5_build_97 rfl (hR.ka (n := 36) rfl rfl rfl) (by omega) (by decide) ?_
                  have hR12 := hR.setA (k := 17) rfl (iN a1) (nI 0)
                  have hA12 := hA.nA (k := 17) (j := iN a1) (n := 0) (by decide) rfl
                  refine hr_iload4 (q := 100) X dX5_build_98 rfl ?_
                  exact hr_iret X hr dX5_build_100 (tw_end (by rw [sq_build, if_pos c5, if_neg c9, if_neg c14, if_pos c18, if_neg (by rw [c22]; decide), if_neg c41, if_neg c62, if_neg (by rw [c89]; decide)]) hR12 hA12)
                · refine hr_iconst (v := (nI 1)) (q := 93) X dX5_build_92 rfl rfl ?_
                  refine hr_goto (tgt := 97) X dX5_build_93 (by decide) ?_
                  refine hr_iastN (q := 98) X dX5_build_97 rfl (hR.ka (n := 36) rfl rfl rfl) (by omega) (by decide) ?_
                  have hR13 := hR.setA (k := 17) rfl (iN a1) (nI 1)
                  have hA13 := hA.nA (k := 17) (j := iN a1) (n := 1) (by decide) rfl
                  refine hr_iload4 (q := 100) X dX5_build_98 rfl ?_
                  exact hr_iret X hr dX5_build_100 (tw_end (by rw [sq_build, if_pos c5, if_neg c9, if_neg c14, if_pos c18, if_neg (by rw [c22]; decide), if_neg c41, if_neg c62, if_pos c89]) hR13 hA13)
              · refine hr_aload0 (q := 66) X dX5_build_65 rfl ?_
                refine hr_getR (v := am 16) (q := 69) X dX5_build_66 rfl fr_q1398_5 rfl hR.om (hR.f rfl) ?_
                refine hr_iload1 (q := 70) X dX5_build_69 rfl ?_
                refine hr_iload3 (q := 71) X dX5_build_70 rfl ?_
                refine hr_ifB_eq (q := 74) (tgt := 78) X dX5_build_71 rfl (by decide) (fun c71 => ?_) (fun c71 => ?_)
                · refine hr_iconst (v := (nI 0)) (q := 79) X dX5_build_78 rfl rfl ?_
                  refine hr_iastN (q := 80) X dX5_build_79 rfl (hR.ka (n := 36) rfl rfl rfl) (by omega) (by decide) ?_
                  have hR14 := hR.setA (k := 16) rfl (iN a1) (nI 0)
                  have hA14 := hA.nA (k := 16) (j := iN a1) (n := 0) (by decide) rfl
                  refine hr_goto (tgt := 98) X dX5_build_80 (by decide) ?_
                  refine hr_iload4 (q := 100) X dX5_build_98 rfl ?_
                  exact hr_iret X hr dX5_build_100 (tw_end (by rw [sq_build, if_pos c5, if_neg c9, if_neg c14, if_pos c18, if_neg (by rw [c22]; decide), if_neg c41, if_pos c62, if_neg (by rw [c71]; decide)]) hR14 hA14)
                · refine hr_iconst (v := (nI 1)) (q := 75) X dX5_build_74 rfl rfl ?_
                  refine hr_goto (tgt := 79) X dX5_build_75 (by decide) ?_
                  refine hr_iastN (q := 80) X dX5_build_79 rfl (hR.ka (n := 36) rfl rfl rfl) (by omega) (by decide) ?_
                  have hR15 := hR.setA (k := 16) rfl (iN a1) (nI 1)
                  have hA15 := hA.nA (k := 16) (j := iN a1) (n := 1) (by decide) rfl
                  refine hr_goto (tgt := 98) X dX5_build_80 (by decide) ?_
                  refine hr_iload4 (q := 100) X dX5_build_98 rfl ?_
                  exact hr_iret X hr dX5_build_100 (tw_end (by rw [sq_build, if_pos c5, if_neg c9, if_neg c14, if_pos c18, if_neg (by rw [c22]; decide), if_neg c41, if_pos c62, if_pos c71]) hR15 hA15)
            · refine hr_aload0 (q := 45) X dX5_build_44 rfl ?_
              refine hr_getR (v := am 16) (q := 48) X dX5_build_45 rfl fr_q1398_5 rfl hR.om (hR.f rfl) ?_
              refine hr_iload1 (q := 49) X dX5_build_48 rfl ?_
              refine hr_ialdN (v := (nI (A.1.1 16 (iN a1)))) (q := 50) X dX5_build_49 rfl (hR.ka (n := 36) rfl rfl rfl) (Or.inl rfl) (by omega) (by decide) ((hR.ar rfl _).trans (hA.c (by decide) (by decide) (by omega))) ?_
              have b49 := hW.w.b16 (show iN a1 < 36 by omega)
              refine hr_goto (tgt := 59) X dX5_build_50 (by decide) ?_
              refine hr_istore4 (q := 61) X dX5_build_59 rfl rfl (Nat.le_of_ble_eq_true rfl) ?_
              refine hr_iload2 (q := 62) X dX5_build_61 rfl ?_
              refine hr_if_ne (q := 65) (tgt := 83) X dX5_build_62 rfl (by decide) (fun c62 => ?_) (fun c62 => ?_)
              · refine hr_aload0 (q := 84) X dX5_build_83 rfl ?_
                refine hr_getR (v := am 17) (q := 87) X dX5_build_84 rfl fr_q1399_5 rfl hR.om (hR.f rfl) ?_
                refine hr_iload1 (q := 88) X dX5_build_87 rfl ?_
                refine hr_iload3 (q := 89) X dX5_build_88 rfl ?_
                refine hr_ifB_eq (q := 92) (tgt := 96) X dX5_build_89 rfl (by decide) (fun c89 => ?_) (fun c89 => ?_)
                · refine hr_iconst (v := (nI 0)) (q := 97) X dX5_build_96 rfl rfl ?_
                  refine hr_iastN (q := 98) X dX5_build_97 rfl (hR.ka (n := 36) rfl rfl rfl) (by omega) (by decide) ?_
                  have hR16 := hR.setA (k := 17) rfl (iN a1) (nI 0)
                  have hA16 := hA.nA (k := 17) (j := iN a1) (n := 0) (by decide) rfl
                  refine hr_iload4 (q := 100) X dX5_build_98 rfl ?_
                  exact hr_iret X hr dX5_build_100 (tw_end (by rw [sq_build, if_pos c5, if_neg c9, if_neg c14, if_pos c18, if_neg (by rw [c22]; decide), if_pos c41, if_neg c62, if_neg (by rw [c89]; decide)]) hR16 hA16)
                · refine hr_iconst (v := (nI 1)) (q := 93) X dX5_build_92 rfl rfl ?_
                  refine hr_goto (tgt := 97) X dX5_build_93 (by decide) ?_
                  refine hr_iastN (q := 98) X dX5_build_97 rfl (hR.ka (n := 36) rfl rfl rfl) (by omega) (by decide) ?_
                  have hR17 := hR.setA (k := 17) rfl (iN a1) (nI 1)
                  have hA17 := hA.nA (k := 17) (j := iN a1) (n := 1) (by decide) rfl
                  refine hr_iload4 (q := 100) X dX5_build_98 rfl ?_
                  exact hr_iret X hr dX5_build_100 (tw_end (by rw [sq_build, if_pos c5, if_neg c9, if_neg c14, if_pos c18, if_neg (by rw [c22]; decide), if_pos c41, if_neg c62, if_pos c89]) hR17 hA17)
              · refine hr_aload0 (q := 66) X dX5_build_65 rfl ?_
                refine hr_getR (v := am 16) (q := 69) X dX5_build_66 rfl fr_q1398_5 rfl hR.om (hR.f rfl) ?_
                refine hr_iload1 (q := 70) X dX5_build_69 rfl ?_
                refine hr_iload3 (q := 71) X dX5_build_70 rfl ?_
                refine hr_ifB_eq (q := 74) (tgt := 78) X dX5_build_71 rfl (by decide) (fun c71 => ?_) (fun c71 => ?_)
                · refine hr_iconst (v := (nI 0)) (q := 79) X dX5_build_78 rfl rfl ?_
                  refine hr_iastN (q := 80) X dX5_build_79 rfl (hR.ka (n := 36) rfl rfl rfl) (by omega) (by decide) ?_
                  have hR18 := hR.setA (k := 16) rfl (iN a1) (nI 0)
                  have hA18 := hA.nA (k := 16) (j := iN a1) (n := 0) (by decide) rfl
                  refine hr_goto (tgt := 98) X dX5_build_80 (by decide) ?_
                  refine hr_iload4 (q := 100) X dX5_build_98 rfl ?_
                  exact hr_iret X hr dX5_build_100 (tw_end (by rw [sq_build, if_pos c5, if_neg c9, if_neg c14, if_pos c18, if_neg (by rw [c22]; decide), if_pos c41, if_pos c62, if_neg (by rw [c71]; decide)]) hR18 hA18)
                · refine hr_iconst (v := (nI 1)) (q := 75) X dX5_build_74 rfl rfl ?_
                  refine hr_goto (tgt := 79) X dX5_build_75 (by decide) ?_
                  refine hr_iastN (q := 80) X dX5_build_79 rfl (hR.ka (n := 36) rfl rfl rfl) (by omega) (by decide) ?_
                  have hR19 := hR.setA (k := 16) rfl (iN a1) (nI 1)
                  have hA19 := hA.nA (k := 16) (j := iN a1) (n := 1) (by decide) rfl
                  refine hr_goto (tgt := 98) X dX5_build_80 (by decide) ?_
                  refine hr_iload4 (q := 100) X dX5_build_98 rfl ?_
                  exact hr_iret X hr dX5_build_100 (tw_end (by rw [sq_build, if_pos c5, if_neg c9, if_neg c14, if_pos c18, if_neg (by rw [c22]; decide), if_pos c41, if_pos c62, if_pos c71]) hR19 hA19)
          · refine hr_aload0 (q := 26) X dX5_build_25 rfl ?_
            refine hr_iload1 (q := 27) X dX5_build_26 rfl ?_
            refine hr_callP (q := 30) (hc_V (n := 1) (ci := 5) (As := [.int (nI (iN a1))]) X dX5_build_27 rfl (tk_thereAt X.tr hR hA.t hw (z := iN a1) (by omega)) q1579 cv_X5_thereAt ⟨Nat.le_of_ble_eq_true rfl, Nat.le_of_ble_eq_true rfl⟩ rfl (Nat.le_of_ble_eq_true rfl) hR.om rfl rfl) rfl ?_
            have := sp_there_lt (t := A.1) hw (iN a1)
            refine hr_ifN_eq (q := 33) (tgt := 40) X dX5_build_30 rfl (by decide) (by omega) (fun c30 => ?_) (fun c30 => ?_)
            · refine hr_iload2 (q := 41) X dX5_build_40 rfl ?_
              refine hr_if_ne (q := 44) (tgt := 53) X dX5_build_41 rfl (by decide) (fun c41 => ?_) (fun c41 => ?_)
              · refine hr_aload0 (q := 54) X dX5_build_53 rfl ?_
                refine hr_getR (v := am 17) (q := 57) X dX5_build_54 rfl fr_q1399_5 rfl hR.om (hR.f rfl) ?_
                refine hr_iload1 (q := 58) X dX5_build_57 rfl ?_
                refine hr_ialdN (v := (nI (A.1.1 17 (iN a1)))) (q := 59) X dX5_build_58 rfl (hR.ka (n := 36) rfl rfl rfl) (Or.inl rfl) (by omega) (by decide) ((hR.ar rfl _).trans (hA.c (by decide) (by decide) (by omega))) ?_
                have b58 := hW.w.b17 (show iN a1 < 36 by omega)
                refine hr_istore4 (q := 61) X dX5_build_59 rfl rfl (Nat.le_of_ble_eq_true rfl) ?_
                refine hr_iload2 (q := 62) X dX5_build_61 rfl ?_
                refine hr_if_ne (q := 65) (tgt := 83) X dX5_build_62 rfl (by decide) (fun c62 => ?_) (fun c62 => ?_)
                · refine hr_aload0 (q := 84) X dX5_build_83 rfl ?_
                  refine hr_getR (v := am 17) (q := 87) X dX5_build_84 rfl fr_q1399_5 rfl hR.om (hR.f rfl) ?_
                  refine hr_iload1 (q := 88) X dX5_build_87 rfl ?_
                  refine hr_iload3 (q := 89) X dX5_build_88 rfl ?_
                  refine hr_ifB_eq (q := 92) (tgt := 96) X dX5_build_89 rfl (by decide) (fun c89 => ?_) (fun c89 => ?_)
                  · refine hr_iconst (v := (nI 0)) (q := 97) X dX5_build_96 rfl rfl ?_
                    refine hr_iastN (q := 98) X dX5_build_97 rfl (hR.ka (n := 36) rfl rfl rfl) (by omega) (by decide) ?_
                    have hR20 := hR.setA (k := 17) rfl (iN a1) (nI 0)
                    have hA20 := hA.nA (k := 17) (j := iN a1) (n := 0) (by decide) rfl
                    refine hr_iload4 (q := 100) X dX5_build_98 rfl ?_
                    exact hr_iret X hr dX5_build_100 (tw_end (by rw [sq_build, if_pos c5, if_neg c9, if_neg c14, if_pos c18, if_pos c22, if_pos (show (sp_there A.1 (iN a1)) = 0 by omega), if_neg c41, if_neg c62, if_neg (by rw [c89]; decide)]) hR20 hA20)
                  · refine hr_iconst (v := (nI 1)) (q := 93) X dX5_build_92 rfl rfl ?_
                    refine hr_goto (tgt := 97) X dX5_build_93 (by decide) ?_
                    refine hr_iastN (q := 98) X dX5_build_97 rfl (hR.ka (n := 36) rfl rfl rfl) (by omega) (by decide) ?_
                    have hR21 := hR.setA (k := 17) rfl (iN a1) (nI 1)
                    have hA21 := hA.nA (k := 17) (j := iN a1) (n := 1) (by decide) rfl
                    refine hr_iload4 (q := 100) X dX5_build_98 rfl ?_
                    exact hr_iret X hr dX5_build_100 (tw_end (by rw [sq_build, if_pos c5, if_neg c9, if_neg c14, if_pos c18, if_pos c22, if_pos (show (sp_there A.1 (iN a1)) = 0 by omega), if_neg c41, if_neg c62, if_pos c89]) hR21 hA21)
                · refine hr_aload0 (q := 66) X dX5_build_65 rfl ?_
                  refine hr_getR (v := am 16) (q := 69) X dX5_build_66 rfl fr_q1398_5 rfl hR.om (hR.f rfl) ?_
                  refine hr_iload1 (q := 70) X dX5_build_69 rfl ?_
                  refine hr_iload3 (q := 71) X dX5_build_70 rfl ?_
                  refine hr_ifB_eq (q := 74) (tgt := 78) X dX5_build_71 rfl (by decide) (fun c71 => ?_) (fun c71 => ?_)
                  · refine hr_iconst (v := (nI 0)) (q := 79) X dX5_build_78 rfl rfl ?_
                    refine hr_iastN (q := 80) X dX5_build_79 rfl (hR.ka (n := 36) rfl rfl rfl) (by omega) (by decide) ?_
                    have hR22 := hR.setA (k := 16) rfl (iN a1) (nI 0)
                    have hA22 := hA.nA (k := 16) (j := iN a1) (n := 0) (by decide) rfl
                    refine hr_goto (tgt := 98) X dX5_build_80 (by decide) ?_
                    refine hr_iload4 (q := 100) X dX5_build_98 rfl ?_
                    exact hr_iret X hr dX5_build_100 (tw_end (by rw [sq_build, if_pos c5, if_neg c9, if_neg c14, if_pos c18, if_pos c22, if_pos (show (sp_there A.1 (iN a1)) = 0 by omega), if_neg c41, if_pos c62, if_neg (by rw [c71]; decide)]) hR22 hA22)
                  · refine hr_iconst (v := (nI 1)) (q := 75) X dX5_build_74 rfl rfl ?_
                    refine hr_goto (tgt := 79) X dX5_build_75 (by decide) ?_
                    refine hr_iastN (q := 80) X dX5_build_79 rfl (hR.ka (n := 36) rfl rfl rfl) (by omega) (by decide) ?_
                    have hR23 := hR.setA (k := 16) rfl (iN a1) (nI 1)
                    have hA23 := hA.nA (k := 16) (j := iN a1) (n := 1) (by decide) rfl
                    refine hr_goto (tgt := 98) X dX5_build_80 (by decide) ?_
                    refine hr_iload4 (q := 100) X dX5_build_98 rfl ?_
                    exact hr_iret X hr dX5_build_100 (tw_end (by rw [sq_build, if_pos c5, if_neg c9, if_neg c14, if_pos c18, if_pos c22, if_pos (show (sp_there A.1 (iN a1)) = 0 by omega), if_neg c41, if_pos c62, if_pos c71]) hR23 hA23)
              · refine hr_aload0 (q := 45) X dX5_build_44 rfl ?_
                refine hr_getR (v := am 16) (q := 48) X dX5_build_45 rfl fr_q1398_5 rfl hR.om (hR.f rfl) ?_
                refine hr_iload1 (q := 49) X dX5_build_48 rfl ?_
                refine hr_ialdN (v := (nI (A.1.1 16 (iN a1)))) (q := 50) X dX5_build_49 rfl (hR.ka (n := 36) rfl rfl rfl) (Or.inl rfl) (by omega) (by decide) ((hR.ar rfl _).trans (hA.c (by decide) (by decide) (by omega))) ?_
                have b49 := hW.w.b16 (show iN a1 < 36 by omega)
                refine hr_goto (tgt := 59) X dX5_build_50 (by decide) ?_
                refine hr_istore4 (q := 61) X dX5_build_59 rfl rfl (Nat.le_of_ble_eq_true rfl) ?_
                refine hr_iload2 (q := 62) X dX5_build_61 rfl ?_
                refine hr_if_ne (q := 65) (tgt := 83) X dX5_build_62 rfl (by decide) (fun c62 => ?_) (fun c62 => ?_)
                · refine hr_aload0 (q := 84) X dX5_build_83 rfl ?_
                  refine hr_getR (v := am 17) (q := 87) X dX5_build_84 rfl fr_q1399_5 rfl hR.om (hR.f rfl) ?_
                  refine hr_iload1 (q := 88) X dX5_build_87 rfl ?_
                  refine hr_iload3 (q := 89) X dX5_build_88 rfl ?_
                  refine hr_ifB_eq (q := 92) (tgt := 96) X dX5_build_89 rfl (by decide) (fun c89 => ?_) (fun c89 => ?_)
                  · refine hr_iconst (v := (nI 0)) (q := 97) X dX5_build_96 rfl rfl ?_
                    refine hr_iastN (q := 98) X dX5_build_97 rfl (hR.ka (n := 36) rfl rfl rfl) (by omega) (by decide) ?_
                    have hR24 := hR.setA (k := 17) rfl (iN a1) (nI 0)
                    have hA24 := hA.nA (k := 17) (j := iN a1) (n := 0) (by decide) rfl
                    refine hr_iload4 (q := 100) X dX5_build_98 rfl ?_
                    exact hr_iret X hr dX5_build_100 (tw_end (by rw [sq_build, if_pos c5, if_neg c9, if_neg c14, if_pos c18, if_pos c22, if_pos (show (sp_there A.1 (iN a1)) = 0 by omega), if_pos c41, if_neg c62, if_neg (by rw [c89]; decide)]) hR24 hA24)
                  · refine hr_iconst (v := (nI 1)) (q := 93) X dX5_build_92 rfl rfl ?_
                    refine hr_goto (tgt := 97) X dX5_build_93 (by decide) ?_
                    refine hr_iastN (q := 98) X dX5_build_97 rfl (hR.ka (n := 36) rfl rfl rfl) (by omega) (by decide) ?_
                    have hR25 := hR.setA (k := 17) rfl (iN a1) (nI 1)
                    have hA25 := hA.nA (k := 17) (j := iN a1) (n := 1) (by decide) rfl
                    refine hr_iload4 (q := 100) X dX5_build_98 rfl ?_
                    exact hr_iret X hr dX5_build_100 (tw_end (by rw [sq_build, if_pos c5, if_neg c9, if_neg c14, if_pos c18, if_pos c22, if_pos (show (sp_there A.1 (iN a1)) = 0 by omega), if_pos c41, if_neg c62, if_pos c89]) hR25 hA25)
                · refine hr_aload0 (q := 66) X dX5_build_65 rfl ?_
                  refine hr_getR (v := am 16) (q := 69) X dX5_build_66 rfl fr_q1398_5 rfl hR.om (hR.f rfl) ?_
                  refine hr_iload1 (q := 70) X dX5_build_69 rfl ?_
                  refine hr_iload3 (q := 71) X dX5_build_70 rfl ?_
                  refine hr_ifB_eq (q := 74) (tgt := 78) X dX5_build_71 rfl (by decide) (fun c71 => ?_) (fun c71 => ?_)
                  · refine hr_iconst (v := (nI 0)) (q := 79) X dX5_build_78 rfl rfl ?_
                    refine hr_iastN (q := 80) X dX5_build_79 rfl (hR.ka (n := 36) rfl rfl rfl) (by omega) (by decide) ?_
                    have hR26 := hR.setA (k := 16) rfl (iN a1) (nI 0)
                    have hA26 := hA.nA (k := 16) (j := iN a1) (n := 0) (by decide) rfl
                    refine hr_goto (tgt := 98) X dX5_build_80 (by decide) ?_
                    refine hr_iload4 (q := 100) X dX5_build_98 rfl ?_
                    exact hr_iret X hr dX5_build_100 (tw_end (by rw [sq_build, if_pos c5, if_neg c9, if_neg c14, if_pos c18, if_pos c22, if_pos (show (sp_there A.1 (iN a1)) = 0 by omega), if_pos c41, if_pos c62, if_neg (by rw [c71]; decide)]) hR26 hA26)
                  · refine hr_iconst (v := (nI 1)) (q := 75) X dX5_build_74 rfl rfl ?_
                    refine hr_goto (tgt := 79) X dX5_build_75 (by decide) ?_
                    refine hr_iastN (q := 80) X dX5_build_79 rfl (hR.ka (n := 36) rfl rfl rfl) (by omega) (by decide) ?_
                    have hR27 := hR.setA (k := 16) rfl (iN a1) (nI 1)
                    have hA27 := hA.nA (k := 16) (j := iN a1) (n := 1) (by decide) rfl
                    refine hr_goto (tgt := 98) X dX5_build_80 (by decide) ?_
                    refine hr_iload4 (q := 100) X dX5_build_98 rfl ?_
                    exact hr_iret X hr dX5_build_100 (tw_end (by rw [sq_build, if_pos c5, if_neg c9, if_neg c14, if_pos c18, if_pos c22, if_pos (show (sp_there A.1 (iN a1)) = 0 by omega), if_pos c41, if_pos c62, if_pos c71]) hR27 hA27)
            · refine hr_aload0 (q := 34) X dX5_build_33 rfl ?_
              refine hr_bipush (v := (-6)) (q := 36) X dX5_build_34 rfl rfl ?_
              refine hr_callT (q := 39) (hc_V (n := 1) (ci := 5) (As := [.int (-6)]) X dX5_build_36 rfl (tk_no X.tr hR hA (b := (-6)) (by decide)) q1523 cv_X5_no ⟨Nat.le_of_ble_eq_true rfl, Nat.le_of_ble_eq_true rfl⟩ rfl (Nat.le_of_ble_eq_true rfl) hR.om rfl rfl) rfl (fun G28 u28 hR28 hA28 => ?_)
              exact hr_iret X hr dX5_build_39 (tw_end (by rw [sq_build, if_pos c5, if_neg c9, if_neg c14, if_pos c18, if_pos c22, if_neg (show ¬ ((sp_there A.1 (iN a1)) = 0) by omega)]) hR28 hA28)

def sq_put (a1 : Int32) (a2 : Int32) (A : ab_S) : Int32 × ab_S :=
  if sp_in a1 (A.1.1 0 0) = true then if sp_in a2 36 = true then if (A.1.1 16 (iN a2)) = 1 then (((sq_no (-6) A).1), (sq_no (-6) A).2)
      else ((nI (A.1.1 14 (iN a1))), ab_n A 14 (iN a1) (iN a2))
    else (((sq_no (-6) A).1), (sq_no (-6) A).2)
  else (((sq_no (-1) A).1), (sq_no (-1) A).2)
theorem tk_put {l : Launch} {D : hg_D} {lo : Nat} (htr : l.stackTraces = false) {G : hg_G} {o : Nat} {am : Nat → Nat} {u : tw_S} {A : ab_S} (hR : tw_R G o am u) (hA : tw_A u A) {a1 : Int32} {a2 : Int32} (hW : ab_wf A) :
    hg_M l D lo yX5_put (ws_ yX5_put cX5_put 4 ((some FieldType.int))) rm_X5_put [.ref o, .int a1, .int a2] G (tw_Po o am (sq_put a1 a2 A)) := by
  have hw := hW.w; have w0 := hw.b0; have w1 := hw.b1; have w2 := hw.b2; have w3 := hw.b3; have w36 := hW.b36; have w43 := hW.b43
  refine hg_M.of htr (by decide) [some (.ref o), some (.int a1), some (.int a2), none] rfl (Nat.le_of_ble_eq_true rfl) ?_
  intro p e s m args below meth c X hr hnm htab
  have X : hg_X p l s m args meth c D lo "TaxOnLooksModel" cX5_put 4 := X
  refine hr_aload0 (q := 1) X dX5_put_0 rfl ?_
  refine hr_iload1 (q := 2) X dX5_put_1 rfl ?_
  refine hr_callP (q := 5) (hc_V (n := 1) (ci := 5) (As := [.int a1]) X dX5_put_2 rfl (tk_isOne X.tr hR hA.t a1) q1543 cv_X5_isOne ⟨Nat.le_of_ble_eq_true rfl, Nat.le_of_ble_eq_true rfl⟩ rfl (Nat.le_of_ble_eq_true rfl) hR.om rfl rfl) rfl ?_
  refine hr_ifB_ne (q := 8) (tgt := 14) X dX5_put_5 rfl (by decide) (fun c5 => ?_) (fun c5 => ?_)
  · have n14_1 := sp_inN (by omega) c5
    refine hr_L (L' := [some (.ref o), some (.int (nI (iN a1))), some (.int a2), none]) (by rw [← n14_1.1]) ?_
    refine hr_aload0 (q := 15) X dX5_put_14 rfl ?_
    refine hr_iload2 (q := 16) X dX5_put_15 rfl ?_
    refine hr_callP (q := 19) (hc_V (n := 1) (ci := 5) (As := [.int a2]) X dX5_put_16 rfl (tk_isSquare X.tr hR a2) q1567 cv_X5_isSquare ⟨Nat.le_of_ble_eq_true rfl, Nat.le_of_ble_eq_true rfl⟩ rfl (Nat.le_of_ble_eq_true rfl) hR.om rfl rfl) rfl ?_
    refine hr_ifB_eq (q := 22) (tgt := 32) X dX5_put_19 rfl (by decide) (fun c19 => ?_) (fun c19 => ?_)
    · refine hr_aload0 (q := 33) X dX5_put_32 rfl ?_
      refine hr_bipush (v := (-6)) (q := 35) X dX5_put_33 rfl rfl ?_
      refine hr_callT (q := 38) (hc_V (n := 1) (ci := 5) (As := [.int (-6)]) X dX5_put_35 rfl (tk_no X.tr hR hA (b := (-6)) (by decide)) q1523 cv_X5_no ⟨Nat.le_of_ble_eq_true rfl, Nat.le_of_ble_eq_true rfl⟩ rfl (Nat.le_of_ble_eq_true rfl) hR.om rfl rfl) rfl (fun G1 u1 hR1 hA1 => ?_)
      exact hr_iret X hr dX5_put_38 (tw_end (by rw [sq_put, if_pos c5, if_neg (by rw [c19]; decide)]) hR1 hA1)
    · have n22_2 := sp_inN (by decide) c19
      refine hr_L (L' := [some (.ref o), some (.int (nI (iN a1))), some (.int (nI (iN a2))), none]) (by rw [← n22_2.1]) ?_
      refine hr_aload0 (q := 23) X dX5_put_22 rfl ?_
      refine hr_getR (v := am 16) (q := 26) X dX5_put_23 rfl fr_q1398_5 rfl hR.om (hR.f rfl) ?_
      refine hr_iload2 (q := 27) X dX5_put_26 rfl ?_
      refine hr_ialdN (v := (nI (A.1.1 16 (iN a2)))) (q := 28) X dX5_put_27 rfl (hR.ka (n := 36) rfl rfl rfl) (Or.inl rfl) (by omega) (by decide) ((hR.ar rfl _).trans (hA.c (by decide) (by decide) (by omega))) ?_
      have b27 := hW.w.b16 (show iN a2 < 36 by omega)
      refine hr_iconst (v := (nI 1)) (q := 29) X dX5_put_28 rfl rfl ?_
      refine hr_icmpN_ne (q := 32) (tgt := 39) X dX5_put_29 rfl (by decide) (by omega) (by omega) (fun c29 => ?_) (fun c29 => ?_)
      · refine hr_aload0 (q := 40) X dX5_put_39 rfl ?_
        refine hr_getR (v := am 14) (q := 43) X dX5_put_40 rfl fr_q1396_5 rfl hR.om (hR.f rfl) ?_
        refine hr_iload1 (q := 44) X dX5_put_43 rfl ?_
        refine hr_ialdN (v := (nI (A.1.1 14 (iN a1)))) (q := 45) X dX5_put_44 rfl (hR.ka (n := 7) rfl rfl rfl) (Or.inl rfl) (by omega) (by decide) ((hR.ar rfl _).trans (hA.p (by decide) (by decide) (by omega))) ?_
        have b44 := hW.w.b14 (show iN a1 < 7 by omega)
        refine hr_istore3 (q := 46) X dX5_put_45 rfl rfl (Nat.le_of_ble_eq_true rfl) ?_
        refine hr_aload0 (q := 47) X dX5_put_46 rfl ?_
        refine hr_getR (v := am 14) (q := 50) X dX5_put_47 rfl fr_q1396_5 rfl hR.om (hR.f rfl) ?_
        refine hr_iload1 (q := 51) X dX5_put_50 rfl ?_
        refine hr_iload2 (q := 52) X dX5_put_51 rfl ?_
        refine hr_iastN (q := 53) X dX5_put_52 rfl (hR.ka (n := 7) rfl rfl rfl) (by omega) (by decide) ?_
        have hR2 := hR.setA (k := 14) rfl (iN a1) (nI (iN a2))
        have hA2 := hA.nA (k := 14) (j := iN a1) (n := iN a2) (by decide) rfl
        refine hr_iload3 (q := 54) X dX5_put_53 rfl ?_
        exact hr_iret X hr dX5_put_54 (tw_end (by rw [sq_put, if_pos c5, if_pos c19, if_neg (show ¬ ((A.1.1 16 (iN a2)) = 1) by omega)]) hR2 hA2)
      · refine hr_aload0 (q := 33) X dX5_put_32 rfl ?_
        refine hr_bipush (v := (-6)) (q := 35) X dX5_put_33 rfl rfl ?_
        refine hr_callT (q := 38) (hc_V (n := 1) (ci := 5) (As := [.int (-6)]) X dX5_put_35 rfl (tk_no X.tr hR hA (b := (-6)) (by decide)) q1523 cv_X5_no ⟨Nat.le_of_ble_eq_true rfl, Nat.le_of_ble_eq_true rfl⟩ rfl (Nat.le_of_ble_eq_true rfl) hR.om rfl rfl) rfl (fun G3 u3 hR3 hA3 => ?_)
        exact hr_iret X hr dX5_put_38 (tw_end (by rw [sq_put, if_pos c5, if_pos c19, if_pos (show (A.1.1 16 (iN a2)) = 1 by omega)]) hR3 hA3)
  · refine hr_aload0 (q := 9) X dX5_put_8 rfl ?_
    refine hr_iconst (v := (-1)) (q := 10) X dX5_put_9 rfl rfl ?_
    refine hr_callT (q := 13) (hc_V (n := 1) (ci := 5) (As := [.int (-1)]) X dX5_put_10 rfl (tk_no X.tr hR hA (b := (-1)) (by decide)) q1523 cv_X5_no ⟨Nat.le_of_ble_eq_true rfl, Nat.le_of_ble_eq_true rfl⟩ rfl (Nat.le_of_ble_eq_true rfl) hR.om rfl rfl) rfl (fun G4 u4 hR4 hA4 => ?_)
    exact hr_iret X hr dX5_put_13 (tw_end (by rw [sq_put, if_neg (by rw [c5]; decide)]) hR4 hA4)

def sq_sack (a1 : Int32) (a2 : Bool) (A : ab_S) : Int32 × ab_S :=
  if sp_in a1 (A.1.1 0 0) = true then if a2 = true then ((nI (A.1.1 15 (iN a1))), ab_n A 15 (iN a1) 1)
    else ((nI (A.1.1 15 (iN a1))), ab_n A 15 (iN a1) 0)
  else (((sq_no (-1) A).1), (sq_no (-1) A).2)
theorem tk_sack {l : Launch} {D : hg_D} {lo : Nat} (htr : l.stackTraces = false) {G : hg_G} {o : Nat} {am : Nat → Nat} {u : tw_S} {A : ab_S} (hR : tw_R G o am u) (hA : tw_A u A) {a1 : Int32} {a2 : Bool} (hW : ab_wf A) :
    hg_M l D lo yX5_sack (ws_ yX5_sack cX5_sack 4 ((some FieldType.int))) rm_X5_sack [.ref o, .int a1, .int (bI a2)] G (tw_Po o am (sq_sack a1 a2 A)) := by
  have hw := hW.w; have w0 := hw.b0; have w1 := hw.b1; have w2 := hw.b2; have w3 := hw.b3; have w36 := hW.b36; have w43 := hW.b43
  refine hg_M.of htr (by decide) [some (.ref o), some (.int a1), some (.int (bI a2)), none] rfl (Nat.le_of_ble_eq_true rfl) ?_
  intro p e s m args below meth c X hr hnm htab
  have X : hg_X p l s m args meth c D lo "TaxOnLooksModel" cX5_sack 4 := X
  refine hr_aload0 (q := 1) X dX5_sack_0 rfl ?_
  refine hr_iload1 (q := 2) X dX5_sack_1 rfl ?_
  refine hr_callP (q := 5) (hc_V (n := 1) (ci := 5) (As := [.int a1]) X dX5_sack_2 rfl (tk_isOne X.tr hR hA.t a1) q1543 cv_X5_isOne ⟨Nat.le_of_ble_eq_true rfl, Nat.le_of_ble_eq_true rfl⟩ rfl (Nat.le_of_ble_eq_true rfl) hR.om rfl rfl) rfl ?_
  refine hr_ifB_ne (q := 8) (tgt := 14) X dX5_sack_5 rfl (by decide) (fun c5 => ?_) (fun c5 => ?_)
  · have n14_1 := sp_inN (by omega) c5
    refine hr_L (L' := [some (.ref o), some (.int (nI (iN a1))), some (.int (bI a2)), none]) (by rw [← n14_1.1]) ?_
    refine hr_aload0 (q := 15) X dX5_sack_14 rfl ?_
    refine hr_getR (v := am 15) (q := 18) X dX5_sack_15 rfl fr_q1397_5 rfl hR.om (hR.f rfl) ?_
    refine hr_iload1 (q := 19) X dX5_sack_18 rfl ?_
    refine hr_ialdN (v := (nI (A.1.1 15 (iN a1)))) (q := 20) X dX5_sack_19 rfl (hR.ka (n := 7) rfl rfl rfl) (Or.inl rfl) (by omega) (by decide) ((hR.ar rfl _).trans (hA.p (by decide) (by decide) (by omega))) ?_
    have b19 := hW.w.b15 (show iN a1 < 7 by omega)
    refine hr_istore3 (q := 21) X dX5_sack_20 rfl rfl (Nat.le_of_ble_eq_true rfl) ?_
    refine hr_aload0 (q := 22) X dX5_sack_21 rfl ?_
    refine hr_getR (v := am 15) (q := 25) X dX5_sack_22 rfl fr_q1397_5 rfl hR.om (hR.f rfl) ?_
    refine hr_iload1 (q := 26) X dX5_sack_25 rfl ?_
    refine hr_iload2 (q := 27) X dX5_sack_26 rfl ?_
    refine hr_ifB_eq (q := 30) (tgt := 34) X dX5_sack_27 rfl (by decide) (fun c27 => ?_) (fun c27 => ?_)
    · refine hr_iconst (v := (nI 0)) (q := 35) X dX5_sack_34 rfl rfl ?_
      refine hr_iastN (q := 36) X dX5_sack_35 rfl (hR.ka (n := 7) rfl rfl rfl) (by omega) (by decide) ?_
      have hR1 := hR.setA (k := 15) rfl (iN a1) (nI 0)
      have hA1 := hA.nA (k := 15) (j := iN a1) (n := 0) (by decide) rfl
      refine hr_iload3 (q := 37) X dX5_sack_36 rfl ?_
      exact hr_iret X hr dX5_sack_37 (tw_end (by rw [sq_sack, if_pos c5, if_neg (by rw [c27]; decide)]) hR1 hA1)
    · refine hr_iconst (v := (nI 1)) (q := 31) X dX5_sack_30 rfl rfl ?_
      refine hr_goto (tgt := 35) X dX5_sack_31 (by decide) ?_
      refine hr_iastN (q := 36) X dX5_sack_35 rfl (hR.ka (n := 7) rfl rfl rfl) (by omega) (by decide) ?_
      have hR2 := hR.setA (k := 15) rfl (iN a1) (nI 1)
      have hA2 := hA.nA (k := 15) (j := iN a1) (n := 1) (by decide) rfl
      refine hr_iload3 (q := 37) X dX5_sack_36 rfl ?_
      exact hr_iret X hr dX5_sack_37 (tw_end (by rw [sq_sack, if_pos c5, if_pos c27]) hR2 hA2)
  · refine hr_aload0 (q := 9) X dX5_sack_8 rfl ?_
    refine hr_iconst (v := (-1)) (q := 10) X dX5_sack_9 rfl rfl ?_
    refine hr_callT (q := 13) (hc_V (n := 1) (ci := 5) (As := [.int (-1)]) X dX5_sack_10 rfl (tk_no X.tr hR hA (b := (-1)) (by decide)) q1523 cv_X5_no ⟨Nat.le_of_ble_eq_true rfl, Nat.le_of_ble_eq_true rfl⟩ rfl (Nat.le_of_ble_eq_true rfl) hR.om rfl rfl) rfl (fun G3 u3 hR3 hA3 => ?_)
    exact hr_iret X hr dX5_sack_13 (tw_end (by rw [sq_sack, if_neg (by rw [c5]; decide)]) hR3 hA3)

def sq_asks (a1 : Int32) (a2 : Nat) (A : ab_S) : ab_S :=
  if a1 = 0 then ab_n A 1 0 a2
  else if a1 = (nI 1) then ab_n A 2 0 a2
  else ab_n A 3 0 a2
theorem tk_asks {l : Launch} {D : hg_D} {lo : Nat} (htr : l.stackTraces = false) {G : hg_G} {o : Nat} {am : Nat → Nat} {u : tw_S} {A : ab_S} (hR : tw_R G o am u) (hA : tw_A u A) {a1 : Int32} {a2 : Nat} (hW : ab_wf A) :
    hg_M l D lo yX5_asks (ws_ yX5_asks cX5_asks 3 (none)) rm_X5_asks [.ref o, .int a1, .int (nI a2)] G (tw_Pz o am (sq_asks a1 a2 A)) := by
  have hw := hW.w; have w0 := hw.b0; have w1 := hw.b1; have w2 := hw.b2; have w3 := hw.b3; have w36 := hW.b36; have w43 := hW.b43
  refine hg_M.of htr (by decide) [some (.ref o), some (.int a1), some (.int (nI a2))] rfl (Nat.le_of_ble_eq_true rfl) ?_
  intro p e s m args below meth c X hr hnm htab
  have X : hg_X p l s m args meth c D lo "TaxOnLooksModel" cX5_asks 3 := X
  refine hr_iload1 (q := 1) X dX5_asks_0 rfl ?_
  refine hr_if_ne (q := 4) (tgt := 12) X dX5_asks_1 rfl (by decide) (fun c1 => ?_) (fun c1 => ?_)
  · refine hr_iload1 (q := 13) X dX5_asks_12 rfl ?_
    refine hr_iconst (v := (nI 1)) (q := 14) X dX5_asks_13 rfl rfl ?_
    refine hr_icmp_ne (q := 17) (tgt := 25) X dX5_asks_14 rfl (by decide) (fun c14 => ?_) (fun c14 => ?_)
    · refine hr_aload0 (q := 26) X dX5_asks_25 rfl ?_
      refine hr_iload2 (q := 27) X dX5_asks_26 rfl ?_
      refine hr_putI (q := 30) X dX5_asks_27 rfl fw_q1385_5 (fun h => nomatch h) rfl rfl rfl hR.om ?_
      have hR1 := hR.setS 3 (nI a2)
      have hA1 := hA.nS (k := 3) (n := a2) (by decide) rfl
      exact hr_vret X hr dX5_asks_30 (tw_endz (by rw [sq_asks, if_neg c1, if_neg c14]) hR1 hA1)
    · refine hr_aload0 (q := 18) X dX5_asks_17 rfl ?_
      refine hr_iload2 (q := 19) X dX5_asks_18 rfl ?_
      refine hr_putI (q := 22) X dX5_asks_19 rfl fw_q1384_5 (fun h => nomatch h) rfl rfl rfl hR.om ?_
      have hR2 := hR.setS 2 (nI a2)
      have hA2 := hA.nS (k := 2) (n := a2) (by decide) rfl
      refine hr_goto (tgt := 30) X dX5_asks_22 (by decide) ?_
      exact hr_vret X hr dX5_asks_30 (tw_endz (by rw [sq_asks, if_neg c1, if_pos c14]) hR2 hA2)
  · refine hr_aload0 (q := 5) X dX5_asks_4 rfl ?_
    refine hr_iload2 (q := 6) X dX5_asks_5 rfl ?_
    refine hr_putI (q := 9) X dX5_asks_6 rfl fw_q1383_5 (fun h => nomatch h) rfl rfl rfl hR.om ?_
    have hR3 := hR.setS 1 (nI a2)
    have hA3 := hA.nS (k := 1) (n := a2) (by decide) rfl
    refine hr_goto (tgt := 30) X dX5_asks_9 (by decide) ?_
    exact hr_vret X hr dX5_asks_30 (tw_endz (by rw [sq_asks, if_pos c1]) hR3 hA3)

def sq_ask (a1 : Int32) (a2 : Int32) (A : ab_S) : Int32 × ab_S :=
  if a1 < 0 then (((sq_no (-6) A).1), (sq_no (-6) A).2)
  else if (nI 2) < a1 then (((sq_no (-6) A).1), (sq_no (-6) A).2)
  else if sp_asked a1 a2 = true then if a1 = 0 then ((nI (A.1.1 1 0)), sq_asks a1 (iN a2) A)
    else if a1 = (nI 1) then ((nI (A.1.1 2 0)), sq_asks a1 (iN a2) A)
    else ((nI (A.1.1 3 0)), sq_asks a1 (iN a2) A)
  else (((sq_no (-6) A).1), (sq_no (-6) A).2)
theorem tk_ask {l : Launch} {D : hg_D} {lo : Nat} (htr : l.stackTraces = false) {G : hg_G} {o : Nat} {am : Nat → Nat} {u : tw_S} {A : ab_S} (hR : tw_R G o am u) (hA : tw_A u A) {a1 : Int32} {a2 : Int32} (hW : ab_wf A) :
    hg_M l D lo yX5_ask (ws_ yX5_ask cX5_ask 4 ((some FieldType.int))) rm_X5_ask [.ref o, .int a1, .int a2] G (tw_Po o am (sq_ask a1 a2 A)) := by
  have hw := hW.w; have w0 := hw.b0; have w1 := hw.b1; have w2 := hw.b2; have w3 := hw.b3; have w36 := hW.b36; have w43 := hW.b43
  refine hg_M.of htr (by decide) [some (.ref o), some (.int a1), some (.int a2), none] rfl (Nat.le_of_ble_eq_true rfl) ?_
  intro p e s m args below meth c X hr hnm htab
  have X : hg_X p l s m args meth c D lo "TaxOnLooksModel" cX5_ask 4 := X
  refine hr_iload1 (q := 1) X dX5_ask_0 rfl ?_
  refine hr_if_lt (q := 4) (tgt := 18) X dX5_ask_1 rfl (by decide) (fun c1 => ?_) (fun c1 => ?_)
  · refine hr_aload0 (q := 19) X dX5_ask_18 rfl ?_
    refine hr_bipush (v := (-6)) (q := 21) X dX5_ask_19 rfl rfl ?_
    refine hr_callT (q := 24) (hc_V (n := 1) (ci := 5) (As := [.int (-6)]) X dX5_ask_21 rfl (tk_no X.tr hR hA (b := (-6)) (by decide)) q1523 cv_X5_no ⟨Nat.le_of_ble_eq_true rfl, Nat.le_of_ble_eq_true rfl⟩ rfl (Nat.le_of_ble_eq_true rfl) hR.om rfl rfl) rfl (fun G1 u1 hR1 hA1 => ?_)
    exact hr_iret X hr dX5_ask_24 (tw_end (by rw [sq_ask, if_pos c1]) hR1 hA1)
  · refine hr_iload1 (q := 5) X dX5_ask_4 rfl ?_
    refine hr_iconst (v := (nI 2)) (q := 6) X dX5_ask_5 rfl rfl ?_
    refine hr_icmp_gt (q := 9) (tgt := 18) X dX5_ask_6 rfl (by decide) (fun c6 => ?_) (fun c6 => ?_)
    · refine hr_aload0 (q := 19) X dX5_ask_18 rfl ?_
      refine hr_bipush (v := (-6)) (q := 21) X dX5_ask_19 rfl rfl ?_
      refine hr_callT (q := 24) (hc_V (n := 1) (ci := 5) (As := [.int (-6)]) X dX5_ask_21 rfl (tk_no X.tr hR hA (b := (-6)) (by decide)) q1523 cv_X5_no ⟨Nat.le_of_ble_eq_true rfl, Nat.le_of_ble_eq_true rfl⟩ rfl (Nat.le_of_ble_eq_true rfl) hR.om rfl rfl) rfl (fun G2 u2 hR2 hA2 => ?_)
      exact hr_iret X hr dX5_ask_24 (tw_end (by rw [sq_ask, if_neg c1, if_pos c6]) hR2 hA2)
    · refine hr_aload0 (q := 10) X dX5_ask_9 rfl ?_
      refine hr_iload1 (q := 11) X dX5_ask_10 rfl ?_
      refine hr_iload2 (q := 12) X dX5_ask_11 rfl ?_
      refine hr_callP (q := 15) (hc_V (n := 2) (ci := 5) (As := [.int a1, .int a2]) X dX5_ask_12 rfl (tk_isAsked X.tr hR a1 a2) q1595 cv_X5_isAsked ⟨Nat.le_of_ble_eq_true rfl, Nat.le_of_ble_eq_true rfl⟩ rfl (Nat.le_of_ble_eq_true rfl) hR.om rfl rfl) rfl ?_
      refine hr_ifB_ne (q := 18) (tgt := 25) X dX5_ask_15 rfl (by decide) (fun c15 => ?_) (fun c15 => ?_)
      · have n25_2 := sp_askedN c15
        refine hr_L (L' := [some (.ref o), some (.int a1), some (.int (nI (iN a2))), none]) (by rw [← n25_2.1]) ?_
        refine hr_iload1 (q := 26) X dX5_ask_25 rfl ?_
        refine hr_if_ne (q := 29) (tgt := 36) X dX5_ask_26 rfl (by decide) (fun c26 => ?_) (fun c26 => ?_)
        · refine hr_iload1 (q := 37) X dX5_ask_36 rfl ?_
          refine hr_iconst (v := (nI 1)) (q := 38) X dX5_ask_37 rfl rfl ?_
          refine hr_icmp_ne (q := 41) (tgt := 48) X dX5_ask_38 rfl (by decide) (fun c38 => ?_) (fun c38 => ?_)
          · refine hr_aload0 (q := 49) X dX5_ask_48 rfl ?_
            refine hr_getI (v := (nI (A.1.1 3 0))) (q := 52) X dX5_ask_49 rfl fr_q1385_5 rfl hR.om ((hR.sc 3).trans (hA.sc (by decide))) ?_
            refine hr_istore3 (q := 53) X dX5_ask_52 rfl rfl (Nat.le_of_ble_eq_true rfl) ?_
            refine hr_aload0 (q := 54) X dX5_ask_53 rfl ?_
            refine hr_iload1 (q := 55) X dX5_ask_54 rfl ?_
            refine hr_iload2 (q := 56) X dX5_ask_55 rfl ?_
            refine hr_callZ (q := 59) (hc_V (n := 2) (ci := 5) (As := [.int a1, .int (nI (iN a2))]) X dX5_ask_56 rfl (tk_asks X.tr hR hA hW (a1 := a1) (a2 := iN a2)) q1599 cv_X5_asks ⟨Nat.le_of_ble_eq_true rfl, Nat.le_of_ble_eq_true rfl⟩ rfl (Nat.le_of_ble_eq_true rfl) hR.om rfl rfl) rfl (fun G3 u3 hR3 hA3 => ?_)
            refine hr_iload3 (q := 60) X dX5_ask_59 rfl ?_
            exact hr_iret X hr dX5_ask_60 (tw_end (by rw [sq_ask, if_neg c1, if_neg c6, if_pos c15, if_neg c26, if_neg c38]) hR3 hA3)
          · refine hr_aload0 (q := 42) X dX5_ask_41 rfl ?_
            refine hr_getI (v := (nI (A.1.1 2 0))) (q := 45) X dX5_ask_42 rfl fr_q1384_5 rfl hR.om ((hR.sc 2).trans (hA.sc (by decide))) ?_
            refine hr_goto (tgt := 52) X dX5_ask_45 (by decide) ?_
            refine hr_istore3 (q := 53) X dX5_ask_52 rfl rfl (Nat.le_of_ble_eq_true rfl) ?_
            refine hr_aload0 (q := 54) X dX5_ask_53 rfl ?_
            refine hr_iload1 (q := 55) X dX5_ask_54 rfl ?_
            refine hr_iload2 (q := 56) X dX5_ask_55 rfl ?_
            refine hr_callZ (q := 59) (hc_V (n := 2) (ci := 5) (As := [.int a1, .int (nI (iN a2))]) X dX5_ask_56 rfl (tk_asks X.tr hR hA hW (a1 := a1) (a2 := iN a2)) q1599 cv_X5_asks ⟨Nat.le_of_ble_eq_true rfl, Nat.le_of_ble_eq_true rfl⟩ rfl (Nat.le_of_ble_eq_true rfl) hR.om rfl rfl) rfl (fun G4 u4 hR4 hA4 => ?_)
            refine hr_iload3 (q := 60) X dX5_ask_59 rfl ?_
            exact hr_iret X hr dX5_ask_60 (tw_end (by rw [sq_ask, if_neg c1, if_neg c6, if_pos c15, if_neg c26, if_pos c38]) hR4 hA4)
        · refine hr_aload0 (q := 30) X dX5_ask_29 rfl ?_
          refine hr_getI (v := (nI (A.1.1 1 0))) (q := 33) X dX5_ask_30 rfl fr_q1383_5 rfl hR.om ((hR.sc 1).trans (hA.sc (by decide))) ?_
          refine hr_goto (tgt := 52) X dX5_ask_33 (by decide) ?_
          refine hr_istore3 (q := 53) X dX5_ask_52 rfl rfl (Nat.le_of_ble_eq_true rfl) ?_
          refine hr_aload0 (q := 54) X dX5_ask_53 rfl ?_
          refine hr_iload1 (q := 55) X dX5_ask_54 rfl ?_
          refine hr_iload2 (q := 56) X dX5_ask_55 rfl ?_
          refine hr_callZ (q := 59) (hc_V (n := 2) (ci := 5) (As := [.int a1, .int (nI (iN a2))]) X dX5_ask_56 rfl (tk_asks X.tr hR hA hW (a1 := a1) (a2 := iN a2)) q1599 cv_X5_asks ⟨Nat.le_of_ble_eq_true rfl, Nat.le_of_ble_eq_true rfl⟩ rfl (Nat.le_of_ble_eq_true rfl) hR.om rfl rfl) rfl (fun G5 u5 hR5 hA5 => ?_)
          refine hr_iload3 (q := 60) X dX5_ask_59 rfl ?_
          exact hr_iret X hr dX5_ask_60 (tw_end (by rw [sq_ask, if_neg c1, if_neg c6, if_pos c15, if_pos c26]) hR5 hA5)
      · refine hr_aload0 (q := 19) X dX5_ask_18 rfl ?_
        refine hr_bipush (v := (-6)) (q := 21) X dX5_ask_19 rfl rfl ?_
        refine hr_callT (q := 24) (hc_V (n := 1) (ci := 5) (As := [.int (-6)]) X dX5_ask_21 rfl (tk_no X.tr hR hA (b := (-6)) (by decide)) q1523 cv_X5_no ⟨Nat.le_of_ble_eq_true rfl, Nat.le_of_ble_eq_true rfl⟩ rfl (Nat.le_of_ble_eq_true rfl) hR.om rfl rfl) rfl (fun G6 u6 hR6 hA6 => ?_)
        exact hr_iret X hr dX5_ask_24 (tw_end (by rw [sq_ask, if_neg c1, if_neg c6, if_neg (by rw [c15]; decide)]) hR6 hA6)

def sq_personOf (a1 : Int32) (a2 : Int32) (A : ab_S) : Int32 × ab_S :=
  if sp_in a1 (A.1.1 0 0) = true then if a2 = nI 0 then ((nI (A.1.1 9 (iN a1))), A)
    else if a2 = nI 1 then ((nI (A.1.1 10 (iN a1))), A)
    else if a2 = nI 2 then ((nI (A.1.1 11 (iN a1))), A)
    else if a2 = nI 3 then ((nI (A.1.1 12 (iN a1))), A)
    else if a2 = nI 4 then ((nI (A.1.1 13 (iN a1))), A)
    else if a2 = nI 5 then ((nI (A.1.1 14 (iN a1))), A)
    else if a2 = nI 6 then ((nI (A.1.1 15 (iN a1))), A)
    else if a2 = nI 7 then ((nI (sp_shows A.1 (iN a1))), A)
    else (((sq_no (-5) A).1), (sq_no (-5) A).2)
  else (((sq_no (-5) A).1), (sq_no (-5) A).2)
theorem tk_personOf {l : Launch} {D : hg_D} {lo : Nat} (htr : l.stackTraces = false) {G : hg_G} {o : Nat} {am : Nat → Nat} {u : tw_S} {A : ab_S} (hR : tw_R G o am u) (hA : tw_A u A) {a1 : Int32} {a2 : Int32} (hW : ab_wf A) :
    hg_M l D lo yX5_personOf (ws_ yX5_personOf cX5_personOf 3 ((some FieldType.int))) rm_X5_personOf [.ref o, .int a1, .int a2] G (tw_Po o am (sq_personOf a1 a2 A)) := by
  have hw := hW.w; have w0 := hw.b0; have w1 := hw.b1; have w2 := hw.b2; have w3 := hw.b3; have w36 := hW.b36; have w43 := hW.b43
  refine hg_M.of htr (by decide) [some (.ref o), some (.int a1), some (.int a2)] rfl (Nat.le_of_ble_eq_true rfl) ?_
  intro p e s m args below meth c X hr hnm htab
  have X : hg_X p l s m args meth c D lo "TaxOnLooksModel" cX5_personOf 3 := X
  refine hr_aload0 (q := 1) X dX5_personOf_0 rfl ?_
  refine hr_iload1 (q := 2) X dX5_personOf_1 rfl ?_
  refine hr_callP (q := 5) (hc_V (n := 1) (ci := 5) (As := [.int a1]) X dX5_personOf_2 rfl (tk_isOne X.tr hR hA.t a1) q1543 cv_X5_isOne ⟨Nat.le_of_ble_eq_true rfl, Nat.le_of_ble_eq_true rfl⟩ rfl (Nat.le_of_ble_eq_true rfl) hR.om rfl rfl) rfl ?_
  refine hr_ifB_ne (q := 8) (tgt := 15) X dX5_personOf_5 rfl (by decide) (fun c5 => ?_) (fun c5 => ?_)
  · have n15_1 := sp_inN (by omega) c5
    refine hr_L (L' := [some (.ref o), some (.int (nI (iN a1))), some (.int a2)]) (by rw [← n15_1.1]) ?_
    refine hr_iload2 (q := 16) X dX5_personOf_15 rfl ?_
    by_cases e16_0 : a2 = nI 0
    · refine hr_tableIn (off := 48) (tgt := 64) X dX5_personOf_16 (by rw [e16_0]; decide) (by rw [e16_0]; decide) (by rw [e16_0]; rfl) (by decide) ?_
      refine hr_aload0 (q := 65) X dX5_personOf_64 rfl ?_
      refine hr_getR (v := am 9) (q := 68) X dX5_personOf_65 rfl fr_q1391_5 rfl hR.om (hR.f rfl) ?_
      refine hr_iload1 (q := 69) X dX5_personOf_68 rfl ?_
      refine hr_ialdN (v := (nI (A.1.1 9 (iN a1)))) (q := 70) X dX5_personOf_69 rfl (hR.ka (n := 7) rfl rfl rfl) (Or.inl rfl) (by omega) (by decide) ((hR.ar rfl _).trans (hA.p (by decide) (by decide) (by omega))) ?_
      have b69 := hW.w.b9 (show iN a1 < 7 by omega)
      exact hr_iret X hr dX5_personOf_70 (tw_end (by rw [sq_personOf, if_pos c5, if_pos e16_0]) hR hA)
    by_cases e16_1 : a2 = nI 1
    · refine hr_tableIn (off := 55) (tgt := 71) X dX5_personOf_16 (by rw [e16_1]; decide) (by rw [e16_1]; decide) (by rw [e16_1]; rfl) (by decide) ?_
      refine hr_aload0 (q := 72) X dX5_personOf_71 rfl ?_
      refine hr_getR (v := am 10) (q := 75) X dX5_personOf_72 rfl fr_q1392_5 rfl hR.om (hR.f rfl) ?_
      refine hr_iload1 (q := 76) X dX5_personOf_75 rfl ?_
      refine hr_ialdN (v := (nI (A.1.1 10 (iN a1)))) (q := 77) X dX5_personOf_76 rfl (hR.ka (n := 7) rfl rfl rfl) (Or.inl rfl) (by omega) (by decide) ((hR.ar rfl _).trans (hA.p (by decide) (by decide) (by omega))) ?_
      have b76 := hW.w.b10 (show iN a1 < 7 by omega)
      exact hr_iret X hr dX5_personOf_77 (tw_end (by rw [sq_personOf, if_pos c5, if_neg e16_0, if_pos e16_1]) hR hA)
    by_cases e16_2 : a2 = nI 2
    · refine hr_tableIn (off := 62) (tgt := 78) X dX5_personOf_16 (by rw [e16_2]; decide) (by rw [e16_2]; decide) (by rw [e16_2]; rfl) (by decide) ?_
      refine hr_aload0 (q := 79) X dX5_personOf_78 rfl ?_
      refine hr_getR (v := am 11) (q := 82) X dX5_personOf_79 rfl fr_q1393_5 rfl hR.om (hR.f rfl) ?_
      refine hr_iload1 (q := 83) X dX5_personOf_82 rfl ?_
      refine hr_ialdN (v := (nI (A.1.1 11 (iN a1)))) (q := 84) X dX5_personOf_83 rfl (hR.ka (n := 7) rfl rfl rfl) (Or.inl rfl) (by omega) (by decide) ((hR.ar rfl _).trans (hA.p (by decide) (by decide) (by omega))) ?_
      have b83 := hW.w.b11 (show iN a1 < 7 by omega)
      exact hr_iret X hr dX5_personOf_84 (tw_end (by rw [sq_personOf, if_pos c5, if_neg e16_0, if_neg e16_1, if_pos e16_2]) hR hA)
    by_cases e16_3 : a2 = nI 3
    · refine hr_tableIn (off := 69) (tgt := 85) X dX5_personOf_16 (by rw [e16_3]; decide) (by rw [e16_3]; decide) (by rw [e16_3]; rfl) (by decide) ?_
      refine hr_aload0 (q := 86) X dX5_personOf_85 rfl ?_
      refine hr_getR (v := am 12) (q := 89) X dX5_personOf_86 rfl fr_q1394_5 rfl hR.om (hR.f rfl) ?_
      refine hr_iload1 (q := 90) X dX5_personOf_89 rfl ?_
      refine hr_ialdN (v := (nI (A.1.1 12 (iN a1)))) (q := 91) X dX5_personOf_90 rfl (hR.ka (n := 7) rfl rfl rfl) (Or.inl rfl) (by omega) (by decide) ((hR.ar rfl _).trans (hA.p (by decide) (by decide) (by omega))) ?_
      have b90 := hW.w.b12 (show iN a1 < 7 by omega)
      exact hr_iret X hr dX5_personOf_91 (tw_end (by rw [sq_personOf, if_pos c5, if_neg e16_0, if_neg e16_1, if_neg e16_2, if_pos e16_3]) hR hA)
    by_cases e16_4 : a2 = nI 4
    · refine hr_tableIn (off := 76) (tgt := 92) X dX5_personOf_16 (by rw [e16_4]; decide) (by rw [e16_4]; decide) (by rw [e16_4]; rfl) (by decide) ?_
      refine hr_aload0 (q := 93) X dX5_personOf_92 rfl ?_
      refine hr_getR (v := am 13) (q := 96) X dX5_personOf_93 rfl fr_q1395_5 rfl hR.om (hR.f rfl) ?_
      refine hr_iload1 (q := 97) X dX5_personOf_96 rfl ?_
      refine hr_ialdN (v := (nI (A.1.1 13 (iN a1)))) (q := 98) X dX5_personOf_97 rfl (hR.ka (n := 7) rfl rfl rfl) (Or.inl rfl) (by omega) (by decide) ((hR.ar rfl _).trans (hA.p (by decide) (by decide) (by omega))) ?_
      have b97 := hW.w.b13 (show iN a1 < 7 by omega)
      exact hr_iret X hr dX5_personOf_98 (tw_end (by rw [sq_personOf, if_pos c5, if_neg e16_0, if_neg e16_1, if_neg e16_2, if_neg e16_3, if_pos e16_4]) hR hA)
    by_cases e16_5 : a2 = nI 5
    · refine hr_tableIn (off := 83) (tgt := 99) X dX5_personOf_16 (by rw [e16_5]; decide) (by rw [e16_5]; decide) (by rw [e16_5]; rfl) (by decide) ?_
      refine hr_aload0 (q := 100) X dX5_personOf_99 rfl ?_
      refine hr_getR (v := am 14) (q := 103) X dX5_personOf_100 rfl fr_q1396_5 rfl hR.om (hR.f rfl) ?_
      refine hr_iload1 (q := 104) X dX5_personOf_103 rfl ?_
      refine hr_ialdN (v := (nI (A.1.1 14 (iN a1)))) (q := 105) X dX5_personOf_104 rfl (hR.ka (n := 7) rfl rfl rfl) (Or.inl rfl) (by omega) (by decide) ((hR.ar rfl _).trans (hA.p (by decide) (by decide) (by omega))) ?_
      have b104 := hW.w.b14 (show iN a1 < 7 by omega)
      exact hr_iret X hr dX5_personOf_105 (tw_end (by rw [sq_personOf, if_pos c5, if_neg e16_0, if_neg e16_1, if_neg e16_2, if_neg e16_3, if_neg e16_4, if_pos e16_5]) hR hA)
    by_cases e16_6 : a2 = nI 6
    · refine hr_tableIn (off := 90) (tgt := 106) X dX5_personOf_16 (by rw [e16_6]; decide) (by rw [e16_6]; decide) (by rw [e16_6]; rfl) (by decide) ?_
      refine hr_aload0 (q := 107) X dX5_personOf_106 rfl ?_
      refine hr_getR (v := am 15) (q := 110) X dX5_personOf_107 rfl fr_q1397_5 rfl hR.om (hR.f rfl) ?_
      refine hr_iload1 (q := 111) X dX5_personOf_110 rfl ?_
      refine hr_ialdN (v := (nI (A.1.1 15 (iN a1)))) (q := 112) X dX5_personOf_111 rfl (hR.ka (n := 7) rfl rfl rfl) (Or.inl rfl) (by omega) (by decide) ((hR.ar rfl _).trans (hA.p (by decide) (by decide) (by omega))) ?_
      have b111 := hW.w.b15 (show iN a1 < 7 by omega)
      exact hr_iret X hr dX5_personOf_112 (tw_end (by rw [sq_personOf, if_pos c5, if_neg e16_0, if_neg e16_1, if_neg e16_2, if_neg e16_3, if_neg e16_4, if_neg e16_5, if_pos e16_6]) hR hA)
    by_cases e16_7 : a2 = nI 7
    · refine hr_tableIn (off := 97) (tgt := 113) X dX5_personOf_16 (by rw [e16_7]; decide) (by rw [e16_7]; decide) (by rw [e16_7]; rfl) (by decide) ?_
      refine hr_aload0 (q := 114) X dX5_personOf_113 rfl ?_
      refine hr_iload1 (q := 115) X dX5_personOf_114 rfl ?_
      refine hr_callP (q := 118) (hc_V (n := 1) (ci := 5) (As := [.int (nI (iN a1))]) X dX5_personOf_115 rfl (tk_shows X.tr hR hA.t hw (x := iN a1) (by omega)) q1555 cv_X5_shows ⟨Nat.le_of_ble_eq_true rfl, Nat.le_of_ble_eq_true rfl⟩ rfl (Nat.le_of_ble_eq_true rfl) hR.om rfl rfl) rfl ?_
      have := sp_shows_lt (t := A.1) hw (x := (iN a1)) (by omega)
      exact hr_iret X hr dX5_personOf_118 (tw_end (by rw [sq_personOf, if_pos c5, if_neg e16_0, if_neg e16_1, if_neg e16_2, if_neg e16_3, if_neg e16_4, if_neg e16_5, if_neg e16_6, if_pos e16_7]) hR hA)
    refine hr_tableOut (tgt := 119) X dX5_personOf_16 (sp_out (n := 8) (by decide) (fun i hi => by match i, hi with | 0, _ => exact e16_0 | 1, _ => exact e16_1 | 2, _ => exact e16_2 | 3, _ => exact e16_3 | 4, _ => exact e16_4 | 5, _ => exact e16_5 | 6, _ => exact e16_6 | 7, _ => exact e16_7 | (k + 8), hi => omega)) (by decide) ?_
    refine hr_aload0 (q := 120) X dX5_personOf_119 rfl ?_
    refine hr_bipush (v := (-5)) (q := 122) X dX5_personOf_120 rfl rfl ?_
    refine hr_callT (q := 125) (hc_V (n := 1) (ci := 5) (As := [.int (-5)]) X dX5_personOf_122 rfl (tk_no X.tr hR hA (b := (-5)) (by decide)) q1523 cv_X5_no ⟨Nat.le_of_ble_eq_true rfl, Nat.le_of_ble_eq_true rfl⟩ rfl (Nat.le_of_ble_eq_true rfl) hR.om rfl rfl) rfl (fun G1 u1 hR1 hA1 => ?_)
    exact hr_iret X hr dX5_personOf_125 (tw_end (by rw [sq_personOf, if_pos c5, if_neg e16_0, if_neg e16_1, if_neg e16_2, if_neg e16_3, if_neg e16_4, if_neg e16_5, if_neg e16_6, if_neg e16_7]) hR1 hA1)
  · refine hr_aload0 (q := 9) X dX5_personOf_8 rfl ?_
    refine hr_bipush (v := (-5)) (q := 11) X dX5_personOf_9 rfl rfl ?_
    refine hr_callT (q := 14) (hc_V (n := 1) (ci := 5) (As := [.int (-5)]) X dX5_personOf_11 rfl (tk_no X.tr hR hA (b := (-5)) (by decide)) q1523 cv_X5_no ⟨Nat.le_of_ble_eq_true rfl, Nat.le_of_ble_eq_true rfl⟩ rfl (Nat.le_of_ble_eq_true rfl) hR.om rfl rfl) rfl (fun G2 u2 hR2 hA2 => ?_)
    exact hr_iret X hr dX5_personOf_14 (tw_end (by rw [sq_personOf, if_neg (by rw [c5]; decide)]) hR2 hA2)

def sq_squareOf (a1 : Int32) (a2 : Int32) (A : ab_S) : Int32 × ab_S :=
  if sp_in a1 36 = true then if a2 = nI 0 then ((nI (A.1.1 16 (iN a1))), A)
    else if a2 = nI 1 then ((nI (A.1.1 17 (iN a1))), A)
    else if a2 = nI 2 then ((nI (sp_there A.1 (iN a1))), A)
    else (((sq_no (-5) A).1), (sq_no (-5) A).2)
  else (((sq_no (-5) A).1), (sq_no (-5) A).2)
theorem tk_squareOf {l : Launch} {D : hg_D} {lo : Nat} (htr : l.stackTraces = false) {G : hg_G} {o : Nat} {am : Nat → Nat} {u : tw_S} {A : ab_S} (hR : tw_R G o am u) (hA : tw_A u A) {a1 : Int32} {a2 : Int32} (hW : ab_wf A) :
    hg_M l D lo yX5_squareOf (ws_ yX5_squareOf cX5_squareOf 3 ((some FieldType.int))) rm_X5_squareOf [.ref o, .int a1, .int a2] G (tw_Po o am (sq_squareOf a1 a2 A)) := by
  have hw := hW.w; have w0 := hw.b0; have w1 := hw.b1; have w2 := hw.b2; have w3 := hw.b3; have w36 := hW.b36; have w43 := hW.b43
  refine hg_M.of htr (by decide) [some (.ref o), some (.int a1), some (.int a2)] rfl (Nat.le_of_ble_eq_true rfl) ?_
  intro p e s m args below meth c X hr hnm htab
  have X : hg_X p l s m args meth c D lo "TaxOnLooksModel" cX5_squareOf 3 := X
  refine hr_aload0 (q := 1) X dX5_squareOf_0 rfl ?_
  refine hr_iload1 (q := 2) X dX5_squareOf_1 rfl ?_
  refine hr_callP (q := 5) (hc_V (n := 1) (ci := 5) (As := [.int a1]) X dX5_squareOf_2 rfl (tk_isSquare X.tr hR a1) q1567 cv_X5_isSquare ⟨Nat.le_of_ble_eq_true rfl, Nat.le_of_ble_eq_true rfl⟩ rfl (Nat.le_of_ble_eq_true rfl) hR.om rfl rfl) rfl ?_
  refine hr_ifB_ne (q := 8) (tgt := 15) X dX5_squareOf_5 rfl (by decide) (fun c5 => ?_) (fun c5 => ?_)
  · have n15_1 := sp_inN (by decide) c5
    refine hr_L (L' := [some (.ref o), some (.int (nI (iN a1))), some (.int a2)]) (by rw [← n15_1.1]) ?_
    refine hr_iload2 (q := 16) X dX5_squareOf_15 rfl ?_
    by_cases e16_0 : a2 = nI 0
    · refine hr_tableIn (off := 28) (tgt := 44) X dX5_squareOf_16 (by rw [e16_0]; decide) (by rw [e16_0]; decide) (by rw [e16_0]; rfl) (by decide) ?_
      refine hr_aload0 (q := 45) X dX5_squareOf_44 rfl ?_
      refine hr_getR (v := am 16) (q := 48) X dX5_squareOf_45 rfl fr_q1398_5 rfl hR.om (hR.f rfl) ?_
      refine hr_iload1 (q := 49) X dX5_squareOf_48 rfl ?_
      refine hr_ialdN (v := (nI (A.1.1 16 (iN a1)))) (q := 50) X dX5_squareOf_49 rfl (hR.ka (n := 36) rfl rfl rfl) (Or.inl rfl) (by omega) (by decide) ((hR.ar rfl _).trans (hA.c (by decide) (by decide) (by omega))) ?_
      have b49 := hW.w.b16 (show iN a1 < 36 by omega)
      exact hr_iret X hr dX5_squareOf_50 (tw_end (by rw [sq_squareOf, if_pos c5, if_pos e16_0]) hR hA)
    by_cases e16_1 : a2 = nI 1
    · refine hr_tableIn (off := 35) (tgt := 51) X dX5_squareOf_16 (by rw [e16_1]; decide) (by rw [e16_1]; decide) (by rw [e16_1]; rfl) (by decide) ?_
      refine hr_aload0 (q := 52) X dX5_squareOf_51 rfl ?_
      refine hr_getR (v := am 17) (q := 55) X dX5_squareOf_52 rfl fr_q1399_5 rfl hR.om (hR.f rfl) ?_
      refine hr_iload1 (q := 56) X dX5_squareOf_55 rfl ?_
      refine hr_ialdN (v := (nI (A.1.1 17 (iN a1)))) (q := 57) X dX5_squareOf_56 rfl (hR.ka (n := 36) rfl rfl rfl) (Or.inl rfl) (by omega) (by decide) ((hR.ar rfl _).trans (hA.c (by decide) (by decide) (by omega))) ?_
      have b56 := hW.w.b17 (show iN a1 < 36 by omega)
      exact hr_iret X hr dX5_squareOf_57 (tw_end (by rw [sq_squareOf, if_pos c5, if_neg e16_0, if_pos e16_1]) hR hA)
    by_cases e16_2 : a2 = nI 2
    · refine hr_tableIn (off := 42) (tgt := 58) X dX5_squareOf_16 (by rw [e16_2]; decide) (by rw [e16_2]; decide) (by rw [e16_2]; rfl) (by decide) ?_
      refine hr_aload0 (q := 59) X dX5_squareOf_58 rfl ?_
      refine hr_iload1 (q := 60) X dX5_squareOf_59 rfl ?_
      refine hr_callP (q := 63) (hc_V (n := 1) (ci := 5) (As := [.int (nI (iN a1))]) X dX5_squareOf_60 rfl (tk_thereAt X.tr hR hA.t hw (z := iN a1) (by omega)) q1579 cv_X5_thereAt ⟨Nat.le_of_ble_eq_true rfl, Nat.le_of_ble_eq_true rfl⟩ rfl (Nat.le_of_ble_eq_true rfl) hR.om rfl rfl) rfl ?_
      have := sp_there_lt (t := A.1) hw (iN a1)
      exact hr_iret X hr dX5_squareOf_63 (tw_end (by rw [sq_squareOf, if_pos c5, if_neg e16_0, if_neg e16_1, if_pos e16_2]) hR hA)
    refine hr_tableOut (tgt := 64) X dX5_squareOf_16 (sp_out (n := 3) (by decide) (fun i hi => by match i, hi with | 0, _ => exact e16_0 | 1, _ => exact e16_1 | 2, _ => exact e16_2 | (k + 3), hi => omega)) (by decide) ?_
    refine hr_aload0 (q := 65) X dX5_squareOf_64 rfl ?_
    refine hr_bipush (v := (-5)) (q := 67) X dX5_squareOf_65 rfl rfl ?_
    refine hr_callT (q := 70) (hc_V (n := 1) (ci := 5) (As := [.int (-5)]) X dX5_squareOf_67 rfl (tk_no X.tr hR hA (b := (-5)) (by decide)) q1523 cv_X5_no ⟨Nat.le_of_ble_eq_true rfl, Nat.le_of_ble_eq_true rfl⟩ rfl (Nat.le_of_ble_eq_true rfl) hR.om rfl rfl) rfl (fun G1 u1 hR1 hA1 => ?_)
    exact hr_iret X hr dX5_squareOf_70 (tw_end (by rw [sq_squareOf, if_pos c5, if_neg e16_0, if_neg e16_1, if_neg e16_2]) hR1 hA1)
  · refine hr_aload0 (q := 9) X dX5_squareOf_8 rfl ?_
    refine hr_bipush (v := (-5)) (q := 11) X dX5_squareOf_9 rfl rfl ?_
    refine hr_callT (q := 14) (hc_V (n := 1) (ci := 5) (As := [.int (-5)]) X dX5_squareOf_11 rfl (tk_no X.tr hR hA (b := (-5)) (by decide)) q1523 cv_X5_no ⟨Nat.le_of_ble_eq_true rfl, Nat.le_of_ble_eq_true rfl⟩ rfl (Nat.le_of_ble_eq_true rfl) hR.om rfl rfl) rfl (fun G2 u2 hR2 hA2 => ?_)
    exact hr_iret X hr dX5_squareOf_14 (tw_end (by rw [sq_squareOf, if_neg (by rw [c5]; decide)]) hR2 hA2)

def sq_fault  (A : ab_S) : Int32 × ab_S :=
  ((A.1.2 7), A)
theorem tk_fault {l : Launch} {D : hg_D} {lo : Nat} (htr : l.stackTraces = false) {G : hg_G} {o : Nat} {am : Nat → Nat} {u : tw_S} {A : ab_S} (hR : tw_R G o am u) (hA : tw_A u A) (hW : ab_wf A) :
    hg_M l D lo yX5_fault (ws_ yX5_fault cX5_fault 1 ((some FieldType.int))) rm_X5_fault [.ref o] G (tw_Po o am (sq_fault  A)) := by
  have hw := hW.w; have w0 := hw.b0; have w1 := hw.b1; have w2 := hw.b2; have w3 := hw.b3; have w36 := hW.b36; have w43 := hW.b43
  refine hg_M.of htr (by decide) [some (.ref o)] rfl (Nat.le_of_ble_eq_true rfl) ?_
  intro p e s m args below meth c X hr hnm htab
  have X : hg_X p l s m args meth c D lo "TaxOnLooksModel" cX5_fault 1 := X
  refine hr_aload0 (q := 1) X dX5_fault_0 rfl ?_
  refine hr_getI (v := (A.1.2 7)) (q := 4) X dX5_fault_1 rfl fr_q1389_5 rfl hR.om ((hR.sc 7).trans (hA.f7)) ?_
  exact hr_iret X hr dX5_fault_4 (tw_end (by rw [sq_fault]) hR hA)

def sq_view (a1 : Int32) (a2 : Int32) (A : ab_S) : Int32 × ab_S :=
  if sp_in a1 36 = true then if sp_in a2 36 = true then if sp_sees A.1 (iN a1) (iN a2) = true then ((nI 1), A)
      else ((nI 0), A)
    else (((sq_no (-6) A).1), (sq_no (-6) A).2)
  else (((sq_no (-6) A).1), (sq_no (-6) A).2)
theorem tk_view {l : Launch} {D : hg_D} {lo : Nat} (htr : l.stackTraces = false) {G : hg_G} {o : Nat} {am : Nat → Nat} {u : tw_S} {A : ab_S} (hR : tw_R G o am u) (hA : tw_A u A) {a1 : Int32} {a2 : Int32} (hW : ab_wf A) :
    hg_M l D lo yX5_view (ws_ yX5_view cX5_view 3 ((some FieldType.int))) rm_X5_view [.ref o, .int a1, .int a2] G (tw_Po o am (sq_view a1 a2 A)) := by
  have hw := hW.w; have w0 := hw.b0; have w1 := hw.b1; have w2 := hw.b2; have w3 := hw.b3; have w36 := hW.b36; have w43 := hW.b43
  refine hg_M.of htr (by decide) [some (.ref o), some (.int a1), some (.int a2)] rfl (Nat.le_of_ble_eq_true rfl) ?_
  intro p e s m args below meth c X hr hnm htab
  have X : hg_X p l s m args meth c D lo "TaxOnLooksModel" cX5_view 3 := X
  refine hr_aload0 (q := 1) X dX5_view_0 rfl ?_
  refine hr_iload1 (q := 2) X dX5_view_1 rfl ?_
  refine hr_callP (q := 5) (hc_V (n := 1) (ci := 5) (As := [.int a1]) X dX5_view_2 rfl (tk_isSquare X.tr hR a1) q1567 cv_X5_isSquare ⟨Nat.le_of_ble_eq_true rfl, Nat.le_of_ble_eq_true rfl⟩ rfl (Nat.le_of_ble_eq_true rfl) hR.om rfl rfl) rfl ?_
  refine hr_ifB_eq (q := 8) (tgt := 16) X dX5_view_5 rfl (by decide) (fun c5 => ?_) (fun c5 => ?_)
  · refine hr_aload0 (q := 17) X dX5_view_16 rfl ?_
    refine hr_bipush (v := (-6)) (q := 19) X dX5_view_17 rfl rfl ?_
    refine hr_callT (q := 22) (hc_V (n := 1) (ci := 5) (As := [.int (-6)]) X dX5_view_19 rfl (tk_no X.tr hR hA (b := (-6)) (by decide)) q1523 cv_X5_no ⟨Nat.le_of_ble_eq_true rfl, Nat.le_of_ble_eq_true rfl⟩ rfl (Nat.le_of_ble_eq_true rfl) hR.om rfl rfl) rfl (fun G1 u1 hR1 hA1 => ?_)
    exact hr_iret X hr dX5_view_22 (tw_end (by rw [sq_view, if_neg (by rw [c5]; decide)]) hR1 hA1)
  · refine hr_aload0 (q := 9) X dX5_view_8 rfl ?_
    refine hr_iload2 (q := 10) X dX5_view_9 rfl ?_
    refine hr_callP (q := 13) (hc_V (n := 1) (ci := 5) (As := [.int a2]) X dX5_view_10 rfl (tk_isSquare X.tr hR a2) q1567 cv_X5_isSquare ⟨Nat.le_of_ble_eq_true rfl, Nat.le_of_ble_eq_true rfl⟩ rfl (Nat.le_of_ble_eq_true rfl) hR.om rfl rfl) rfl ?_
    refine hr_ifB_ne (q := 16) (tgt := 23) X dX5_view_13 rfl (by decide) (fun c13 => ?_) (fun c13 => ?_)
    · have n23_1 := sp_inN (by decide) c5
      refine hr_L (L' := [some (.ref o), some (.int (nI (iN a1))), some (.int a2)]) (by rw [← n23_1.1]) ?_
      have n23_2 := sp_inN (by decide) c13
      refine hr_L (L' := [some (.ref o), some (.int (nI (iN a1))), some (.int (nI (iN a2)))]) (by rw [← n23_2.1]) ?_
      refine hr_aload0 (q := 24) X dX5_view_23 rfl ?_
      refine hr_iload1 (q := 25) X dX5_view_24 rfl ?_
      refine hr_iload2 (q := 26) X dX5_view_25 rfl ?_
      refine hr_callP (q := 29) (hc_V (n := 2) (ci := 5) (As := [.int (nI (iN a1)), .int (nI (iN a2))]) X dX5_view_26 rfl (tk_sees X.tr hR hA.t hw (a := iN a1) (b := iN a2) (by omega) (by omega)) q1663 cv_X5_sees ⟨Nat.le_of_ble_eq_true rfl, Nat.le_of_ble_eq_true rfl⟩ rfl (Nat.le_of_ble_eq_true rfl) hR.om rfl rfl) rfl ?_
      refine hr_ifB_eq (q := 32) (tgt := 36) X dX5_view_29 rfl (by decide) (fun c29 => ?_) (fun c29 => ?_)
      · refine hr_iconst (v := (nI 0)) (q := 37) X dX5_view_36 rfl rfl ?_
        exact hr_iret X hr dX5_view_37 (tw_end (by rw [sq_view, if_pos c5, if_pos c13, if_neg (by rw [c29]; decide)]) hR hA)
      · refine hr_iconst (v := (nI 1)) (q := 33) X dX5_view_32 rfl rfl ?_
        refine hr_goto (tgt := 37) X dX5_view_33 (by decide) ?_
        exact hr_iret X hr dX5_view_37 (tw_end (by rw [sq_view, if_pos c5, if_pos c13, if_pos c29]) hR hA)
    · refine hr_aload0 (q := 17) X dX5_view_16 rfl ?_
      refine hr_bipush (v := (-6)) (q := 19) X dX5_view_17 rfl rfl ?_
      refine hr_callT (q := 22) (hc_V (n := 1) (ci := 5) (As := [.int (-6)]) X dX5_view_19 rfl (tk_no X.tr hR hA (b := (-6)) (by decide)) q1523 cv_X5_no ⟨Nat.le_of_ble_eq_true rfl, Nat.le_of_ble_eq_true rfl⟩ rfl (Nat.le_of_ble_eq_true rfl) hR.om rfl rfl) rfl (fun G2 u2 hR2 hA2 => ?_)
      exact hr_iret X hr dX5_view_22 (tw_end (by rw [sq_view, if_pos c5, if_neg (by rw [c13]; decide)]) hR2 hA2)

def sq_glances (a1 : Int32) (a2 : Int32) (A : ab_S) : Int32 × ab_S :=
  if sp_in a1 (A.1.1 0 0) = true then if a2 < 0 then (((sq_no (-5) A).1), (sq_no (-5) A).2)
    else if a2 ≤ (nI 1) then if a2 = 0 then ((nI (sp_lookers A.1 (iN a1))), A)
      else ((nI (sp_lookedAt A.1 (iN a1))), A)
    else (((sq_no (-5) A).1), (sq_no (-5) A).2)
  else (((sq_no (-1) A).1), (sq_no (-1) A).2)
theorem tk_glances {l : Launch} {D : hg_D} {lo : Nat} (htr : l.stackTraces = false) {G : hg_G} {o : Nat} {am : Nat → Nat} {u : tw_S} {A : ab_S} (hR : tw_R G o am u) (hA : tw_A u A) {a1 : Int32} {a2 : Int32} (hW : ab_wf A) :
    hg_M l D lo yX5_glances (ws_ yX5_glances cX5_glances 3 ((some FieldType.int))) rm_X5_glances [.ref o, .int a1, .int a2] G (tw_Po o am (sq_glances a1 a2 A)) := by
  have hw := hW.w; have w0 := hw.b0; have w1 := hw.b1; have w2 := hw.b2; have w3 := hw.b3; have w36 := hW.b36; have w43 := hW.b43
  refine hg_M.of htr (by decide) [some (.ref o), some (.int a1), some (.int a2)] rfl (Nat.le_of_ble_eq_true rfl) ?_
  intro p e s m args below meth c X hr hnm htab
  have X : hg_X p l s m args meth c D lo "TaxOnLooksModel" cX5_glances 3 := X
  refine hr_aload0 (q := 1) X dX5_glances_0 rfl ?_
  refine hr_iload1 (q := 2) X dX5_glances_1 rfl ?_
  refine hr_callP (q := 5) (hc_V (n := 1) (ci := 5) (As := [.int a1]) X dX5_glances_2 rfl (tk_isOne X.tr hR hA.t a1) q1543 cv_X5_isOne ⟨Nat.le_of_ble_eq_true rfl, Nat.le_of_ble_eq_true rfl⟩ rfl (Nat.le_of_ble_eq_true rfl) hR.om rfl rfl) rfl ?_
  refine hr_ifB_ne (q := 8) (tgt := 14) X dX5_glances_5 rfl (by decide) (fun c5 => ?_) (fun c5 => ?_)
  · have n14_1 := sp_inN (by omega) c5
    refine hr_L (L' := [some (.ref o), some (.int (nI (iN a1))), some (.int a2)]) (by rw [← n14_1.1]) ?_
    refine hr_iload2 (q := 15) X dX5_glances_14 rfl ?_
    refine hr_if_lt (q := 18) (tgt := 23) X dX5_glances_15 rfl (by decide) (fun c15 => ?_) (fun c15 => ?_)
    · refine hr_aload0 (q := 24) X dX5_glances_23 rfl ?_
      refine hr_bipush (v := (-5)) (q := 26) X dX5_glances_24 rfl rfl ?_
      refine hr_callT (q := 29) (hc_V (n := 1) (ci := 5) (As := [.int (-5)]) X dX5_glances_26 rfl (tk_no X.tr hR hA (b := (-5)) (by decide)) q1523 cv_X5_no ⟨Nat.le_of_ble_eq_true rfl, Nat.le_of_ble_eq_true rfl⟩ rfl (Nat.le_of_ble_eq_true rfl) hR.om rfl rfl) rfl (fun G1 u1 hR1 hA1 => ?_)
      exact hr_iret X hr dX5_glances_29 (tw_end (by rw [sq_glances, if_pos c5, if_pos c15]) hR1 hA1)
    · refine hr_iload2 (q := 19) X dX5_glances_18 rfl ?_
      refine hr_iconst (v := (nI 1)) (q := 20) X dX5_glances_19 rfl rfl ?_
      refine hr_icmp_le (q := 23) (tgt := 30) X dX5_glances_20 rfl (by decide) (fun c20 => ?_) (fun c20 => ?_)
      · refine hr_iload2 (q := 31) X dX5_glances_30 rfl ?_
        refine hr_if_ne (q := 34) (tgt := 42) X dX5_glances_31 rfl (by decide) (fun c31 => ?_) (fun c31 => ?_)
        · refine hr_aload0 (q := 43) X dX5_glances_42 rfl ?_
          refine hr_iload1 (q := 44) X dX5_glances_43 rfl ?_
          refine hr_callP (q := 47) (hc_V (n := 1) (ci := 5) (As := [.int (nI (iN a1))]) X dX5_glances_44 rfl (tk_lookedAt X.tr hR hA.t hw (x := iN a1) (by omega)) q1679 cv_X5_lookedAt ⟨Nat.le_of_ble_eq_true rfl, Nat.le_of_ble_eq_true rfl⟩ rfl (Nat.le_of_ble_eq_true rfl) hR.om rfl rfl) rfl ?_
          have := sp_lookedAt_lt (t := A.1) hw (iN a1)
          exact hr_iret X hr dX5_glances_47 (tw_end (by rw [sq_glances, if_pos c5, if_neg c15, if_pos c20, if_neg c31]) hR hA)
        · refine hr_aload0 (q := 35) X dX5_glances_34 rfl ?_
          refine hr_iload1 (q := 36) X dX5_glances_35 rfl ?_
          refine hr_callP (q := 39) (hc_V (n := 1) (ci := 5) (As := [.int (nI (iN a1))]) X dX5_glances_36 rfl (tk_lookers X.tr hR hA.t hw (x := iN a1) (by omega)) q1675 cv_X5_lookers ⟨Nat.le_of_ble_eq_true rfl, Nat.le_of_ble_eq_true rfl⟩ rfl (Nat.le_of_ble_eq_true rfl) hR.om rfl rfl) rfl ?_
          have := sp_lookers_lt (t := A.1) hw (iN a1)
          refine hr_goto (tgt := 47) X dX5_glances_39 (by decide) ?_
          exact hr_iret X hr dX5_glances_47 (tw_end (by rw [sq_glances, if_pos c5, if_neg c15, if_pos c20, if_pos c31]) hR hA)
      · refine hr_aload0 (q := 24) X dX5_glances_23 rfl ?_
        refine hr_bipush (v := (-5)) (q := 26) X dX5_glances_24 rfl rfl ?_
        refine hr_callT (q := 29) (hc_V (n := 1) (ci := 5) (As := [.int (-5)]) X dX5_glances_26 rfl (tk_no X.tr hR hA (b := (-5)) (by decide)) q1523 cv_X5_no ⟨Nat.le_of_ble_eq_true rfl, Nat.le_of_ble_eq_true rfl⟩ rfl (Nat.le_of_ble_eq_true rfl) hR.om rfl rfl) rfl (fun G2 u2 hR2 hA2 => ?_)
        exact hr_iret X hr dX5_glances_29 (tw_end (by rw [sq_glances, if_pos c5, if_neg c15, if_neg c20]) hR2 hA2)
  · refine hr_aload0 (q := 9) X dX5_glances_8 rfl ?_
    refine hr_iconst (v := (-1)) (q := 10) X dX5_glances_9 rfl rfl ?_
    refine hr_callT (q := 13) (hc_V (n := 1) (ci := 5) (As := [.int (-1)]) X dX5_glances_10 rfl (tk_no X.tr hR hA (b := (-1)) (by decide)) q1523 cv_X5_no ⟨Nat.le_of_ble_eq_true rfl, Nat.le_of_ble_eq_true rfl⟩ rfl (Nat.le_of_ble_eq_true rfl) hR.om rfl rfl) rfl (fun G3 u3 hR3 hA3 => ?_)
    exact hr_iret X hr dX5_glances_13 (tw_end (by rw [sq_glances, if_neg (by rw [c5]; decide)]) hR3 hA3)

def sq_duty (a1 : Int32) (a2 : Int32) (A : ab_S) : Int32 × ab_S :=
  if sp_in a1 (A.1.1 0 0) = true then if a2 < 0 then (((sq_no (-5) A).1), (sq_no (-5) A).2)
    else if a2 ≤ (nI 1) then if a2 = 0 then ((nI (sp_owes A.1 (iN a1))), A)
      else ((nI (sp_wouldPay A.1 (iN a1))), A)
    else (((sq_no (-5) A).1), (sq_no (-5) A).2)
  else (((sq_no (-1) A).1), (sq_no (-1) A).2)
theorem tk_duty {l : Launch} {D : hg_D} {lo : Nat} (htr : l.stackTraces = false) {G : hg_G} {o : Nat} {am : Nat → Nat} {u : tw_S} {A : ab_S} (hR : tw_R G o am u) (hA : tw_A u A) {a1 : Int32} {a2 : Int32} (hW : ab_wf A) :
    hg_M l D lo yX5_duty (ws_ yX5_duty cX5_duty 3 ((some FieldType.int))) rm_X5_duty [.ref o, .int a1, .int a2] G (tw_Po o am (sq_duty a1 a2 A)) := by
  have hw := hW.w; have w0 := hw.b0; have w1 := hw.b1; have w2 := hw.b2; have w3 := hw.b3; have w36 := hW.b36; have w43 := hW.b43
  refine hg_M.of htr (by decide) [some (.ref o), some (.int a1), some (.int a2)] rfl (Nat.le_of_ble_eq_true rfl) ?_
  intro p e s m args below meth c X hr hnm htab
  have X : hg_X p l s m args meth c D lo "TaxOnLooksModel" cX5_duty 3 := X
  refine hr_aload0 (q := 1) X dX5_duty_0 rfl ?_
  refine hr_iload1 (q := 2) X dX5_duty_1 rfl ?_
  refine hr_callP (q := 5) (hc_V (n := 1) (ci := 5) (As := [.int a1]) X dX5_duty_2 rfl (tk_isOne X.tr hR hA.t a1) q1543 cv_X5_isOne ⟨Nat.le_of_ble_eq_true rfl, Nat.le_of_ble_eq_true rfl⟩ rfl (Nat.le_of_ble_eq_true rfl) hR.om rfl rfl) rfl ?_
  refine hr_ifB_ne (q := 8) (tgt := 14) X dX5_duty_5 rfl (by decide) (fun c5 => ?_) (fun c5 => ?_)
  · have n14_1 := sp_inN (by omega) c5
    refine hr_L (L' := [some (.ref o), some (.int (nI (iN a1))), some (.int a2)]) (by rw [← n14_1.1]) ?_
    refine hr_iload2 (q := 15) X dX5_duty_14 rfl ?_
    refine hr_if_lt (q := 18) (tgt := 23) X dX5_duty_15 rfl (by decide) (fun c15 => ?_) (fun c15 => ?_)
    · refine hr_aload0 (q := 24) X dX5_duty_23 rfl ?_
      refine hr_bipush (v := (-5)) (q := 26) X dX5_duty_24 rfl rfl ?_
      refine hr_callT (q := 29) (hc_V (n := 1) (ci := 5) (As := [.int (-5)]) X dX5_duty_26 rfl (tk_no X.tr hR hA (b := (-5)) (by decide)) q1523 cv_X5_no ⟨Nat.le_of_ble_eq_true rfl, Nat.le_of_ble_eq_true rfl⟩ rfl (Nat.le_of_ble_eq_true rfl) hR.om rfl rfl) rfl (fun G1 u1 hR1 hA1 => ?_)
      exact hr_iret X hr dX5_duty_29 (tw_end (by rw [sq_duty, if_pos c5, if_pos c15]) hR1 hA1)
    · refine hr_iload2 (q := 19) X dX5_duty_18 rfl ?_
      refine hr_iconst (v := (nI 1)) (q := 20) X dX5_duty_19 rfl rfl ?_
      refine hr_icmp_le (q := 23) (tgt := 30) X dX5_duty_20 rfl (by decide) (fun c20 => ?_) (fun c20 => ?_)
      · refine hr_iload2 (q := 31) X dX5_duty_30 rfl ?_
        refine hr_if_ne (q := 34) (tgt := 42) X dX5_duty_31 rfl (by decide) (fun c31 => ?_) (fun c31 => ?_)
        · refine hr_aload0 (q := 43) X dX5_duty_42 rfl ?_
          refine hr_iload1 (q := 44) X dX5_duty_43 rfl ?_
          refine hr_callP (q := 47) (hc_V (n := 1) (ci := 5) (As := [.int (nI (iN a1))]) X dX5_duty_44 rfl (tk_wouldPay X.tr hR hA.t hw (x := iN a1) (by omega)) q1703 cv_X5_wouldPay ⟨Nat.le_of_ble_eq_true rfl, Nat.le_of_ble_eq_true rfl⟩ rfl (Nat.le_of_ble_eq_true rfl) hR.om rfl rfl) rfl ?_
          exact hr_iret X hr dX5_duty_47 (tw_end (by rw [sq_duty, if_pos c5, if_neg c15, if_pos c20, if_neg c31]) hR hA)
        · refine hr_aload0 (q := 35) X dX5_duty_34 rfl ?_
          refine hr_iload1 (q := 36) X dX5_duty_35 rfl ?_
          refine hr_callP (q := 39) (hc_V (n := 1) (ci := 5) (As := [.int (nI (iN a1))]) X dX5_duty_36 rfl (tk_owes X.tr hR hA.t hw (x := iN a1) (by omega)) q1691 cv_X5_owes ⟨Nat.le_of_ble_eq_true rfl, Nat.le_of_ble_eq_true rfl⟩ rfl (Nat.le_of_ble_eq_true rfl) hR.om rfl rfl) rfl ?_
          have := sp_owes_lt (t := A.1) hw (iN a1)
          refine hr_goto (tgt := 47) X dX5_duty_39 (by decide) ?_
          exact hr_iret X hr dX5_duty_47 (tw_end (by rw [sq_duty, if_pos c5, if_neg c15, if_pos c20, if_pos c31]) hR hA)
      · refine hr_aload0 (q := 24) X dX5_duty_23 rfl ?_
        refine hr_bipush (v := (-5)) (q := 26) X dX5_duty_24 rfl rfl ?_
        refine hr_callT (q := 29) (hc_V (n := 1) (ci := 5) (As := [.int (-5)]) X dX5_duty_26 rfl (tk_no X.tr hR hA (b := (-5)) (by decide)) q1523 cv_X5_no ⟨Nat.le_of_ble_eq_true rfl, Nat.le_of_ble_eq_true rfl⟩ rfl (Nat.le_of_ble_eq_true rfl) hR.om rfl rfl) rfl (fun G2 u2 hR2 hA2 => ?_)
        exact hr_iret X hr dX5_duty_29 (tw_end (by rw [sq_duty, if_pos c5, if_neg c15, if_neg c20]) hR2 hA2)
  · refine hr_aload0 (q := 9) X dX5_duty_8 rfl ?_
    refine hr_iconst (v := (-1)) (q := 10) X dX5_duty_9 rfl rfl ?_
    refine hr_callT (q := 13) (hc_V (n := 1) (ci := 5) (As := [.int (-1)]) X dX5_duty_10 rfl (tk_no X.tr hR hA (b := (-1)) (by decide)) q1523 cv_X5_no ⟨Nat.le_of_ble_eq_true rfl, Nat.le_of_ble_eq_true rfl⟩ rfl (Nat.le_of_ble_eq_true rfl) hR.om rfl rfl) rfl (fun G3 u3 hR3 hA3 => ?_)
    exact hr_iret X hr dX5_duty_13 (tw_end (by rw [sq_duty, if_neg (by rw [c5]; decide)]) hR3 hA3)

def sq_seed (a1 : Int32) (A : ab_S) : Int32 × ab_S :=
  ((A.1.2 6), ab_i A 6 a1)
theorem tk_seed {l : Launch} {D : hg_D} {lo : Nat} (htr : l.stackTraces = false) {G : hg_G} {o : Nat} {am : Nat → Nat} {u : tw_S} {A : ab_S} (hR : tw_R G o am u) (hA : tw_A u A) {a1 : Int32} (hW : ab_wf A) :
    hg_M l D lo yX5_seed (ws_ yX5_seed cX5_seed 3 ((some FieldType.int))) rm_X5_seed [.ref o, .int a1] G (tw_Po o am (sq_seed a1 A)) := by
  have hw := hW.w; have w0 := hw.b0; have w1 := hw.b1; have w2 := hw.b2; have w3 := hw.b3; have w36 := hW.b36; have w43 := hW.b43
  refine hg_M.of htr (by decide) [some (.ref o), some (.int a1), none] rfl (Nat.le_of_ble_eq_true rfl) ?_
  intro p e s m args below meth c X hr hnm htab
  have X : hg_X p l s m args meth c D lo "TaxOnLooksModel" cX5_seed 3 := X
  refine hr_aload0 (q := 1) X dX5_seed_0 rfl ?_
  refine hr_getI (v := (A.1.2 6)) (q := 4) X dX5_seed_1 rfl fr_q1388_5 rfl hR.om ((hR.sc 6).trans (hA.f6)) ?_
  refine hr_istore2 (q := 5) X dX5_seed_4 rfl rfl (Nat.le_of_ble_eq_true rfl) ?_
  refine hr_aload0 (q := 6) X dX5_seed_5 rfl ?_
  refine hr_iload1 (q := 7) X dX5_seed_6 rfl ?_
  refine hr_putI (q := 10) X dX5_seed_7 rfl fw_q1388_5 (fun h => nomatch h) rfl rfl rfl hR.om ?_
  have hR1 := hR.setS 6 a1
  have hA1 := hA.iS (k := 6) (by decide) a1
  refine hr_iload2 (q := 11) X dX5_seed_10 rfl ?_
  exact hr_iret X hr dX5_seed_11 (tw_end (by rw [sq_seed]) hR1 hA1)

def sq_trace (a1 : Int32) (A : ab_S) : Int32 × ab_S :=
  if a1 < 0 then ((-1), A)
  else if (nI 20) ≤ a1 then ((-1), A)
  else if (A.1.2 42) ≤ a1 then ((-1), A)
  else ((A.2.2.1 41 (iN a1)), A)
theorem tk_trace {l : Launch} {D : hg_D} {lo : Nat} (htr : l.stackTraces = false) {G : hg_G} {o : Nat} {am : Nat → Nat} {u : tw_S} {A : ab_S} (hR : tw_R G o am u) (hA : tw_A u A) {a1 : Int32} (hW : ab_wf A) :
    hg_M l D lo yX5_trace (ws_ yX5_trace cX5_trace 2 ((some FieldType.int))) rm_X5_trace [.ref o, .int a1] G (tw_Po o am (sq_trace a1 A)) := by
  have hw := hW.w; have w0 := hw.b0; have w1 := hw.b1; have w2 := hw.b2; have w3 := hw.b3; have w36 := hW.b36; have w43 := hW.b43
  refine hg_M.of htr (by decide) [some (.ref o), some (.int a1)] rfl (Nat.le_of_ble_eq_true rfl) ?_
  intro p e s m args below meth c X hr hnm htab
  have X : hg_X p l s m args meth c D lo "TaxOnLooksModel" cX5_trace 2 := X
  refine hr_iload1 (q := 1) X dX5_trace_0 rfl ?_
  refine hr_if_lt (q := 4) (tgt := 27) X dX5_trace_1 rfl (by decide) (fun c1 => ?_) (fun c1 => ?_)
  · refine hr_iconst (v := (-1)) (q := 28) X dX5_trace_27 rfl rfl ?_
    exact hr_iret X hr dX5_trace_28 (tw_end (by rw [sq_trace, if_pos c1]) hR hA)
  · refine hr_iload1 (q := 5) X dX5_trace_4 rfl ?_
    refine hr_bipush (v := (nI 20)) (q := 7) X dX5_trace_5 rfl rfl ?_
    refine hr_icmp_ge (q := 10) (tgt := 27) X dX5_trace_7 rfl (by decide) (fun c7 => ?_) (fun c7 => ?_)
    · refine hr_iconst (v := (-1)) (q := 28) X dX5_trace_27 rfl rfl ?_
      exact hr_iret X hr dX5_trace_28 (tw_end (by rw [sq_trace, if_neg c1, if_pos c7]) hR hA)
    · refine hr_iload1 (q := 11) X dX5_trace_10 rfl ?_
      refine hr_aload0 (q := 12) X dX5_trace_11 rfl ?_
      refine hr_getI (v := (A.1.2 42)) (q := 15) X dX5_trace_12 rfl fr_q1424_5 rfl hR.om ((hR.sc 42).trans (hA.f42)) ?_
      refine hr_icmp_ge (q := 18) (tgt := 27) X dX5_trace_15 rfl (by decide) (fun c15 => ?_) (fun c15 => ?_)
      · refine hr_iconst (v := (-1)) (q := 28) X dX5_trace_27 rfl rfl ?_
        exact hr_iret X hr dX5_trace_28 (tw_end (by rw [sq_trace, if_neg c1, if_neg c7, if_pos c15]) hR hA)
      · have n18_1 := sp_ltN (by decide) c1 (Int32.not_le.mp c7)
        refine hr_L (L' := [some (.ref o), some (.int (nI (iN a1)))]) (by rw [← n18_1.1]) ?_
        refine hr_aload0 (q := 19) X dX5_trace_18 rfl ?_
        refine hr_getR (v := am 41) (q := 22) X dX5_trace_19 rfl fr_q1423_5 rfl hR.om (hR.f rfl) ?_
        refine hr_iload1 (q := 23) X dX5_trace_22 rfl ?_
        refine hr_ialdN (v := (A.2.2.1 41 (iN a1))) (q := 24) X dX5_trace_23 rfl (hR.ka (n := 20) rfl rfl rfl) (Or.inl rfl) (by omega) (by decide) ((hR.ar rfl _).trans (hA.r (by decide) _)) ?_
        refine hr_goto (tgt := 28) X dX5_trace_24 (by decide) ?_
        exact hr_iret X hr dX5_trace_28 (tw_end (by rw [sq_trace, if_neg c1, if_neg c7, if_neg c15]) hR hA)

