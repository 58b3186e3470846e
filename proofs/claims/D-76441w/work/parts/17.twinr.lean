def sq_row (a1 : Int32) (a2 : Int32) (a3 : Int32) (A : ab_S) : Int32 × ab_S :=
  if sp_in a1 8 = true then if 0 ≤ a3 then if a2 < 0 then (((sq_no (-6) A).1), (sq_no (-6) A).2)
      else if a2 ≤ (nI 3) then if a3 ≤ (nI 160) then ((nI 1), ab_z (ab_n (ab_n (ab_n A 18 (iN a1) 1) 19 (iN a1) (iN a2)) 20 (iN a1) (iN a3)) (iN a1) 160)
        else (((sq_no (-7) A).1), (sq_no (-7) A).2)
      else (((sq_no (-6) A).1), (sq_no (-6) A).2)
    else (((sq_no (-4) A).1), (sq_no (-4) A).2)
  else (((sq_no (-1) A).1), (sq_no (-1) A).2)
theorem tk_row {l : Launch} {D : hg_D} {lo : Nat} (htr : l.stackTraces = false) {G : hg_G} {o : Nat} {am : Nat → Nat} {u : tw_S} {A : ab_S} (hR : tw_R G o am u) (hA : tw_A u A) {a1 : Int32} {a2 : Int32} {a3 : Int32} (hW : ab_wf A) :
    hg_M l D lo yX5_row (ws_ yX5_row cX5_row 5 ((some FieldType.int))) rm_X5_row [.ref o, .int a1, .int a2, .int a3] G (tw_Po o am (sq_row a1 a2 a3 A)) := by
  have hw := hW.w; have w0 := hw.b0; have w1 := hw.b1; have w2 := hw.b2; have w3 := hw.b3; have w36 := hW.b36; have w43 := hW.b43
  refine hg_M.of htr (by decide) [some (.ref o), some (.int a1), some (.int a2), some (.int a3), none] rfl (Nat.le_of_ble_eq_true rfl) ?_
  intro p e s m args below meth c X hr hnm htab
  have X : hg_X p l s m args meth c D lo "TaxOnLooksModel" cX5_row 5 := X
  refine hr_aload0 (q := 1) X dX5_row_0 rfl ?_
  refine hr_iload1 (q := 2) X dX5_row_1 rfl ?_
  refine hr_callP (q := 5) (hc_V (n := 1) (ci := 5) (As := [.int a1]) X dX5_row_2 rfl (tk_isShelf X.tr hR a1) q1519 cv_X5_isShelf ⟨Nat.le_of_ble_eq_true rfl, Nat.le_of_ble_eq_true rfl⟩ rfl (Nat.le_of_ble_eq_true rfl) hR.om rfl rfl) rfl ?_
  refine hr_ifB_ne (q := 8) (tgt := 14) X dX5_row_5 rfl (by decide) (fun c5 => ?_) (fun c5 => ?_)
  · refine hr_iload3 (q := 15) X dX5_row_14 rfl ?_
    refine hr_if_ge (q := 18) (tgt := 25) X dX5_row_15 rfl (by decide) (fun c15 => ?_) (fun c15 => ?_)
    · refine hr_iload2 (q := 26) X dX5_row_25 rfl ?_
      refine hr_if_lt (q := 29) (tgt := 34) X dX5_row_26 rfl (by decide) (fun c26 => ?_) (fun c26 => ?_)
      · refine hr_aload0 (q := 35) X dX5_row_34 rfl ?_
        refine hr_bipush (v := (-6)) (q := 37) X dX5_row_35 rfl rfl ?_
        refine hr_callT (q := 40) (hc_V (n := 1) (ci := 5) (As := [.int (-6)]) X dX5_row_37 rfl (tk_no X.tr hR hA (b := (-6)) (by decide)) q1523 cv_X5_no ⟨Nat.le_of_ble_eq_true rfl, Nat.le_of_ble_eq_true rfl⟩ rfl (Nat.le_of_ble_eq_true rfl) hR.om rfl rfl) rfl (fun G1 u1 hR1 hA1 => ?_)
        exact hr_iret X hr dX5_row_40 (tw_end (by rw [sq_row, if_pos c5, if_pos c15, if_pos c26]) hR1 hA1)
      · refine hr_iload2 (q := 30) X dX5_row_29 rfl ?_
        refine hr_iconst (v := (nI 3)) (q := 31) X dX5_row_30 rfl rfl ?_
        refine hr_icmp_le (q := 34) (tgt := 41) X dX5_row_31 rfl (by decide) (fun c31 => ?_) (fun c31 => ?_)
        · refine hr_iload3 (q := 42) X dX5_row_41 rfl ?_
          refine hr_sipush (v := (nI 160)) (q := 45) X dX5_row_42 rfl rfl ?_
          refine hr_icmp_le (q := 48) (tgt := 55) X dX5_row_45 rfl (by decide) (fun c45 => ?_) (fun c45 => ?_)
          · have n55_1 := sp_inN (by decide) c5
            refine hr_L (L' := [some (.ref o), some (.int (nI (iN a1))), some (.int a2), some (.int a3), none]) (by rw [← n55_1.1]) ?_
            have n55_3 := sp_leN (by decide) (Int32.not_lt.mpr c15) c45
            refine hr_L (L' := [some (.ref o), some (.int (nI (iN a1))), some (.int a2), some (.int (nI (iN a3))), none]) (by rw [← n55_3.1]) ?_
            have n55_2 := sp_leN (by decide) c26 c31
            refine hr_L (L' := [some (.ref o), some (.int (nI (iN a1))), some (.int (nI (iN a2))), some (.int (nI (iN a3))), none]) (by rw [← n55_2.1]) ?_
            refine hr_aload0 (q := 56) X dX5_row_55 rfl ?_
            refine hr_getR (v := am 18) (q := 59) X dX5_row_56 rfl fr_q1400_5 rfl hR.om (hR.f rfl) ?_
            refine hr_iload1 (q := 60) X dX5_row_59 rfl ?_
            refine hr_iconst (v := (nI 1)) (q := 61) X dX5_row_60 rfl rfl ?_
            refine hr_iastN (q := 62) X dX5_row_61 rfl (hR.ka (n := 8) rfl rfl rfl) (by omega) (by decide) ?_
            have hR2 := hR.setA (k := 18) rfl (iN a1) (nI 1)
            have hA2 := hA.nA (k := 18) (j := iN a1) (n := 1) (by decide) rfl
            refine hr_aload0 (q := 63) X dX5_row_62 rfl ?_
            refine hr_getR (v := am 19) (q := 66) X dX5_row_63 rfl fr_q1401_5 rfl hR2.om (hR2.f rfl) ?_
            refine hr_iload1 (q := 67) X dX5_row_66 rfl ?_
            refine hr_iload2 (q := 68) X dX5_row_67 rfl ?_
            refine hr_iastN (q := 69) X dX5_row_68 rfl (hR2.ka (n := 8) rfl rfl rfl) (by omega) (by decide) ?_
            have hR3 := hR2.setA (k := 19) rfl (iN a1) (nI (iN a2))
            have hA3 := hA2.nA (k := 19) (j := iN a1) (n := iN a2) (by decide) rfl
            refine hr_aload0 (q := 70) X dX5_row_69 rfl ?_
            refine hr_getR (v := am 20) (q := 73) X dX5_row_70 rfl fr_q1402_5 rfl hR3.om (hR3.f rfl) ?_
            refine hr_iload1 (q := 74) X dX5_row_73 rfl ?_
            refine hr_iload3 (q := 75) X dX5_row_74 rfl ?_
            refine hr_iastN (q := 76) X dX5_row_75 rfl (hR3.ka (n := 8) rfl rfl rfl) (by omega) (by decide) ?_
            have hR4 := hR3.setA (k := 20) rfl (iN a1) (nI (iN a3))
            have hA4 := hA3.nA (k := 20) (j := iN a1) (n := iN a3) (by decide) rfl
            refine hr_iconst (v := (nI 0)) (q := 77) X dX5_row_76 rfl rfl ?_
            refine hr_istore4 (q := 79) X dX5_row_77 rfl rfl (Nat.le_of_ble_eq_true rfl) ?_
            have loop79 : ∀ (kr nr n : Nat) (G79 : hg_G) (u79 : tw_S) (i : Nat), tw_R G79 o am u79 → tw_A u79 (ab_z (ab_n (ab_n (ab_n A 18 (iN a1) 1) 19 (iN a1) (iN a2)) 20 (iN a1) (iN a3)) (iN a1) i) → (i ≤ 160) → (161 ≤ i + n) → hg_W p l e rm_X5_row s m args below meth c (hg_Q below D lo args s rm_X5_row G (tw_Po o am (sq_row a1 a2 a3 A))) D lo G.1 5 kr nr G79 79 [some (.ref o), some (.int (nI (iN a1))), some (.int (nI (iN a2))), some (.int (nI (iN a3))), some (.int (nI i))] [] := by
              intro kr nr n
              induction n with
              | zero =>
                intro G79 u79 i hR79 hA79 h79_0 h79_1
                omega
              | succ n ih79 =>
                intro G79 u79 i hR79 hA79 h79_0 h79_1
                refine hr_iload4 (q := 81) X dX5_row_79 rfl ?_
                refine hr_sipush (v := (nI 160)) (q := 84) X dX5_row_81 rfl rfl ?_
                refine hr_icmpN_ge (q := 87) (tgt := 107) X dX5_row_84 rfl (by decide) (by omega) (by omega) (fun c84 => ?_) (fun c84 => ?_)
                · have z5 : i = 160 := by omega
                  subst z5
                  refine hr_iconst (v := (nI 1)) (q := 108) X dX5_row_107 rfl rfl ?_
                  exact hr_iret X hr dX5_row_108 (tw_end (by rw [sq_row, if_pos c5, if_pos c15, if_neg c26, if_pos c31, if_pos c45]) hR79 hA79)
                · refine hr_aload0 (q := 88) X dX5_row_87 rfl ?_
                  refine hr_getR (v := am 22) (q := 91) X dX5_row_88 rfl fr_q1404_5 rfl hR79.om (hR79.f rfl) ?_
                  refine hr_sipush (v := (nI 160)) (q := 94) X dX5_row_91 rfl rfl ?_
                  refine hr_iload1 (q := 95) X dX5_row_94 rfl ?_
                  refine hr_imul (v := (nI (160 * (iN a1)))) (q := 96) X dX5_row_95 rfl (pk_mul _ _) ?_
                  refine hr_iload4 (q := 98) X dX5_row_96 rfl ?_
                  refine hr_iadd (v := (nI (160 * (iN a1) + i))) (q := 99) X dX5_row_98 rfl (nI_add _ _) ?_
                  refine hr_lconst (v := 0) (q := 100) X dX5_row_99 rfl rfl ?_
                  refine hr_lastN (q := 101) X dX5_row_100 rfl (hR79.ka (n := 1280) rfl rfl rfl) (by omega) (by decide) ?_
                  have hR6 := hR79.setJ (k := 22) rfl (160 * (iN a1) + i) 0
                  have hA6 := hA79.cJ (160 * (iN a1) + i) 0
                  refine hr_iinc4 (v := (nI (i + 1))) (q := 104) X dX5_row_101 rfl (nI_add _ _) rfl (Nat.le_of_ble_eq_true rfl) ?_
                  refine hr_goto (tgt := 79) X dX5_row_104 (by decide) ?_
                  exact ih79 (hs_J G79 (am 22) (160 * (iN a1) + i) 0) (tw_setJ u79 22 (160 * (iN a1) + i) 0) (i + 1) hR6 (by rw [← ab_z_s]; exact hA6) (by omega) (by omega)
            exact loop79 _ _ 161 (hs_I (hs_I (hs_I G (am 18) (iN a1) (nI 1)) (am 19) (iN a1) (nI (iN a2))) (am 20) (iN a1) (nI (iN a3))) (tw_setA (tw_setA (tw_setA u 18 (iN a1) (nI 1)) 19 (iN a1) (nI (iN a2))) 20 (iN a1) (nI (iN a3))) 0 hR4 (by rw [ab_z_0]; exact hA4) (by omega) (by omega)
          · refine hr_aload0 (q := 49) X dX5_row_48 rfl ?_
            refine hr_bipush (v := (-7)) (q := 51) X dX5_row_49 rfl rfl ?_
            refine hr_callT (q := 54) (hc_V (n := 1) (ci := 5) (As := [.int (-7)]) X dX5_row_51 rfl (tk_no X.tr hR hA (b := (-7)) (by decide)) q1523 cv_X5_no ⟨Nat.le_of_ble_eq_true rfl, Nat.le_of_ble_eq_true rfl⟩ rfl (Nat.le_of_ble_eq_true rfl) hR.om rfl rfl) rfl (fun G7 u7 hR7 hA7 => ?_)
            exact hr_iret X hr dX5_row_54 (tw_end (by rw [sq_row, if_pos c5, if_pos c15, if_neg c26, if_pos c31, if_neg c45]) hR7 hA7)
        · refine hr_aload0 (q := 35) X dX5_row_34 rfl ?_
          refine hr_bipush (v := (-6)) (q := 37) X dX5_row_35 rfl rfl ?_
          refine hr_callT (q := 40) (hc_V (n := 1) (ci := 5) (As := [.int (-6)]) X dX5_row_37 rfl (tk_no X.tr hR hA (b := (-6)) (by decide)) q1523 cv_X5_no ⟨Nat.le_of_ble_eq_true rfl, Nat.le_of_ble_eq_true rfl⟩ rfl (Nat.le_of_ble_eq_true rfl) hR.om rfl rfl) rfl (fun G8 u8 hR8 hA8 => ?_)
          exact hr_iret X hr dX5_row_40 (tw_end (by rw [sq_row, if_pos c5, if_pos c15, if_neg c26, if_neg c31]) hR8 hA8)
    · refine hr_aload0 (q := 19) X dX5_row_18 rfl ?_
      refine hr_bipush (v := (-4)) (q := 21) X dX5_row_19 rfl rfl ?_
      refine hr_callT (q := 24) (hc_V (n := 1) (ci := 5) (As := [.int (-4)]) X dX5_row_21 rfl (tk_no X.tr hR hA (b := (-4)) (by decide)) q1523 cv_X5_no ⟨Nat.le_of_ble_eq_true rfl, Nat.le_of_ble_eq_true rfl⟩ rfl (Nat.le_of_ble_eq_true rfl) hR.om rfl rfl) rfl (fun G9 u9 hR9 hA9 => ?_)
      exact hr_iret X hr dX5_row_24 (tw_end (by rw [sq_row, if_pos c5, if_neg c15]) hR9 hA9)
  · refine hr_aload0 (q := 9) X dX5_row_8 rfl ?_
    refine hr_iconst (v := (-1)) (q := 10) X dX5_row_9 rfl rfl ?_
    refine hr_callT (q := 13) (hc_V (n := 1) (ci := 5) (As := [.int (-1)]) X dX5_row_10 rfl (tk_no X.tr hR hA (b := (-1)) (by decide)) q1523 cv_X5_no ⟨Nat.le_of_ble_eq_true rfl, Nat.le_of_ble_eq_true rfl⟩ rfl (Nat.le_of_ble_eq_true rfl) hR.om rfl rfl) rfl (fun G10 u10 hR10 hA10 => ?_)
    exact hr_iret X hr dX5_row_13 (tw_end (by rw [sq_row, if_neg (by rw [c5]; decide)]) hR10 hA10)

def sq_copy (a1 : Int32) (a2 : Int32) (a3 : Int32) (a4 : Int32) (a5 : Int32) (A : ab_S) : Int32 × ab_S :=
  if sp_in a1 8 = true then if sp_in a2 8 = true then if (A.1.1 18 (iN a1)) = 2 then (((sq_no (-2) A).1), (sq_no (-2) A).2)
      else if (A.1.1 18 (iN a2)) = 2 then (((sq_no (-2) A).1), (sq_no (-2) A).2)
      else if (A.1.1 18 (iN a1)) = 1 then if (A.1.1 18 (iN a2)) = 1 then if (A.1.1 19 (iN a1)) = (A.1.1 19 (iN a2)) then if (A.1.1 18 (iN a1)) = 0 then (((sq_no (-3) A).1), (sq_no (-3) A).2)
            else if (A.1.1 18 (iN a2)) = 0 then (((sq_no (-3) A).1), (sq_no (-3) A).2)
            else if 0 ≤ a5 then if a3 < 0 then (((sq_no (-5) A).1), (sq_no (-5) A).2)
              else if a4 < 0 then (((sq_no (-5) A).1), (sq_no (-5) A).2)
              else if (nI (A.1.1 20 (iN a1)) - a5) < a3 then (((sq_no (-5) A).1), (sq_no (-5) A).2)
              else if a4 ≤ (nI (A.1.1 20 (iN a2)) - a5) then ((nI 1), ab_cp A (iN a1) (iN a3) (iN a2) (iN a4) (iN a5))
              else (((sq_no (-5) A).1), (sq_no (-5) A).2)
            else (((sq_no (-4) A).1), (sq_no (-4) A).2)
          else (((sq_no (-2) A).1), (sq_no (-2) A).2)
        else if (A.1.1 18 (iN a1)) = 0 then (((sq_no (-3) A).1), (sq_no (-3) A).2)
        else if (A.1.1 18 (iN a2)) = 0 then (((sq_no (-3) A).1), (sq_no (-3) A).2)
        else if 0 ≤ a5 then if a3 < 0 then (((sq_no (-5) A).1), (sq_no (-5) A).2)
          else if a4 < 0 then (((sq_no (-5) A).1), (sq_no (-5) A).2)
          else if (nI (A.1.1 20 (iN a1)) - a5) < a3 then (((sq_no (-5) A).1), (sq_no (-5) A).2)
          else if a4 ≤ (nI (A.1.1 20 (iN a2)) - a5) then ((nI 1), ab_cp A (iN a1) (iN a3) (iN a2) (iN a4) (iN a5))
          else (((sq_no (-5) A).1), (sq_no (-5) A).2)
        else (((sq_no (-4) A).1), (sq_no (-4) A).2)
      else if (A.1.1 18 (iN a1)) = 0 then (((sq_no (-3) A).1), (sq_no (-3) A).2)
      else if (A.1.1 18 (iN a2)) = 0 then (((sq_no (-3) A).1), (sq_no (-3) A).2)
      else if 0 ≤ a5 then if a3 < 0 then (((sq_no (-5) A).1), (sq_no (-5) A).2)
        else if a4 < 0 then (((sq_no (-5) A).1), (sq_no (-5) A).2)
        else if (nI (A.1.1 20 (iN a1)) - a5) < a3 then (((sq_no (-5) A).1), (sq_no (-5) A).2)
        else if a4 ≤ (nI (A.1.1 20 (iN a2)) - a5) then ((nI 1), ab_cp A (iN a1) (iN a3) (iN a2) (iN a4) (iN a5))
        else (((sq_no (-5) A).1), (sq_no (-5) A).2)
      else (((sq_no (-4) A).1), (sq_no (-4) A).2)
    else (((sq_no (-1) A).1), (sq_no (-1) A).2)
  else (((sq_no (-1) A).1), (sq_no (-1) A).2)
theorem tk_copy {l : Launch} {D : hg_D} {lo : Nat} (htr : l.stackTraces = false) {G : hg_G} {o : Nat} {am : Nat → Nat} {u : tw_S} {A : ab_S} (hR : tw_R G o am u) (hA : tw_A u A) {a1 : Int32} {a2 : Int32} {a3 : Int32} {a4 : Int32} {a5 : Int32} (hW : ab_wf A) :
    hg_M l D lo yX5_copy (ws_ yX5_copy cX5_copy 7 ((some FieldType.int))) rm_X5_copy [.ref o, .int a1, .int a2, .int a3, .int a4, .int a5] G (tw_Po o am (sq_copy a1 a2 a3 a4 a5 A)) := by
  have hw := hW.w; have w0 := hw.b0; have w1 := hw.b1; have w2 := hw.b2; have w3 := hw.b3; have w36 := hW.b36; have w43 := hW.b43
  refine hg_M.of htr (by decide) [some (.ref o), some (.int a1), some (.int a2), some (.int a3), some (.int a4), some (.int a5), none] rfl (Nat.le_of_ble_eq_true rfl) ?_
  intro p e s m args below meth c X hr hnm htab
  have X : hg_X p l s m args meth c D lo "TaxOnLooksModel" cX5_copy 7 := X
  refine hr_aload0 (q := 1) X dX5_copy_0 rfl ?_
  refine hr_iload1 (q := 2) X dX5_copy_1 rfl ?_
  refine hr_callP (q := 5) (hc_V (n := 1) (ci := 5) (As := [.int a1]) X dX5_copy_2 rfl (tk_isShelf X.tr hR a1) q1519 cv_X5_isShelf ⟨Nat.le_of_ble_eq_true rfl, Nat.le_of_ble_eq_true rfl⟩ rfl (Nat.le_of_ble_eq_true rfl) hR.om rfl rfl) rfl ?_
  refine hr_ifB_eq (q := 8) (tgt := 16) X dX5_copy_5 rfl (by decide) (fun c5 => ?_) (fun c5 => ?_)
  · refine hr_aload0 (q := 17) X dX5_copy_16 rfl ?_
    refine hr_iconst (v := (-1)) (q := 18) X dX5_copy_17 rfl rfl ?_
    refine hr_callT (q := 21) (hc_V (n := 1) (ci := 5) (As := [.int (-1)]) X dX5_copy_18 rfl (tk_no X.tr hR hA (b := (-1)) (by decide)) q1523 cv_X5_no ⟨Nat.le_of_ble_eq_true rfl, Nat.le_of_ble_eq_true rfl⟩ rfl (Nat.le_of_ble_eq_true rfl) hR.om rfl rfl) rfl (fun G1 u1 hR1 hA1 => ?_)
    exact hr_iret X hr dX5_copy_21 (tw_end (by rw [sq_copy, if_neg (by rw [c5]; decide)]) hR1 hA1)
  · refine hr_aload0 (q := 9) X dX5_copy_8 rfl ?_
    refine hr_iload2 (q := 10) X dX5_copy_9 rfl ?_
    refine hr_callP (q := 13) (hc_V (n := 1) (ci := 5) (As := [.int a2]) X dX5_copy_10 rfl (tk_isShelf X.tr hR a2) q1519 cv_X5_isShelf ⟨Nat.le_of_ble_eq_true rfl, Nat.le_of_ble_eq_true rfl⟩ rfl (Nat.le_of_ble_eq_true rfl) hR.om rfl rfl) rfl ?_
    refine hr_ifB_ne (q := 16) (tgt := 22) X dX5_copy_13 rfl (by decide) (fun c13 => ?_) (fun c13 => ?_)
    · have n22_1 := sp_inN (by decide) c5
      refine hr_L (L' := [some (.ref o), some (.int (nI (iN a1))), some (.int a2), some (.int a3), some (.int a4), some (.int a5), none]) (by rw [← n22_1.1]) ?_
      have n22_2 := sp_inN (by decide) c13
      refine hr_L (L' := [some (.ref o), some (.int (nI (iN a1))), some (.int (nI (iN a2))), some (.int a3), some (.int a4), some (.int a5), none]) (by rw [← n22_2.1]) ?_
      refine hr_aload0 (q := 23) X dX5_copy_22 rfl ?_
      refine hr_getR (v := am 18) (q := 26) X dX5_copy_23 rfl fr_q1400_5 rfl hR.om (hR.f rfl) ?_
      refine hr_iload1 (q := 27) X dX5_copy_26 rfl ?_
      refine hr_ialdN (v := (nI (A.1.1 18 (iN a1)))) (q := 28) X dX5_copy_27 rfl (hR.ka (n := 8) rfl rfl rfl) (Or.inl rfl) (by omega) (by decide) ((hR.ar rfl _).trans (hA.s (by decide) (by decide) (by omega))) ?_
      have b27 := hW.b18 (show iN a1 < 8 by omega)
      refine hr_iconst (v := (nI 2)) (q := 29) X dX5_copy_28 rfl rfl ?_
      refine hr_icmpN_eq (q := 32) (tgt := 77) X dX5_copy_29 rfl (by decide) (by omega) (by omega) (fun c29 => ?_) (fun c29 => ?_)
      · refine hr_aload0 (q := 78) X dX5_copy_77 rfl ?_
        refine hr_bipush (v := (-2)) (q := 80) X dX5_copy_78 rfl rfl ?_
        refine hr_callT (q := 83) (hc_V (n := 1) (ci := 5) (As := [.int (-2)]) X dX5_copy_80 rfl (tk_no X.tr hR hA (b := (-2)) (by decide)) q1523 cv_X5_no ⟨Nat.le_of_ble_eq_true rfl, Nat.le_of_ble_eq_true rfl⟩ rfl (Nat.le_of_ble_eq_true rfl) hR.om rfl rfl) rfl (fun G2 u2 hR2 hA2 => ?_)
        exact hr_iret X hr dX5_copy_83 (tw_end (by rw [sq_copy, if_pos c5, if_pos c13, if_pos (show (A.1.1 18 (iN a1)) = 2 by omega)]) hR2 hA2)
      · refine hr_aload0 (q := 33) X dX5_copy_32 rfl ?_
        refine hr_getR (v := am 18) (q := 36) X dX5_copy_33 rfl fr_q1400_5 rfl hR.om (hR.f rfl) ?_
        refine hr_iload2 (q := 37) X dX5_copy_36 rfl ?_
        refine hr_ialdN (v := (nI (A.1.1 18 (iN a2)))) (q := 38) X dX5_copy_37 rfl (hR.ka (n := 8) rfl rfl rfl) (Or.inl rfl) (by omega) (by decide) ((hR.ar rfl _).trans (hA.s (by decide) (by decide) (by omega))) ?_
        have b37 := hW.b18 (show iN a2 < 8 by omega)
        refine hr_iconst (v := (nI 2)) (q := 39) X dX5_copy_38 rfl rfl ?_
        refine hr_icmpN_eq (q := 42) (tgt := 77) X dX5_copy_39 rfl (by decide) (by omega) (by omega) (fun c39 => ?_) (fun c39 => ?_)
        · refine hr_aload0 (q := 78) X dX5_copy_77 rfl ?_
          refine hr_bipush (v := (-2)) (q := 80) X dX5_copy_78 rfl rfl ?_
          refine hr_callT (q := 83) (hc_V (n := 1) (ci := 5) (As := [.int (-2)]) X dX5_copy_80 rfl (tk_no X.tr hR hA (b := (-2)) (by decide)) q1523 cv_X5_no ⟨Nat.le_of_ble_eq_true rfl, Nat.le_of_ble_eq_true rfl⟩ rfl (Nat.le_of_ble_eq_true rfl) hR.om rfl rfl) rfl (fun G3 u3 hR3 hA3 => ?_)
          exact hr_iret X hr dX5_copy_83 (tw_end (by rw [sq_copy, if_pos c5, if_pos c13, if_neg (show ¬ ((A.1.1 18 (iN a1)) = 2) by omega), if_pos (show (A.1.1 18 (iN a2)) = 2 by omega)]) hR3 hA3)
        · refine hr_aload0 (q := 43) X dX5_copy_42 rfl ?_
          refine hr_getR (v := am 18) (q := 46) X dX5_copy_43 rfl fr_q1400_5 rfl hR.om (hR.f rfl) ?_
          refine hr_iload1 (q := 47) X dX5_copy_46 rfl ?_
          refine hr_ialdN (v := (nI (A.1.1 18 (iN a1)))) (q := 48) X dX5_copy_47 rfl (hR.ka (n := 8) rfl rfl rfl) (Or.inl rfl) (by omega) (by decide) ((hR.ar rfl _).trans (hA.s (by decide) (by decide) (by omega))) ?_
          have b47 := hW.b18 (show iN a1 < 8 by omega)
          refine hr_iconst (v := (nI 1)) (q := 49) X dX5_copy_48 rfl rfl ?_
          refine hr_icmpN_ne (q := 52) (tgt := 84) X dX5_copy_49 rfl (by decide) (by omega) (by omega) (fun c49 => ?_) (fun c49 => ?_)
          · refine hr_aload0 (q := 85) X dX5_copy_84 rfl ?_
            refine hr_getR (v := am 18) (q := 88) X dX5_copy_85 rfl fr_q1400_5 rfl hR.om (hR.f rfl) ?_
            refine hr_iload1 (q := 89) X dX5_copy_88 rfl ?_
            refine hr_ialdN (v := (nI (A.1.1 18 (iN a1)))) (q := 90) X dX5_copy_89 rfl (hR.ka (n := 8) rfl rfl rfl) (Or.inl rfl) (by omega) (by decide) ((hR.ar rfl _).trans (hA.s (by decide) (by decide) (by omega))) ?_
            have b89 := hW.b18 (show iN a1 < 8 by omega)
            refine hr_ifN_eq (q := 93) (tgt := 102) X dX5_copy_90 rfl (by decide) (by omega) (fun c90 => ?_) (fun c90 => ?_)
            · refine hr_aload0 (q := 103) X dX5_copy_102 rfl ?_
              refine hr_bipush (v := (-3)) (q := 105) X dX5_copy_103 rfl rfl ?_
              refine hr_callT (q := 108) (hc_V (n := 1) (ci := 5) (As := [.int (-3)]) X dX5_copy_105 rfl (tk_no X.tr hR hA (b := (-3)) (by decide)) q1523 cv_X5_no ⟨Nat.le_of_ble_eq_true rfl, Nat.le_of_ble_eq_true rfl⟩ rfl (Nat.le_of_ble_eq_true rfl) hR.om rfl rfl) rfl (fun G4 u4 hR4 hA4 => ?_)
              exact hr_iret X hr dX5_copy_108 (tw_end (by rw [sq_copy, if_pos c5, if_pos c13, if_neg (show ¬ ((A.1.1 18 (iN a1)) = 2) by omega), if_neg (show ¬ ((A.1.1 18 (iN a2)) = 2) by omega), if_neg (show ¬ ((A.1.1 18 (iN a1)) = 1) by omega), if_pos (show (A.1.1 18 (iN a1)) = 0 by omega)]) hR4 hA4)
            · refine hr_aload0 (q := 94) X dX5_copy_93 rfl ?_
              refine hr_getR (v := am 18) (q := 97) X dX5_copy_94 rfl fr_q1400_5 rfl hR.om (hR.f rfl) ?_
              refine hr_iload2 (q := 98) X dX5_copy_97 rfl ?_
              refine hr_ialdN (v := (nI (A.1.1 18 (iN a2)))) (q := 99) X dX5_copy_98 rfl (hR.ka (n := 8) rfl rfl rfl) (Or.inl rfl) (by omega) (by decide) ((hR.ar rfl _).trans (hA.s (by decide) (by decide) (by omega))) ?_
              have b98 := hW.b18 (show iN a2 < 8 by omega)
              refine hr_ifN_ne (q := 102) (tgt := 109) X dX5_copy_99 rfl (by decide) (by omega) (fun c99 => ?_) (fun c99 => ?_)
              · refine hr_iload5 (q := 111) X dX5_copy_109 rfl ?_
                refine hr_if_ge (q := 114) (tgt := 121) X dX5_copy_111 rfl (by decide) (fun c111 => ?_) (fun c111 => ?_)
                · refine hr_iload3 (q := 122) X dX5_copy_121 rfl ?_
                  refine hr_if_lt (q := 125) (tgt := 157) X dX5_copy_122 rfl (by decide) (fun c122 => ?_) (fun c122 => ?_)
                  · refine hr_aload0 (q := 158) X dX5_copy_157 rfl ?_
                    refine hr_bipush (v := (-5)) (q := 160) X dX5_copy_158 rfl rfl ?_
                    refine hr_callT (q := 163) (hc_V (n := 1) (ci := 5) (As := [.int (-5)]) X dX5_copy_160 rfl (tk_no X.tr hR hA (b := (-5)) (by decide)) q1523 cv_X5_no ⟨Nat.le_of_ble_eq_true rfl, Nat.le_of_ble_eq_true rfl⟩ rfl (Nat.le_of_ble_eq_true rfl) hR.om rfl rfl) rfl (fun G5 u5 hR5 hA5 => ?_)
                    exact hr_iret X hr dX5_copy_163 (tw_end (by rw [sq_copy, if_pos c5, if_pos c13, if_neg (show ¬ ((A.1.1 18 (iN a1)) = 2) by omega), if_neg (show ¬ ((A.1.1 18 (iN a2)) = 2) by omega), if_neg (show ¬ ((A.1.1 18 (iN a1)) = 1) by omega), if_neg (show ¬ ((A.1.1 18 (iN a1)) = 0) by omega), if_neg (show ¬ ((A.1.1 18 (iN a2)) = 0) by omega), if_pos c111, if_pos c122]) hR5 hA5)
                  · refine hr_iload4 (q := 127) X dX5_copy_125 rfl ?_
                    refine hr_if_lt (q := 130) (tgt := 157) X dX5_copy_127 rfl (by decide) (fun c127 => ?_) (fun c127 => ?_)
                    · refine hr_aload0 (q := 158) X dX5_copy_157 rfl ?_
                      refine hr_bipush (v := (-5)) (q := 160) X dX5_copy_158 rfl rfl ?_
                      refine hr_callT (q := 163) (hc_V (n := 1) (ci := 5) (As := [.int (-5)]) X dX5_copy_160 rfl (tk_no X.tr hR hA (b := (-5)) (by decide)) q1523 cv_X5_no ⟨Nat.le_of_ble_eq_true rfl, Nat.le_of_ble_eq_true rfl⟩ rfl (Nat.le_of_ble_eq_true rfl) hR.om rfl rfl) rfl (fun G6 u6 hR6 hA6 => ?_)
                      exact hr_iret X hr dX5_copy_163 (tw_end (by rw [sq_copy, if_pos c5, if_pos c13, if_neg (show ¬ ((A.1.1 18 (iN a1)) = 2) by omega), if_neg (show ¬ ((A.1.1 18 (iN a2)) = 2) by omega), if_neg (show ¬ ((A.1.1 18 (iN a1)) = 1) by omega), if_neg (show ¬ ((A.1.1 18 (iN a1)) = 0) by omega), if_neg (show ¬ ((A.1.1 18 (iN a2)) = 0) by omega), if_pos c111, if_neg c122, if_pos c127]) hR6 hA6)
                    · refine hr_iload3 (q := 131) X dX5_copy_130 rfl ?_
                      refine hr_aload0 (q := 132) X dX5_copy_131 rfl ?_
                      refine hr_getR (v := am 20) (q := 135) X dX5_copy_132 rfl fr_q1402_5 rfl hR.om (hR.f rfl) ?_
                      refine hr_iload1 (q := 136) X dX5_copy_135 rfl ?_
                      refine hr_ialdN (v := (nI (A.1.1 20 (iN a1)))) (q := 137) X dX5_copy_136 rfl (hR.ka (n := 8) rfl rfl rfl) (Or.inl rfl) (by omega) (by decide) ((hR.ar rfl _).trans (hA.s (by decide) (by decide) (by omega))) ?_
                      have b136 := hW.b20 (show iN a1 < 8 by omega)
                      refine hr_iload5 (q := 139) X dX5_copy_137 rfl ?_
                      refine hr_isub (v := (nI (A.1.1 20 (iN a1)) - a5)) (q := 140) X dX5_copy_139 rfl rfl ?_
                      refine hr_icmp_gt (q := 143) (tgt := 157) X dX5_copy_140 rfl (by decide) (fun c140 => ?_) (fun c140 => ?_)
                      · refine hr_aload0 (q := 158) X dX5_copy_157 rfl ?_
                        refine hr_bipush (v := (-5)) (q := 160) X dX5_copy_158 rfl rfl ?_
                        refine hr_callT (q := 163) (hc_V (n := 1) (ci := 5) (As := [.int (-5)]) X dX5_copy_160 rfl (tk_no X.tr hR hA (b := (-5)) (by decide)) q1523 cv_X5_no ⟨Nat.le_of_ble_eq_true rfl, Nat.le_of_ble_eq_true rfl⟩ rfl (Nat.le_of_ble_eq_true rfl) hR.om rfl rfl) rfl (fun G7 u7 hR7 hA7 => ?_)
                        exact hr_iret X hr dX5_copy_163 (tw_end (by rw [sq_copy, if_pos c5, if_pos c13, if_neg (show ¬ ((A.1.1 18 (iN a1)) = 2) by omega), if_neg (show ¬ ((A.1.1 18 (iN a2)) = 2) by omega), if_neg (show ¬ ((A.1.1 18 (iN a1)) = 1) by omega), if_neg (show ¬ ((A.1.1 18 (iN a1)) = 0) by omega), if_neg (show ¬ ((A.1.1 18 (iN a2)) = 0) by omega), if_pos c111, if_neg c122, if_neg c127, if_pos c140]) hR7 hA7)
                      · refine hr_iload4 (q := 145) X dX5_copy_143 rfl ?_
                        refine hr_aload0 (q := 146) X dX5_copy_145 rfl ?_
                        refine hr_getR (v := am 20) (q := 149) X dX5_copy_146 rfl fr_q1402_5 rfl hR.om (hR.f rfl) ?_
                        refine hr_iload2 (q := 150) X dX5_copy_149 rfl ?_
                        refine hr_ialdN (v := (nI (A.1.1 20 (iN a2)))) (q := 151) X dX5_copy_150 rfl (hR.ka (n := 8) rfl rfl rfl) (Or.inl rfl) (by omega) (by decide) ((hR.ar rfl _).trans (hA.s (by decide) (by decide) (by omega))) ?_
                        have b150 := hW.b20 (show iN a2 < 8 by omega)
                        refine hr_iload5 (q := 153) X dX5_copy_151 rfl ?_
                        refine hr_isub (v := (nI (A.1.1 20 (iN a2)) - a5)) (q := 154) X dX5_copy_153 rfl rfl ?_
                        refine hr_icmp_le (q := 157) (tgt := 164) X dX5_copy_154 rfl (by decide) (fun c154 => ?_) (fun c154 => ?_)
                        · have f1 := sp_fit (hW.b20 (j := iN a1) (by omega)) c122 (Int32.not_lt.mpr c111) (Int32.not_lt.mp c140)
                          have f2 := sp_fit (hW.b20 (j := iN a2) (by omega)) c127 (Int32.not_lt.mpr c111) c154
                          have f3 := hW.b20 (j := iN a1) (by omega); have f4 := hW.b20 (j := iN a2) (by omega)
                          have n164_3 := sp_geN c122
                          refine hr_L (L' := [some (.ref o), some (.int (nI (iN a1))), some (.int (nI (iN a2))), some (.int (nI (iN a3))), some (.int a4), some (.int a5), none]) (by rw [← n164_3.1]) ?_
                          have n164_4 := sp_geN c127
                          refine hr_L (L' := [some (.ref o), some (.int (nI (iN a1))), some (.int (nI (iN a2))), some (.int (nI (iN a3))), some (.int (nI (iN a4))), some (.int a5), none]) (by rw [← n164_4.1]) ?_
                          have n164_5 := sp_geN (Int32.not_lt.mpr c111)
                          refine hr_L (L' := [some (.ref o), some (.int (nI (iN a1))), some (.int (nI (iN a2))), some (.int (nI (iN a3))), some (.int (nI (iN a4))), some (.int (nI (iN a5))), none]) (by rw [← n164_5.1]) ?_
                          refine hr_iconst (v := (nI 0)) (q := 165) X dX5_copy_164 rfl rfl ?_
                          refine hr_istore6 (q := 167) X dX5_copy_165 rfl rfl (Nat.le_of_ble_eq_true rfl) ?_
                          have loop167 : ∀ (kr nr n : Nat) (G167 : hg_G) (u167 : tw_S) (i : Nat), tw_R G167 o am u167 → tw_A u167 (A) → (i ≤ iN a5) → (iN a5 + 1 ≤ i + n) → (∀ j, j < i → u167.2.2 23 j = A.2.2.2 (160 * iN a1 + iN a3 + j)) → hg_W p l e rm_X5_copy s m args below meth c (hg_Q below D lo args s rm_X5_copy G (tw_Po o am (sq_copy a1 a2 a3 a4 a5 A))) D lo G.1 7 kr nr G167 167 [some (.ref o), some (.int (nI (iN a1))), some (.int (nI (iN a2))), some (.int (nI (iN a3))), some (.int (nI (iN a4))), some (.int (nI (iN a5))), some (.int (nI i))] [] := by
                            intro kr nr n
                            induction n with
                            | zero =>
                              intro G167 u167 i hR167 hA167 h167_0 h167_1 h167_2
                              omega
                            | succ n ih167 =>
                              intro G167 u167 i hR167 hA167 h167_0 h167_1 h167_2
                              refine hr_iload6 (q := 169) X dX5_copy_167 rfl ?_
                              refine hr_iload5 (q := 171) X dX5_copy_169 rfl ?_
                              refine hr_icmpN_ge (q := 174) (tgt := 202) X dX5_copy_171 rfl (by decide) (by omega) (by omega) (fun c171 => ?_) (fun c171 => ?_)
                              · have z8 : i = iN a5 := by omega
                                subst z8
                                refine hr_iconst (v := (nI 0)) (q := 203) X dX5_copy_202 rfl rfl ?_
                                refine hr_istore6 (q := 205) X dX5_copy_203 rfl rfl (Nat.le_of_ble_eq_true rfl) ?_
                                have loop205 : ∀ (n : Nat) (G205 : hg_G) (u205 : tw_S) (i : Nat), tw_R G205 o am u205 → tw_A u205 (ab_cp A (iN a1) (iN a3) (iN a2) (iN a4) i) → (i ≤ iN a5) → (iN a5 + 1 ≤ i + n) → (∀ j, j < iN a5 → u205.2.2 23 j = A.2.2.2 (160 * iN a1 + iN a3 + j)) → hg_W p l e rm_X5_copy s m args below meth c (hg_Q below D lo args s rm_X5_copy G (tw_Po o am (sq_copy a1 a2 a3 a4 a5 A))) D lo G.1 7 kr nr G205 205 [some (.ref o), some (.int (nI (iN a1))), some (.int (nI (iN a2))), some (.int (nI (iN a3))), some (.int (nI (iN a4))), some (.int (nI (iN a5))), some (.int (nI i))] [] := by
                                  intro n
                                  induction n with
                                  | zero =>
                                    intro G205 u205 i hR205 hA205 h205_0 h205_1 h205_2
                                    omega
                                  | succ n ih205 =>
                                    intro G205 u205 i hR205 hA205 h205_0 h205_1 h205_2
                                    refine hr_iload6 (q := 207) X dX5_copy_205 rfl ?_
                                    refine hr_iload5 (q := 209) X dX5_copy_207 rfl ?_
                                    refine hr_icmpN_ge (q := 212) (tgt := 241) X dX5_copy_209 rfl (by decide) (by omega) (by omega) (fun c209 => ?_) (fun c209 => ?_)
                                    · have z9 : i = iN a5 := by omega
                                      subst z9
                                      refine hr_iconst (v := (nI 1)) (q := 242) X dX5_copy_241 rfl rfl ?_
                                      exact hr_iret X hr dX5_copy_242 (tw_end (by rw [sq_copy, if_pos c5, if_pos c13, if_neg (show ¬ ((A.1.1 18 (iN a1)) = 2) by omega), if_neg (show ¬ ((A.1.1 18 (iN a2)) = 2) by omega), if_neg (show ¬ ((A.1.1 18 (iN a1)) = 1) by omega), if_neg (show ¬ ((A.1.1 18 (iN a1)) = 0) by omega), if_neg (show ¬ ((A.1.1 18 (iN a2)) = 0) by omega), if_pos c111, if_neg c122, if_neg c127, if_neg c140, if_pos c154]) hR205 hA205)
                                    · refine hr_aload0 (q := 213) X dX5_copy_212 rfl ?_
                                      refine hr_getR (v := am 22) (q := 216) X dX5_copy_213 rfl fr_q1404_5 rfl hR205.om (hR205.f rfl) ?_
                                      refine hr_sipush (v := (nI 160)) (q := 219) X dX5_copy_216 rfl rfl ?_
                                      refine hr_iload2 (q := 220) X dX5_copy_219 rfl ?_
                                      refine hr_imul (v := (nI (160 * (iN a2)))) (q := 221) X dX5_copy_220 rfl (pk_mul _ _) ?_
                                      refine hr_iload4 (q := 223) X dX5_copy_221 rfl ?_
                                      refine hr_iadd (v := (nI (160 * (iN a2) + (iN a4)))) (q := 224) X dX5_copy_223 rfl (nI_add _ _) ?_
                                      refine hr_iload6 (q := 226) X dX5_copy_224 rfl ?_
                                      refine hr_iadd (v := (nI (160 * (iN a2) + (iN a4) + i))) (q := 227) X dX5_copy_226 rfl (nI_add _ _) ?_
                                      refine hr_aload0 (q := 228) X dX5_copy_227 rfl ?_
                                      refine hr_getR (v := am 23) (q := 231) X dX5_copy_228 rfl fr_q1405_5 rfl hR205.om (hR205.f rfl) ?_
                                      refine hr_iload6 (q := 233) X dX5_copy_231 rfl ?_
                                      refine hr_laldN (v := (A.2.2.2 (160 * iN a1 + iN a3 + i))) (q := 234) X dX5_copy_233 rfl (hR205.ka (n := 160) rfl rfl rfl) (by omega) (by decide) ((hR205.lg rfl _).trans (h205_2 i (by omega))) ?_
                                      refine hr_lastN (q := 235) X dX5_copy_234 rfl (hR205.ka (n := 1280) rfl rfl rfl) (by omega) (by decide) ?_
                                      have hR10 := hR205.setJ (k := 22) rfl (160 * (iN a2) + (iN a4) + i) (A.2.2.2 (160 * iN a1 + iN a3 + i))
                                      have hA10 := hA205.cJ (160 * (iN a2) + (iN a4) + i) (A.2.2.2 (160 * iN a1 + iN a3 + i))
                                      refine hr_iinc6 (v := (nI (i + 1))) (q := 238) X dX5_copy_235 rfl (nI_add _ _) rfl (Nat.le_of_ble_eq_true rfl) ?_
                                      refine hr_goto (tgt := 205) X dX5_copy_238 (by decide) ?_
                                      exact ih205 (hs_J G205 (am 22) (160 * (iN a2) + (iN a4) + i) (A.2.2.2 (160 * iN a1 + iN a3 + i))) (tw_setJ u205 22 (160 * (iN a2) + (iN a4) + i) (A.2.2.2 (160 * iN a1 + iN a3 + i))) (i + 1) hR10 (by rw [← ab_cp_s]; exact hA10) (by omega) (by omega) h205_2
                                exact loop205 (iN a5 + 1) G167 u167 0 hR167 (by rw [ab_cp_0]; exact hA167) (by omega) (by omega) h167_2
                              · refine hr_aload0 (q := 175) X dX5_copy_174 rfl ?_
                                refine hr_getR (v := am 23) (q := 178) X dX5_copy_175 rfl fr_q1405_5 rfl hR167.om (hR167.f rfl) ?_
                                refine hr_iload6 (q := 180) X dX5_copy_178 rfl ?_
                                refine hr_aload0 (q := 181) X dX5_copy_180 rfl ?_
                                refine hr_getR (v := am 22) (q := 184) X dX5_copy_181 rfl fr_q1404_5 rfl hR167.om (hR167.f rfl) ?_
                                refine hr_sipush (v := (nI 160)) (q := 187) X dX5_copy_184 rfl rfl ?_
                                refine hr_iload1 (q := 188) X dX5_copy_187 rfl ?_
                                refine hr_imul (v := (nI (160 * (iN a1)))) (q := 189) X dX5_copy_188 rfl (pk_mul _ _) ?_
                                refine hr_iload3 (q := 190) X dX5_copy_189 rfl ?_
                                refine hr_iadd (v := (nI (160 * (iN a1) + (iN a3)))) (q := 191) X dX5_copy_190 rfl (nI_add _ _) ?_
                                refine hr_iload6 (q := 193) X dX5_copy_191 rfl ?_
                                refine hr_iadd (v := (nI (160 * (iN a1) + (iN a3) + i))) (q := 194) X dX5_copy_193 rfl (nI_add _ _) ?_
                                refine hr_laldN (v := (A.2.2.2 (160 * iN a1 + iN a3 + i))) (q := 195) X dX5_copy_194 rfl (hR167.ka (n := 1280) rfl rfl rfl) (by omega) (by decide) ((hR167.lg rfl _).trans (hA167.ce _)) ?_
                                refine hr_lastN (q := 196) X dX5_copy_195 rfl (hR167.ka (n := 160) rfl rfl rfl) (by omega) (by decide) ?_
                                have hR11 := hR167.setJ (k := 23) rfl i (A.2.2.2 (160 * iN a1 + iN a3 + i))
                                have hA11 := hA167.scJ i (A.2.2.2 (160 * iN a1 + iN a3 + i))
                                refine hr_iinc6 (v := (nI (i + 1))) (q := 199) X dX5_copy_196 rfl (nI_add _ _) rfl (Nat.le_of_ble_eq_true rfl) ?_
                                refine hr_goto (tgt := 167) X dX5_copy_199 (by decide) ?_
                                exact ih167 (hs_J G167 (am 23) i (A.2.2.2 (160 * iN a1 + iN a3 + i))) (tw_setJ u167 23 i (A.2.2.2 (160 * iN a1 + iN a3 + i))) (i + 1) hR11 hA11 (by omega) (by omega) (sp_ext (fun j hj => (if_neg (by omega)).trans (h167_2 j hj)) (if_pos rfl))
                          exact loop167 _ _ (iN a5 + 1) G u 0 hR hA (by omega) (by omega) (fun j hj => absurd hj (Nat.not_lt_zero _))
                        · refine hr_aload0 (q := 158) X dX5_copy_157 rfl ?_
                          refine hr_bipush (v := (-5)) (q := 160) X dX5_copy_158 rfl rfl ?_
                          refine hr_callT (q := 163) (hc_V (n := 1) (ci := 5) (As := [.int (-5)]) X dX5_copy_160 rfl (tk_no X.tr hR hA (b := (-5)) (by decide)) q1523 cv_X5_no ⟨Nat.le_of_ble_eq_true rfl, Nat.le_of_ble_eq_true rfl⟩ rfl (Nat.le_of_ble_eq_true rfl) hR.om rfl rfl) rfl (fun G12 u12 hR12 hA12 => ?_)
                          exact hr_iret X hr dX5_copy_163 (tw_end (by rw [sq_copy, if_pos c5, if_pos c13, if_neg (show ¬ ((A.1.1 18 (iN a1)) = 2) by omega), if_neg (show ¬ ((A.1.1 18 (iN a2)) = 2) by omega), if_neg (show ¬ ((A.1.1 18 (iN a1)) = 1) by omega), if_neg (show ¬ ((A.1.1 18 (iN a1)) = 0) by omega), if_neg (show ¬ ((A.1.1 18 (iN a2)) = 0) by omega), if_pos c111, if_neg c122, if_neg c127, if_neg c140, if_neg c154]) hR12 hA12)
                · refine hr_aload0 (q := 115) X dX5_copy_114 rfl ?_
                  refine hr_bipush (v := (-4)) (q := 117) X dX5_copy_115 rfl rfl ?_
                  refine hr_callT (q := 120) (hc_V (n := 1) (ci := 5) (As := [.int (-4)]) X dX5_copy_117 rfl (tk_no X.tr hR hA (b := (-4)) (by decide)) q1523 cv_X5_no ⟨Nat.le_of_ble_eq_true rfl, Nat.le_of_ble_eq_true rfl⟩ rfl (Nat.le_of_ble_eq_true rfl) hR.om rfl rfl) rfl (fun G13 u13 hR13 hA13 => ?_)
                  exact hr_iret X hr dX5_copy_120 (tw_end (by rw [sq_copy, if_pos c5, if_pos c13, if_neg (show ¬ ((A.1.1 18 (iN a1)) = 2) by omega), if_neg (show ¬ ((A.1.1 18 (iN a2)) = 2) by omega), if_neg (show ¬ ((A.1.1 18 (iN a1)) = 1) by omega), if_neg (show ¬ ((A.1.1 18 (iN a1)) = 0) by omega), if_neg (show ¬ ((A.1.1 18 (iN a2)) = 0) by omega), if_neg c111]) hR13 hA13)
              · refine hr_aload0 (q := 103) X dX5_copy_102 rfl ?_
                refine hr_bipush (v := (-3)) (q := 105) X dX5_copy_103 rfl rfl ?_
                refine hr_callT (q := 108) (hc_V (n := 1) (ci := 5) (As := [.int (-3)]) X dX5_copy_105 rfl (tk_no X.tr hR hA (b := (-3)) (by decide)) q1523 cv_X5_no ⟨Nat.le_of_ble_eq_true rfl, Nat.le_of_ble_eq_true rfl⟩ rfl (Nat.le_of_ble_eq_true rfl) hR.om rfl rfl) rfl (fun G14 u14 hR14 hA14 => ?_)
                exact hr_iret X hr dX5_copy_108 (tw_end (by rw [sq_copy, if_pos c5, if_pos c13, if_neg (show ¬ ((A.1.1 18 (iN a1)) = 2) by omega), if_neg (show ¬ ((A.1.1 18 (iN a2)) = 2) by omega), if_neg (show ¬ ((A.1.1 18 (iN a1)) = 1) by omega), if_neg (show ¬ ((A.1.1 18 (iN a1)) = 0) by omega), if_pos (show (A.1.1 18 (iN a2)) = 0 by omega)]) hR14 hA14)
          · refine hr_aload0 (q := 53) X dX5_copy_52 rfl ?_
            refine hr_getR (v := am 18) (q := 56) X dX5_copy_53 rfl fr_q1400_5 rfl hR.om (hR.f rfl) ?_
            refine hr_iload2 (q := 57) X dX5_copy_56 rfl ?_
            refine hr_ialdN (v := (nI (A.1.1 18 (iN a2)))) (q := 58) X dX5_copy_57 rfl (hR.ka (n := 8) rfl rfl rfl) (Or.inl rfl) (by omega) (by decide) ((hR.ar rfl _).trans (hA.s (by decide) (by decide) (by omega))) ?_
            have b57 := hW.b18 (show iN a2 < 8 by omega)
            refine hr_iconst (v := (nI 1)) (q := 59) X dX5_copy_58 rfl rfl ?_
            refine hr_icmpN_ne (q := 62) (tgt := 84) X dX5_copy_59 rfl (by decide) (by omega) (by omega) (fun c59 => ?_) (fun c59 => ?_)
            · refine hr_aload0 (q := 85) X dX5_copy_84 rfl ?_
              refine hr_getR (v := am 18) (q := 88) X dX5_copy_85 rfl fr_q1400_5 rfl hR.om (hR.f rfl) ?_
              refine hr_iload1 (q := 89) X dX5_copy_88 rfl ?_
              refine hr_ialdN (v := (nI (A.1.1 18 (iN a1)))) (q := 90) X dX5_copy_89 rfl (hR.ka (n := 8) rfl rfl rfl) (Or.inl rfl) (by omega) (by decide) ((hR.ar rfl _).trans (hA.s (by decide) (by decide) (by omega))) ?_
              have b89 := hW.b18 (show iN a1 < 8 by omega)
              refine hr_ifN_eq (q := 93) (tgt := 102) X dX5_copy_90 rfl (by decide) (by omega) (fun c90 => ?_) (fun c90 => ?_)
              · refine hr_aload0 (q := 103) X dX5_copy_102 rfl ?_
                refine hr_bipush (v := (-3)) (q := 105) X dX5_copy_103 rfl rfl ?_
                refine hr_callT (q := 108) (hc_V (n := 1) (ci := 5) (As := [.int (-3)]) X dX5_copy_105 rfl (tk_no X.tr hR hA (b := (-3)) (by decide)) q1523 cv_X5_no ⟨Nat.le_of_ble_eq_true rfl, Nat.le_of_ble_eq_true rfl⟩ rfl (Nat.le_of_ble_eq_true rfl) hR.om rfl rfl) rfl (fun G15 u15 hR15 hA15 => ?_)
                exact hr_iret X hr dX5_copy_108 (tw_end (by rw [sq_copy, if_pos c5, if_pos c13, if_neg (show ¬ ((A.1.1 18 (iN a1)) = 2) by omega), if_neg (show ¬ ((A.1.1 18 (iN a2)) = 2) by omega), if_pos (show (A.1.1 18 (iN a1)) = 1 by omega), if_neg (show ¬ ((A.1.1 18 (iN a2)) = 1) by omega), if_pos (show (A.1.1 18 (iN a1)) = 0 by omega)]) hR15 hA15)
              · refine hr_aload0 (q := 94) X dX5_copy_93 rfl ?_
                refine hr_getR (v := am 18) (q := 97) X dX5_copy_94 rfl fr_q1400_5 rfl hR.om (hR.f rfl) ?_
                refine hr_iload2 (q := 98) X dX5_copy_97 rfl ?_
                refine hr_ialdN (v := (nI (A.1.1 18 (iN a2)))) (q := 99) X dX5_copy_98 rfl (hR.ka (n := 8) rfl rfl rfl) (Or.inl rfl) (by omega) (by decide) ((hR.ar rfl _).trans (hA.s (by decide) (by decide) (by omega))) ?_
                have b98 := hW.b18 (show iN a2 < 8 by omega)
                refine hr_ifN_ne (q := 102) (tgt := 109) X dX5_copy_99 rfl (by decide) (by omega) (fun c99 => ?_) (fun c99 => ?_)
                · refine hr_iload5 (q := 111) X dX5_copy_109 rfl ?_
                  refine hr_if_ge (q := 114) (tgt := 121) X dX5_copy_111 rfl (by decide) (fun c111 => ?_) (fun c111 => ?_)
                  · refine hr_iload3 (q := 122) X dX5_copy_121 rfl ?_
                    refine hr_if_lt (q := 125) (tgt := 157) X dX5_copy_122 rfl (by decide) (fun c122 => ?_) (fun c122 => ?_)
                    · refine hr_aload0 (q := 158) X dX5_copy_157 rfl ?_
                      refine hr_bipush (v := (-5)) (q := 160) X dX5_copy_158 rfl rfl ?_
                      refine hr_callT (q := 163) (hc_V (n := 1) (ci := 5) (As := [.int (-5)]) X dX5_copy_160 rfl (tk_no X.tr hR hA (b := (-5)) (by decide)) q1523 cv_X5_no ⟨Nat.le_of_ble_eq_true rfl, Nat.le_of_ble_eq_true rfl⟩ rfl (Nat.le_of_ble_eq_true rfl) hR.om rfl rfl) rfl (fun G16 u16 hR16 hA16 => ?_)
                      exact hr_iret X hr dX5_copy_163 (tw_end (by rw [sq_copy, if_pos c5, if_pos c13, if_neg (show ¬ ((A.1.1 18 (iN a1)) = 2) by omega), if_neg (show ¬ ((A.1.1 18 (iN a2)) = 2) by omega), if_pos (show (A.1.1 18 (iN a1)) = 1 by omega), if_neg (show ¬ ((A.1.1 18 (iN a2)) = 1) by omega), if_neg (show ¬ ((A.1.1 18 (iN a1)) = 0) by omega), if_neg (show ¬ ((A.1.1 18 (iN a2)) = 0) by omega), if_pos c111, if_pos c122]) hR16 hA16)
                    · refine hr_iload4 (q := 127) X dX5_copy_125 rfl ?_
                      refine hr_if_lt (q := 130) (tgt := 157) X dX5_copy_127 rfl (by decide) (fun c127 => ?_) (fun c127 => ?_)
                      · refine hr_aload0 (q := 158) X dX5_copy_157 rfl ?_
                        refine hr_bipush (v := (-5)) (q := 160) X dX5_copy_158 rfl rfl ?_
                        refine hr_callT (q := 163) (hc_V (n := 1) (ci := 5) (As := [.int (-5)]) X dX5_copy_160 rfl (tk_no X.tr hR hA (b := (-5)) (by decide)) q1523 cv_X5_no ⟨Nat.le_of_ble_eq_true rfl, Nat.le_of_ble_eq_true rfl⟩ rfl (Nat.le_of_ble_eq_true rfl) hR.om rfl rfl) rfl (fun G17 u17 hR17 hA17 => ?_)
                        exact hr_iret X hr dX5_copy_163 (tw_end (by rw [sq_copy, if_pos c5, if_pos c13, if_neg (show ¬ ((A.1.1 18 (iN a1)) = 2) by omega), if_neg (show ¬ ((A.1.1 18 (iN a2)) = 2) by omega), if_pos (show (A.1.1 18 (iN a1)) = 1 by omega), if_neg (show ¬ ((A.1.1 18 (iN a2)) = 1) by omega), if_neg (show ¬ ((A.1.1 18 (iN a1)) = 0) by omega), if_neg (show ¬ ((A.1.1 18 (iN a2)) = 0) by omega), if_pos c111, if_neg c122, if_pos c127]) hR17 hA17)
                      · refine hr_iload3 (q := 131) X dX5_copy_130 rfl ?_
                        refine hr_aload0 (q := 132) X dX5_copy_131 rfl ?_
                        refine hr_getR (v := am 20) (q := 135) X dX5_copy_132 rfl fr_q1402_5 rfl hR.om (hR.f rfl) ?_
                        refine hr_iload1 (q := 136) X dX5_copy_135 rfl ?_
                        refine hr_ialdN (v := (nI (A.1.1 20 (iN a1)))) (q := 137) X dX5_copy_136 rfl (hR.ka (n := 8) rfl rfl rfl) (Or.inl rfl) (by omega) (by decide) ((hR.ar rfl _).trans (hA.s (by decide) (by decide) (by omega))) ?_
                        have b136 := hW.b20 (show iN a1 < 8 by omega)
                        refine hr_iload5 (q := 139) X dX5_copy_137 rfl ?_
                        refine hr_isub (v := (nI (A.1.1 20 (iN a1)) - a5)) (q := 140) X dX5_copy_139 rfl rfl ?_
                        refine hr_icmp_gt (q := 143) (tgt := 157) X dX5_copy_140 rfl (by decide) (fun c140 => ?_) (fun c140 => ?_)
                        · refine hr_aload0 (q := 158) X dX5_copy_157 rfl ?_
                          refine hr_bipush (v := (-5)) (q := 160) X dX5_copy_158 rfl rfl ?_
                          refine hr_callT (q := 163) (hc_V (n := 1) (ci := 5) (As := [.int (-5)]) X dX5_copy_160 rfl (tk_no X.tr hR hA (b := (-5)) (by decide)) q1523 cv_X5_no ⟨Nat.le_of_ble_eq_true rfl, Nat.le_of_ble_eq_true rfl⟩ rfl (Nat.le_of_ble_eq_true rfl) hR.om rfl rfl) rfl (fun G18 u18 hR18 hA18 => ?_)
                          exact hr_iret X hr dX5_copy_163 (tw_end (by rw [sq_copy, if_pos c5, if_pos c13, if_neg (show ¬ ((A.1.1 18 (iN a1)) = 2) by omega), if_neg (show ¬ ((A.1.1 18 (iN a2)) = 2) by omega), if_pos (show (A.1.1 18 (iN a1)) = 1 by omega), if_neg (show ¬ ((A.1.1 18 (iN a2)) = 1) by omega), if_neg (show ¬ ((A.1.1 18 (iN a1)) = 0) by omega), if_neg (show ¬ ((A.1.1 18 (iN a2)) = 0) by omega), if_pos c111, if_neg c122, if_neg c127, if_pos c140]) hR18 hA18)
                        · refine hr_iload4 (q := 145) X dX5_copy_143 rfl ?_
                          refine hr_aload0 (q := 146) X dX5_copy_145 rfl ?_
                          refine hr_getR (v := am 20) (q := 149) X dX5_copy_146 rfl fr_q1402_5 rfl hR.om (hR.f rfl) ?_
                          refine hr_iload2 (q := 150) X dX5_copy_149 rfl ?_
                          refine hr_ialdN (v := (nI (A.1.1 20 (iN a2)))) (q := 151) X dX5_copy_150 rfl (hR.ka (n := 8) rfl rfl rfl) (Or.inl rfl) (by omega) (by decide) ((hR.ar rfl _).trans (hA.s (by decide) (by decide) (by omega))) ?_
                          have b150 := hW.b20 (show iN a2 < 8 by omega)
                          refine hr_iload5 (q := 153) X dX5_copy_151 rfl ?_
                          refine hr_isub (v := (nI (A.1.1 20 (iN a2)) - a5)) (q := 154) X dX5_copy_153 rfl rfl ?_
                          refine hr_icmp_le (q := 157) (tgt := 164) X dX5_copy_154 rfl (by decide) (fun c154 => ?_) (fun c154 => ?_)
                          · have f1 := sp_fit (hW.b20 (j := iN a1) (by omega)) c122 (Int32.not_lt.mpr c111) (Int32.not_lt.mp c140)
                            have f2 := sp_fit (hW.b20 (j := iN a2) (by omega)) c127 (Int32.not_lt.mpr c111) c154
                            have f3 := hW.b20 (j := iN a1) (by omega); have f4 := hW.b20 (j := iN a2) (by omega)
                            have n164_3 := sp_geN c122
                            refine hr_L (L' := [some (.ref o), some (.int (nI (iN a1))), some (.int (nI (iN a2))), some (.int (nI (iN a3))), some (.int a4), some (.int a5), none]) (by rw [← n164_3.1]) ?_
                            have n164_4 := sp_geN c127
                            refine hr_L (L' := [some (.ref o), some (.int (nI (iN a1))), some (.int (nI (iN a2))), some (.int (nI (iN a3))), some (.int (nI (iN a4))), some (.int a5), none]) (by rw [← n164_4.1]) ?_
                            have n164_5 := sp_geN (Int32.not_lt.mpr c111)
                            refine hr_L (L' := [some (.ref o), some (.int (nI (iN a1))), some (.int (nI (iN a2))), some (.int (nI (iN a3))), some (.int (nI (iN a4))), some (.int (nI (iN a5))), none]) (by rw [← n164_5.1]) ?_
                            refine hr_iconst (v := (nI 0)) (q := 165) X dX5_copy_164 rfl rfl ?_
                            refine hr_istore6 (q := 167) X dX5_copy_165 rfl rfl (Nat.le_of_ble_eq_true rfl) ?_
                            have loop167 : ∀ (kr nr n : Nat) (G167 : hg_G) (u167 : tw_S) (i : Nat), tw_R G167 o am u167 → tw_A u167 (A) → (i ≤ iN a5) → (iN a5 + 1 ≤ i + n) → (∀ j, j < i → u167.2.2 23 j = A.2.2.2 (160 * iN a1 + iN a3 + j)) → hg_W p l e rm_X5_copy s m args below meth c (hg_Q below D lo args s rm_X5_copy G (tw_Po o am (sq_copy a1 a2 a3 a4 a5 A))) D lo G.1 7 kr nr G167 167 [some (.ref o), some (.int (nI (iN a1))), some (.int (nI (iN a2))), some (.int (nI (iN a3))), some (.int (nI (iN a4))), some (.int (nI (iN a5))), some (.int (nI i))] [] := by
                              intro kr nr n
                              induction n with
                              | zero =>
                                intro G167 u167 i hR167 hA167 h167_0 h167_1 h167_2
                                omega
                              | succ n ih167 =>
                                intro G167 u167 i hR167 hA167 h167_0 h167_1 h167_2
                                refine hr_iload6 (q := 169) X dX5_copy_167 rfl ?_
                                refine hr_iload5 (q := 171) X dX5_copy_169 rfl ?_
                                refine hr_icmpN_ge (q := 174) (tgt := 202) X dX5_copy_171 rfl (by decide) (by omega) (by omega) (fun c171 => ?_) (fun c171 => ?_)
                                · have z19 : i = iN a5 := by omega
                                  subst z19
                                  refine hr_iconst (v := (nI 0)) (q := 203) X dX5_copy_202 rfl rfl ?_
                                  refine hr_istore6 (q := 205) X dX5_copy_203 rfl rfl (Nat.le_of_ble_eq_true rfl) ?_
                                  have loop205 : ∀ (n : Nat) (G205 : hg_G) (u205 : tw_S) (i : Nat), tw_R G205 o am u205 → tw_A u205 (ab_cp A (iN a1) (iN a3) (iN a2) (iN a4) i) → (i ≤ iN a5) → (iN a5 + 1 ≤ i + n) → (∀ j, j < iN a5 → u205.2.2 23 j = A.2.2.2 (160 * iN a1 + iN a3 + j)) → hg_W p l e rm_X5_copy s m args below meth c (hg_Q below D lo args s rm_X5_copy G (tw_Po o am (sq_copy a1 a2 a3 a4 a5 A))) D lo G.1 7 kr nr G205 205 [some (.ref o), some (.int (nI (iN a1))), some (.int (nI (iN a2))), some (.int (nI (iN a3))), some (.int (nI (iN a4))), some (.int (nI (iN a5))), some (.int (nI i))] [] := by
                                    intro n
                                    induction n with
                                    | zero =>
                                      intro G205 u205 i hR205 hA205 h205_0 h205_1 h205_2
                                      omega
                                    | succ n ih205 =>
                                      intro G205 u205 i hR205 hA205 h205_0 h205_1 h205_2
                                      refine hr_iload6 (q := 207) X dX5_copy_205 rfl ?_
                                      refine hr_iload5 (q := 209) X dX5_copy_207 rfl ?_
                                      refine hr_icmpN_ge (q := 212) (tgt := 241) X dX5_copy_209 rfl (by decide) (by omega) (by omega) (fun c209 => ?_) (fun c209 => ?_)
                                      · have z20 : i = iN a5 := by omega
                                        subst z20
                                        refine hr_iconst (v := (nI 1)) (q := 242) X dX5_copy_241 rfl rfl ?_
                                        exact hr_iret X hr dX5_copy_242 (tw_end (by rw [sq_copy, if_pos c5, if_pos c13, if_neg (show ¬ ((A.1.1 18 (iN a1)) = 2) by omega), if_neg (show ¬ ((A.1.1 18 (iN a2)) = 2) by omega), if_pos (show (A.1.1 18 (iN a1)) = 1 by omega), if_neg (show ¬ ((A.1.1 18 (iN a2)) = 1) by omega), if_neg (show ¬ ((A.1.1 18 (iN a1)) = 0) by omega), if_neg (show ¬ ((A.1.1 18 (iN a2)) = 0) by omega), if_pos c111, if_neg c122, if_neg c127, if_neg c140, if_pos c154]) hR205 hA205)
                                      · refine hr_aload0 (q := 213) X dX5_copy_212 rfl ?_
                                        refine hr_getR (v := am 22) (q := 216) X dX5_copy_213 rfl fr_q1404_5 rfl hR205.om (hR205.f rfl) ?_
                                        refine hr_sipush (v := (nI 160)) (q := 219) X dX5_copy_216 rfl rfl ?_
                                        refine hr_iload2 (q := 220) X dX5_copy_219 rfl ?_
                                        refine hr_imul (v := (nI (160 * (iN a2)))) (q := 221) X dX5_copy_220 rfl (pk_mul _ _) ?_
                                        refine hr_iload4 (q := 223) X dX5_copy_221 rfl ?_
                                        refine hr_iadd (v := (nI (160 * (iN a2) + (iN a4)))) (q := 224) X dX5_copy_223 rfl (nI_add _ _) ?_
                                        refine hr_iload6 (q := 226) X dX5_copy_224 rfl ?_
                                        refine hr_iadd (v := (nI (160 * (iN a2) + (iN a4) + i))) (q := 227) X dX5_copy_226 rfl (nI_add _ _) ?_
                                        refine hr_aload0 (q := 228) X dX5_copy_227 rfl ?_
                                        refine hr_getR (v := am 23) (q := 231) X dX5_copy_228 rfl fr_q1405_5 rfl hR205.om (hR205.f rfl) ?_
                                        refine hr_iload6 (q := 233) X dX5_copy_231 rfl ?_
                                        refine hr_laldN (v := (A.2.2.2 (160 * iN a1 + iN a3 + i))) (q := 234) X dX5_copy_233 rfl (hR205.ka (n := 160) rfl rfl rfl) (by omega) (by decide) ((hR205.lg rfl _).trans (h205_2 i (by omega))) ?_
                                        refine hr_lastN (q := 235) X dX5_copy_234 rfl (hR205.ka (n := 1280) rfl rfl rfl) (by omega) (by decide) ?_
                                        have hR21 := hR205.setJ (k := 22) rfl (160 * (iN a2) + (iN a4) + i) (A.2.2.2 (160 * iN a1 + iN a3 + i))
                                        have hA21 := hA205.cJ (160 * (iN a2) + (iN a4) + i) (A.2.2.2 (160 * iN a1 + iN a3 + i))
                                        refine hr_iinc6 (v := (nI (i + 1))) (q := 238) X dX5_copy_235 rfl (nI_add _ _) rfl (Nat.le_of_ble_eq_true rfl) ?_
                                        refine hr_goto (tgt := 205) X dX5_copy_238 (by decide) ?_
                                        exact ih205 (hs_J G205 (am 22) (160 * (iN a2) + (iN a4) + i) (A.2.2.2 (160 * iN a1 + iN a3 + i))) (tw_setJ u205 22 (160 * (iN a2) + (iN a4) + i) (A.2.2.2 (160 * iN a1 + iN a3 + i))) (i + 1) hR21 (by rw [← ab_cp_s]; exact hA21) (by omega) (by omega) h205_2
                                  exact loop205 (iN a5 + 1) G167 u167 0 hR167 (by rw [ab_cp_0]; exact hA167) (by omega) (by omega) h167_2
                                · refine hr_aload0 (q := 175) X dX5_copy_174 rfl ?_
                                  refine hr_getR (v := am 23) (q := 178) X dX5_copy_175 rfl fr_q1405_5 rfl hR167.om (hR167.f rfl) ?_
                                  refine hr_iload6 (q := 180) X dX5_copy_178 rfl ?_
                                  refine hr_aload0 (q := 181) X dX5_copy_180 rfl ?_
                                  refine hr_getR (v := am 22) (q := 184) X dX5_copy_181 rfl fr_q1404_5 rfl hR167.om (hR167.f rfl) ?_
                                  refine hr_sipush (v := (nI 160)) (q := 187) X dX5_copy_184 rfl rfl ?_
                                  refine hr_iload1 (q := 188) X dX5_copy_187 rfl ?_
                                  refine hr_imul (v := (nI (160 * (iN a1)))) (q := 189) X dX5_copy_188 rfl (pk_mul _ _) ?_
                                  refine hr_iload3 (q := 190) X dX5_copy_189 rfl ?_
                                  refine hr_iadd (v := (nI (160 * (iN a1) + (iN a3)))) (q := 191) X dX5_copy_190 rfl (nI_add _ _) ?_
                                  refine hr_iload6 (q := 193) X dX5_copy_191 rfl ?_
                                  refine hr_iadd (v := (nI (160 * (iN a1) + (iN a3) + i))) (q := 194) X dX5_copy_193 rfl (nI_add _ _) ?_
                                  refine hr_laldN (v := (A.2.2.2 (160 * iN a1 + iN a3 + i))) (q := 195) X dX5_copy_194 rfl (hR167.ka (n := 1280) rfl rfl rfl) (by omega) (by decide) ((hR167.lg rfl _).trans (hA167.ce _)) ?_
                                  refine hr_lastN (q := 196) X dX5_copy_195 rfl (hR167.ka (n := 160) rfl rfl rfl) (by omega) (by decide) ?_
                                  have hR22 := hR167.setJ (k := 23) rfl i (A.2.2.2 (160 * iN a1 + iN a3 + i))
                                  have hA22 := hA167.scJ i (A.2.2.2 (160 * iN a1 + iN a3 + i))
                                  refine hr_iinc6 (v := (nI (i + 1))) (q := 199) X dX5_copy_196 rfl (nI_add _ _) rfl (Nat.le_of_ble_eq_true rfl) ?_
                                  refine hr_goto (tgt := 167) X dX5_copy_199 (by decide) ?_
                                  exact ih167 (hs_J G167 (am 23) i (A.2.2.2 (160 * iN a1 + iN a3 + i))) (tw_setJ u167 23 i (A.2.2.2 (160 * iN a1 + iN a3 + i))) (i + 1) hR22 hA22 (by omega) (by omega) (sp_ext (fun j hj => (if_neg (by omega)).trans (h167_2 j hj)) (if_pos rfl))
                            exact loop167 _ _ (iN a5 + 1) G u 0 hR hA (by omega) (by omega) (fun j hj => absurd hj (Nat.not_lt_zero _))
                          · refine hr_aload0 (q := 158) X dX5_copy_157 rfl ?_
                            refine hr_bipush (v := (-5)) (q := 160) X dX5_copy_158 rfl rfl ?_
                            refine hr_callT (q := 163) (hc_V (n := 1) (ci := 5) (As := [.int (-5)]) X dX5_copy_160 rfl (tk_no X.tr hR hA (b := (-5)) (by decide)) q1523 cv_X5_no ⟨Nat.le_of_ble_eq_true rfl, Nat.le_of_ble_eq_true rfl⟩ rfl (Nat.le_of_ble_eq_true rfl) hR.om rfl rfl) rfl (fun G23 u23 hR23 hA23 => ?_)
                            exact hr_iret X hr dX5_copy_163 (tw_end (by rw [sq_copy, if_pos c5, if_pos c13, if_neg (show ¬ ((A.1.1 18 (iN a1)) = 2) by omega), if_neg (show ¬ ((A.1.1 18 (iN a2)) = 2) by omega), if_pos (show (A.1.1 18 (iN a1)) = 1 by omega), if_neg (show ¬ ((A.1.1 18 (iN a2)) = 1) by omega), if_neg (show ¬ ((A.1.1 18 (iN a1)) = 0) by omega), if_neg (show ¬ ((A.1.1 18 (iN a2)) = 0) by omega), if_pos c111, if_neg c122, if_neg c127, if_neg c140, if_neg c154]) hR23 hA23)
                  · refine hr_aload0 (q := 115) X dX5_copy_114 rfl ?_
                    refine hr_bipush (v := (-4)) (q := 117) X dX5_copy_115 rfl rfl ?_
                    refine hr_callT (q := 120) (hc_V (n := 1) (ci := 5) (As := [.int (-4)]) X dX5_copy_117 rfl (tk_no X.tr hR hA (b := (-4)) (by decide)) q1523 cv_X5_no ⟨Nat.le_of_ble_eq_true rfl, Nat.le_of_ble_eq_true rfl⟩ rfl (Nat.le_of_ble_eq_true rfl) hR.om rfl rfl) rfl (fun G24 u24 hR24 hA24 => ?_)
                    exact hr_iret X hr dX5_copy_120 (tw_end (by rw [sq_copy, if_pos c5, if_pos c13, if_neg (show ¬ ((A.1.1 18 (iN a1)) = 2) by omega), if_neg (show ¬ ((A.1.1 18 (iN a2)) = 2) by omega), if_pos (show (A.1.1 18 (iN a1)) = 1 by omega), if_neg (show ¬ ((A.1.1 18 (iN a2)) = 1) by omega), if_neg (show ¬ ((A.1.1 18 (iN a1)) = 0) by omega), if_neg (show ¬ ((A.1.1 18 (iN a2)) = 0) by omega), if_neg c111]) hR24 hA24)
                · refine hr_aload0 (q := 103) X dX5_copy_102 rfl ?_
                  refine hr_bipush (v := (-3)) (q := 105) X dX5_copy_103 rfl rfl ?_
                  refine hr_callT (q := 108) (hc_V (n := 1) (ci := 5) (As := [.int (-3)]) X dX5_copy_105 rfl (tk_no X.tr hR hA (b := (-3)) (by decide)) q1523 cv_X5_no ⟨Nat.le_of_ble_eq_true rfl, Nat.le_of_ble_eq_true rfl⟩ rfl (Nat.le_of_ble_eq_true rfl) hR.om rfl rfl) rfl (fun G25 u25 hR25 hA25 => ?_)
                  exact hr_iret X hr dX5_copy_108 (tw_end (by rw [sq_copy, if_pos c5, if_pos c13, if_neg (show ¬ ((A.1.1 18 (iN a1)) = 2) by omega), if_neg (show ¬ ((A.1.1 18 (iN a2)) = 2) by omega), if_pos (show (A.1.1 18 (iN a1)) = 1 by omega), if_neg (show ¬ ((A.1.1 18 (iN a2)) = 1) by omega), if_neg (show ¬ ((A.1.1 18 (iN a1)) = 0) by omega), if_pos (show (A.1.1 18 (iN a2)) = 0 by omega)]) hR25 hA25)
            · refine hr_aload0 (q := 63) X dX5_copy_62 rfl ?_
              refine hr_getR (v := am 19) (q := 66) X dX5_copy_63 rfl fr_q1401_5 rfl hR.om (hR.f rfl) ?_
              refine hr_iload1 (q := 67) X dX5_copy_66 rfl ?_
              refine hr_ialdN (v := (nI (A.1.1 19 (iN a1)))) (q := 68) X dX5_copy_67 rfl (hR.ka (n := 8) rfl rfl rfl) (Or.inl rfl) (by omega) (by decide) ((hR.ar rfl _).trans (hA.s (by decide) (by decide) (by omega))) ?_
              have b67 := hW.b19 (show iN a1 < 8 by omega)
              refine hr_aload0 (q := 69) X dX5_copy_68 rfl ?_
              refine hr_getR (v := am 19) (q := 72) X dX5_copy_69 rfl fr_q1401_5 rfl hR.om (hR.f rfl) ?_
              refine hr_iload2 (q := 73) X dX5_copy_72 rfl ?_
              refine hr_ialdN (v := (nI (A.1.1 19 (iN a2)))) (q := 74) X dX5_copy_73 rfl (hR.ka (n := 8) rfl rfl rfl) (Or.inl rfl) (by omega) (by decide) ((hR.ar rfl _).trans (hA.s (by decide) (by decide) (by omega))) ?_
              have b73 := hW.b19 (show iN a2 < 8 by omega)
              refine hr_icmpN_eq (q := 77) (tgt := 84) X dX5_copy_74 rfl (by decide) (by omega) (by omega) (fun c74 => ?_) (fun c74 => ?_)
              · refine hr_aload0 (q := 85) X dX5_copy_84 rfl ?_
                refine hr_getR (v := am 18) (q := 88) X dX5_copy_85 rfl fr_q1400_5 rfl hR.om (hR.f rfl) ?_
                refine hr_iload1 (q := 89) X dX5_copy_88 rfl ?_
                refine hr_ialdN (v := (nI (A.1.1 18 (iN a1)))) (q := 90) X dX5_copy_89 rfl (hR.ka (n := 8) rfl rfl rfl) (Or.inl rfl) (by omega) (by decide) ((hR.ar rfl _).trans (hA.s (by decide) (by decide) (by omega))) ?_
                have b89 := hW.b18 (show iN a1 < 8 by omega)
                refine hr_ifN_eq (q := 93) (tgt := 102) X dX5_copy_90 rfl (by decide) (by omega) (fun c90 => ?_) (fun c90 => ?_)
                · refine hr_aload0 (q := 103) X dX5_copy_102 rfl ?_
                  refine hr_bipush (v := (-3)) (q := 105) X dX5_copy_103 rfl rfl ?_
                  refine hr_callT (q := 108) (hc_V (n := 1) (ci := 5) (As := [.int (-3)]) X dX5_copy_105 rfl (tk_no X.tr hR hA (b := (-3)) (by decide)) q1523 cv_X5_no ⟨Nat.le_of_ble_eq_true rfl, Nat.le_of_ble_eq_true rfl⟩ rfl (Nat.le_of_ble_eq_true rfl) hR.om rfl rfl) rfl (fun G26 u26 hR26 hA26 => ?_)
                  exact hr_iret X hr dX5_copy_108 (tw_end (by rw [sq_copy, if_pos c5, if_pos c13, if_neg (show ¬ ((A.1.1 18 (iN a1)) = 2) by omega), if_neg (show ¬ ((A.1.1 18 (iN a2)) = 2) by omega), if_pos (show (A.1.1 18 (iN a1)) = 1 by omega), if_pos (show (A.1.1 18 (iN a2)) = 1 by omega), if_pos (show (A.1.1 19 (iN a1)) = (A.1.1 19 (iN a2)) by omega), if_pos (show (A.1.1 18 (iN a1)) = 0 by omega)]) hR26 hA26)
                · refine hr_aload0 (q := 94) X dX5_copy_93 rfl ?_
                  refine hr_getR (v := am 18) (q := 97) X dX5_copy_94 rfl fr_q1400_5 rfl hR.om (hR.f rfl) ?_
                  refine hr_iload2 (q := 98) X dX5_copy_97 rfl ?_
                  refine hr_ialdN (v := (nI (A.1.1 18 (iN a2)))) (q := 99) X dX5_copy_98 rfl (hR.ka (n := 8) rfl rfl rfl) (Or.inl rfl) (by omega) (by decide) ((hR.ar rfl _).trans (hA.s (by decide) (by decide) (by omega))) ?_
                  have b98 := hW.b18 (show iN a2 < 8 by omega)
                  refine hr_ifN_ne (q := 102) (tgt := 109) X dX5_copy_99 rfl (by decide) (by omega) (fun c99 => ?_) (fun c99 => ?_)
                  · refine hr_iload5 (q := 111) X dX5_copy_109 rfl ?_
                    refine hr_if_ge (q := 114) (tgt := 121) X dX5_copy_111 rfl (by decide) (fun c111 => ?_) (fun c111 => ?_)
                    · refine hr_iload3 (q := 122) X dX5_copy_121 rfl ?_
                      refine hr_if_lt (q := 125) (tgt := 157) X dX5_copy_122 rfl (by decide) (fun c122 => ?_) (fun c122 => ?_)
                      · refine hr_aload0 (q := 158) X dX5_copy_157 rfl ?_
                        refine hr_bipush (v := (-5)) (q := 160) X dX5_copy_158 rfl rfl ?_
                        refine hr_callT (q := 163) (hc_V (n := 1) (ci := 5) (As := [.int (-5)]) X dX5_copy_160 rfl (tk_no X.tr hR hA (b := (-5)) (by decide)) q1523 cv_X5_no ⟨Nat.le_of_ble_eq_true rfl, Nat.le_of_ble_eq_true rfl⟩ rfl (Nat.le_of_ble_eq_true rfl) hR.om rfl rfl) rfl (fun G27 u27 hR27 hA27 => ?_)
                        exact hr_iret X hr dX5_copy_163 (tw_end (by rw [sq_copy, if_pos c5, if_pos c13, if_neg (show ¬ ((A.1.1 18 (iN a1)) = 2) by omega), if_neg (show ¬ ((A.1.1 18 (iN a2)) = 2) by omega), if_pos (show (A.1.1 18 (iN a1)) = 1 by omega), if_pos (show (A.1.1 18 (iN a2)) = 1 by omega), if_pos (show (A.1.1 19 (iN a1)) = (A.1.1 19 (iN a2)) by omega), if_neg (show ¬ ((A.1.1 18 (iN a1)) = 0) by omega), if_neg (show ¬ ((A.1.1 18 (iN a2)) = 0) by omega), if_pos c111, if_pos c122]) hR27 hA27)
                      · refine hr_iload4 (q := 127) X dX5_copy_125 rfl ?_
                        refine hr_if_lt (q := 130) (tgt := 157) X dX5_copy_127 rfl (by decide) (fun c127 => ?_) (fun c127 => ?_)
                        · refine hr_aload0 (q := 158) X dX5_copy_157 rfl ?_
                          refine hr_bipush (v := (-5)) (q := 160) X dX5_copy_158 rfl rfl ?_
                          refine hr_callT (q := 163) (hc_V (n := 1) (ci := 5) (As := [.int (-5)]) X dX5_copy_160 rfl (tk_no X.tr hR hA (b := (-5)) (by decide)) q1523 cv_X5_no ⟨Nat.le_of_ble_eq_true rfl, Nat.le_of_ble_eq_true rfl⟩ rfl (Nat.le_of_ble_eq_true rfl) hR.om rfl rfl) rfl (fun G28 u28 hR28 hA28 => ?_)
                          exact hr_iret X hr dX5_copy_163 (tw_end (by rw [sq_copy, if_pos c5, if_pos c13, if_neg (show ¬ ((A.1.1 18 (iN a1)) = 2) by omega), if_neg (show ¬ ((A.1.1 18 (iN a2)) = 2) by omega), if_pos (show (A.1.1 18 (iN a1)) = 1 by omega), if_pos (show (A.1.1 18 (iN a2)) = 1 by omega), if_pos (show (A.1.1 19 (iN a1)) = (A.1.1 19 (iN a2)) by omega), if_neg (show ¬ ((A.1.1 18 (iN a1)) = 0) by omega), if_neg (show ¬ ((A.1.1 18 (iN a2)) = 0) by omega), if_pos c111, if_neg c122, if_pos c127]) hR28 hA28)
                        · refine hr_iload3 (q := 131) X dX5_copy_130 rfl ?_
                          refine hr_aload0 (q := 132) X dX5_copy_131 rfl ?_
                          refine hr_getR (v := am 20) (q := 135) X dX5_copy_132 rfl fr_q1402_5 rfl hR.om (hR.f rfl) ?_
                          refine hr_iload1 (q := 136) X dX5_copy_135 rfl ?_
                          refine hr_ialdN (v := (nI (A.1.1 20 (iN a1)))) (q := 137) X dX5_copy_136 rfl (hR.ka (n := 8) rfl rfl rfl) (Or.inl rfl) (by omega) (by decide) ((hR.ar rfl _).trans (hA.s (by decide) (by decide) (by omega))) ?_
                          have b136 := hW.b20 (show iN a1 < 8 by omega)
                          refine hr_iload5 (q := 139) X dX5_copy_137 rfl ?_
                          refine hr_isub (v := (nI (A.1.1 20 (iN a1)) - a5)) (q := 140) X dX5_copy_139 rfl rfl ?_
                          refine hr_icmp_gt (q := 143) (tgt := 157) X dX5_copy_140 rfl (by decide) (fun c140 => ?_) (fun c140 => ?_)
                          · refine hr_aload0 (q := 158) X dX5_copy_157 rfl ?_
                            refine hr_bipush (v := (-5)) (q := 160) X dX5_copy_158 rfl rfl ?_
                            refine hr_callT (q := 163) (hc_V (n := 1) (ci := 5) (As := [.int (-5)]) X dX5_copy_160 rfl (tk_no X.tr hR hA (b := (-5)) (by decide)) q1523 cv_X5_no ⟨Nat.le_of_ble_eq_true rfl, Nat.le_of_ble_eq_true rfl⟩ rfl (Nat.le_of_ble_eq_true rfl) hR.om rfl rfl) rfl (fun G29 u29 hR29 hA29 => ?_)
                            exact hr_iret X hr dX5_copy_163 (tw_end (by rw [sq_copy, if_pos c5, if_pos c13, if_neg (show ¬ ((A.1.1 18 (iN a1)) = 2) by omega), if_neg (show ¬ ((A.1.1 18 (iN a2)) = 2) by omega), if_pos (show (A.1.1 18 (iN a1)) = 1 by omega), if_pos (show (A.1.1 18 (iN a2)) = 1 by omega), if_pos (show (A.1.1 19 (iN a1)) = (A.1.1 19 (iN a2)) by omega), if_neg (show ¬ ((A.1.1 18 (iN a1)) = 0) by omega), if_neg (show ¬ ((A.1.1 18 (iN a2)) = 0) by omega), if_pos c111, if_neg c122, if_neg c127, if_pos c140]) hR29 hA29)
                          · refine hr_iload4 (q := 145) X dX5_copy_143 rfl ?_
                            refine hr_aload0 (q := 146) X dX5_copy_145 rfl ?_
                            refine hr_getR (v := am 20) (q := 149) X dX5_copy_146 rfl fr_q1402_5 rfl hR.om (hR.f rfl) ?_
                            refine hr_iload2 (q := 150) X dX5_copy_149 rfl ?_
                            refine hr_ialdN (v := (nI (A.1.1 20 (iN a2)))) (q := 151) X dX5_copy_150 rfl (hR.ka (n := 8) rfl rfl rfl) (Or.inl rfl) (by omega) (by decide) ((hR.ar rfl _).trans (hA.s (by decide) (by decide) (by omega))) ?_
                            have b150 := hW.b20 (show iN a2 < 8 by omega)
                            refine hr_iload5 (q := 153) X dX5_copy_151 rfl ?_
                            refine hr_isub (v := (nI (A.1.1 20 (iN a2)) - a5)) (q := 154) X dX5_copy_153 rfl rfl ?_
                            refine hr_icmp_le (q := 157) (tgt := 164) X dX5_copy_154 rfl (by decide) (fun c154 => ?_) (fun c154 => ?_)
                            · have f1 := sp_fit (hW.b20 (j := iN a1) (by omega)) c122 (Int32.not_lt.mpr c111) (Int32.not_lt.mp c140)
                              have f2 := sp_fit (hW.b20 (j := iN a2) (by omega)) c127 (Int32.not_lt.mpr c111) c154
                              have f3 := hW.b20 (j := iN a1) (by omega); have f4 := hW.b20 (j := iN a2) (by omega)
                              have n164_3 := sp_geN c122
                              refine hr_L (L' := [some (.ref o), some (.int (nI (iN a1))), some (.int (nI (iN a2))), some (.int (nI (iN a3))), some (.int a4), some (.int a5), none]) (by rw [← n164_3.1]) ?_
                              have n164_4 := sp_geN c127
                              refine hr_L (L' := [some (.ref o), some (.int (nI (iN a1))), some (.int (nI (iN a2))), some (.int (nI (iN a3))), some (.int (nI (iN a4))), some (.int a5), none]) (by rw [← n164_4.1]) ?_
                              have n164_5 := sp_geN (Int32.not_lt.mpr c111)
                              refine hr_L (L' := [some (.ref o), some (.int (nI (iN a1))), some (.int (nI (iN a2))), some (.int (nI (iN a3))), some (.int (nI (iN a4))), some (.int (nI (iN a5))), none]) (by rw [← n164_5.1]) ?_
                              refine hr_iconst (v := (nI 0)) (q := 165) X dX5_copy_164 rfl rfl ?_
                              refine hr_istore6 (q := 167) X dX5_copy_165 rfl rfl (Nat.le_of_ble_eq_true rfl) ?_
                              have loop167 : ∀ (kr nr n : Nat) (G167 : hg_G) (u167 : tw_S) (i : Nat), tw_R G167 o am u167 → tw_A u167 (A) → (i ≤ iN a5) → (iN a5 + 1 ≤ i + n) → (∀ j, j < i → u167.2.2 23 j = A.2.2.2 (160 * iN a1 + iN a3 + j)) → hg_W p l e rm_X5_copy s m args below meth c (hg_Q below D lo args s rm_X5_copy G (tw_Po o am (sq_copy a1 a2 a3 a4 a5 A))) D lo G.1 7 kr nr G167 167 [some (.ref o), some (.int (nI (iN a1))), some (.int (nI (iN a2))), some (.int (nI (iN a3))), some (.int (nI (iN a4))), some (.int (nI (iN a5))), some (.int (nI i))] [] := by
                                intro kr nr n
                                induction n with
                                | zero =>
                                  intro G167 u167 i hR167 hA167 h167_0 h167_1 h167_2
                                  omega
                                | succ n ih167 =>
                                  intro G167 u167 i hR167 hA167 h167_0 h167_1 h167_2
                                  refine hr_iload6 (q := 169) X dX5_copy_167 rfl ?_
                                  refine hr_iload5 (q := 171) X dX5_copy_169 rfl ?_
                                  refine hr_icmpN_ge (q := 174) (tgt := 202) X dX5_copy_171 rfl (by decide) (by omega) (by omega) (fun c171 => ?_) (fun c171 => ?_)
                                  · have z30 : i = iN a5 := by omega
                                    subst z30
                                    refine hr_iconst (v := (nI 0)) (q := 203) X dX5_copy_202 rfl rfl ?_
                                    refine hr_istore6 (q := 205) X dX5_copy_203 rfl rfl (Nat.le_of_ble_eq_true rfl) ?_
                                    have loop205 : ∀ (n : Nat) (G205 : hg_G) (u205 : tw_S) (i : Nat), tw_R G205 o am u205 → tw_A u205 (ab_cp A (iN a1) (iN a3) (iN a2) (iN a4) i) → (i ≤ iN a5) → (iN a5 + 1 ≤ i + n) → (∀ j, j < iN a5 → u205.2.2 23 j = A.2.2.2 (160 * iN a1 + iN a3 + j)) → hg_W p l e rm_X5_copy s m args below meth c (hg_Q below D lo args s rm_X5_copy G (tw_Po o am (sq_copy a1 a2 a3 a4 a5 A))) D lo G.1 7 kr nr G205 205 [some (.ref o), some (.int (nI (iN a1))), some (.int (nI (iN a2))), some (.int (nI (iN a3))), some (.int (nI (iN a4))), some (.int (nI (iN a5))), some (.int (nI i))] [] := by
                                      intro n
                                      induction n with
                                      | zero =>
                                        intro G205 u205 i hR205 hA205 h205_0 h205_1 h205_2
                                        omega
                                      | succ n ih205 =>
                                        intro G205 u205 i hR205 hA205 h205_0 h205_1 h205_2
                                        refine hr_iload6 (q := 207) X dX5_copy_205 rfl ?_
                                        refine hr_iload5 (q := 209) X dX5_copy_207 rfl ?_
                                        refine hr_icmpN_ge (q := 212) (tgt := 241) X dX5_copy_209 rfl (by decide) (by omega) (by omega) (fun c209 => ?_) (fun c209 => ?_)
                                        · have z31 : i = iN a5 := by omega
                                          subst z31
                                          refine hr_iconst (v := (nI 1)) (q := 242) X dX5_copy_241 rfl rfl ?_
                                          exact hr_iret X hr dX5_copy_242 (tw_end (by rw [sq_copy, if_pos c5, if_pos c13, if_neg (show ¬ ((A.1.1 18 (iN a1)) = 2) by omega), if_neg (show ¬ ((A.1.1 18 (iN a2)) = 2) by omega), if_pos (show (A.1.1 18 (iN a1)) = 1 by omega), if_pos (show (A.1.1 18 (iN a2)) = 1 by omega), if_pos (show (A.1.1 19 (iN a1)) = (A.1.1 19 (iN a2)) by omega), if_neg (show ¬ ((A.1.1 18 (iN a1)) = 0) by omega), if_neg (show ¬ ((A.1.1 18 (iN a2)) = 0) by omega), if_pos c111, if_neg c122, if_neg c127, if_neg c140, if_pos c154]) hR205 hA205)
                                        · refine hr_aload0 (q := 213) X dX5_copy_212 rfl ?_
                                          refine hr_getR (v := am 22) (q := 216) X dX5_copy_213 rfl fr_q1404_5 rfl hR205.om (hR205.f rfl) ?_
                                          refine hr_sipush (v := (nI 160)) (q := 219) X dX5_copy_216 rfl rfl ?_
                                          refine hr_iload2 (q := 220) X dX5_copy_219 rfl ?_
                                          refine hr_imul (v := (nI (160 * (iN a2)))) (q := 221) X dX5_copy_220 rfl (pk_mul _ _) ?_
                                          refine hr_iload4 (q := 223) X dX5_copy_221 rfl ?_
                                          refine hr_iadd (v := (nI (160 * (iN a2) + (iN a4)))) (q := 224) X dX5_copy_223 rfl (nI_add _ _) ?_
                                          refine hr_iload6 (q := 226) X dX5_copy_224 rfl ?_
                                          refine hr_iadd (v := (nI (160 * (iN a2) + (iN a4) + i))) (q := 227) X dX5_copy_226 rfl (nI_add _ _) ?_
                                          refine hr_aload0 (q := 228) X dX5_copy_227 rfl ?_
                                          refine hr_getR (v := am 23) (q := 231) X dX5_copy_228 rfl fr_q1405_5 rfl hR205.om (hR205.f rfl) ?_
                                          refine hr_iload6 (q := 233) X dX5_copy_231 rfl ?_
                                          refine hr_laldN (v := (A.2.2.2 (160 * iN a1 + iN a3 + i))) (q := 234) X dX5_copy_233 rfl (hR205.ka (n := 160) rfl rfl rfl) (by omega) (by decide) ((hR205.lg rfl _).trans (h205_2 i (by omega))) ?_
                                          refine hr_lastN (q := 235) X dX5_copy_234 rfl (hR205.ka (n := 1280) rfl rfl rfl) (by omega) (by decide) ?_
                                          have hR32 := hR205.setJ (k := 22) rfl (160 * (iN a2) + (iN a4) + i) (A.2.2.2 (160 * iN a1 + iN a3 + i))
                                          have hA32 := hA205.cJ (160 * (iN a2) + (iN a4) + i) (A.2.2.2 (160 * iN a1 + iN a3 + i))
                                          refine hr_iinc6 (v := (nI (i + 1))) (q := 238) X dX5_copy_235 rfl (nI_add _ _) rfl (Nat.le_of_ble_eq_true rfl) ?_
                                          refine hr_goto (tgt := 205) X dX5_copy_238 (by decide) ?_
                                          exact ih205 (hs_J G205 (am 22) (160 * (iN a2) + (iN a4) + i) (A.2.2.2 (160 * iN a1 + iN a3 + i))) (tw_setJ u205 22 (160 * (iN a2) + (iN a4) + i) (A.2.2.2 (160 * iN a1 + iN a3 + i))) (i + 1) hR32 (by rw [← ab_cp_s]; exact hA32) (by omega) (by omega) h205_2
                                    exact loop205 (iN a5 + 1) G167 u167 0 hR167 (by rw [ab_cp_0]; exact hA167) (by omega) (by omega) h167_2
                                  · refine hr_aload0 (q := 175) X dX5_copy_174 rfl ?_
                                    refine hr_getR (v := am 23) (q := 178) X dX5_copy_175 rfl fr_q1405_5 rfl hR167.om (hR167.f rfl) ?_
                                    refine hr_iload6 (q := 180) X dX5_copy_178 rfl ?_
                                    refine hr_aload0 (q := 181) X dX5_copy_180 rfl ?_
                                    refine hr_getR (v := am 22) (q := 184) X dX5_copy_181 rfl fr_q1404_5 rfl hR167.om (hR167.f rfl) ?_
                                    refine hr_sipush (v := (nI 160)) (q := 187) X dX5_copy_184 rfl rfl ?_
                                    refine hr_iload1 (q := 188) X dX5_copy_187 rfl ?_
                                    refine hr_imul (v := (nI (160 * (iN a1)))) (q := 189) X dX5_copy_188 rfl (pk_mul _ _) ?_
                                    refine hr_iload3 (q := 190) X dX5_copy_189 rfl ?_
                                    refine hr_iadd (v := (nI (160 * (iN a1) + (iN a3)))) (q := 191) X dX5_copy_190 rfl (nI_add _ _) ?_
                                    refine hr_iload6 (q := 193) X dX5_copy_191 rfl ?_
                                    refine hr_iadd (v := (nI (160 * (iN a1) + (iN a3) + i))) (q := 194) X dX5_copy_193 rfl (nI_add _ _) ?_
                                    refine hr_laldN (v := (A.2.2.2 (160 * iN a1 + iN a3 + i))) (q := 195) X dX5_copy_194 rfl (hR167.ka (n := 1280) rfl rfl rfl) (by omega) (by decide) ((hR167.lg rfl _).trans (hA167.ce _)) ?_
                                    refine hr_lastN (q := 196) X dX5_copy_195 rfl (hR167.ka (n := 160) rfl rfl rfl) (by omega) (by decide) ?_
                                    have hR33 := hR167.setJ (k := 23) rfl i (A.2.2.2 (160 * iN a1 + iN a3 + i))
                                    have hA33 := hA167.scJ i (A.2.2.2 (160 * iN a1 + iN a3 + i))
                                    refine hr_iinc6 (v := (nI (i + 1))) (q := 199) X dX5_copy_196 rfl (nI_add _ _) rfl (Nat.le_of_ble_eq_true rfl) ?_
                                    refine hr_goto (tgt := 167) X dX5_copy_199 (by decide) ?_
                                    exact ih167 (hs_J G167 (am 23) i (A.2.2.2 (160 * iN a1 + iN a3 + i))) (tw_setJ u167 23 i (A.2.2.2 (160 * iN a1 + iN a3 + i))) (i + 1) hR33 hA33 (by omega) (by omega) (sp_ext (fun j hj => (if_neg (by omega)).trans (h167_2 j hj)) (if_pos rfl))
                              exact loop167 _ _ (iN a5 + 1) G u 0 hR hA (by omega) (by omega) (fun j hj => absurd hj (Nat.not_lt_zero _))
                            · refine hr_aload0 (q := 158) X dX5_copy_157 rfl ?_
                              refine hr_bipush (v := (-5)) (q := 160) X dX5_copy_158 rfl rfl ?_
                              refine hr_callT (q := 163) (hc_V (n := 1) (ci := 5) (As := [.int (-5)]) X dX5_copy_160 rfl (tk_no X.tr hR hA (b := (-5)) (by decide)) q1523 cv_X5_no ⟨Nat.le_of_ble_eq_true rfl, Nat.le_of_ble_eq_true rfl⟩ rfl (Nat.le_of_ble_eq_true rfl) hR.om rfl rfl) rfl (fun G34 u34 hR34 hA34 => ?_)
                              exact hr_iret X hr dX5_copy_163 (tw_end (by rw [sq_copy, if_pos c5, if_pos c13, if_neg (show ¬ ((A.1.1 18 (iN a1)) = 2) by omega), if_neg (show ¬ ((A.1.1 18 (iN a2)) = 2) by omega), if_pos (show (A.1.1 18 (iN a1)) = 1 by omega), if_pos (show (A.1.1 18 (iN a2)) = 1 by omega), if_pos (show (A.1.1 19 (iN a1)) = (A.1.1 19 (iN a2)) by omega), if_neg (show ¬ ((A.1.1 18 (iN a1)) = 0) by omega), if_neg (show ¬ ((A.1.1 18 (iN a2)) = 0) by omega), if_pos c111, if_neg c122, if_neg c127, if_neg c140, if_neg c154]) hR34 hA34)
                    · refine hr_aload0 (q := 115) X dX5_copy_114 rfl ?_
                      refine hr_bipush (v := (-4)) (q := 117) X dX5_copy_115 rfl rfl ?_
                      refine hr_callT (q := 120) (hc_V (n := 1) (ci := 5) (As := [.int (-4)]) X dX5_copy_117 rfl (tk_no X.tr hR hA (b := (-4)) (by decide)) q1523 cv_X5_no ⟨Nat.le_of_ble_eq_true rfl, Nat.le_of_ble_eq_true rfl⟩ rfl (Nat.le_of_ble_eq_true rfl) hR.om rfl rfl) rfl (fun G35 u35 hR35 hA35 => ?_)
                      exact hr_iret X hr dX5_copy_120 (tw_end (by rw [sq_copy, if_pos c5, if_pos c13, if_neg (show ¬ ((A.1.1 18 (iN a1)) = 2) by omega), if_neg (show ¬ ((A.1.1 18 (iN a2)) = 2) by omega), if_pos (show (A.1.1 18 (iN a1)) = 1 by omega), if_pos (show (A.1.1 18 (iN a2)) = 1 by omega), if_pos (show (A.1.1 19 (iN a1)) = (A.1.1 19 (iN a2)) by omega), if_neg (show ¬ ((A.1.1 18 (iN a1)) = 0) by omega), if_neg (show ¬ ((A.1.1 18 (iN a2)) = 0) by omega), if_neg c111]) hR35 hA35)
                  · refine hr_aload0 (q := 103) X dX5_copy_102 rfl ?_
                    refine hr_bipush (v := (-3)) (q := 105) X dX5_copy_103 rfl rfl ?_
                    refine hr_callT (q := 108) (hc_V (n := 1) (ci := 5) (As := [.int (-3)]) X dX5_copy_105 rfl (tk_no X.tr hR hA (b := (-3)) (by decide)) q1523 cv_X5_no ⟨Nat.le_of_ble_eq_true rfl, Nat.le_of_ble_eq_true rfl⟩ rfl (Nat.le_of_ble_eq_true rfl) hR.om rfl rfl) rfl (fun G36 u36 hR36 hA36 => ?_)
                    exact hr_iret X hr dX5_copy_108 (tw_end (by rw [sq_copy, if_pos c5, if_pos c13, if_neg (show ¬ ((A.1.1 18 (iN a1)) = 2) by omega), if_neg (show ¬ ((A.1.1 18 (iN a2)) = 2) by omega), if_pos (show (A.1.1 18 (iN a1)) = 1 by omega), if_pos (show (A.1.1 18 (iN a2)) = 1 by omega), if_pos (show (A.1.1 19 (iN a1)) = (A.1.1 19 (iN a2)) by omega), if_neg (show ¬ ((A.1.1 18 (iN a1)) = 0) by omega), if_pos (show (A.1.1 18 (iN a2)) = 0 by omega)]) hR36 hA36)
              · refine hr_aload0 (q := 78) X dX5_copy_77 rfl ?_
                refine hr_bipush (v := (-2)) (q := 80) X dX5_copy_78 rfl rfl ?_
                refine hr_callT (q := 83) (hc_V (n := 1) (ci := 5) (As := [.int (-2)]) X dX5_copy_80 rfl (tk_no X.tr hR hA (b := (-2)) (by decide)) q1523 cv_X5_no ⟨Nat.le_of_ble_eq_true rfl, Nat.le_of_ble_eq_true rfl⟩ rfl (Nat.le_of_ble_eq_true rfl) hR.om rfl rfl) rfl (fun G37 u37 hR37 hA37 => ?_)
                exact hr_iret X hr dX5_copy_83 (tw_end (by rw [sq_copy, if_pos c5, if_pos c13, if_neg (show ¬ ((A.1.1 18 (iN a1)) = 2) by omega), if_neg (show ¬ ((A.1.1 18 (iN a2)) = 2) by omega), if_pos (show (A.1.1 18 (iN a1)) = 1 by omega), if_pos (show (A.1.1 18 (iN a2)) = 1 by omega), if_neg (show ¬ ((A.1.1 19 (iN a1)) = (A.1.1 19 (iN a2))) by omega)]) hR37 hA37)
    · refine hr_aload0 (q := 17) X dX5_copy_16 rfl ?_
      refine hr_iconst (v := (-1)) (q := 18) X dX5_copy_17 rfl rfl ?_
      refine hr_callT (q := 21) (hc_V (n := 1) (ci := 5) (As := [.int (-1)]) X dX5_copy_18 rfl (tk_no X.tr hR hA (b := (-1)) (by decide)) q1523 cv_X5_no ⟨Nat.le_of_ble_eq_true rfl, Nat.le_of_ble_eq_true rfl⟩ rfl (Nat.le_of_ble_eq_true rfl) hR.om rfl rfl) rfl (fun G38 u38 hR38 hA38 => ?_)
      exact hr_iret X hr dX5_copy_21 (tw_end (by rw [sq_copy, if_pos c5, if_neg (by rw [c13]; decide)]) hR38 hA38)

def sq_says (a1 : Int32) (a2 : Int32) (A : ab_S) : Int32 × ab_S :=
  if sp_in a1 8 = true then if a2 < 0 then (((sq_no (-1) A).1), (sq_no (-1) A).2)
    else if a2 ≤ (nI 6) then if (A.1.1 18 (iN a1)) = 1 then (((sq_no (-2) A).1), (sq_no (-2) A).2)
      else if (A.1.1 18 (iN a1)) = 0 then (((sq_no (-3) A).1), (sq_no (-3) A).2)
      else if (iN a2) = 1 then if (A.1.1 9 (A.1.1 21 (iN a1))) = 2 then if (iN a2) = 0 then if (iN a2) = 0 then ((nI (A.1.1 14 (A.1.1 21 (iN a1)))), A)
            else if (iN a2) = 1 then ((nI (sp_shows A.1 (A.1.1 21 (iN a1)))), A)
            else if (iN a2) = 2 then ((nI (sp_shows A.1 (A.1.1 21 (iN a1)))), A)
            else if (iN a2) = 3 then ((nI (A.1.1 13 (A.1.1 21 (iN a1)))), A)
            else if (iN a2) = 4 then ((nI (A.1.1 12 (A.1.1 21 (iN a1)))), A)
            else if (iN a2) = 5 then ((nI (A.1.1 13 (A.1.1 21 (iN a1)))), A)
            else ((nI (A.1.1 12 (A.1.1 21 (iN a1)))), A)
          else if (iN a2) = (A.1.1 9 (A.1.1 21 (iN a1))) then if (iN a2) = 0 then ((nI (A.1.1 14 (A.1.1 21 (iN a1)))), A)
            else if (iN a2) = 1 then ((nI (sp_shows A.1 (A.1.1 21 (iN a1)))), A)
            else if (iN a2) = 2 then ((nI (sp_shows A.1 (A.1.1 21 (iN a1)))), A)
            else if (iN a2) = 3 then ((nI (A.1.1 13 (A.1.1 21 (iN a1)))), A)
            else if (iN a2) = 4 then ((nI (A.1.1 12 (A.1.1 21 (iN a1)))), A)
            else if (iN a2) = 5 then ((nI (A.1.1 13 (A.1.1 21 (iN a1)))), A)
            else ((nI (A.1.1 12 (A.1.1 21 (iN a1)))), A)
          else if (iN a2) = 0 then ((nI (A.1.1 14 (A.1.1 21 (iN a1)))), A)
          else if (iN a2) = 1 then ((nI (sp_shows A.1 (A.1.1 21 (iN a1)))), A)
          else if (iN a2) = 2 then ((nI (sp_shows A.1 (A.1.1 21 (iN a1)))), A)
          else if (iN a2) = 3 then ((nI (A.1.1 13 (A.1.1 21 (iN a1)))), A)
          else if (iN a2) = 4 then ((nI (A.1.1 12 (A.1.1 21 (iN a1)))), A)
          else if (iN a2) = 5 then ((nI (A.1.1 13 (A.1.1 21 (iN a1)))), A)
          else ((nI (A.1.1 12 (A.1.1 21 (iN a1)))), A)
        else if (iN a2) = 3 then if (A.1.1 9 (A.1.1 21 (iN a1))) = 5 then if (iN a2) = 0 then if (iN a2) = 0 then ((nI (A.1.1 14 (A.1.1 21 (iN a1)))), A)
              else if (iN a2) = 1 then ((nI (sp_shows A.1 (A.1.1 21 (iN a1)))), A)
              else if (iN a2) = 2 then ((nI (sp_shows A.1 (A.1.1 21 (iN a1)))), A)
              else if (iN a2) = 3 then ((nI (A.1.1 13 (A.1.1 21 (iN a1)))), A)
              else if (iN a2) = 4 then ((nI (A.1.1 12 (A.1.1 21 (iN a1)))), A)
              else if (iN a2) = 5 then ((nI (A.1.1 13 (A.1.1 21 (iN a1)))), A)
              else ((nI (A.1.1 12 (A.1.1 21 (iN a1)))), A)
            else if (iN a2) = (A.1.1 9 (A.1.1 21 (iN a1))) then if (iN a2) = 0 then ((nI (A.1.1 14 (A.1.1 21 (iN a1)))), A)
              else if (iN a2) = 1 then ((nI (sp_shows A.1 (A.1.1 21 (iN a1)))), A)
              else if (iN a2) = 2 then ((nI (sp_shows A.1 (A.1.1 21 (iN a1)))), A)
              else if (iN a2) = 3 then ((nI (A.1.1 13 (A.1.1 21 (iN a1)))), A)
              else if (iN a2) = 4 then ((nI (A.1.1 12 (A.1.1 21 (iN a1)))), A)
              else if (iN a2) = 5 then ((nI (A.1.1 13 (A.1.1 21 (iN a1)))), A)
              else ((nI (A.1.1 12 (A.1.1 21 (iN a1)))), A)
            else if (iN a2) = 0 then ((nI (A.1.1 14 (A.1.1 21 (iN a1)))), A)
            else if (iN a2) = 1 then ((nI (sp_shows A.1 (A.1.1 21 (iN a1)))), A)
            else if (iN a2) = 2 then ((nI (sp_shows A.1 (A.1.1 21 (iN a1)))), A)
            else if (iN a2) = 3 then ((nI (A.1.1 13 (A.1.1 21 (iN a1)))), A)
            else if (iN a2) = 4 then ((nI (A.1.1 12 (A.1.1 21 (iN a1)))), A)
            else if (iN a2) = 5 then ((nI (A.1.1 13 (A.1.1 21 (iN a1)))), A)
            else ((nI (A.1.1 12 (A.1.1 21 (iN a1)))), A)
          else if (iN a2) = 4 then if (A.1.1 9 (A.1.1 21 (iN a1))) = 6 then if (iN a2) = 0 then if (iN a2) = 0 then ((nI (A.1.1 14 (A.1.1 21 (iN a1)))), A)
                else if (iN a2) = 1 then ((nI (sp_shows A.1 (A.1.1 21 (iN a1)))), A)
                else if (iN a2) = 2 then ((nI (sp_shows A.1 (A.1.1 21 (iN a1)))), A)
                else if (iN a2) = 3 then ((nI (A.1.1 13 (A.1.1 21 (iN a1)))), A)
                else if (iN a2) = 4 then ((nI (A.1.1 12 (A.1.1 21 (iN a1)))), A)
                else if (iN a2) = 5 then ((nI (A.1.1 13 (A.1.1 21 (iN a1)))), A)
                else ((nI (A.1.1 12 (A.1.1 21 (iN a1)))), A)
              else if (iN a2) = (A.1.1 9 (A.1.1 21 (iN a1))) then if (iN a2) = 0 then ((nI (A.1.1 14 (A.1.1 21 (iN a1)))), A)
                else if (iN a2) = 1 then ((nI (sp_shows A.1 (A.1.1 21 (iN a1)))), A)
                else if (iN a2) = 2 then ((nI (sp_shows A.1 (A.1.1 21 (iN a1)))), A)
                else if (iN a2) = 3 then ((nI (A.1.1 13 (A.1.1 21 (iN a1)))), A)
                else if (iN a2) = 4 then ((nI (A.1.1 12 (A.1.1 21 (iN a1)))), A)
                else if (iN a2) = 5 then ((nI (A.1.1 13 (A.1.1 21 (iN a1)))), A)
                else ((nI (A.1.1 12 (A.1.1 21 (iN a1)))), A)
              else if (iN a2) = 0 then ((nI (A.1.1 14 (A.1.1 21 (iN a1)))), A)
              else if (iN a2) = 1 then ((nI (sp_shows A.1 (A.1.1 21 (iN a1)))), A)
              else if (iN a2) = 2 then ((nI (sp_shows A.1 (A.1.1 21 (iN a1)))), A)
              else if (iN a2) = 3 then ((nI (A.1.1 13 (A.1.1 21 (iN a1)))), A)
              else if (iN a2) = 4 then ((nI (A.1.1 12 (A.1.1 21 (iN a1)))), A)
              else if (iN a2) = 5 then ((nI (A.1.1 13 (A.1.1 21 (iN a1)))), A)
              else ((nI (A.1.1 12 (A.1.1 21 (iN a1)))), A)
            else if (iN a2) = 0 then if (iN a2) = 0 then ((nI (A.1.1 14 (A.1.1 21 (iN a1)))), A)
              else if (iN a2) = 1 then ((nI (sp_shows A.1 (A.1.1 21 (iN a1)))), A)
              else if (iN a2) = 2 then ((nI (sp_shows A.1 (A.1.1 21 (iN a1)))), A)
              else if (iN a2) = 3 then ((nI (A.1.1 13 (A.1.1 21 (iN a1)))), A)
              else if (iN a2) = 4 then ((nI (A.1.1 12 (A.1.1 21 (iN a1)))), A)
              else if (iN a2) = 5 then ((nI (A.1.1 13 (A.1.1 21 (iN a1)))), A)
              else ((nI (A.1.1 12 (A.1.1 21 (iN a1)))), A)
            else if (iN a2) = (A.1.1 9 (A.1.1 21 (iN a1))) then if (iN a2) = 0 then ((nI (A.1.1 14 (A.1.1 21 (iN a1)))), A)
              else if (iN a2) = 1 then ((nI (sp_shows A.1 (A.1.1 21 (iN a1)))), A)
              else if (iN a2) = 2 then ((nI (sp_shows A.1 (A.1.1 21 (iN a1)))), A)
              else if (iN a2) = 3 then ((nI (A.1.1 13 (A.1.1 21 (iN a1)))), A)
              else if (iN a2) = 4 then ((nI (A.1.1 12 (A.1.1 21 (iN a1)))), A)
              else if (iN a2) = 5 then ((nI (A.1.1 13 (A.1.1 21 (iN a1)))), A)
              else ((nI (A.1.1 12 (A.1.1 21 (iN a1)))), A)
            else (((sq_no (-2) A).1), (sq_no (-2) A).2)
          else if (iN a2) = 0 then if (iN a2) = 0 then ((nI (A.1.1 14 (A.1.1 21 (iN a1)))), A)
            else if (iN a2) = 1 then ((nI (sp_shows A.1 (A.1.1 21 (iN a1)))), A)
            else if (iN a2) = 2 then ((nI (sp_shows A.1 (A.1.1 21 (iN a1)))), A)
            else if (iN a2) = 3 then ((nI (A.1.1 13 (A.1.1 21 (iN a1)))), A)
            else if (iN a2) = 4 then ((nI (A.1.1 12 (A.1.1 21 (iN a1)))), A)
            else if (iN a2) = 5 then ((nI (A.1.1 13 (A.1.1 21 (iN a1)))), A)
            else ((nI (A.1.1 12 (A.1.1 21 (iN a1)))), A)
          else if (iN a2) = (A.1.1 9 (A.1.1 21 (iN a1))) then if (iN a2) = 0 then ((nI (A.1.1 14 (A.1.1 21 (iN a1)))), A)
            else if (iN a2) = 1 then ((nI (sp_shows A.1 (A.1.1 21 (iN a1)))), A)
            else if (iN a2) = 2 then ((nI (sp_shows A.1 (A.1.1 21 (iN a1)))), A)
            else if (iN a2) = 3 then ((nI (A.1.1 13 (A.1.1 21 (iN a1)))), A)
            else if (iN a2) = 4 then ((nI (A.1.1 12 (A.1.1 21 (iN a1)))), A)
            else if (iN a2) = 5 then ((nI (A.1.1 13 (A.1.1 21 (iN a1)))), A)
            else ((nI (A.1.1 12 (A.1.1 21 (iN a1)))), A)
          else (((sq_no (-2) A).1), (sq_no (-2) A).2)
        else if (iN a2) = 4 then if (A.1.1 9 (A.1.1 21 (iN a1))) = 6 then if (iN a2) = 0 then if (iN a2) = 0 then ((nI (A.1.1 14 (A.1.1 21 (iN a1)))), A)
              else if (iN a2) = 1 then ((nI (sp_shows A.1 (A.1.1 21 (iN a1)))), A)
              else if (iN a2) = 2 then ((nI (sp_shows A.1 (A.1.1 21 (iN a1)))), A)
              else if (iN a2) = 3 then ((nI (A.1.1 13 (A.1.1 21 (iN a1)))), A)
              else if (iN a2) = 4 then ((nI (A.1.1 12 (A.1.1 21 (iN a1)))), A)
              else if (iN a2) = 5 then ((nI (A.1.1 13 (A.1.1 21 (iN a1)))), A)
              else ((nI (A.1.1 12 (A.1.1 21 (iN a1)))), A)
            else if (iN a2) = (A.1.1 9 (A.1.1 21 (iN a1))) then if (iN a2) = 0 then ((nI (A.1.1 14 (A.1.1 21 (iN a1)))), A)
              else if (iN a2) = 1 then ((nI (sp_shows A.1 (A.1.1 21 (iN a1)))), A)
              else if (iN a2) = 2 then ((nI (sp_shows A.1 (A.1.1 21 (iN a1)))), A)
              else if (iN a2) = 3 then ((nI (A.1.1 13 (A.1.1 21 (iN a1)))), A)
              else if (iN a2) = 4 then ((nI (A.1.1 12 (A.1.1 21 (iN a1)))), A)
              else if (iN a2) = 5 then ((nI (A.1.1 13 (A.1.1 21 (iN a1)))), A)
              else ((nI (A.1.1 12 (A.1.1 21 (iN a1)))), A)
            else if (iN a2) = 0 then ((nI (A.1.1 14 (A.1.1 21 (iN a1)))), A)
            else if (iN a2) = 1 then ((nI (sp_shows A.1 (A.1.1 21 (iN a1)))), A)
            else if (iN a2) = 2 then ((nI (sp_shows A.1 (A.1.1 21 (iN a1)))), A)
            else if (iN a2) = 3 then ((nI (A.1.1 13 (A.1.1 21 (iN a1)))), A)
            else if (iN a2) = 4 then ((nI (A.1.1 12 (A.1.1 21 (iN a1)))), A)
            else if (iN a2) = 5 then ((nI (A.1.1 13 (A.1.1 21 (iN a1)))), A)
            else ((nI (A.1.1 12 (A.1.1 21 (iN a1)))), A)
          else if (iN a2) = 0 then if (iN a2) = 0 then ((nI (A.1.1 14 (A.1.1 21 (iN a1)))), A)
            else if (iN a2) = 1 then ((nI (sp_shows A.1 (A.1.1 21 (iN a1)))), A)
            else if (iN a2) = 2 then ((nI (sp_shows A.1 (A.1.1 21 (iN a1)))), A)
            else if (iN a2) = 3 then ((nI (A.1.1 13 (A.1.1 21 (iN a1)))), A)
            else if (iN a2) = 4 then ((nI (A.1.1 12 (A.1.1 21 (iN a1)))), A)
            else if (iN a2) = 5 then ((nI (A.1.1 13 (A.1.1 21 (iN a1)))), A)
            else ((nI (A.1.1 12 (A.1.1 21 (iN a1)))), A)
          else if (iN a2) = (A.1.1 9 (A.1.1 21 (iN a1))) then if (iN a2) = 0 then ((nI (A.1.1 14 (A.1.1 21 (iN a1)))), A)
            else if (iN a2) = 1 then ((nI (sp_shows A.1 (A.1.1 21 (iN a1)))), A)
            else if (iN a2) = 2 then ((nI (sp_shows A.1 (A.1.1 21 (iN a1)))), A)
            else if (iN a2) = 3 then ((nI (A.1.1 13 (A.1.1 21 (iN a1)))), A)
            else if (iN a2) = 4 then ((nI (A.1.1 12 (A.1.1 21 (iN a1)))), A)
            else if (iN a2) = 5 then ((nI (A.1.1 13 (A.1.1 21 (iN a1)))), A)
            else ((nI (A.1.1 12 (A.1.1 21 (iN a1)))), A)
          else (((sq_no (-2) A).1), (sq_no (-2) A).2)
        else if (iN a2) = 0 then if (iN a2) = 0 then ((nI (A.1.1 14 (A.1.1 21 (iN a1)))), A)
          else if (iN a2) = 1 then ((nI (sp_shows A.1 (A.1.1 21 (iN a1)))), A)
          else if (iN a2) = 2 then ((nI (sp_shows A.1 (A.1.1 21 (iN a1)))), A)
          else if (iN a2) = 3 then ((nI (A.1.1 13 (A.1.1 21 (iN a1)))), A)
          else if (iN a2) = 4 then ((nI (A.1.1 12 (A.1.1 21 (iN a1)))), A)
          else if (iN a2) = 5 then ((nI (A.1.1 13 (A.1.1 21 (iN a1)))), A)
          else ((nI (A.1.1 12 (A.1.1 21 (iN a1)))), A)
        else if (iN a2) = (A.1.1 9 (A.1.1 21 (iN a1))) then if (iN a2) = 0 then ((nI (A.1.1 14 (A.1.1 21 (iN a1)))), A)
          else if (iN a2) = 1 then ((nI (sp_shows A.1 (A.1.1 21 (iN a1)))), A)
          else if (iN a2) = 2 then ((nI (sp_shows A.1 (A.1.1 21 (iN a1)))), A)
          else if (iN a2) = 3 then ((nI (A.1.1 13 (A.1.1 21 (iN a1)))), A)
          else if (iN a2) = 4 then ((nI (A.1.1 12 (A.1.1 21 (iN a1)))), A)
          else if (iN a2) = 5 then ((nI (A.1.1 13 (A.1.1 21 (iN a1)))), A)
          else ((nI (A.1.1 12 (A.1.1 21 (iN a1)))), A)
        else (((sq_no (-2) A).1), (sq_no (-2) A).2)
      else if (iN a2) = 3 then if (A.1.1 9 (A.1.1 21 (iN a1))) = 5 then if (iN a2) = 0 then if (iN a2) = 0 then ((nI (A.1.1 14 (A.1.1 21 (iN a1)))), A)
            else if (iN a2) = 1 then ((nI (sp_shows A.1 (A.1.1 21 (iN a1)))), A)
            else if (iN a2) = 2 then ((nI (sp_shows A.1 (A.1.1 21 (iN a1)))), A)
            else if (iN a2) = 3 then ((nI (A.1.1 13 (A.1.1 21 (iN a1)))), A)
            else if (iN a2) = 4 then ((nI (A.1.1 12 (A.1.1 21 (iN a1)))), A)
            else if (iN a2) = 5 then ((nI (A.1.1 13 (A.1.1 21 (iN a1)))), A)
            else ((nI (A.1.1 12 (A.1.1 21 (iN a1)))), A)
          else if (iN a2) = (A.1.1 9 (A.1.1 21 (iN a1))) then if (iN a2) = 0 then ((nI (A.1.1 14 (A.1.1 21 (iN a1)))), A)
            else if (iN a2) = 1 then ((nI (sp_shows A.1 (A.1.1 21 (iN a1)))), A)
            else if (iN a2) = 2 then ((nI (sp_shows A.1 (A.1.1 21 (iN a1)))), A)
            else if (iN a2) = 3 then ((nI (A.1.1 13 (A.1.1 21 (iN a1)))), A)
            else if (iN a2) = 4 then ((nI (A.1.1 12 (A.1.1 21 (iN a1)))), A)
            else if (iN a2) = 5 then ((nI (A.1.1 13 (A.1.1 21 (iN a1)))), A)
            else ((nI (A.1.1 12 (A.1.1 21 (iN a1)))), A)
          else if (iN a2) = 0 then ((nI (A.1.1 14 (A.1.1 21 (iN a1)))), A)
          else if (iN a2) = 1 then ((nI (sp_shows A.1 (A.1.1 21 (iN a1)))), A)
          else if (iN a2) = 2 then ((nI (sp_shows A.1 (A.1.1 21 (iN a1)))), A)
          else if (iN a2) = 3 then ((nI (A.1.1 13 (A.1.1 21 (iN a1)))), A)
          else if (iN a2) = 4 then ((nI (A.1.1 12 (A.1.1 21 (iN a1)))), A)
          else if (iN a2) = 5 then ((nI (A.1.1 13 (A.1.1 21 (iN a1)))), A)
          else ((nI (A.1.1 12 (A.1.1 21 (iN a1)))), A)
        else if (iN a2) = 4 then if (A.1.1 9 (A.1.1 21 (iN a1))) = 6 then if (iN a2) = 0 then if (iN a2) = 0 then ((nI (A.1.1 14 (A.1.1 21 (iN a1)))), A)
              else if (iN a2) = 1 then ((nI (sp_shows A.1 (A.1.1 21 (iN a1)))), A)
              else if (iN a2) = 2 then ((nI (sp_shows A.1 (A.1.1 21 (iN a1)))), A)
              else if (iN a2) = 3 then ((nI (A.1.1 13 (A.1.1 21 (iN a1)))), A)
              else if (iN a2) = 4 then ((nI (A.1.1 12 (A.1.1 21 (iN a1)))), A)
              else if (iN a2) = 5 then ((nI (A.1.1 13 (A.1.1 21 (iN a1)))), A)
              else ((nI (A.1.1 12 (A.1.1 21 (iN a1)))), A)
            else if (iN a2) = (A.1.1 9 (A.1.1 21 (iN a1))) then if (iN a2) = 0 then ((nI (A.1.1 14 (A.1.1 21 (iN a1)))), A)
              else if (iN a2) = 1 then ((nI (sp_shows A.1 (A.1.1 21 (iN a1)))), A)
              else if (iN a2) = 2 then ((nI (sp_shows A.1 (A.1.1 21 (iN a1)))), A)
              else if (iN a2) = 3 then ((nI (A.1.1 13 (A.1.1 21 (iN a1)))), A)
              else if (iN a2) = 4 then ((nI (A.1.1 12 (A.1.1 21 (iN a1)))), A)
              else if (iN a2) = 5 then ((nI (A.1.1 13 (A.1.1 21 (iN a1)))), A)
              else ((nI (A.1.1 12 (A.1.1 21 (iN a1)))), A)
            else if (iN a2) = 0 then ((nI (A.1.1 14 (A.1.1 21 (iN a1)))), A)
            else if (iN a2) = 1 then ((nI (sp_shows A.1 (A.1.1 21 (iN a1)))), A)
            else if (iN a2) = 2 then ((nI (sp_shows A.1 (A.1.1 21 (iN a1)))), A)
            else if (iN a2) = 3 then ((nI (A.1.1 13 (A.1.1 21 (iN a1)))), A)
            else if (iN a2) = 4 then ((nI (A.1.1 12 (A.1.1 21 (iN a1)))), A)
            else if (iN a2) = 5 then ((nI (A.1.1 13 (A.1.1 21 (iN a1)))), A)
            else ((nI (A.1.1 12 (A.1.1 21 (iN a1)))), A)
          else if (iN a2) = 0 then if (iN a2) = 0 then ((nI (A.1.1 14 (A.1.1 21 (iN a1)))), A)
            else if (iN a2) = 1 then ((nI (sp_shows A.1 (A.1.1 21 (iN a1)))), A)
            else if (iN a2) = 2 then ((nI (sp_shows A.1 (A.1.1 21 (iN a1)))), A)
            else if (iN a2) = 3 then ((nI (A.1.1 13 (A.1.1 21 (iN a1)))), A)
            else if (iN a2) = 4 then ((nI (A.1.1 12 (A.1.1 21 (iN a1)))), A)
            else if (iN a2) = 5 then ((nI (A.1.1 13 (A.1.1 21 (iN a1)))), A)
            else ((nI (A.1.1 12 (A.1.1 21 (iN a1)))), A)
          else if (iN a2) = (A.1.1 9 (A.1.1 21 (iN a1))) then if (iN a2) = 0 then ((nI (A.1.1 14 (A.1.1 21 (iN a1)))), A)
            else if (iN a2) = 1 then ((nI (sp_shows A.1 (A.1.1 21 (iN a1)))), A)
            else if (iN a2) = 2 then ((nI (sp_shows A.1 (A.1.1 21 (iN a1)))), A)
            else if (iN a2) = 3 then ((nI (A.1.1 13 (A.1.1 21 (iN a1)))), A)
            else if (iN a2) = 4 then ((nI (A.1.1 12 (A.1.1 21 (iN a1)))), A)
            else if (iN a2) = 5 then ((nI (A.1.1 13 (A.1.1 21 (iN a1)))), A)
            else ((nI (A.1.1 12 (A.1.1 21 (iN a1)))), A)
          else (((sq_no (-2) A).1), (sq_no (-2) A).2)
        else if (iN a2) = 0 then if (iN a2) = 0 then ((nI (A.1.1 14 (A.1.1 21 (iN a1)))), A)
          else if (iN a2) = 1 then ((nI (sp_shows A.1 (A.1.1 21 (iN a1)))), A)
          else if (iN a2) = 2 then ((nI (sp_shows A.1 (A.1.1 21 (iN a1)))), A)
          else if (iN a2) = 3 then ((nI (A.1.1 13 (A.1.1 21 (iN a1)))), A)
          else if (iN a2) = 4 then ((nI (A.1.1 12 (A.1.1 21 (iN a1)))), A)
          else if (iN a2) = 5 then ((nI (A.1.1 13 (A.1.1 21 (iN a1)))), A)
          else ((nI (A.1.1 12 (A.1.1 21 (iN a1)))), A)
        else if (iN a2) = (A.1.1 9 (A.1.1 21 (iN a1))) then if (iN a2) = 0 then ((nI (A.1.1 14 (A.1.1 21 (iN a1)))), A)
          else if (iN a2) = 1 then ((nI (sp_shows A.1 (A.1.1 21 (iN a1)))), A)
          else if (iN a2) = 2 then ((nI (sp_shows A.1 (A.1.1 21 (iN a1)))), A)
          else if (iN a2) = 3 then ((nI (A.1.1 13 (A.1.1 21 (iN a1)))), A)
          else if (iN a2) = 4 then ((nI (A.1.1 12 (A.1.1 21 (iN a1)))), A)
          else if (iN a2) = 5 then ((nI (A.1.1 13 (A.1.1 21 (iN a1)))), A)
          else ((nI (A.1.1 12 (A.1.1 21 (iN a1)))), A)
        else (((sq_no (-2) A).1), (sq_no (-2) A).2)
      else if (iN a2) = 4 then if (A.1.1 9 (A.1.1 21 (iN a1))) = 6 then if (iN a2) = 0 then if (iN a2) = 0 then ((nI (A.1.1 14 (A.1.1 21 (iN a1)))), A)
            else if (iN a2) = 1 then ((nI (sp_shows A.1 (A.1.1 21 (iN a1)))), A)
            else if (iN a2) = 2 then ((nI (sp_shows A.1 (A.1.1 21 (iN a1)))), A)
            else if (iN a2) = 3 then ((nI (A.1.1 13 (A.1.1 21 (iN a1)))), A)
            else if (iN a2) = 4 then ((nI (A.1.1 12 (A.1.1 21 (iN a1)))), A)
            else if (iN a2) = 5 then ((nI (A.1.1 13 (A.1.1 21 (iN a1)))), A)
            else ((nI (A.1.1 12 (A.1.1 21 (iN a1)))), A)
          else if (iN a2) = (A.1.1 9 (A.1.1 21 (iN a1))) then if (iN a2) = 0 then ((nI (A.1.1 14 (A.1.1 21 (iN a1)))), A)
            else if (iN a2) = 1 then ((nI (sp_shows A.1 (A.1.1 21 (iN a1)))), A)
            else if (iN a2) = 2 then ((nI (sp_shows A.1 (A.1.1 21 (iN a1)))), A)
            else if (iN a2) = 3 then ((nI (A.1.1 13 (A.1.1 21 (iN a1)))), A)
            else if (iN a2) = 4 then ((nI (A.1.1 12 (A.1.1 21 (iN a1)))), A)
            else if (iN a2) = 5 then ((nI (A.1.1 13 (A.1.1 21 (iN a1)))), A)
            else ((nI (A.1.1 12 (A.1.1 21 (iN a1)))), A)
          else if (iN a2) = 0 then ((nI (A.1.1 14 (A.1.1 21 (iN a1)))), A)
          else if (iN a2) = 1 then ((nI (sp_shows A.1 (A.1.1 21 (iN a1)))), A)
          else if (iN a2) = 2 then ((nI (sp_shows A.1 (A.1.1 21 (iN a1)))), A)
          else if (iN a2) = 3 then ((nI (A.1.1 13 (A.1.1 21 (iN a1)))), A)
          else if (iN a2) = 4 then ((nI (A.1.1 12 (A.1.1 21 (iN a1)))), A)
          else if (iN a2) = 5 then ((nI (A.1.1 13 (A.1.1 21 (iN a1)))), A)
          else ((nI (A.1.1 12 (A.1.1 21 (iN a1)))), A)
        else if (iN a2) = 0 then if (iN a2) = 0 then ((nI (A.1.1 14 (A.1.1 21 (iN a1)))), A)
          else if (iN a2) = 1 then ((nI (sp_shows A.1 (A.1.1 21 (iN a1)))), A)
          else if (iN a2) = 2 then ((nI (sp_shows A.1 (A.1.1 21 (iN a1)))), A)
          else if (iN a2) = 3 then ((nI (A.1.1 13 (A.1.1 21 (iN a1)))), A)
          else if (iN a2) = 4 then ((nI (A.1.1 12 (A.1.1 21 (iN a1)))), A)
          else if (iN a2) = 5 then ((nI (A.1.1 13 (A.1.1 21 (iN a1)))), A)
          else ((nI (A.1.1 12 (A.1.1 21 (iN a1)))), A)
        else if (iN a2) = (A.1.1 9 (A.1.1 21 (iN a1))) then if (iN a2) = 0 then ((nI (A.1.1 14 (A.1.1 21 (iN a1)))), A)
          else if (iN a2) = 1 then ((nI (sp_shows A.1 (A.1.1 21 (iN a1)))), A)
          else if (iN a2) = 2 then ((nI (sp_shows A.1 (A.1.1 21 (iN a1)))), A)
          else if (iN a2) = 3 then ((nI (A.1.1 13 (A.1.1 21 (iN a1)))), A)
          else if (iN a2) = 4 then ((nI (A.1.1 12 (A.1.1 21 (iN a1)))), A)
          else if (iN a2) = 5 then ((nI (A.1.1 13 (A.1.1 21 (iN a1)))), A)
          else ((nI (A.1.1 12 (A.1.1 21 (iN a1)))), A)
        else (((sq_no (-2) A).1), (sq_no (-2) A).2)
      else if (iN a2) = 0 then if (iN a2) = 0 then ((nI (A.1.1 14 (A.1.1 21 (iN a1)))), A)
        else if (iN a2) = 1 then ((nI (sp_shows A.1 (A.1.1 21 (iN a1)))), A)
        else if (iN a2) = 2 then ((nI (sp_shows A.1 (A.1.1 21 (iN a1)))), A)
        else if (iN a2) = 3 then ((nI (A.1.1 13 (A.1.1 21 (iN a1)))), A)
        else if (iN a2) = 4 then ((nI (A.1.1 12 (A.1.1 21 (iN a1)))), A)
        else if (iN a2) = 5 then ((nI (A.1.1 13 (A.1.1 21 (iN a1)))), A)
        else ((nI (A.1.1 12 (A.1.1 21 (iN a1)))), A)
      else if (iN a2) = (A.1.1 9 (A.1.1 21 (iN a1))) then if (iN a2) = 0 then ((nI (A.1.1 14 (A.1.1 21 (iN a1)))), A)
        else if (iN a2) = 1 then ((nI (sp_shows A.1 (A.1.1 21 (iN a1)))), A)
        else if (iN a2) = 2 then ((nI (sp_shows A.1 (A.1.1 21 (iN a1)))), A)
        else if (iN a2) = 3 then ((nI (A.1.1 13 (A.1.1 21 (iN a1)))), A)
        else if (iN a2) = 4 then ((nI (A.1.1 12 (A.1.1 21 (iN a1)))), A)
        else if (iN a2) = 5 then ((nI (A.1.1 13 (A.1.1 21 (iN a1)))), A)
        else ((nI (A.1.1 12 (A.1.1 21 (iN a1)))), A)
      else (((sq_no (-2) A).1), (sq_no (-2) A).2)
    else (((sq_no (-1) A).1), (sq_no (-1) A).2)
  else (((sq_no (-1) A).1), (sq_no (-1) A).2)
theorem tk_says {l : Launch} {D : hg_D} {lo : Nat} (htr : l.stackTraces = false) {G : hg_G} {o : Nat} {am : Nat → Nat} {u : tw_S} {A : ab_S} (hR : tw_R G o am u) (hA : tw_A u A) {a1 : Int32} {a2 : Int32} (hW : ab_wf A) :
    hg_M l D lo yX5_says (ws_ yX5_says cX5_says 6 ((some FieldType.int))) rm_X5_says [.ref o, .int a1, .int a2] G (tw_Po o am (sq_says a1 a2 A)) := by
  have hw := hW.w; have w0 := hw.b0; have w1 := hw.b1; have w2 := hw.b2; have w3 := hw.b3; have w36 := hW.b36; have w43 := hW.b43
  refine hg_M.of htr (by decide) [some (.ref o), some (.int a1), some (.int a2), none, none, none] rfl (Nat.le_of_ble_eq_true rfl) ?_
  intro p e s m args below meth c X hr hnm htab
  have X : hg_X p l s m args meth c D lo "TaxOnLooksModel" cX5_says 6 := X
  refine hr_aload0 (q := 1) X dX5_says_0 rfl ?_
  refine hr_iload1 (q := 2) X dX5_says_1 rfl ?_
  refine hr_callP (q := 5) (hc_V (n := 1) (ci := 5) (As := [.int a1]) X dX5_says_2 rfl (tk_isShelf X.tr hR a1) q1519 cv_X5_isShelf ⟨Nat.le_of_ble_eq_true rfl, Nat.le_of_ble_eq_true rfl⟩ rfl (Nat.le_of_ble_eq_true rfl) hR.om rfl rfl) rfl ?_
  refine hr_ifB_eq (q := 8) (tgt := 18) X dX5_says_5 rfl (by decide) (fun c5 => ?_) (fun c5 => ?_)
  · refine hr_aload0 (q := 19) X dX5_says_18 rfl ?_
    refine hr_iconst (v := (-1)) (q := 20) X dX5_says_19 rfl rfl ?_
    refine hr_callT (q := 23) (hc_V (n := 1) (ci := 5) (As := [.int (-1)]) X dX5_says_20 rfl (tk_no X.tr hR hA (b := (-1)) (by decide)) q1523 cv_X5_no ⟨Nat.le_of_ble_eq_true rfl, Nat.le_of_ble_eq_true rfl⟩ rfl (Nat.le_of_ble_eq_true rfl) hR.om rfl rfl) rfl (fun G1 u1 hR1 hA1 => ?_)
    exact hr_iret X hr dX5_says_23 (tw_end (by rw [sq_says, if_neg (by rw [c5]; decide)]) hR1 hA1)
  · refine hr_iload2 (q := 9) X dX5_says_8 rfl ?_
    refine hr_if_lt (q := 12) (tgt := 18) X dX5_says_9 rfl (by decide) (fun c9 => ?_) (fun c9 => ?_)
    · refine hr_aload0 (q := 19) X dX5_says_18 rfl ?_
      refine hr_iconst (v := (-1)) (q := 20) X dX5_says_19 rfl rfl ?_
      refine hr_callT (q := 23) (hc_V (n := 1) (ci := 5) (As := [.int (-1)]) X dX5_says_20 rfl (tk_no X.tr hR hA (b := (-1)) (by decide)) q1523 cv_X5_no ⟨Nat.le_of_ble_eq_true rfl, Nat.le_of_ble_eq_true rfl⟩ rfl (Nat.le_of_ble_eq_true rfl) hR.om rfl rfl) rfl (fun G2 u2 hR2 hA2 => ?_)
      exact hr_iret X hr dX5_says_23 (tw_end (by rw [sq_says, if_pos c5, if_pos c9]) hR2 hA2)
    · refine hr_iload2 (q := 13) X dX5_says_12 rfl ?_
      refine hr_bipush (v := (nI 6)) (q := 15) X dX5_says_13 rfl rfl ?_
      refine hr_icmp_le (q := 18) (tgt := 24) X dX5_says_15 rfl (by decide) (fun c15 => ?_) (fun c15 => ?_)
      · have n24_1 := sp_inN (by decide) c5
        refine hr_L (L' := [some (.ref o), some (.int (nI (iN a1))), some (.int a2), none, none, none]) (by rw [← n24_1.1]) ?_
        have n24_2 := sp_leN (by decide) c9 c15
        refine hr_L (L' := [some (.ref o), some (.int (nI (iN a1))), some (.int (nI (iN a2))), none, none, none]) (by rw [← n24_2.1]) ?_
        refine hr_aload0 (q := 25) X dX5_says_24 rfl ?_
        refine hr_getR (v := am 18) (q := 28) X dX5_says_25 rfl fr_q1400_5 rfl hR.om (hR.f rfl) ?_
        refine hr_iload1 (q := 29) X dX5_says_28 rfl ?_
        refine hr_ialdN (v := (nI (A.1.1 18 (iN a1)))) (q := 30) X dX5_says_29 rfl (hR.ka (n := 8) rfl rfl rfl) (Or.inl rfl) (by omega) (by decide) ((hR.ar rfl _).trans (hA.s (by decide) (by decide) (by omega))) ?_
        have b29 := hW.b18 (show iN a1 < 8 by omega)
        refine hr_iconst (v := (nI 1)) (q := 31) X dX5_says_30 rfl rfl ?_
        refine hr_icmpN_ne (q := 34) (tgt := 41) X dX5_says_31 rfl (by decide) (by omega) (by omega) (fun c31 => ?_) (fun c31 => ?_)
        · refine hr_aload0 (q := 42) X dX5_says_41 rfl ?_
          refine hr_getR (v := am 18) (q := 45) X dX5_says_42 rfl fr_q1400_5 rfl hR.om (hR.f rfl) ?_
          refine hr_iload1 (q := 46) X dX5_says_45 rfl ?_
          refine hr_ialdN (v := (nI (A.1.1 18 (iN a1)))) (q := 47) X dX5_says_46 rfl (hR.ka (n := 8) rfl rfl rfl) (Or.inl rfl) (by omega) (by decide) ((hR.ar rfl _).trans (hA.s (by decide) (by decide) (by omega))) ?_
          have b46 := hW.b18 (show iN a1 < 8 by omega)
          refine hr_ifN_ne (q := 50) (tgt := 57) X dX5_says_47 rfl (by decide) (by omega) (fun c47 => ?_) (fun c47 => ?_)
          · refine hr_aload0 (q := 58) X dX5_says_57 rfl ?_
            refine hr_getR (v := am 21) (q := 61) X dX5_says_58 rfl fr_q1403_5 rfl hR.om (hR.f rfl) ?_
            refine hr_iload1 (q := 62) X dX5_says_61 rfl ?_
            refine hr_ialdN (v := (oI (A.1.1 21 (iN a1)))) (q := 63) X dX5_says_62 rfl (hR.ka (n := 8) rfl rfl rfl) (Or.inl rfl) (by omega) (by decide) ((hR.ar rfl _).trans (hA.sh (by omega))) ?_
            have hx := hW.b21 (j := iN a1) (by omega) (by omega)
            refine hr_st1 (v' := .int (nI (A.1.1 21 (iN a1)))) (congrArg Value.int (oI_of (by omega))) ?_
            refine hr_istore3 (q := 64) X dX5_says_63 rfl rfl (Nat.le_of_ble_eq_true rfl) ?_
            refine hr_aload0 (q := 65) X dX5_says_64 rfl ?_
            refine hr_getR (v := am 9) (q := 68) X dX5_says_65 rfl fr_q1391_5 rfl hR.om (hR.f rfl) ?_
            refine hr_iload3 (q := 69) X dX5_says_68 rfl ?_
            refine hr_ialdN (v := (nI (A.1.1 9 (A.1.1 21 (iN a1))))) (q := 70) X dX5_says_69 rfl (hR.ka (n := 7) rfl rfl rfl) (Or.inl rfl) (by omega) (by decide) ((hR.ar rfl _).trans (hA.p (by decide) (by decide) (by omega))) ?_
            have b69 := hW.w.b9 (show A.1.1 21 (iN a1) < 7 by omega)
            refine hr_istore4 (q := 72) X dX5_says_70 rfl rfl (Nat.le_of_ble_eq_true rfl) ?_
            refine hr_iload2 (q := 73) X dX5_says_72 rfl ?_
            refine hr_iconst (v := (nI 1)) (q := 74) X dX5_says_73 rfl rfl ?_
            refine hr_icmpN_ne (q := 77) (tgt := 83) X dX5_says_74 rfl (by decide) (by omega) (by omega) (fun c74 => ?_) (fun c74 => ?_)
            · refine hr_iload2 (q := 84) X dX5_says_83 rfl ?_
              refine hr_iconst (v := (nI 3)) (q := 85) X dX5_says_84 rfl rfl ?_
              refine hr_icmpN_ne (q := 88) (tgt := 94) X dX5_says_85 rfl (by decide) (by omega) (by omega) (fun c85 => ?_) (fun c85 => ?_)
              · refine hr_iload2 (q := 95) X dX5_says_94 rfl ?_
                refine hr_iconst (v := (nI 4)) (q := 96) X dX5_says_95 rfl rfl ?_
                refine hr_icmpN_ne (q := 99) (tgt := 110) X dX5_says_96 rfl (by decide) (by omega) (by omega) (fun c96 => ?_) (fun c96 => ?_)
                · refine hr_iconst (v := (nI 0)) (q := 111) X dX5_says_110 rfl rfl ?_
                  refine hr_istore5 (q := 113) X dX5_says_111 rfl rfl (Nat.le_of_ble_eq_true rfl) ?_
                  refine hr_iload2 (q := 114) X dX5_says_113 rfl ?_
                  refine hr_ifN_eq (q := 117) (tgt := 135) X dX5_says_114 rfl (by decide) (by omega) (fun c114 => ?_) (fun c114 => ?_)
                  · refine hr_iload2 (q := 136) X dX5_says_135 rfl ?_
                    by_cases e136_0 : (iN a2) = 0
                    · refine hr_tableIn (off := 40) (tgt := 176) X dX5_says_136 (by rw [(congrArg nI e136_0)]; decide) (by rw [(congrArg nI e136_0)]; decide) (by rw [(congrArg nI e136_0)]; rfl) (by decide) ?_
                      refine hr_aload0 (q := 177) X dX5_says_176 rfl ?_
                      refine hr_getR (v := am 14) (q := 180) X dX5_says_177 rfl fr_q1396_5 rfl hR.om (hR.f rfl) ?_
                      refine hr_iload3 (q := 181) X dX5_says_180 rfl ?_
                      refine hr_ialdN (v := (nI (A.1.1 14 (A.1.1 21 (iN a1))))) (q := 182) X dX5_says_181 rfl (hR.ka (n := 7) rfl rfl rfl) (Or.inl rfl) (by omega) (by decide) ((hR.ar rfl _).trans (hA.p (by decide) (by decide) (by omega))) ?_
                      have b181 := hW.w.b14 (show A.1.1 21 (iN a1) < 7 by omega)
                      exact hr_iret X hr dX5_says_182 (tw_end (by rw [sq_says, if_pos c5, if_neg c9, if_pos c15, if_neg (show ¬ ((A.1.1 18 (iN a1)) = 1) by omega), if_neg (show ¬ ((A.1.1 18 (iN a1)) = 0) by omega), if_neg (show ¬ ((iN a2) = 1) by omega), if_neg (show ¬ ((iN a2) = 3) by omega), if_neg (show ¬ ((iN a2) = 4) by omega), if_pos (show (iN a2) = 0 by omega), if_pos e136_0]) hR hA)
                    by_cases e136_1 : (iN a2) = 1
                    · refine hr_tableIn (off := 47) (tgt := 183) X dX5_says_136 (by rw [(congrArg nI e136_1)]; decide) (by rw [(congrArg nI e136_1)]; decide) (by rw [(congrArg nI e136_1)]; rfl) (by decide) ?_
                      refine hr_aload0 (q := 184) X dX5_says_183 rfl ?_
                      refine hr_iload3 (q := 185) X dX5_says_184 rfl ?_
                      refine hr_callP (q := 188) (hc_V (n := 1) (ci := 5) (As := [.int (nI (A.1.1 21 (iN a1)))]) X dX5_says_185 rfl (tk_shows X.tr hR hA.t hw (x := A.1.1 21 (iN a1)) (by omega)) q1555 cv_X5_shows ⟨Nat.le_of_ble_eq_true rfl, Nat.le_of_ble_eq_true rfl⟩ rfl (Nat.le_of_ble_eq_true rfl) hR.om rfl rfl) rfl ?_
                      have := sp_shows_lt (t := A.1) hw (x := (A.1.1 21 (iN a1))) (by omega)
                      exact hr_iret X hr dX5_says_188 (tw_end (by rw [sq_says, if_pos c5, if_neg c9, if_pos c15, if_neg (show ¬ ((A.1.1 18 (iN a1)) = 1) by omega), if_neg (show ¬ ((A.1.1 18 (iN a1)) = 0) by omega), if_neg (show ¬ ((iN a2) = 1) by omega), if_neg (show ¬ ((iN a2) = 3) by omega), if_neg (show ¬ ((iN a2) = 4) by omega), if_pos (show (iN a2) = 0 by omega), if_neg e136_0, if_pos e136_1]) hR hA)
                    by_cases e136_2 : (iN a2) = 2
                    · refine hr_tableIn (off := 47) (tgt := 183) X dX5_says_136 (by rw [(congrArg nI e136_2)]; decide) (by rw [(congrArg nI e136_2)]; decide) (by rw [(congrArg nI e136_2)]; rfl) (by decide) ?_
                      refine hr_aload0 (q := 184) X dX5_says_183 rfl ?_
                      refine hr_iload3 (q := 185) X dX5_says_184 rfl ?_
                      refine hr_callP (q := 188) (hc_V (n := 1) (ci := 5) (As := [.int (nI (A.1.1 21 (iN a1)))]) X dX5_says_185 rfl (tk_shows X.tr hR hA.t hw (x := A.1.1 21 (iN a1)) (by omega)) q1555 cv_X5_shows ⟨Nat.le_of_ble_eq_true rfl, Nat.le_of_ble_eq_true rfl⟩ rfl (Nat.le_of_ble_eq_true rfl) hR.om rfl rfl) rfl ?_
                      have := sp_shows_lt (t := A.1) hw (x := (A.1.1 21 (iN a1))) (by omega)
                      exact hr_iret X hr dX5_says_188 (tw_end (by rw [sq_says, if_pos c5, if_neg c9, if_pos c15, if_neg (show ¬ ((A.1.1 18 (iN a1)) = 1) by omega), if_neg (show ¬ ((A.1.1 18 (iN a1)) = 0) by omega), if_neg (show ¬ ((iN a2) = 1) by omega), if_neg (show ¬ ((iN a2) = 3) by omega), if_neg (show ¬ ((iN a2) = 4) by omega), if_pos (show (iN a2) = 0 by omega), if_neg e136_0, if_neg e136_1, if_pos e136_2]) hR hA)
                    by_cases e136_3 : (iN a2) = 3
                    · refine hr_tableIn (off := 53) (tgt := 189) X dX5_says_136 (by rw [(congrArg nI e136_3)]; decide) (by rw [(congrArg nI e136_3)]; decide) (by rw [(congrArg nI e136_3)]; rfl) (by decide) ?_
                      refine hr_aload0 (q := 190) X dX5_says_189 rfl ?_
                      refine hr_getR (v := am 13) (q := 193) X dX5_says_190 rfl fr_q1395_5 rfl hR.om (hR.f rfl) ?_
                      refine hr_iload3 (q := 194) X dX5_says_193 rfl ?_
                      refine hr_ialdN (v := (nI (A.1.1 13 (A.1.1 21 (iN a1))))) (q := 195) X dX5_says_194 rfl (hR.ka (n := 7) rfl rfl rfl) (Or.inl rfl) (by omega) (by decide) ((hR.ar rfl _).trans (hA.p (by decide) (by decide) (by omega))) ?_
                      have b194 := hW.w.b13 (show A.1.1 21 (iN a1) < 7 by omega)
                      exact hr_iret X hr dX5_says_195 (tw_end (by rw [sq_says, if_pos c5, if_neg c9, if_pos c15, if_neg (show ¬ ((A.1.1 18 (iN a1)) = 1) by omega), if_neg (show ¬ ((A.1.1 18 (iN a1)) = 0) by omega), if_neg (show ¬ ((iN a2) = 1) by omega), if_neg (show ¬ ((iN a2) = 3) by omega), if_neg (show ¬ ((iN a2) = 4) by omega), if_pos (show (iN a2) = 0 by omega), if_neg e136_0, if_neg e136_1, if_neg e136_2, if_pos e136_3]) hR hA)
                    by_cases e136_4 : (iN a2) = 4
                    · refine hr_tableIn (off := 60) (tgt := 196) X dX5_says_136 (by rw [(congrArg nI e136_4)]; decide) (by rw [(congrArg nI e136_4)]; decide) (by rw [(congrArg nI e136_4)]; rfl) (by decide) ?_
                      refine hr_aload0 (q := 197) X dX5_says_196 rfl ?_
                      refine hr_getR (v := am 12) (q := 200) X dX5_says_197 rfl fr_q1394_5 rfl hR.om (hR.f rfl) ?_
                      refine hr_iload3 (q := 201) X dX5_says_200 rfl ?_
                      refine hr_ialdN (v := (nI (A.1.1 12 (A.1.1 21 (iN a1))))) (q := 202) X dX5_says_201 rfl (hR.ka (n := 7) rfl rfl rfl) (Or.inl rfl) (by omega) (by decide) ((hR.ar rfl _).trans (hA.p (by decide) (by decide) (by omega))) ?_
                      have b201 := hW.w.b12 (show A.1.1 21 (iN a1) < 7 by omega)
                      exact hr_iret X hr dX5_says_202 (tw_end (by rw [sq_says, if_pos c5, if_neg c9, if_pos c15, if_neg (show ¬ ((A.1.1 18 (iN a1)) = 1) by omega), if_neg (show ¬ ((A.1.1 18 (iN a1)) = 0) by omega), if_neg (show ¬ ((iN a2) = 1) by omega), if_neg (show ¬ ((iN a2) = 3) by omega), if_neg (show ¬ ((iN a2) = 4) by omega), if_pos (show (iN a2) = 0 by omega), if_neg e136_0, if_neg e136_1, if_neg e136_2, if_neg e136_3, if_pos e136_4]) hR hA)
                    by_cases e136_5 : (iN a2) = 5
                    · refine hr_tableIn (off := 53) (tgt := 189) X dX5_says_136 (by rw [(congrArg nI e136_5)]; decide) (by rw [(congrArg nI e136_5)]; decide) (by rw [(congrArg nI e136_5)]; rfl) (by decide) ?_
                      refine hr_aload0 (q := 190) X dX5_says_189 rfl ?_
                      refine hr_getR (v := am 13) (q := 193) X dX5_says_190 rfl fr_q1395_5 rfl hR.om (hR.f rfl) ?_
                      refine hr_iload3 (q := 194) X dX5_says_193 rfl ?_
                      refine hr_ialdN (v := (nI (A.1.1 13 (A.1.1 21 (iN a1))))) (q := 195) X dX5_says_194 rfl (hR.ka (n := 7) rfl rfl rfl) (Or.inl rfl) (by omega) (by decide) ((hR.ar rfl _).trans (hA.p (by decide) (by decide) (by omega))) ?_
                      have b194 := hW.w.b13 (show A.1.1 21 (iN a1) < 7 by omega)
                      exact hr_iret X hr dX5_says_195 (tw_end (by rw [sq_says, if_pos c5, if_neg c9, if_pos c15, if_neg (show ¬ ((A.1.1 18 (iN a1)) = 1) by omega), if_neg (show ¬ ((A.1.1 18 (iN a1)) = 0) by omega), if_neg (show ¬ ((iN a2) = 1) by omega), if_neg (show ¬ ((iN a2) = 3) by omega), if_neg (show ¬ ((iN a2) = 4) by omega), if_pos (show (iN a2) = 0 by omega), if_neg e136_0, if_neg e136_1, if_neg e136_2, if_neg e136_3, if_neg e136_4, if_pos e136_5]) hR hA)
                    refine hr_tableOut (tgt := 196) X dX5_says_136 (sp_out (n := 6) (by decide) (fun i hi => by match i, hi with | 0, _ => exact (fun z => e136_0 ((nI_eq (by omega) (by omega)).mp z)) | 1, _ => exact (fun z => e136_1 ((nI_eq (by omega) (by omega)).mp z)) | 2, _ => exact (fun z => e136_2 ((nI_eq (by omega) (by omega)).mp z)) | 3, _ => exact (fun z => e136_3 ((nI_eq (by omega) (by omega)).mp z)) | 4, _ => exact (fun z => e136_4 ((nI_eq (by omega) (by omega)).mp z)) | 5, _ => exact (fun z => e136_5 ((nI_eq (by omega) (by omega)).mp z)) | (k + 6), hi => omega)) (by decide) ?_
                    refine hr_aload0 (q := 197) X dX5_says_196 rfl ?_
                    refine hr_getR (v := am 12) (q := 200) X dX5_says_197 rfl fr_q1394_5 rfl hR.om (hR.f rfl) ?_
                    refine hr_iload3 (q := 201) X dX5_says_200 rfl ?_
                    refine hr_ialdN (v := (nI (A.1.1 12 (A.1.1 21 (iN a1))))) (q := 202) X dX5_says_201 rfl (hR.ka (n := 7) rfl rfl rfl) (Or.inl rfl) (by omega) (by decide) ((hR.ar rfl _).trans (hA.p (by decide) (by decide) (by omega))) ?_
                    have b201 := hW.w.b12 (show A.1.1 21 (iN a1) < 7 by omega)
                    exact hr_iret X hr dX5_says_202 (tw_end (by rw [sq_says, if_pos c5, if_neg c9, if_pos c15, if_neg (show ¬ ((A.1.1 18 (iN a1)) = 1) by omega), if_neg (show ¬ ((A.1.1 18 (iN a1)) = 0) by omega), if_neg (show ¬ ((iN a2) = 1) by omega), if_neg (show ¬ ((iN a2) = 3) by omega), if_neg (show ¬ ((iN a2) = 4) by omega), if_pos (show (iN a2) = 0 by omega), if_neg e136_0, if_neg e136_1, if_neg e136_2, if_neg e136_3, if_neg e136_4, if_neg e136_5]) hR hA)
                  · refine hr_iload2 (q := 118) X dX5_says_117 rfl ?_
                    refine hr_iload4 (q := 120) X dX5_says_118 rfl ?_
                    refine hr_icmpN_eq (q := 123) (tgt := 135) X dX5_says_120 rfl (by decide) (by omega) (by omega) (fun c120 => ?_) (fun c120 => ?_)
                    · refine hr_iload2 (q := 136) X dX5_says_135 rfl ?_
                      by_cases e136_0 : (iN a2) = 0
                      · refine hr_tableIn (off := 40) (tgt := 176) X dX5_says_136 (by rw [(congrArg nI e136_0)]; decide) (by rw [(congrArg nI e136_0)]; decide) (by rw [(congrArg nI e136_0)]; rfl) (by decide) ?_
                        refine hr_aload0 (q := 177) X dX5_says_176 rfl ?_
                        refine hr_getR (v := am 14) (q := 180) X dX5_says_177 rfl fr_q1396_5 rfl hR.om (hR.f rfl) ?_
                        refine hr_iload3 (q := 181) X dX5_says_180 rfl ?_
                        refine hr_ialdN (v := (nI (A.1.1 14 (A.1.1 21 (iN a1))))) (q := 182) X dX5_says_181 rfl (hR.ka (n := 7) rfl rfl rfl) (Or.inl rfl) (by omega) (by decide) ((hR.ar rfl _).trans (hA.p (by decide) (by decide) (by omega))) ?_
                        have b181 := hW.w.b14 (show A.1.1 21 (iN a1) < 7 by omega)
                        exact hr_iret X hr dX5_says_182 (tw_end (by rw [sq_says, if_pos c5, if_neg c9, if_pos c15, if_neg (show ¬ ((A.1.1 18 (iN a1)) = 1) by omega), if_neg (show ¬ ((A.1.1 18 (iN a1)) = 0) by omega), if_neg (show ¬ ((iN a2) = 1) by omega), if_neg (show ¬ ((iN a2) = 3) by omega), if_neg (show ¬ ((iN a2) = 4) by omega), if_neg (show ¬ ((iN a2) = 0) by omega), if_pos (show (iN a2) = (A.1.1 9 (A.1.1 21 (iN a1))) by omega), if_pos e136_0]) hR hA)
                      by_cases e136_1 : (iN a2) = 1
                      · refine hr_tableIn (off := 47) (tgt := 183) X dX5_says_136 (by rw [(congrArg nI e136_1)]; decide) (by rw [(congrArg nI e136_1)]; decide) (by rw [(congrArg nI e136_1)]; rfl) (by decide) ?_
                        refine hr_aload0 (q := 184) X dX5_says_183 rfl ?_
                        refine hr_iload3 (q := 185) X dX5_says_184 rfl ?_
                        refine hr_callP (q := 188) (hc_V (n := 1) (ci := 5) (As := [.int (nI (A.1.1 21 (iN a1)))]) X dX5_says_185 rfl (tk_shows X.tr hR hA.t hw (x := A.1.1 21 (iN a1)) (by omega)) q1555 cv_X5_shows ⟨Nat.le_of_ble_eq_true rfl, Nat.le_of_ble_eq_true rfl⟩ rfl (Nat.le_of_ble_eq_true rfl) hR.om rfl rfl) rfl ?_
                        have := sp_shows_lt (t := A.1) hw (x := (A.1.1 21 (iN a1))) (by omega)
                        exact hr_iret X hr dX5_says_188 (tw_end (by rw [sq_says, if_pos c5, if_neg c9, if_pos c15, if_neg (show ¬ ((A.1.1 18 (iN a1)) = 1) by omega), if_neg (show ¬ ((A.1.1 18 (iN a1)) = 0) by omega), if_neg (show ¬ ((iN a2) = 1) by omega), if_neg (show ¬ ((iN a2) = 3) by omega), if_neg (show ¬ ((iN a2) = 4) by omega), if_neg (show ¬ ((iN a2) = 0) by omega), if_pos (show (iN a2) = (A.1.1 9 (A.1.1 21 (iN a1))) by omega), if_neg e136_0, if_pos e136_1]) hR hA)
                      by_cases e136_2 : (iN a2) = 2
                      · refine hr_tableIn (off := 47) (tgt := 183) X dX5_says_136 (by rw [(congrArg nI e136_2)]; decide) (by rw [(congrArg nI e136_2)]; decide) (by rw [(congrArg nI e136_2)]; rfl) (by decide) ?_
                        refine hr_aload0 (q := 184) X dX5_says_183 rfl ?_
                        refine hr_iload3 (q := 185) X dX5_says_184 rfl ?_
                        refine hr_callP (q := 188) (hc_V (n := 1) (ci := 5) (As := [.int (nI (A.1.1 21 (iN a1)))]) X dX5_says_185 rfl (tk_shows X.tr hR hA.t hw (x := A.1.1 21 (iN a1)) (by omega)) q1555 cv_X5_shows ⟨Nat.le_of_ble_eq_true rfl, Nat.le_of_ble_eq_true rfl⟩ rfl (Nat.le_of_ble_eq_true rfl) hR.om rfl rfl) rfl ?_
                        have := sp_shows_lt (t := A.1) hw (x := (A.1.1 21 (iN a1))) (by omega)
                        exact hr_iret X hr dX5_says_188 (tw_end (by rw [sq_says, if_pos c5, if_neg c9, if_pos c15, if_neg (show ¬ ((A.1.1 18 (iN a1)) = 1) by omega), if_neg (show ¬ ((A.1.1 18 (iN a1)) = 0) by omega), if_neg (show ¬ ((iN a2) = 1) by omega), if_neg (show ¬ ((iN a2) = 3) by omega), if_neg (show ¬ ((iN a2) = 4) by omega), if_neg (show ¬ ((iN a2) = 0) by omega), if_pos (show (iN a2) = (A.1.1 9 (A.1.1 21 (iN a1))) by omega), if_neg e136_0, if_neg e136_1, if_pos e136_2]) hR hA)
                      by_cases e136_3 : (iN a2) = 3
                      · refine hr_tableIn (off := 53) (tgt := 189) X dX5_says_136 (by rw [(congrArg nI e136_3)]; decide) (by rw [(congrArg nI e136_3)]; decide) (by rw [(congrArg nI e136_3)]; rfl) (by decide) ?_
                        refine hr_aload0 (q := 190) X dX5_says_189 rfl ?_
                        refine hr_getR (v := am 13) (q := 193) X dX5_says_190 rfl fr_q1395_5 rfl hR.om (hR.f rfl) ?_
                        refine hr_iload3 (q := 194) X dX5_says_193 rfl ?_
                        refine hr_ialdN (v := (nI (A.1.1 13 (A.1.1 21 (iN a1))))) (q := 195) X dX5_says_194 rfl (hR.ka (n := 7) rfl rfl rfl) (Or.inl rfl) (by omega) (by decide) ((hR.ar rfl _).trans (hA.p (by decide) (by decide) (by omega))) ?_
                        have b194 := hW.w.b13 (show A.1.1 21 (iN a1) < 7 by omega)
                        exact hr_iret X hr dX5_says_195 (tw_end (by rw [sq_says, if_pos c5, if_neg c9, if_pos c15, if_neg (show ¬ ((A.1.1 18 (iN a1)) = 1) by omega), if_neg (show ¬ ((A.1.1 18 (iN a1)) = 0) by omega), if_neg (show ¬ ((iN a2) = 1) by omega), if_neg (show ¬ ((iN a2) = 3) by omega), if_neg (show ¬ ((iN a2) = 4) by omega), if_neg (show ¬ ((iN a2) = 0) by omega), if_pos (show (iN a2) = (A.1.1 9 (A.1.1 21 (iN a1))) by omega), if_neg e136_0, if_neg e136_1, if_neg e136_2, if_pos e136_3]) hR hA)
                      by_cases e136_4 : (iN a2) = 4
                      · refine hr_tableIn (off := 60) (tgt := 196) X dX5_says_136 (by rw [(congrArg nI e136_4)]; decide) (by rw [(congrArg nI e136_4)]; decide) (by rw [(congrArg nI e136_4)]; rfl) (by decide) ?_
                        refine hr_aload0 (q := 197) X dX5_says_196 rfl ?_
                        refine hr_getR (v := am 12) (q := 200) X dX5_says_197 rfl fr_q1394_5 rfl hR.om (hR.f rfl) ?_
                        refine hr_iload3 (q := 201) X dX5_says_200 rfl ?_
                        refine hr_ialdN (v := (nI (A.1.1 12 (A.1.1 21 (iN a1))))) (q := 202) X dX5_says_201 rfl (hR.ka (n := 7) rfl rfl rfl) (Or.inl rfl) (by omega) (by decide) ((hR.ar rfl _).trans (hA.p (by decide) (by decide) (by omega))) ?_
                        have b201 := hW.w.b12 (show A.1.1 21 (iN a1) < 7 by omega)
                        exact hr_iret X hr dX5_says_202 (tw_end (by rw [sq_says, if_pos c5, if_neg c9, if_pos c15, if_neg (show ¬ ((A.1.1 18 (iN a1)) = 1) by omega), if_neg (show ¬ ((A.1.1 18 (iN a1)) = 0) by omega), if_neg (show ¬ ((iN a2) = 1) by omega), if_neg (show ¬ ((iN a2) = 3) by omega), if_neg (show ¬ ((iN a2) = 4) by omega), if_neg (show ¬ ((iN a2) = 0) by omega), if_pos (show (iN a2) = (A.1.1 9 (A.1.1 21 (iN a1))) by omega), if_neg e136_0, if_neg e136_1, if_neg e136_2, if_neg e136_3, if_pos e136_4]) hR hA)
                      by_cases e136_5 : (iN a2) = 5
                      · refine hr_tableIn (off := 53) (tgt := 189) X dX5_says_136 (by rw [(congrArg nI e136_5)]; decide) (by rw [(congrArg nI e136_5)]; decide) (by rw [(congrArg nI e136_5)]; rfl) (by decide) ?_
                        refine hr_aload0 (q := 190) X dX5_says_189 rfl ?_
                        refine hr_getR (v := am 13) (q := 193) X dX5_says_190 rfl fr_q1395_5 rfl hR.om (hR.f rfl) ?_
                        refine hr_iload3 (q := 194) X dX5_says_193 rfl ?_
                        refine hr_ialdN (v := (nI (A.1.1 13 (A.1.1 21 (iN a1))))) (q := 195) X dX5_says_194 rfl (hR.ka (n := 7) rfl rfl rfl) (Or.inl rfl) (by omega) (by decide) ((hR.ar rfl _).trans (hA.p (by decide) (by decide) (by omega))) ?_
                        have b194 := hW.w.b13 (show A.1.1 21 (iN a1) < 7 by omega)
                        exact hr_iret X hr dX5_says_195 (tw_end (by rw [sq_says, if_pos c5, if_neg c9, if_pos c15, if_neg (show ¬ ((A.1.1 18 (iN a1)) = 1) by omega), if_neg (show ¬ ((A.1.1 18 (iN a1)) = 0) by omega), if_neg (show ¬ ((iN a2) = 1) by omega), if_neg (show ¬ ((iN a2) = 3) by omega), if_neg (show ¬ ((iN a2) = 4) by omega), if_neg (show ¬ ((iN a2) = 0) by omega), if_pos (show (iN a2) = (A.1.1 9 (A.1.1 21 (iN a1))) by omega), if_neg e136_0, if_neg e136_1, if_neg e136_2, if_neg e136_3, if_neg e136_4, if_pos e136_5]) hR hA)
                      refine hr_tableOut (tgt := 196) X dX5_says_136 (sp_out (n := 6) (by decide) (fun i hi => by match i, hi with | 0, _ => exact (fun z => e136_0 ((nI_eq (by omega) (by omega)).mp z)) | 1, _ => exact (fun z => e136_1 ((nI_eq (by omega) (by omega)).mp z)) | 2, _ => exact (fun z => e136_2 ((nI_eq (by omega) (by omega)).mp z)) | 3, _ => exact (fun z => e136_3 ((nI_eq (by omega) (by omega)).mp z)) | 4, _ => exact (fun z => e136_4 ((nI_eq (by omega) (by omega)).mp z)) | 5, _ => exact (fun z => e136_5 ((nI_eq (by omega) (by omega)).mp z)) | (k + 6), hi => omega)) (by decide) ?_
                      refine hr_aload0 (q := 197) X dX5_says_196 rfl ?_
                      refine hr_getR (v := am 12) (q := 200) X dX5_says_197 rfl fr_q1394_5 rfl hR.om (hR.f rfl) ?_
                      refine hr_iload3 (q := 201) X dX5_says_200 rfl ?_
                      refine hr_ialdN (v := (nI (A.1.1 12 (A.1.1 21 (iN a1))))) (q := 202) X dX5_says_201 rfl (hR.ka (n := 7) rfl rfl rfl) (Or.inl rfl) (by omega) (by decide) ((hR.ar rfl _).trans (hA.p (by decide) (by decide) (by omega))) ?_
                      have b201 := hW.w.b12 (show A.1.1 21 (iN a1) < 7 by omega)
                      exact hr_iret X hr dX5_says_202 (tw_end (by rw [sq_says, if_pos c5, if_neg c9, if_pos c15, if_neg (show ¬ ((A.1.1 18 (iN a1)) = 1) by omega), if_neg (show ¬ ((A.1.1 18 (iN a1)) = 0) by omega), if_neg (show ¬ ((iN a2) = 1) by omega), if_neg (show ¬ ((iN a2) = 3) by omega), if_neg (show ¬ ((iN a2) = 4) by omega), if_neg (show ¬ ((iN a2) = 0) by omega), if_pos (show (iN a2) = (A.1.1 9 (A.1.1 21 (iN a1))) by omega), if_neg e136_0, if_neg e136_1, if_neg e136_2, if_neg e136_3, if_neg e136_4, if_neg e136_5]) hR hA)
                    · refine hr_iload5 (q := 125) X dX5_says_123 rfl ?_
                      refine hr_if_ne (q := 128) (tgt := 135) X dX5_says_125 rfl (by decide) (fun z => absurd z (by decide)) (fun _ => ?_)
                      refine hr_aload0 (q := 129) X dX5_says_128 rfl ?_
                      refine hr_bipush (v := (-2)) (q := 131) X dX5_says_129 rfl rfl ?_
                      refine hr_callT (q := 134) (hc_V (n := 1) (ci := 5) (As := [.int (-2)]) X dX5_says_131 rfl (tk_no X.tr hR hA (b := (-2)) (by decide)) q1523 cv_X5_no ⟨Nat.le_of_ble_eq_true rfl, Nat.le_of_ble_eq_true rfl⟩ rfl (Nat.le_of_ble_eq_true rfl) hR.om rfl rfl) rfl (fun G3 u3 hR3 hA3 => ?_)
                      exact hr_iret X hr dX5_says_134 (tw_end (by rw [sq_says, if_pos c5, if_neg c9, if_pos c15, if_neg (show ¬ ((A.1.1 18 (iN a1)) = 1) by omega), if_neg (show ¬ ((A.1.1 18 (iN a1)) = 0) by omega), if_neg (show ¬ ((iN a2) = 1) by omega), if_neg (show ¬ ((iN a2) = 3) by omega), if_neg (show ¬ ((iN a2) = 4) by omega), if_neg (show ¬ ((iN a2) = 0) by omega), if_neg (show ¬ ((iN a2) = (A.1.1 9 (A.1.1 21 (iN a1)))) by omega)]) hR3 hA3)
                · refine hr_iload4 (q := 101) X dX5_says_99 rfl ?_
                  refine hr_bipush (v := (nI 6)) (q := 103) X dX5_says_101 rfl rfl ?_
                  refine hr_icmpN_ne (q := 106) (tgt := 110) X dX5_says_103 rfl (by decide) (by omega) (by omega) (fun c103 => ?_) (fun c103 => ?_)
                  · refine hr_iconst (v := (nI 0)) (q := 111) X dX5_says_110 rfl rfl ?_
                    refine hr_istore5 (q := 113) X dX5_says_111 rfl rfl (Nat.le_of_ble_eq_true rfl) ?_
                    refine hr_iload2 (q := 114) X dX5_says_113 rfl ?_
                    refine hr_ifN_eq (q := 117) (tgt := 135) X dX5_says_114 rfl (by decide) (by omega) (fun c114 => ?_) (fun c114 => ?_)
                    · refine hr_iload2 (q := 136) X dX5_says_135 rfl ?_
                      by_cases e136_0 : (iN a2) = 0
                      · refine hr_tableIn (off := 40) (tgt := 176) X dX5_says_136 (by rw [(congrArg nI e136_0)]; decide) (by rw [(congrArg nI e136_0)]; decide) (by rw [(congrArg nI e136_0)]; rfl) (by decide) ?_
                        refine hr_aload0 (q := 177) X dX5_says_176 rfl ?_
                        refine hr_getR (v := am 14) (q := 180) X dX5_says_177 rfl fr_q1396_5 rfl hR.om (hR.f rfl) ?_
                        refine hr_iload3 (q := 181) X dX5_says_180 rfl ?_
                        refine hr_ialdN (v := (nI (A.1.1 14 (A.1.1 21 (iN a1))))) (q := 182) X dX5_says_181 rfl (hR.ka (n := 7) rfl rfl rfl) (Or.inl rfl) (by omega) (by decide) ((hR.ar rfl _).trans (hA.p (by decide) (by decide) (by omega))) ?_
                        have b181 := hW.w.b14 (show A.1.1 21 (iN a1) < 7 by omega)
                        exact hr_iret X hr dX5_says_182 (tw_end (by rw [sq_says, if_pos c5, if_neg c9, if_pos c15, if_neg (show ¬ ((A.1.1 18 (iN a1)) = 1) by omega), if_neg (show ¬ ((A.1.1 18 (iN a1)) = 0) by omega), if_neg (show ¬ ((iN a2) = 1) by omega), if_neg (show ¬ ((iN a2) = 3) by omega), if_pos (show (iN a2) = 4 by omega), if_neg (show ¬ ((A.1.1 9 (A.1.1 21 (iN a1))) = 6) by omega), if_pos (show (iN a2) = 0 by omega), if_pos e136_0]) hR hA)
                      by_cases e136_1 : (iN a2) = 1
                      · refine hr_tableIn (off := 47) (tgt := 183) X dX5_says_136 (by rw [(congrArg nI e136_1)]; decide) (by rw [(congrArg nI e136_1)]; decide) (by rw [(congrArg nI e136_1)]; rfl) (by decide) ?_
                        refine hr_aload0 (q := 184) X dX5_says_183 rfl ?_
                        refine hr_iload3 (q := 185) X dX5_says_184 rfl ?_
                        refine hr_callP (q := 188) (hc_V (n := 1) (ci := 5) (As := [.int (nI (A.1.1 21 (iN a1)))]) X dX5_says_185 rfl (tk_shows X.tr hR hA.t hw (x := A.1.1 21 (iN a1)) (by omega)) q1555 cv_X5_shows ⟨Nat.le_of_ble_eq_true rfl, Nat.le_of_ble_eq_true rfl⟩ rfl (Nat.le_of_ble_eq_true rfl) hR.om rfl rfl) rfl ?_
                        have := sp_shows_lt (t := A.1) hw (x := (A.1.1 21 (iN a1))) (by omega)
                        exact hr_iret X hr dX5_says_188 (tw_end (by rw [sq_says, if_pos c5, if_neg c9, if_pos c15, if_neg (show ¬ ((A.1.1 18 (iN a1)) = 1) by omega), if_neg (show ¬ ((A.1.1 18 (iN a1)) = 0) by omega), if_neg (show ¬ ((iN a2) = 1) by omega), if_neg (show ¬ ((iN a2) = 3) by omega), if_pos (show (iN a2) = 4 by omega), if_neg (show ¬ ((A.1.1 9 (A.1.1 21 (iN a1))) = 6) by omega), if_pos (show (iN a2) = 0 by omega), if_neg e136_0, if_pos e136_1]) hR hA)
                      by_cases e136_2 : (iN a2) = 2
                      · refine hr_tableIn (off := 47) (tgt := 183) X dX5_says_136 (by rw [(congrArg nI e136_2)]; decide) (by rw [(congrArg nI e136_2)]; decide) (by rw [(congrArg nI e136_2)]; rfl) (by decide) ?_
                        refine hr_aload0 (q := 184) X dX5_says_183 rfl ?_
                        refine hr_iload3 (q := 185) X dX5_says_184 rfl ?_
                        refine hr_callP (q := 188) (hc_V (n := 1) (ci := 5) (As := [.int (nI (A.1.1 21 (iN a1)))]) X dX5_says_185 rfl (tk_shows X.tr hR hA.t hw (x := A.1.1 21 (iN a1)) (by omega)) q1555 cv_X5_shows ⟨Nat.le_of_ble_eq_true rfl, Nat.le_of_ble_eq_true rfl⟩ rfl (Nat.le_of_ble_eq_true rfl) hR.om rfl rfl) rfl ?_
                        have := sp_shows_lt (t := A.1) hw (x := (A.1.1 21 (iN a1))) (by omega)
                        exact hr_iret X hr dX5_says_188 (tw_end (by rw [sq_says, if_pos c5, if_neg c9, if_pos c15, if_neg (show ¬ ((A.1.1 18 (iN a1)) = 1) by omega), if_neg (show ¬ ((A.1.1 18 (iN a1)) = 0) by omega), if_neg (show ¬ ((iN a2) = 1) by omega), if_neg (show ¬ ((iN a2) = 3) by omega), if_pos (show (iN a2) = 4 by omega), if_neg (show ¬ ((A.1.1 9 (A.1.1 21 (iN a1))) = 6) by omega), if_pos (show (iN a2) = 0 by omega), if_neg e136_0, if_neg e136_1, if_pos e136_2]) hR hA)
                      by_cases e136_3 : (iN a2) = 3
                      · refine hr_tableIn (off := 53) (tgt := 189) X dX5_says_136 (by rw [(congrArg nI e136_3)]; decide) (by rw [(congrArg nI e136_3)]; decide) (by rw [(congrArg nI e136_3)]; rfl) (by decide) ?_
                        refine hr_aload0 (q := 190) X dX5_says_189 rfl ?_
                        refine hr_getR (v := am 13) (q := 193) X dX5_says_190 rfl fr_q1395_5 rfl hR.om (hR.f rfl) ?_
                        refine hr_iload3 (q := 194) X dX5_says_193 rfl ?_
                        refine hr_ialdN (v := (nI (A.1.1 13 (A.1.1 21 (iN a1))))) (q := 195) X dX5_says_194 rfl (hR.ka (n := 7) rfl rfl rfl) (Or.inl rfl) (by omega) (by decide) ((hR.ar rfl _).trans (hA.p (by decide) (by decide) (by omega))) ?_
                        have b194 := hW.w.b13 (show A.1.1 21 (iN a1) < 7 by omega)
                        exact hr_iret X hr dX5_says_195 (tw_end (by rw [sq_says, if_pos c5, if_neg c9, if_pos c15, if_neg (show ¬ ((A.1.1 18 (iN a1)) = 1) by omega), if_neg (show ¬ ((A.1.1 18 (iN a1)) = 0) by omega), if_neg (show ¬ ((iN a2) = 1) by omega), if_neg (show ¬ ((iN a2) = 3) by omega), if_pos (show (iN a2) = 4 by omega), if_neg (show ¬ ((A.1.1 9 (A.1.1 21 (iN a1))) = 6) by omega), if_pos (show (iN a2) = 0 by omega), if_neg e136_0, if_neg e136_1, if_neg e136_2, if_pos e136_3]) hR hA)
                      by_cases e136_4 : (iN a2) = 4
                      · refine hr_tableIn (off := 60) (tgt := 196) X dX5_says_136 (by rw [(congrArg nI e136_4)]; decide) (by rw [(congrArg nI e136_4)]; decide) (by rw [(congrArg nI e136_4)]; rfl) (by decide) ?_
                        refine hr_aload0 (q := 197) X dX5_says_196 rfl ?_
                        refine hr_getR (v := am 12) (q := 200) X dX5_says_197 rfl fr_q1394_5 rfl hR.om (hR.f rfl) ?_
                        refine hr_iload3 (q := 201) X dX5_says_200 rfl ?_
                        refine hr_ialdN (v := (nI (A.1.1 12 (A.1.1 21 (iN a1))))) (q := 202) X dX5_says_201 rfl (hR.ka (n := 7) rfl rfl rfl) (Or.inl rfl) (by omega) (by decide) ((hR.ar rfl _).trans (hA.p (by decide) (by decide) (by omega))) ?_
                        have b201 := hW.w.b12 (show A.1.1 21 (iN a1) < 7 by omega)
                        exact hr_iret X hr dX5_says_202 (tw_end (by rw [sq_says, if_pos c5, if_neg c9, if_pos c15, if_neg (show ¬ ((A.1.1 18 (iN a1)) = 1) by omega), if_neg (show ¬ ((A.1.1 18 (iN a1)) = 0) by omega), if_neg (show ¬ ((iN a2) = 1) by omega), if_neg (show ¬ ((iN a2) = 3) by omega), if_pos (show (iN a2) = 4 by omega), if_neg (show ¬ ((A.1.1 9 (A.1.1 21 (iN a1))) = 6) by omega), if_pos (show (iN a2) = 0 by omega), if_neg e136_0, if_neg e136_1, if_neg e136_2, if_neg e136_3, if_pos e136_4]) hR hA)
                      by_cases e136_5 : (iN a2) = 5
                      · refine hr_tableIn (off := 53) (tgt := 189) X dX5_says_136 (by rw [(congrArg nI e136_5)]; decide) (by rw [(congrArg nI e136_5)]; decide) (by rw [(congrArg nI e136_5)]; rfl) (by decide) ?_
                        refine hr_aload0 (q := 190) X dX5_says_189 rfl ?_
                        refine hr_getR (v := am 13) (q := 193) X dX5_says_190 rfl fr_q1395_5 rfl hR.om (hR.f rfl) ?_
                        refine hr_iload3 (q := 194) X dX5_says_193 rfl ?_
                        refine hr_ialdN (v := (nI (A.1.1 13 (A.1.1 21 (iN a1))))) (q := 195) X dX5_says_194 rfl (hR.ka (n := 7) rfl rfl rfl) (Or.inl rfl) (by omega) (by decide) ((hR.ar rfl _).trans (hA.p (by decide) (by decide) (by omega))) ?_
                        have b194 := hW.w.b13 (show A.1.1 21 (iN a1) < 7 by omega)
                        exact hr_iret X hr dX5_says_195 (tw_end (by rw [sq_says, if_pos c5, if_neg c9, if_pos c15, if_neg (show ¬ ((A.1.1 18 (iN a1)) = 1) by omega), if_neg (show ¬ ((A.1.1 18 (iN a1)) = 0) by omega), if_neg (show ¬ ((iN a2) = 1) by omega), if_neg (show ¬ ((iN a2) = 3) by omega), if_pos (show (iN a2) = 4 by omega), if_neg (show ¬ ((A.1.1 9 (A.1.1 21 (iN a1))) = 6) by omega), if_pos (show (iN a2) = 0 by omega), if_neg e136_0, if_neg e136_1, if_neg e136_2, if_neg e136_3, if_neg e136_4, if_pos e136_5]) hR hA)
                      refine hr_tableOut (tgt := 196) X dX5_says_136 (sp_out (n := 6) (by decide) (fun i hi => by match i, hi with | 0, _ => exact (fun z => e136_0 ((nI_eq (by omega) (by omega)).mp z)) | 1, _ => exact (fun z => e136_1 ((nI_eq (by omega) (by omega)).mp z)) | 2, _ => exact (fun z => e136_2 ((nI_eq (by omega) (by omega)).mp z)) | 3, _ => exact (fun z => e136_3 ((nI_eq (by omega) (by omega)).mp z)) | 4, _ => exact (fun z => e136_4 ((nI_eq (by omega) (by omega)).mp z)) | 5, _ => exact (fun z => e136_5 ((nI_eq (by omega) (by omega)).mp z)) | (k + 6), hi => omega)) (by decide) ?_
                      refine hr_aload0 (q := 197) X dX5_says_196 rfl ?_
                      refine hr_getR (v := am 12) (q := 200) X dX5_says_197 rfl fr_q1394_5 rfl hR.om (hR.f rfl) ?_
                      refine hr_iload3 (q := 201) X dX5_says_200 rfl ?_
                      refine hr_ialdN (v := (nI (A.1.1 12 (A.1.1 21 (iN a1))))) (q := 202) X dX5_says_201 rfl (hR.ka (n := 7) rfl rfl rfl) (Or.inl rfl) (by omega) (by decide) ((hR.ar rfl _).trans (hA.p (by decide) (by decide) (by omega))) ?_
                      have b201 := hW.w.b12 (show A.1.1 21 (iN a1) < 7 by omega)
                      exact hr_iret X hr dX5_says_202 (tw_end (by rw [sq_says, if_pos c5, if_neg c9, if_pos c15, if_neg (show ¬ ((A.1.1 18 (iN a1)) = 1) by omega), if_neg (show ¬ ((A.1.1 18 (iN a1)) = 0) by omega), if_neg (show ¬ ((iN a2) = 1) by omega), if_neg (show ¬ ((iN a2) = 3) by omega), if_pos (show (iN a2) = 4 by omega), if_neg (show ¬ ((A.1.1 9 (A.1.1 21 (iN a1))) = 6) by omega), if_pos (show (iN a2) = 0 by omega), if_neg e136_0, if_neg e136_1, if_neg e136_2, if_neg e136_3, if_neg e136_4, if_neg e136_5]) hR hA)
                    · refine hr_iload2 (q := 118) X dX5_says_117 rfl ?_
                      refine hr_iload4 (q := 120) X dX5_says_118 rfl ?_
                      refine hr_icmpN_eq (q := 123) (tgt := 135) X dX5_says_120 rfl (by decide) (by omega) (by omega) (fun c120 => ?_) (fun c120 => ?_)
                      · refine hr_iload2 (q := 136) X dX5_says_135 rfl ?_
                        by_cases e136_0 : (iN a2) = 0
                        · refine hr_tableIn (off := 40) (tgt := 176) X dX5_says_136 (by rw [(congrArg nI e136_0)]; decide) (by rw [(congrArg nI e136_0)]; decide) (by rw [(congrArg nI e136_0)]; rfl) (by decide) ?_
                          refine hr_aload0 (q := 177) X dX5_says_176 rfl ?_
                          refine hr_getR (v := am 14) (q := 180) X dX5_says_177 rfl fr_q1396_5 rfl hR.om (hR.f rfl) ?_
                          refine hr_iload3 (q := 181) X dX5_says_180 rfl ?_
                          refine hr_ialdN (v := (nI (A.1.1 14 (A.1.1 21 (iN a1))))) (q := 182) X dX5_says_181 rfl (hR.ka (n := 7) rfl rfl rfl) (Or.inl rfl) (by omega) (by decide) ((hR.ar rfl _).trans (hA.p (by decide) (by decide) (by omega))) ?_
                          have b181 := hW.w.b14 (show A.1.1 21 (iN a1) < 7 by omega)
                          exact hr_iret X hr dX5_says_182 (tw_end (by rw [sq_says, if_pos c5, if_neg c9, if_pos c15, if_neg (show ¬ ((A.1.1 18 (iN a1)) = 1) by omega), if_neg (show ¬ ((A.1.1 18 (iN a1)) = 0) by omega), if_neg (show ¬ ((iN a2) = 1) by omega), if_neg (show ¬ ((iN a2) = 3) by omega), if_pos (show (iN a2) = 4 by omega), if_neg (show ¬ ((A.1.1 9 (A.1.1 21 (iN a1))) = 6) by omega), if_neg (show ¬ ((iN a2) = 0) by omega), if_pos (show (iN a2) = (A.1.1 9 (A.1.1 21 (iN a1))) by omega), if_pos e136_0]) hR hA)
                        by_cases e136_1 : (iN a2) = 1
                        · refine hr_tableIn (off := 47) (tgt := 183) X dX5_says_136 (by rw [(congrArg nI e136_1)]; decide) (by rw [(congrArg nI e136_1)]; decide) (by rw [(congrArg nI e136_1)]; rfl) (by decide) ?_
                          refine hr_aload0 (q := 184) X dX5_says_183 rfl ?_
                          refine hr_iload3 (q := 185) X dX5_says_184 rfl ?_
                          refine hr_callP (q := 188) (hc_V (n := 1) (ci := 5) (As := [.int (nI (A.1.1 21 (iN a1)))]) X dX5_says_185 rfl (tk_shows X.tr hR hA.t hw (x := A.1.1 21 (iN a1)) (by omega)) q1555 cv_X5_shows ⟨Nat.le_of_ble_eq_true rfl, Nat.le_of_ble_eq_true rfl⟩ rfl (Nat.le_of_ble_eq_true rfl) hR.om rfl rfl) rfl ?_
                          have := sp_shows_lt (t := A.1) hw (x := (A.1.1 21 (iN a1))) (by omega)
                          exact hr_iret X hr dX5_says_188 (tw_end (by rw [sq_says, if_pos c5, if_neg c9, if_pos c15, if_neg (show ¬ ((A.1.1 18 (iN a1)) = 1) by omega), if_neg (show ¬ ((A.1.1 18 (iN a1)) = 0) by omega), if_neg (show ¬ ((iN a2) = 1) by omega), if_neg (show ¬ ((iN a2) = 3) by omega), if_pos (show (iN a2) = 4 by omega), if_neg (show ¬ ((A.1.1 9 (A.1.1 21 (iN a1))) = 6) by omega), if_neg (show ¬ ((iN a2) = 0) by omega), if_pos (show (iN a2) = (A.1.1 9 (A.1.1 21 (iN a1))) by omega), if_neg e136_0, if_pos e136_1]) hR hA)
                        by_cases e136_2 : (iN a2) = 2
                        · refine hr_tableIn (off := 47) (tgt := 183) X dX5_says_136 (by rw [(congrArg nI e136_2)]; decide) (by rw [(congrArg nI e136_2)]; decide) (by rw [(congrArg nI e136_2)]; rfl) (by decide) ?_
                          refine hr_aload0 (q := 184) X dX5_says_183 rfl ?_
                          refine hr_iload3 (q := 185) X dX5_says_184 rfl ?_
                          refine hr_callP (q := 188) (hc_V (n := 1) (ci := 5) (As := [.int (nI (A.1.1 21 (iN a1)))]) X dX5_says_185 rfl (tk_shows X.tr hR hA.t hw (x := A.1.1 21 (iN a1)) (by omega)) q1555 cv_X5_shows ⟨Nat.le_of_ble_eq_true rfl, Nat.le_of_ble_eq_true rfl⟩ rfl (Nat.le_of_ble_eq_true rfl) hR.om rfl rfl) rfl ?_
                          have := sp_shows_lt (t := A.1) hw (x := (A.1.1 21 (iN a1))) (by omega)
                          exact hr_iret X hr dX5_says_188 (tw_end (by rw [sq_says, if_pos c5, if_neg c9, if_pos c15, if_neg (show ¬ ((A.1.1 18 (iN a1)) = 1) by omega), if_neg (show ¬ ((A.1.1 18 (iN a1)) = 0) by omega), if_neg (show ¬ ((iN a2) = 1) by omega), if_neg (show ¬ ((iN a2) = 3) by omega), if_pos (show (iN a2) = 4 by omega), if_neg (show ¬ ((A.1.1 9 (A.1.1 21 (iN a1))) = 6) by omega), if_neg (show ¬ ((iN a2) = 0) by omega), if_pos (show (iN a2) = (A.1.1 9 (A.1.1 21 (iN a1))) by omega), if_neg e136_0, if_neg e136_1, if_pos e136_2]) hR hA)
                        by_cases e136_3 : (iN a2) = 3
                        · refine hr_tableIn (off := 53) (tgt := 189) X dX5_says_136 (by rw [(congrArg nI e136_3)]; decide) (by rw [(congrArg nI e136_3)]; decide) (by rw [(congrArg nI e136_3)]; rfl) (by decide) ?_
                          refine hr_aload0 (q := 190) X dX5_says_189 rfl ?_
                          refine hr_getR (v := am 13) (q := 193) X dX5_says_190 rfl fr_q1395_5 rfl hR.om (hR.f rfl) ?_
                          refine hr_iload3 (q := 194) X dX5_says_193 rfl ?_
                          refine hr_ialdN (v := (nI (A.1.1 13 (A.1.1 21 (iN a1))))) (q := 195) X dX5_says_194 rfl (hR.ka (n := 7) rfl rfl rfl) (Or.inl rfl) (by omega) (by decide) ((hR.ar rfl _).trans (hA.p (by decide) (by decide) (by omega))) ?_
                          have b194 := hW.w.b13 (show A.1.1 21 (iN a1) < 7 by omega)
                          exact hr_iret X hr dX5_says_195 (tw_end (by rw [sq_says, if_pos c5, if_neg c9, if_pos c15, if_neg (show ¬ ((A.1.1 18 (iN a1)) = 1) by omega), if_neg (show ¬ ((A.1.1 18 (iN a1)) = 0) by omega), if_neg (show ¬ ((iN a2) = 1) by omega), if_neg (show ¬ ((iN a2) = 3) by omega), if_pos (show (iN a2) = 4 by omega), if_neg (show ¬ ((A.1.1 9 (A.1.1 21 (iN a1))) = 6) by omega), if_neg (show ¬ ((iN a2) = 0) by omega), if_pos (show (iN a2) = (A.1.1 9 (A.1.1 21 (iN a1))) by omega), if_neg e136_0, if_neg e136_1, if_neg e136_2, if_pos e136_3]) hR hA)
                        by_cases e136_4 : (iN a2) = 4
                        · refine hr_tableIn (off := 60) (tgt := 196) X dX5_says_136 (by rw [(congrArg nI e136_4)]; decide) (by rw [(congrArg nI e136_4)]; decide) (by rw [(congrArg nI e136_4)]; rfl) (by decide) ?_
                          refine hr_aload0 (q := 197) X dX5_says_196 rfl ?_
                          refine hr_getR (v := am 12) (q := 200) X dX5_says_197 rfl fr_q1394_5 rfl hR.om (hR.f rfl) ?_
                          refine hr_iload3 (q := 201) X dX5_says_200 rfl ?_
                          refine hr_ialdN (v := (nI (A.1.1 12 (A.1.1 21 (iN a1))))) (q := 202) X dX5_says_201 rfl (hR.ka (n := 7) rfl rfl rfl) (Or.inl rfl) (by omega) (by decide) ((hR.ar rfl _).trans (hA.p (by decide) (by decide) (by omega))) ?_
                          have b201 := hW.w.b12 (show A.1.1 21 (iN a1) < 7 by omega)
                          exact hr_iret X hr dX5_says_202 (tw_end (by rw [sq_says, if_pos c5, if_neg c9, if_pos c15, if_neg (show ¬ ((A.1.1 18 (iN a1)) = 1) by omega), if_neg (show ¬ ((A.1.1 18 (iN a1)) = 0) by omega), if_neg (show ¬ ((iN a2) = 1) by omega), if_neg (show ¬ ((iN a2) = 3) by omega), if_pos (show (iN a2) = 4 by omega), if_neg (show ¬ ((A.1.1 9 (A.1.1 21 (iN a1))) = 6) by omega), if_neg (show ¬ ((iN a2) = 0) by omega), if_pos (show (iN a2) = (A.1.1 9 (A.1.1 21 (iN a1))) by omega), if_neg e136_0, if_neg e136_1, if_neg e136_2, if_neg e136_3, if_pos e136_4]) hR hA)
                        by_cases e136_5 : (iN a2) = 5
                        · refine hr_tableIn (off := 53) (tgt := 189) X dX5_says_136 (by rw [(congrArg nI e136_5)]; decide) (by rw [(congrArg nI e136_5)]; decide) (by rw [(congrArg nI e136_5)]; rfl) (by decide) ?_
                          refine hr_aload0 (q := 190) X dX5_says_189 rfl ?_
                          refine hr_getR (v := am 13) (q := 193) X dX5_says_190 rfl fr_q1395_5 rfl hR.om (hR.f rfl) ?_
                          refine hr_iload3 (q := 194) X dX5_says_193 rfl ?_
                          refine hr_ialdN (v := (nI (A.1.1 13 (A.1.1 21 (iN a1))))) (q := 195) X dX5_says_194 rfl (hR.ka (n := 7) rfl rfl rfl) (Or.inl rfl) (by omega) (by decide) ((hR.ar rfl _).trans (hA.p (by decide) (by decide) (by omega))) ?_
                          have b194 := hW.w.b13 (show A.1.1 21 (iN a1) < 7 by omega)
                          exact hr_iret X hr dX5_says_195 (tw_end (by rw [sq_says, if_pos c5, if_neg c9, if_pos c15, if_neg (show ¬ ((A.1.1 18 (iN a1)) = 1) by omega), if_neg (show ¬ ((A.1.1 18 (iN a1)) = 0) by omega), if_neg (show ¬ ((iN a2) = 1) by omega), if_neg (show ¬ ((iN a2) = 3) by omega), if_pos (show (iN a2) = 4 by omega), if_neg (show ¬ ((A.1.1 9 (A.1.1 21 (iN a1))) = 6) by omega), if_neg (show ¬ ((iN a2) = 0) by omega), if_pos (show (iN a2) = (A.1.1 9 (A.1.1 21 (iN a1))) by omega), if_neg e136_0, if_neg e136_1, if_neg e136_2, if_neg e136_3, if_neg e136_4, if_pos e136_5]) hR hA)
                        refine hr_tableOut (tgt := 196) X dX5_says_136 (sp_out (n := 6) (by decide) (fun i hi => by match i, hi with | 0, _ => exact (fun z => e136_0 ((nI_eq (by omega) (by omega)).mp z)) | 1, _ => exact (fun z => e136_1 ((nI_eq (by omega) (by omega)).mp z)) | 2, _ => exact (fun z => e136_2 ((nI_eq (by omega) (by omega)).mp z)) | 3, _ => exact (fun z => e136_3 ((nI_eq (by omega) (by omega)).mp z)) | 4, _ => exact (fun z => e136_4 ((nI_eq (by omega) (by omega)).mp z)) | 5, _ => exact (fun z => e136_5 ((nI_eq (by omega) (by omega)).mp z)) | (k + 6), hi => omega)) (by decide) ?_
                        refine hr_aload0 (q := 197) X dX5_says_196 rfl ?_
                        refine hr_getR (v := am 12) (q := 200) X dX5_says_197 rfl fr_q1394_5 rfl hR.om (hR.f rfl) ?_
                        refine hr_iload3 (q := 201) X dX5_says_200 rfl ?_
                        refine hr_ialdN (v := (nI (A.1.1 12 (A.1.1 21 (iN a1))))) (q := 202) X dX5_says_201 rfl (hR.ka (n := 7) rfl rfl rfl) (Or.inl rfl) (by omega) (by decide) ((hR.ar rfl _).trans (hA.p (by decide) (by decide) (by omega))) ?_
                        have b201 := hW.w.b12 (show A.1.1 21 (iN a1) < 7 by omega)
                        exact hr_iret X hr dX5_says_202 (tw_end (by rw [sq_says, if_pos c5, if_neg c9, if_pos c15, if_neg (show ¬ ((A.1.1 18 (iN a1)) = 1) by omega), if_neg (show ¬ ((A.1.1 18 (iN a1)) = 0) by omega), if_neg (show ¬ ((iN a2) = 1) by omega), if_neg (show ¬ ((iN a2) = 3) by omega), if_pos (show (iN a2) = 4 by omega), if_neg (show ¬ ((A.1.1 9 (A.1.1 21 (iN a1))) = 6) by omega), if_neg (show ¬ ((iN a2) = 0) by omega), if_pos (show (iN a2) = (A.1.1 9 (A.1.1 21 (iN a1))) by omega), if_neg e136_0, if_neg e136_1, if_neg e136_2, if_neg e136_3, if_neg e136_4, if_neg e136_5]) hR hA)
                      · refine hr_iload5 (q := 125) X dX5_says_123 rfl ?_
                        refine hr_if_ne (q := 128) (tgt := 135) X dX5_says_125 rfl (by decide) (fun z => absurd z (by decide)) (fun _ => ?_)
                        refine hr_aload0 (q := 129) X dX5_says_128 rfl ?_
                        refine hr_bipush (v := (-2)) (q := 131) X dX5_says_129 rfl rfl ?_
                        refine hr_callT (q := 134) (hc_V (n := 1) (ci := 5) (As := [.int (-2)]) X dX5_says_131 rfl (tk_no X.tr hR hA (b := (-2)) (by decide)) q1523 cv_X5_no ⟨Nat.le_of_ble_eq_true rfl, Nat.le_of_ble_eq_true rfl⟩ rfl (Nat.le_of_ble_eq_true rfl) hR.om rfl rfl) rfl (fun G4 u4 hR4 hA4 => ?_)
                        exact hr_iret X hr dX5_says_134 (tw_end (by rw [sq_says, if_pos c5, if_neg c9, if_pos c15, if_neg (show ¬ ((A.1.1 18 (iN a1)) = 1) by omega), if_neg (show ¬ ((A.1.1 18 (iN a1)) = 0) by omega), if_neg (show ¬ ((iN a2) = 1) by omega), if_neg (show ¬ ((iN a2) = 3) by omega), if_pos (show (iN a2) = 4 by omega), if_neg (show ¬ ((A.1.1 9 (A.1.1 21 (iN a1))) = 6) by omega), if_neg (show ¬ ((iN a2) = 0) by omega), if_neg (show ¬ ((iN a2) = (A.1.1 9 (A.1.1 21 (iN a1)))) by omega)]) hR4 hA4)
                  · refine hr_iconst (v := (nI 1)) (q := 107) X dX5_says_106 rfl rfl ?_
                    refine hr_goto (tgt := 111) X dX5_says_107 (by decide) ?_
                    refine hr_istore5 (q := 113) X dX5_says_111 rfl rfl (Nat.le_of_ble_eq_true rfl) ?_
                    refine hr_iload2 (q := 114) X dX5_says_113 rfl ?_
                    refine hr_ifN_eq (q := 117) (tgt := 135) X dX5_says_114 rfl (by decide) (by omega) (fun c114 => ?_) (fun c114 => ?_)
                    · refine hr_iload2 (q := 136) X dX5_says_135 rfl ?_
                      by_cases e136_0 : (iN a2) = 0
                      · refine hr_tableIn (off := 40) (tgt := 176) X dX5_says_136 (by rw [(congrArg nI e136_0)]; decide) (by rw [(congrArg nI e136_0)]; decide) (by rw [(congrArg nI e136_0)]; rfl) (by decide) ?_
                        refine hr_aload0 (q := 177) X dX5_says_176 rfl ?_
                        refine hr_getR (v := am 14) (q := 180) X dX5_says_177 rfl fr_q1396_5 rfl hR.om (hR.f rfl) ?_
                        refine hr_iload3 (q := 181) X dX5_says_180 rfl ?_
                        refine hr_ialdN (v := (nI (A.1.1 14 (A.1.1 21 (iN a1))))) (q := 182) X dX5_says_181 rfl (hR.ka (n := 7) rfl rfl rfl) (Or.inl rfl) (by omega) (by decide) ((hR.ar rfl _).trans (hA.p (by decide) (by decide) (by omega))) ?_
                        have b181 := hW.w.b14 (show A.1.1 21 (iN a1) < 7 by omega)
                        exact hr_iret X hr dX5_says_182 (tw_end (by rw [sq_says, if_pos c5, if_neg c9, if_pos c15, if_neg (show ¬ ((A.1.1 18 (iN a1)) = 1) by omega), if_neg (show ¬ ((A.1.1 18 (iN a1)) = 0) by omega), if_neg (show ¬ ((iN a2) = 1) by omega), if_neg (show ¬ ((iN a2) = 3) by omega), if_pos (show (iN a2) = 4 by omega), if_pos (show (A.1.1 9 (A.1.1 21 (iN a1))) = 6 by omega), if_pos (show (iN a2) = 0 by omega), if_pos e136_0]) hR hA)
                      by_cases e136_1 : (iN a2) = 1
                      · refine hr_tableIn (off := 47) (tgt := 183) X dX5_says_136 (by rw [(congrArg nI e136_1)]; decide) (by rw [(congrArg nI e136_1)]; decide) (by rw [(congrArg nI e136_1)]; rfl) (by decide) ?_
                        refine hr_aload0 (q := 184) X dX5_says_183 rfl ?_
                        refine hr_iload3 (q := 185) X dX5_says_184 rfl ?_
                        refine hr_callP (q := 188) (hc_V (n := 1) (ci := 5) (As := [.int (nI (A.1.1 21 (iN a1)))]) X dX5_says_185 rfl (tk_shows X.tr hR hA.t hw (x := A.1.1 21 (iN a1)) (by omega)) q1555 cv_X5_shows ⟨Nat.le_of_ble_eq_true rfl, Nat.le_of_ble_eq_true rfl⟩ rfl (Nat.le_of_ble_eq_true rfl) hR.om rfl rfl) rfl ?_
                        have := sp_shows_lt (t := A.1) hw (x := (A.1.1 21 (iN a1))) (by omega)
                        exact hr_iret X hr dX5_says_188 (tw_end (by rw [sq_says, if_pos c5, if_neg c9, if_pos c15, if_neg (show ¬ ((A.1.1 18 (iN a1)) = 1) by omega), if_neg (show ¬ ((A.1.1 18 (iN a1)) = 0) by omega), if_neg (show ¬ ((iN a2) = 1) by omega), if_neg (show ¬ ((iN a2) = 3) by omega), if_pos (show (iN a2) = 4 by omega), if_pos (show (A.1.1 9 (A.1.1 21 (iN a1))) = 6 by omega), if_pos (show (iN a2) = 0 by omega), if_neg e136_0, if_pos e136_1]) hR hA)
                      by_cases e136_2 : (iN a2) = 2
                      · refine hr_tableIn (off := 47) (tgt := 183) X dX5_says_136 (by rw [(congrArg nI e136_2)]; decide) (by rw [(congrArg nI e136_2)]; decide) (by rw [(congrArg nI e136_2)]; rfl) (by decide) ?_
                        refine hr_aload0 (q := 184) X dX5_says_183 rfl ?_
                        refine hr_iload3 (q := 185) X dX5_says_184 rfl ?_
                        refine hr_callP (q := 188) (hc_V (n := 1) (ci := 5) (As := [.int (nI (A.1.1 21 (iN a1)))]) X dX5_says_185 rfl (tk_shows X.tr hR hA.t hw (x := A.1.1 21 (iN a1)) (by omega)) q1555 cv_X5_shows ⟨Nat.le_of_ble_eq_true rfl, Nat.le_of_ble_eq_true rfl⟩ rfl (Nat.le_of_ble_eq_true rfl) hR.om rfl rfl) rfl ?_
                        have := sp_shows_lt (t := A.1) hw (x := (A.1.1 21 (iN a1))) (by omega)
                        exact hr_iret X hr dX5_says_188 (tw_end (by rw [sq_says, if_pos c5, if_neg c9, if_pos c15, if_neg (show ¬ ((A.1.1 18 (iN a1)) = 1) by omega), if_neg (show ¬ ((A.1.1 18 (iN a1)) = 0) by omega), if_neg (show ¬ ((iN a2) = 1) by omega), if_neg (show ¬ ((iN a2) = 3) by omega), if_pos (show (iN a2) = 4 by omega), if_pos (show (A.1.1 9 (A.1.1 21 (iN a1))) = 6 by omega), if_pos (show (iN a2) = 0 by omega), if_neg e136_0, if_neg e136_1, if_pos e136_2]) hR hA)
                      by_cases e136_3 : (iN a2) = 3
                      · refine hr_tableIn (off := 53) (tgt := 189) X dX5_says_136 (by rw [(congrArg nI e136_3)]; decide) (by rw [(congrArg nI e136_3)]; decide) (by rw [(congrArg nI e136_3)]; rfl) (by decide) ?_
                        refine hr_aload0 (q := 190) X dX5_says_189 rfl ?_
                        refine hr_getR (v := am 13) (q := 193) X dX5_says_190 rfl fr_q1395_5 rfl hR.om (hR.f rfl) ?_
                        refine hr_iload3 (q := 194) X dX5_says_193 rfl ?_
                        refine hr_ialdN (v := (nI (A.1.1 13 (A.1.1 21 (iN a1))))) (q := 195) X dX5_says_194 rfl (hR.ka (n := 7) rfl rfl rfl) (Or.inl rfl) (by omega) (by decide) ((hR.ar rfl _).trans (hA.p (by decide) (by decide) (by omega))) ?_
                        have b194 := hW.w.b13 (show A.1.1 21 (iN a1) < 7 by omega)
                        exact hr_iret X hr dX5_says_195 (tw_end (by rw [sq_says, if_pos c5, if_neg c9, if_pos c15, if_neg (show ¬ ((A.1.1 18 (iN a1)) = 1) by omega), if_neg (show ¬ ((A.1.1 18 (iN a1)) = 0) by omega), if_neg (show ¬ ((iN a2) = 1) by omega), if_neg (show ¬ ((iN a2) = 3) by omega), if_pos (show (iN a2) = 4 by omega), if_pos (show (A.1.1 9 (A.1.1 21 (iN a1))) = 6 by omega), if_pos (show (iN a2) = 0 by omega), if_neg e136_0, if_neg e136_1, if_neg e136_2, if_pos e136_3]) hR hA)
                      by_cases e136_4 : (iN a2) = 4
                      · refine hr_tableIn (off := 60) (tgt := 196) X dX5_says_136 (by rw [(congrArg nI e136_4)]; decide) (by rw [(congrArg nI e136_4)]; decide) (by rw [(congrArg nI e136_4)]; rfl) (by decide) ?_
                        refine hr_aload0 (q := 197) X dX5_says_196 rfl ?_
                        refine hr_getR (v := am 12) (q := 200) X dX5_says_197 rfl fr_q1394_5 rfl hR.om (hR.f rfl) ?_
                        refine hr_iload3 (q := 201) X dX5_says_200 rfl ?_
                        refine hr_ialdN (v := (nI (A.1.1 12 (A.1.1 21 (iN a1))))) (q := 202) X dX5_says_201 rfl (hR.ka (n := 7) rfl rfl rfl) (Or.inl rfl) (by omega) (by decide) ((hR.ar rfl _).trans (hA.p (by decide) (by decide) (by omega))) ?_
                        have b201 := hW.w.b12 (show A.1.1 21 (iN a1) < 7 by omega)
                        exact hr_iret X hr dX5_says_202 (tw_end (by rw [sq_says, if_pos c5, if_neg c9, if_pos c15, if_neg (show ¬ ((A.1.1 18 (iN a1)) = 1) by omega), if_neg (show ¬ ((A.1.1 18 (iN a1)) = 0) by omega), if_neg (show ¬ ((iN a2) = 1) by omega), if_neg (show ¬ ((iN a2) = 3) by omega), if_pos (show (iN a2) = 4 by omega), if_pos (show (A.1.1 9 (A.1.1 21 (iN a1))) = 6 by omega), if_pos (show (iN a2) = 0 by omega), if_neg e136_0, if_neg e136_1, if_neg e136_2, if_neg e136_3, if_pos e136_4]) hR hA)
                      by_cases e136_5 : (iN a2) = 5
                      · refine hr_tableIn (off := 53) (tgt := 189) X dX5_says_136 (by rw [(congrArg nI e136_5)]; decide) (by rw [(congrArg nI e136_5)]; decide) (by rw [(congrArg nI e136_5)]; rfl) (by decide) ?_
                        refine hr_aload0 (q := 190) X dX5_says_189 rfl ?_
                        refine hr_getR (v := am 13) (q := 193) X dX5_says_190 rfl fr_q1395_5 rfl hR.om (hR.f rfl) ?_
                        refine hr_iload3 (q := 194) X dX5_says_193 rfl ?_
                        refine hr_ialdN (v := (nI (A.1.1 13 (A.1.1 21 (iN a1))))) (q := 195) X dX5_says_194 rfl (hR.ka (n := 7) rfl rfl rfl) (Or.inl rfl) (by omega) (by decide) ((hR.ar rfl _).trans (hA.p (by decide) (by decide) (by omega))) ?_
                        have b194 := hW.w.b13 (show A.1.1 21 (iN a1) < 7 by omega)
                        exact hr_iret X hr dX5_says_195 (tw_end (by rw [sq_says, if_pos c5, if_neg c9, if_pos c15, if_neg (show ¬ ((A.1.1 18 (iN a1)) = 1) by omega), if_neg (show ¬ ((A.1.1 18 (iN a1)) = 0) by omega), if_neg (show ¬ ((iN a2) = 1) by omega), if_neg (show ¬ ((iN a2) = 3) by omega), if_pos (show (iN a2) = 4 by omega), if_pos (show (A.1.1 9 (A.1.1 21 (iN a1))) = 6 by omega), if_pos (show (iN a2) = 0 by omega), if_neg e136_0, if_neg e136_1, if_neg e136_2, if_neg e136_3, if_neg e136_4, if_pos e136_5]) hR hA)
                      refine hr_tableOut (tgt := 196) X dX5_says_136 (sp_out (n := 6) (by decide) (fun i hi => by match i, hi with | 0, _ => exact (fun z => e136_0 ((nI_eq (by omega) (by omega)).mp z)) | 1, _ => exact (fun z => e136_1 ((nI_eq (by omega) (by omega)).mp z)) | 2, _ => exact (fun z => e136_2 ((nI_eq (by omega) (by omega)).mp z)) | 3, _ => exact (fun z => e136_3 ((nI_eq (by omega) (by omega)).mp z)) | 4, _ => exact (fun z => e136_4 ((nI_eq (by omega) (by omega)).mp z)) | 5, _ => exact (fun z => e136_5 ((nI_eq (by omega) (by omega)).mp z)) | (k + 6), hi => omega)) (by decide) ?_
                      refine hr_aload0 (q := 197) X dX5_says_196 rfl ?_
                      refine hr_getR (v := am 12) (q := 200) X dX5_says_197 rfl fr_q1394_5 rfl hR.om (hR.f rfl) ?_
                      refine hr_iload3 (q := 201) X dX5_says_200 rfl ?_
                      refine hr_ialdN (v := (nI (A.1.1 12 (A.1.1 21 (iN a1))))) (q := 202) X dX5_says_201 rfl (hR.ka (n := 7) rfl rfl rfl) (Or.inl rfl) (by omega) (by decide) ((hR.ar rfl _).trans (hA.p (by decide) (by decide) (by omega))) ?_
                      have b201 := hW.w.b12 (show A.1.1 21 (iN a1) < 7 by omega)
                      exact hr_iret X hr dX5_says_202 (tw_end (by rw [sq_says, if_pos c5, if_neg c9, if_pos c15, if_neg (show ¬ ((A.1.1 18 (iN a1)) = 1) by omega), if_neg (show ¬ ((A.1.1 18 (iN a1)) = 0) by omega), if_neg (show ¬ ((iN a2) = 1) by omega), if_neg (show ¬ ((iN a2) = 3) by omega), if_pos (show (iN a2) = 4 by omega), if_pos (show (A.1.1 9 (A.1.1 21 (iN a1))) = 6 by omega), if_pos (show (iN a2) = 0 by omega), if_neg e136_0, if_neg e136_1, if_neg e136_2, if_neg e136_3, if_neg e136_4, if_neg e136_5]) hR hA)
                    · refine hr_iload2 (q := 118) X dX5_says_117 rfl ?_
                      refine hr_iload4 (q := 120) X dX5_says_118 rfl ?_
                      refine hr_icmpN_eq (q := 123) (tgt := 135) X dX5_says_120 rfl (by decide) (by omega) (by omega) (fun c120 => ?_) (fun c120 => ?_)
                      · refine hr_iload2 (q := 136) X dX5_says_135 rfl ?_
                        by_cases e136_0 : (iN a2) = 0
                        · refine hr_tableIn (off := 40) (tgt := 176) X dX5_says_136 (by rw [(congrArg nI e136_0)]; decide) (by rw [(congrArg nI e136_0)]; decide) (by rw [(congrArg nI e136_0)]; rfl) (by decide) ?_
                          refine hr_aload0 (q := 177) X dX5_says_176 rfl ?_
                          refine hr_getR (v := am 14) (q := 180) X dX5_says_177 rfl fr_q1396_5 rfl hR.om (hR.f rfl) ?_
                          refine hr_iload3 (q := 181) X dX5_says_180 rfl ?_
                          refine hr_ialdN (v := (nI (A.1.1 14 (A.1.1 21 (iN a1))))) (q := 182) X dX5_says_181 rfl (hR.ka (n := 7) rfl rfl rfl) (Or.inl rfl) (by omega) (by decide) ((hR.ar rfl _).trans (hA.p (by decide) (by decide) (by omega))) ?_
                          have b181 := hW.w.b14 (show A.1.1 21 (iN a1) < 7 by omega)
                          exact hr_iret X hr dX5_says_182 (tw_end (by rw [sq_says, if_pos c5, if_neg c9, if_pos c15, if_neg (show ¬ ((A.1.1 18 (iN a1)) = 1) by omega), if_neg (show ¬ ((A.1.1 18 (iN a1)) = 0) by omega), if_neg (show ¬ ((iN a2) = 1) by omega), if_neg (show ¬ ((iN a2) = 3) by omega), if_pos (show (iN a2) = 4 by omega), if_pos (show (A.1.1 9 (A.1.1 21 (iN a1))) = 6 by omega), if_neg (show ¬ ((iN a2) = 0) by omega), if_pos (show (iN a2) = (A.1.1 9 (A.1.1 21 (iN a1))) by omega), if_pos e136_0]) hR hA)
                        by_cases e136_1 : (iN a2) = 1
                        · refine hr_tableIn (off := 47) (tgt := 183) X dX5_says_136 (by rw [(congrArg nI e136_1)]; decide) (by rw [(congrArg nI e136_1)]; decide) (by rw [(congrArg nI e136_1)]; rfl) (by decide) ?_
                          refine hr_aload0 (q := 184) X dX5_says_183 rfl ?_
                          refine hr_iload3 (q := 185) X dX5_says_184 rfl ?_
                          refine hr_callP (q := 188) (hc_V (n := 1) (ci := 5) (As := [.int (nI (A.1.1 21 (iN a1)))]) X dX5_says_185 rfl (tk_shows X.tr hR hA.t hw (x := A.1.1 21 (iN a1)) (by omega)) q1555 cv_X5_shows ⟨Nat.le_of_ble_eq_true rfl, Nat.le_of_ble_eq_true rfl⟩ rfl (Nat.le_of_ble_eq_true rfl) hR.om rfl rfl) rfl ?_
                          have := sp_shows_lt (t := A.1) hw (x := (A.1.1 21 (iN a1))) (by omega)
                          exact hr_iret X hr dX5_says_188 (tw_end (by rw [sq_says, if_pos c5, if_neg c9, if_pos c15, if_neg (show ¬ ((A.1.1 18 (iN a1)) = 1) by omega), if_neg (show ¬ ((A.1.1 18 (iN a1)) = 0) by omega), if_neg (show ¬ ((iN a2) = 1) by omega), if_neg (show ¬ ((iN a2) = 3) by omega), if_pos (show (iN a2) = 4 by omega), if_pos (show (A.1.1 9 (A.1.1 21 (iN a1))) = 6 by omega), if_neg (show ¬ ((iN a2) = 0) by omega), if_pos (show (iN a2) = (A.1.1 9 (A.1.1 21 (iN a1))) by omega), if_neg e136_0, if_pos e136_1]) hR hA)
                        by_cases e136_2 : (iN a2) = 2
                        · refine hr_tableIn (off := 47) (tgt := 183) X dX5_says_136 (by rw [(congrArg nI e136_2)]; decide) (by rw [(congrArg nI e136_2)]; decide) (by rw [(congrArg nI e136_2)]; rfl) (by decide) ?_
                          refine hr_aload0 (q := 184) X dX5_says_183 rfl ?_
                          refine hr_iload3 (q := 185) X dX5_says_184 rfl ?_
                          refine hr_callP (q := 188) (hc_V (n := 1) (ci := 5) (As := [.int (nI (A.1.1 21 (iN a1)))]) X dX5_says_185 rfl (tk_shows X.tr hR hA.t hw (x := A.1.1 21 (iN a1)) (by omega)) q1555 cv_X5_shows ⟨Nat.le_of_ble_eq_true rfl, Nat.le_of_ble_eq_true rfl⟩ rfl (Nat.le_of_ble_eq_true rfl) hR.om rfl rfl) rfl ?_
                          have := sp_shows_lt (t := A.1) hw (x := (A.1.1 21 (iN a1))) (by omega)
                          exact hr_iret X hr dX5_says_188 (tw_end (by rw [sq_says, if_pos c5, if_neg c9, if_pos c15, if_neg (show ¬ ((A.1.1 18 (iN a1)) = 1) by omega), if_neg (show ¬ ((A.1.1 18 (iN a1)) = 0) by omega), if_neg (show ¬ ((iN a2) = 1) by omega), if_neg (show ¬ ((iN a2) = 3) by omega), if_pos (show (iN a2) = 4 by omega), if_pos (show (A.1.1 9 (A.1.1 21 (iN a1))) = 6 by omega), if_neg (show ¬ ((iN a2) = 0) by omega), if_pos (show (iN a2) = (A.1.1 9 (A.1.1 21 (iN a1))) by omega), if_neg e136_0, if_neg e136_1, if_pos e136_2]) hR hA)
                        by_cases e136_3 : (iN a2) = 3
                        · refine hr_tableIn (off := 53) (tgt := 189) X dX5_says_136 (by rw [(congrArg nI e136_3)]; decide) (by rw [(congrArg nI e136_3)]; decide) (by rw [(congrArg nI e136_3)]; rfl) (by decide) ?_
                          refine hr_aload0 (q := 190) X dX5_says_189 rfl ?_
                          refine hr_getR (v := am 13) (q := 193) X dX5_says_190 rfl fr_q1395_5 rfl hR.om (hR.f rfl) ?_
                          refine hr_iload3 (q := 194) X dX5_says_193 rfl ?_
                          refine hr_ialdN (v := (nI (A.1.1 13 (A.1.1 21 (iN a1))))) (q := 195) X dX5_says_194 rfl (hR.ka (n := 7) rfl rfl rfl) (Or.inl rfl) (by omega) (by decide) ((hR.ar rfl _).trans (hA.p (by decide) (by decide) (by omega))) ?_
                          have b194 := hW.w.b13 (show A.1.1 21 (iN a1) < 7 by omega)
                          exact hr_iret X hr dX5_says_195 (tw_end (by rw [sq_says, if_pos c5, if_neg c9, if_pos c15, if_neg (show ¬ ((A.1.1 18 (iN a1)) = 1) by omega), if_neg (show ¬ ((A.1.1 18 (iN a1)) = 0) by omega), if_neg (show ¬ ((iN a2) = 1) by omega), if_neg (show ¬ ((iN a2) = 3) by omega), if_pos (show (iN a2) = 4 by omega), if_pos (show (A.1.1 9 (A.1.1 21 (iN a1))) = 6 by omega), if_neg (show ¬ ((iN a2) = 0) by omega), if_pos (show (iN a2) = (A.1.1 9 (A.1.1 21 (iN a1))) by omega), if_neg e136_0, if_neg e136_1, if_neg e136_2, if_pos e136_3]) hR hA)
                        by_cases e136_4 : (iN a2) = 4
                        · refine hr_tableIn (off := 60) (tgt := 196) X dX5_says_136 (by rw [(congrArg nI e136_4)]; decide) (by rw [(congrArg nI e136_4)]; decide) (by rw [(congrArg nI e136_4)]; rfl) (by decide) ?_
                          refine hr_aload0 (q := 197) X dX5_says_196 rfl ?_
                          refine hr_getR (v := am 12) (q := 200) X dX5_says_197 rfl fr_q1394_5 rfl hR.om (hR.f rfl) ?_
                          refine hr_iload3 (q := 201) X dX5_says_200 rfl ?_
                          refine hr_ialdN (v := (nI (A.1.1 12 (A.1.1 21 (iN a1))))) (q := 202) X dX5_says_201 rfl (hR.ka (n := 7) rfl rfl rfl) (Or.inl rfl) (by omega) (by decide) ((hR.ar rfl _).trans (hA.p (by decide) (by decide) (by omega))) ?_
                          have b201 := hW.w.b12 (show A.1.1 21 (iN a1) < 7 by omega)
                          exact hr_iret X hr dX5_says_202 (tw_end (by rw [sq_says, if_pos c5, if_neg c9, if_pos c15, if_neg (show ¬ ((A.1.1 18 (iN a1)) = 1) by omega), if_neg (show ¬ ((A.1.1 18 (iN a1)) = 0) by omega), if_neg (show ¬ ((iN a2) = 1) by omega), if_neg (show ¬ ((iN a2) = 3) by omega), if_pos (show (iN a2) = 4 by omega), if_pos (show (A.1.1 9 (A.1.1 21 (iN a1))) = 6 by omega), if_neg (show ¬ ((iN a2) = 0) by omega), if_pos (show (iN a2) = (A.1.1 9 (A.1.1 21 (iN a1))) by omega), if_neg e136_0, if_neg e136_1, if_neg e136_2, if_neg e136_3, if_pos e136_4]) hR hA)
                        by_cases e136_5 : (iN a2) = 5
                        · refine hr_tableIn (off := 53) (tgt := 189) X dX5_says_136 (by rw [(congrArg nI e136_5)]; decide) (by rw [(congrArg nI e136_5)]; decide) (by rw [(congrArg nI e136_5)]; rfl) (by decide) ?_
                          refine hr_aload0 (q := 190) X dX5_says_189 rfl ?_
                          refine hr_getR (v := am 13) (q := 193) X dX5_says_190 rfl fr_q1395_5 rfl hR.om (hR.f rfl) ?_
                          refine hr_iload3 (q := 194) X dX5_says_193 rfl ?_
                          refine hr_ialdN (v := (nI (A.1.1 13 (A.1.1 21 (iN a1))))) (q := 195) X dX5_says_194 rfl (hR.ka (n := 7) rfl rfl rfl) (Or.inl rfl) (by omega) (by decide) ((hR.ar rfl _).trans (hA.p (by decide) (by decide) (by omega))) ?_
                          have b194 := hW.w.b13 (show A.1.1 21 (iN a1) < 7 by omega)
                          exact hr_iret X hr dX5_says_195 (tw_end (by rw [sq_says, if_pos c5, if_neg c9, if_pos c15, if_neg (show ¬ ((A.1.1 18 (iN a1)) = 1) by omega), if_neg (show ¬ ((A.1.1 18 (iN a1)) = 0) by omega), if_neg (show ¬ ((iN a2) = 1) by omega), if_neg (show ¬ ((iN a2) = 3) by omega), if_pos (show (iN a2) = 4 by omega), if_pos (show (A.1.1 9 (A.1.1 21 (iN a1))) = 6 by omega), if_neg (show ¬ ((iN a2) = 0) by omega), if_pos (show (iN a2) = (A.1.1 9 (A.1.1 21 (iN a1))) by omega), if_neg e136_0, if_neg e136_1, if_neg e136_2, if_neg e136_3, if_neg e136_4, if_pos e136_5]) hR hA)
                        refine hr_tableOut (tgt := 196) X dX5_says_136 (sp_out (n := 6) (by decide) (fun i hi => by match i, hi with | 0, _ => exact (fun z => e136_0 ((nI_eq (by omega) (by omega)).mp z)) | 1, _ => exact (fun z => e136_1 ((nI_eq (by omega) (by omega)).mp z)) | 2, _ => exact (fun z => e136_2 ((nI_eq (by omega) (by omega)).mp z)) | 3, _ => exact (fun z => e136_3 ((nI_eq (by omega) (by omega)).mp z)) | 4, _ => exact (fun z => e136_4 ((nI_eq (by omega) (by omega)).mp z)) | 5, _ => exact (fun z => e136_5 ((nI_eq (by omega) (by omega)).mp z)) | (k + 6), hi => omega)) (by decide) ?_
                        refine hr_aload0 (q := 197) X dX5_says_196 rfl ?_
                        refine hr_getR (v := am 12) (q := 200) X dX5_says_197 rfl fr_q1394_5 rfl hR.om (hR.f rfl) ?_
                        refine hr_iload3 (q := 201) X dX5_says_200 rfl ?_
                        refine hr_ialdN (v := (nI (A.1.1 12 (A.1.1 21 (iN a1))))) (q := 202) X dX5_says_201 rfl (hR.ka (n := 7) rfl rfl rfl) (Or.inl rfl) (by omega) (by decide) ((hR.ar rfl _).trans (hA.p (by decide) (by decide) (by omega))) ?_
                        have b201 := hW.w.b12 (show A.1.1 21 (iN a1) < 7 by omega)
                        exact hr_iret X hr dX5_says_202 (tw_end (by rw [sq_says, if_pos c5, if_neg c9, if_pos c15, if_neg (show ¬ ((A.1.1 18 (iN a1)) = 1) by omega), if_neg (show ¬ ((A.1.1 18 (iN a1)) = 0) by omega), if_neg (show ¬ ((iN a2) = 1) by omega), if_neg (show ¬ ((iN a2) = 3) by omega), if_pos (show (iN a2) = 4 by omega), if_pos (show (A.1.1 9 (A.1.1 21 (iN a1))) = 6 by omega), if_neg (show ¬ ((iN a2) = 0) by omega), if_pos (show (iN a2) = (A.1.1 9 (A.1.1 21 (iN a1))) by omega), if_neg e136_0, if_neg e136_1, if_neg e136_2, if_neg e136_3, if_neg e136_4, if_neg e136_5]) hR hA)
                      · refine hr_iload5 (q := 125) X dX5_says_123 rfl ?_
                        refine hr_if_ne (q := 128) (tgt := 135) X dX5_says_125 rfl (by decide) (fun _ => ?_) (fun z => absurd z (by decide))
                        refine hr_iload2 (q := 136) X dX5_says_135 rfl ?_
                        by_cases e136_0 : (iN a2) = 0
                        · refine hr_tableIn (off := 40) (tgt := 176) X dX5_says_136 (by rw [(congrArg nI e136_0)]; decide) (by rw [(congrArg nI e136_0)]; decide) (by rw [(congrArg nI e136_0)]; rfl) (by decide) ?_
                          refine hr_aload0 (q := 177) X dX5_says_176 rfl ?_
                          refine hr_getR (v := am 14) (q := 180) X dX5_says_177 rfl fr_q1396_5 rfl hR.om (hR.f rfl) ?_
                          refine hr_iload3 (q := 181) X dX5_says_180 rfl ?_
                          refine hr_ialdN (v := (nI (A.1.1 14 (A.1.1 21 (iN a1))))) (q := 182) X dX5_says_181 rfl (hR.ka (n := 7) rfl rfl rfl) (Or.inl rfl) (by omega) (by decide) ((hR.ar rfl _).trans (hA.p (by decide) (by decide) (by omega))) ?_
                          have b181 := hW.w.b14 (show A.1.1 21 (iN a1) < 7 by omega)
                          exact hr_iret X hr dX5_says_182 (tw_end (by rw [sq_says, if_pos c5, if_neg c9, if_pos c15, if_neg (show ¬ ((A.1.1 18 (iN a1)) = 1) by omega), if_neg (show ¬ ((A.1.1 18 (iN a1)) = 0) by omega), if_neg (show ¬ ((iN a2) = 1) by omega), if_neg (show ¬ ((iN a2) = 3) by omega), if_pos (show (iN a2) = 4 by omega), if_pos (show (A.1.1 9 (A.1.1 21 (iN a1))) = 6 by omega), if_neg (show ¬ ((iN a2) = 0) by omega), if_neg (show ¬ ((iN a2) = (A.1.1 9 (A.1.1 21 (iN a1)))) by omega), if_pos e136_0]) hR hA)
                        by_cases e136_1 : (iN a2) = 1
                        · refine hr_tableIn (off := 47) (tgt := 183) X dX5_says_136 (by rw [(congrArg nI e136_1)]; decide) (by rw [(congrArg nI e136_1)]; decide) (by rw [(congrArg nI e136_1)]; rfl) (by decide) ?_
                          refine hr_aload0 (q := 184) X dX5_says_183 rfl ?_
                          refine hr_iload3 (q := 185) X dX5_says_184 rfl ?_
                          refine hr_callP (q := 188) (hc_V (n := 1) (ci := 5) (As := [.int (nI (A.1.1 21 (iN a1)))]) X dX5_says_185 rfl (tk_shows X.tr hR hA.t hw (x := A.1.1 21 (iN a1)) (by omega)) q1555 cv_X5_shows ⟨Nat.le_of_ble_eq_true rfl, Nat.le_of_ble_eq_true rfl⟩ rfl (Nat.le_of_ble_eq_true rfl) hR.om rfl rfl) rfl ?_
                          have := sp_shows_lt (t := A.1) hw (x := (A.1.1 21 (iN a1))) (by omega)
                          exact hr_iret X hr dX5_says_188 (tw_end (by rw [sq_says, if_pos c5, if_neg c9, if_pos c15, if_neg (show ¬ ((A.1.1 18 (iN a1)) = 1) by omega), if_neg (show ¬ ((A.1.1 18 (iN a1)) = 0) by omega), if_neg (show ¬ ((iN a2) = 1) by omega), if_neg (show ¬ ((iN a2) = 3) by omega), if_pos (show (iN a2) = 4 by omega), if_pos (show (A.1.1 9 (A.1.1 21 (iN a1))) = 6 by omega), if_neg (show ¬ ((iN a2) = 0) by omega), if_neg (show ¬ ((iN a2) = (A.1.1 9 (A.1.1 21 (iN a1)))) by omega), if_neg e136_0, if_pos e136_1]) hR hA)
                        by_cases e136_2 : (iN a2) = 2
                        · refine hr_tableIn (off := 47) (tgt := 183) X dX5_says_136 (by rw [(congrArg nI e136_2)]; decide) (by rw [(congrArg nI e136_2)]; decide) (by rw [(congrArg nI e136_2)]; rfl) (by decide) ?_
                          refine hr_aload0 (q := 184) X dX5_says_183 rfl ?_
                          refine hr_iload3 (q := 185) X dX5_says_184 rfl ?_
                          refine hr_callP (q := 188) (hc_V (n := 1) (ci := 5) (As := [.int (nI (A.1.1 21 (iN a1)))]) X dX5_says_185 rfl (tk_shows X.tr hR hA.t hw (x := A.1.1 21 (iN a1)) (by omega)) q1555 cv_X5_shows ⟨Nat.le_of_ble_eq_true rfl, Nat.le_of_ble_eq_true rfl⟩ rfl (Nat.le_of_ble_eq_true rfl) hR.om rfl rfl) rfl ?_
                          have := sp_shows_lt (t := A.1) hw (x := (A.1.1 21 (iN a1))) (by omega)
                          exact hr_iret X hr dX5_says_188 (tw_end (by rw [sq_says, if_pos c5, if_neg c9, if_pos c15, if_neg (show ¬ ((A.1.1 18 (iN a1)) = 1) by omega), if_neg (show ¬ ((A.1.1 18 (iN a1)) = 0) by omega), if_neg (show ¬ ((iN a2) = 1) by omega), if_neg (show ¬ ((iN a2) = 3) by omega), if_pos (show (iN a2) = 4 by omega), if_pos (show (A.1.1 9 (A.1.1 21 (iN a1))) = 6 by omega), if_neg (show ¬ ((iN a2) = 0) by omega), if_neg (show ¬ ((iN a2) = (A.1.1 9 (A.1.1 21 (iN a1)))) by omega), if_neg e136_0, if_neg e136_1, if_pos e136_2]) hR hA)
                        by_cases e136_3 : (iN a2) = 3
                        · refine hr_tableIn (off := 53) (tgt := 189) X dX5_says_136 (by rw [(congrArg nI e136_3)]; decide) (by rw [(congrArg nI e136_3)]; decide) (by rw [(congrArg nI e136_3)]; rfl) (by decide) ?_
                          refine hr_aload0 (q := 190) X dX5_says_189 rfl ?_
                          refine hr_getR (v := am 13) (q := 193) X dX5_says_190 rfl fr_q1395_5 rfl hR.om (hR.f rfl) ?_
                          refine hr_iload3 (q := 194) X dX5_says_193 rfl ?_
                          refine hr_ialdN (v := (nI (A.1.1 13 (A.1.1 21 (iN a1))))) (q := 195) X dX5_says_194 rfl (hR.ka (n := 7) rfl rfl rfl) (Or.inl rfl) (by omega) (by decide) ((hR.ar rfl _).trans (hA.p (by decide) (by decide) (by omega))) ?_
                          have b194 := hW.w.b13 (show A.1.1 21 (iN a1) < 7 by omega)
                          exact hr_iret X hr dX5_says_195 (tw_end (by rw [sq_says, if_pos c5, if_neg c9, if_pos c15, if_neg (show ¬ ((A.1.1 18 (iN a1)) = 1) by omega), if_neg (show ¬ ((A.1.1 18 (iN a1)) = 0) by omega), if_neg (show ¬ ((iN a2) = 1) by omega), if_neg (show ¬ ((iN a2) = 3) by omega), if_pos (show (iN a2) = 4 by omega), if_pos (show (A.1.1 9 (A.1.1 21 (iN a1))) = 6 by omega), if_neg (show ¬ ((iN a2) = 0) by omega), if_neg (show ¬ ((iN a2) = (A.1.1 9 (A.1.1 21 (iN a1)))) by omega), if_neg e136_0, if_neg e136_1, if_neg e136_2, if_pos e136_3]) hR hA)
                        by_cases e136_4 : (iN a2) = 4
                        · refine hr_tableIn (off := 60) (tgt := 196) X dX5_says_136 (by rw [(congrArg nI e136_4)]; decide) (by rw [(congrArg nI e136_4)]; decide) (by rw [(congrArg nI e136_4)]; rfl) (by decide) ?_
                          refine hr_aload0 (q := 197) X dX5_says_196 rfl ?_
                          refine hr_getR (v := am 12) (q := 200) X dX5_says_197 rfl fr_q1394_5 rfl hR.om (hR.f rfl) ?_
                          refine hr_iload3 (q := 201) X dX5_says_200 rfl ?_
                          refine hr_ialdN (v := (nI (A.1.1 12 (A.1.1 21 (iN a1))))) (q := 202) X dX5_says_201 rfl (hR.ka (n := 7) rfl rfl rfl) (Or.inl rfl) (by omega) (by decide) ((hR.ar rfl _).trans (hA.p (by decide) (by decide) (by omega))) ?_
                          have b201 := hW.w.b12 (show A.1.1 21 (iN a1) < 7 by omega)
                          exact hr_iret X hr dX5_says_202 (tw_end (by rw [sq_says, if_pos c5, if_neg c9, if_pos c15, if_neg (show ¬ ((A.1.1 18 (iN a1)) = 1) by omega), if_neg (show ¬ ((A.1.1 18 (iN a1)) = 0) by omega), if_neg (show ¬ ((iN a2) = 1) by omega), if_neg (show ¬ ((iN a2) = 3) by omega), if_pos (show (iN a2) = 4 by omega), if_pos (show (A.1.1 9 (A.1.1 21 (iN a1))) = 6 by omega), if_neg (show ¬ ((iN a2) = 0) by omega), if_neg (show ¬ ((iN a2) = (A.1.1 9 (A.1.1 21 (iN a1)))) by omega), if_neg e136_0, if_neg e136_1, if_neg e136_2, if_neg e136_3, if_pos e136_4]) hR hA)
                        by_cases e136_5 : (iN a2) = 5
                        · refine hr_tableIn (off := 53) (tgt := 189) X dX5_says_136 (by rw [(congrArg nI e136_5)]; decide) (by rw [(congrArg nI e136_5)]; decide) (by rw [(congrArg nI e136_5)]; rfl) (by decide) ?_
                          refine hr_aload0 (q := 190) X dX5_says_189 rfl ?_
                          refine hr_getR (v := am 13) (q := 193) X dX5_says_190 rfl fr_q1395_5 rfl hR.om (hR.f rfl) ?_
                          refine hr_iload3 (q := 194) X dX5_says_193 rfl ?_
                          refine hr_ialdN (v := (nI (A.1.1 13 (A.1.1 21 (iN a1))))) (q := 195) X dX5_says_194 rfl (hR.ka (n := 7) rfl rfl rfl) (Or.inl rfl) (by omega) (by decide) ((hR.ar rfl _).trans (hA.p (by decide) (by decide) (by omega))) ?_
                          have b194 := hW.w.b13 (show A.1.1 21 (iN a1) < 7 by omega)
                          exact hr_iret X hr dX5_says_195 (tw_end (by rw [sq_says, if_pos c5, if_neg c9, if_pos c15, if_neg (show ¬ ((A.1.1 18 (iN a1)) = 1) by omega), if_neg (show ¬ ((A.1.1 18 (iN a1)) = 0) by omega), if_neg (show ¬ ((iN a2) = 1) by omega), if_neg (show ¬ ((iN a2) = 3) by omega), if_pos (show (iN a2) = 4 by omega), if_pos (show (A.1.1 9 (A.1.1 21 (iN a1))) = 6 by omega), if_neg (show ¬ ((iN a2) = 0) by omega), if_neg (show ¬ ((iN a2) = (A.1.1 9 (A.1.1 21 (iN a1)))) by omega), if_neg e136_0, if_neg e136_1, if_neg e136_2, if_neg e136_3, if_neg e136_4, if_pos e136_5]) hR hA)
                        refine hr_tableOut (tgt := 196) X dX5_says_136 (sp_out (n := 6) (by decide) (fun i hi => by match i, hi with | 0, _ => exact (fun z => e136_0 ((nI_eq (by omega) (by omega)).mp z)) | 1, _ => exact (fun z => e136_1 ((nI_eq (by omega) (by omega)).mp z)) | 2, _ => exact (fun z => e136_2 ((nI_eq (by omega) (by omega)).mp z)) | 3, _ => exact (fun z => e136_3 ((nI_eq (by omega) (by omega)).mp z)) | 4, _ => exact (fun z => e136_4 ((nI_eq (by omega) (by omega)).mp z)) | 5, _ => exact (fun z => e136_5 ((nI_eq (by omega) (by omega)).mp z)) | (k + 6), hi => omega)) (by decide) ?_
                        refine hr_aload0 (q := 197) X dX5_says_196 rfl ?_
                        refine hr_getR (v := am 12) (q := 200) X dX5_says_197 rfl fr_q1394_5 rfl hR.om (hR.f rfl) ?_
                        refine hr_iload3 (q := 201) X dX5_says_200 rfl ?_
                        refine hr_ialdN (v := (nI (A.1.1 12 (A.1.1 21 (iN a1))))) (q := 202) X dX5_says_201 rfl (hR.ka (n := 7) rfl rfl rfl) (Or.inl rfl) (by omega) (by decide) ((hR.ar rfl _).trans (hA.p (by decide) (by decide) (by omega))) ?_
                        have b201 := hW.w.b12 (show A.1.1 21 (iN a1) < 7 by omega)
                        exact hr_iret X hr dX5_says_202 (tw_end (by rw [sq_says, if_pos c5, if_neg c9, if_pos c15, if_neg (show ¬ ((A.1.1 18 (iN a1)) = 1) by omega), if_neg (show ¬ ((A.1.1 18 (iN a1)) = 0) by omega), if_neg (show ¬ ((iN a2) = 1) by omega), if_neg (show ¬ ((iN a2) = 3) by omega), if_pos (show (iN a2) = 4 by omega), if_pos (show (A.1.1 9 (A.1.1 21 (iN a1))) = 6 by omega), if_neg (show ¬ ((iN a2) = 0) by omega), if_neg (show ¬ ((iN a2) = (A.1.1 9 (A.1.1 21 (iN a1)))) by omega), if_neg e136_0, if_neg e136_1, if_neg e136_2, if_neg e136_3, if_neg e136_4, if_neg e136_5]) hR hA)
              · refine hr_iload4 (q := 90) X dX5_says_88 rfl ?_
                refine hr_iconst (v := (nI 5)) (q := 91) X dX5_says_90 rfl rfl ?_
                refine hr_icmpN_eq (q := 94) (tgt := 106) X dX5_says_91 rfl (by decide) (by omega) (by omega) (fun c91 => ?_) (fun c91 => ?_)
                · refine hr_iconst (v := (nI 1)) (q := 107) X dX5_says_106 rfl rfl ?_
                  refine hr_goto (tgt := 111) X dX5_says_107 (by decide) ?_
                  refine hr_istore5 (q := 113) X dX5_says_111 rfl rfl (Nat.le_of_ble_eq_true rfl) ?_
                  refine hr_iload2 (q := 114) X dX5_says_113 rfl ?_
                  refine hr_ifN_eq (q := 117) (tgt := 135) X dX5_says_114 rfl (by decide) (by omega) (fun c114 => ?_) (fun c114 => ?_)
                  · refine hr_iload2 (q := 136) X dX5_says_135 rfl ?_
                    by_cases e136_0 : (iN a2) = 0
                    · refine hr_tableIn (off := 40) (tgt := 176) X dX5_says_136 (by rw [(congrArg nI e136_0)]; decide) (by rw [(congrArg nI e136_0)]; decide) (by rw [(congrArg nI e136_0)]; rfl) (by decide) ?_
                      refine hr_aload0 (q := 177) X dX5_says_176 rfl ?_
                      refine hr_getR (v := am 14) (q := 180) X dX5_says_177 rfl fr_q1396_5 rfl hR.om (hR.f rfl) ?_
                      refine hr_iload3 (q := 181) X dX5_says_180 rfl ?_
                      refine hr_ialdN (v := (nI (A.1.1 14 (A.1.1 21 (iN a1))))) (q := 182) X dX5_says_181 rfl (hR.ka (n := 7) rfl rfl rfl) (Or.inl rfl) (by omega) (by decide) ((hR.ar rfl _).trans (hA.p (by decide) (by decide) (by omega))) ?_
                      have b181 := hW.w.b14 (show A.1.1 21 (iN a1) < 7 by omega)
                      exact hr_iret X hr dX5_says_182 (tw_end (by rw [sq_says, if_pos c5, if_neg c9, if_pos c15, if_neg (show ¬ ((A.1.1 18 (iN a1)) = 1) by omega), if_neg (show ¬ ((A.1.1 18 (iN a1)) = 0) by omega), if_neg (show ¬ ((iN a2) = 1) by omega), if_pos (show (iN a2) = 3 by omega), if_pos (show (A.1.1 9 (A.1.1 21 (iN a1))) = 5 by omega), if_pos (show (iN a2) = 0 by omega), if_pos e136_0]) hR hA)
                    by_cases e136_1 : (iN a2) = 1
                    · refine hr_tableIn (off := 47) (tgt := 183) X dX5_says_136 (by rw [(congrArg nI e136_1)]; decide) (by rw [(congrArg nI e136_1)]; decide) (by rw [(congrArg nI e136_1)]; rfl) (by decide) ?_
                      refine hr_aload0 (q := 184) X dX5_says_183 rfl ?_
                      refine hr_iload3 (q := 185) X dX5_says_184 rfl ?_
                      refine hr_callP (q := 188) (hc_V (n := 1) (ci := 5) (As := [.int (nI (A.1.1 21 (iN a1)))]) X dX5_says_185 rfl (tk_shows X.tr hR hA.t hw (x := A.1.1 21 (iN a1)) (by omega)) q1555 cv_X5_shows ⟨Nat.le_of_ble_eq_true rfl, Nat.le_of_ble_eq_true rfl⟩ rfl (Nat.le_of_ble_eq_true rfl) hR.om rfl rfl) rfl ?_
                      have := sp_shows_lt (t := A.1) hw (x := (A.1.1 21 (iN a1))) (by omega)
                      exact hr_iret X hr dX5_says_188 (tw_end (by rw [sq_says, if_pos c5, if_neg c9, if_pos c15, if_neg (show ¬ ((A.1.1 18 (iN a1)) = 1) by omega), if_neg (show ¬ ((A.1.1 18 (iN a1)) = 0) by omega), if_neg (show ¬ ((iN a2) = 1) by omega), if_pos (show (iN a2) = 3 by omega), if_pos (show (A.1.1 9 (A.1.1 21 (iN a1))) = 5 by omega), if_pos (show (iN a2) = 0 by omega), if_neg e136_0, if_pos e136_1]) hR hA)
                    by_cases e136_2 : (iN a2) = 2
                    · refine hr_tableIn (off := 47) (tgt := 183) X dX5_says_136 (by rw [(congrArg nI e136_2)]; decide) (by rw [(congrArg nI e136_2)]; decide) (by rw [(congrArg nI e136_2)]; rfl) (by decide) ?_
                      refine hr_aload0 (q := 184) X dX5_says_183 rfl ?_
                      refine hr_iload3 (q := 185) X dX5_says_184 rfl ?_
                      refine hr_callP (q := 188) (hc_V (n := 1) (ci := 5) (As := [.int (nI (A.1.1 21 (iN a1)))]) X dX5_says_185 rfl (tk_shows X.tr hR hA.t hw (x := A.1.1 21 (iN a1)) (by omega)) q1555 cv_X5_shows ⟨Nat.le_of_ble_eq_true rfl, Nat.le_of_ble_eq_true rfl⟩ rfl (Nat.le_of_ble_eq_true rfl) hR.om rfl rfl) rfl ?_
                      have := sp_shows_lt (t := A.1) hw (x := (A.1.1 21 (iN a1))) (by omega)
                      exact hr_iret X hr dX5_says_188 (tw_end (by rw [sq_says, if_pos c5, if_neg c9, if_pos c15, if_neg (show ¬ ((A.1.1 18 (iN a1)) = 1) by omega), if_neg (show ¬ ((A.1.1 18 (iN a1)) = 0) by omega), if_neg (show ¬ ((iN a2) = 1) by omega), if_pos (show (iN a2) = 3 by omega), if_pos (show (A.1.1 9 (A.1.1 21 (iN a1))) = 5 by omega), if_pos (show (iN a2) = 0 by omega), if_neg e136_0, if_neg e136_1, if_pos e136_2]) hR hA)
                    by_cases e136_3 : (iN a2) = 3
                    · refine hr_tableIn (off := 53) (tgt := 189) X dX5_says_136 (by rw [(congrArg nI e136_3)]; decide) (by rw [(congrArg nI e136_3)]; decide) (by rw [(congrArg nI e136_3)]; rfl) (by decide) ?_
                      refine hr_aload0 (q := 190) X dX5_says_189 rfl ?_
                      refine hr_getR (v := am 13) (q := 193) X dX5_says_190 rfl fr_q1395_5 rfl hR.om (hR.f rfl) ?_
                      refine hr_iload3 (q := 194) X dX5_says_193 rfl ?_
                      refine hr_ialdN (v := (nI (A.1.1 13 (A.1.1 21 (iN a1))))) (q := 195) X dX5_says_194 rfl (hR.ka (n := 7) rfl rfl rfl) (Or.inl rfl) (by omega) (by decide) ((hR.ar rfl _).trans (hA.p (by decide) (by decide) (by omega))) ?_
                      have b194 := hW.w.b13 (show A.1.1 21 (iN a1) < 7 by omega)
                      exact hr_iret X hr dX5_says_195 (tw_end (by rw [sq_says, if_pos c5, if_neg c9, if_pos c15, if_neg (show ¬ ((A.1.1 18 (iN a1)) = 1) by omega), if_neg (show ¬ ((A.1.1 18 (iN a1)) = 0) by omega), if_neg (show ¬ ((iN a2) = 1) by omega), if_pos (show (iN a2) = 3 by omega), if_pos (show (A.1.1 9 (A.1.1 21 (iN a1))) = 5 by omega), if_pos (show (iN a2) = 0 by omega), if_neg e136_0, if_neg e136_1, if_neg e136_2, if_pos e136_3]) hR hA)
                    by_cases e136_4 : (iN a2) = 4
                    · refine hr_tableIn (off := 60) (tgt := 196) X dX5_says_136 (by rw [(congrArg nI e136_4)]; decide) (by rw [(congrArg nI e136_4)]; decide) (by rw [(congrArg nI e136_4)]; rfl) (by decide) ?_
                      refine hr_aload0 (q := 197) X dX5_says_196 rfl ?_
                      refine hr_getR (v := am 12) (q := 200) X dX5_says_197 rfl fr_q1394_5 rfl hR.om (hR.f rfl) ?_
                      refine hr_iload3 (q := 201) X dX5_says_200 rfl ?_
                      refine hr_ialdN (v := (nI (A.1.1 12 (A.1.1 21 (iN a1))))) (q := 202) X dX5_says_201 rfl (hR.ka (n := 7) rfl rfl rfl) (Or.inl rfl) (by omega) (by decide) ((hR.ar rfl _).trans (hA.p (by decide) (by decide) (by omega))) ?_
                      have b201 := hW.w.b12 (show A.1.1 21 (iN a1) < 7 by omega)
                      exact hr_iret X hr dX5_says_202 (tw_end (by rw [sq_says, if_pos c5, if_neg c9, if_pos c15, if_neg (show ¬ ((A.1.1 18 (iN a1)) = 1) by omega), if_neg (show ¬ ((A.1.1 18 (iN a1)) = 0) by omega), if_neg (show ¬ ((iN a2) = 1) by omega), if_pos (show (iN a2) = 3 by omega), if_pos (show (A.1.1 9 (A.1.1 21 (iN a1))) = 5 by omega), if_pos (show (iN a2) = 0 by omega), if_neg e136_0, if_neg e136_1, if_neg e136_2, if_neg e136_3, if_pos e136_4]) hR hA)
                    by_cases e136_5 : (iN a2) = 5
                    · refine hr_tableIn (off := 53) (tgt := 189) X dX5_says_136 (by rw [(congrArg nI e136_5)]; decide) (by rw [(congrArg nI e136_5)]; decide) (by rw [(congrArg nI e136_5)]; rfl) (by decide) ?_
                      refine hr_aload0 (q := 190) X dX5_says_189 rfl ?_
                      refine hr_getR (v := am 13) (q := 193) X dX5_says_190 rfl fr_q1395_5 rfl hR.om (hR.f rfl) ?_
                      refine hr_iload3 (q := 194) X dX5_says_193 rfl ?_
                      refine hr_ialdN (v := (nI (A.1.1 13 (A.1.1 21 (iN a1))))) (q := 195) X dX5_says_194 rfl (hR.ka (n := 7) rfl rfl rfl) (Or.inl rfl) (by omega) (by decide) ((hR.ar rfl _).trans (hA.p (by decide) (by decide) (by omega))) ?_
                      have b194 := hW.w.b13 (show A.1.1 21 (iN a1) < 7 by omega)
                      exact hr_iret X hr dX5_says_195 (tw_end (by rw [sq_says, if_pos c5, if_neg c9, if_pos c15, if_neg (show ¬ ((A.1.1 18 (iN a1)) = 1) by omega), if_neg (show ¬ ((A.1.1 18 (iN a1)) = 0) by omega), if_neg (show ¬ ((iN a2) = 1) by omega), if_pos (show (iN a2) = 3 by omega), if_pos (show (A.1.1 9 (A.1.1 21 (iN a1))) = 5 by omega), if_pos (show (iN a2) = 0 by omega), if_neg e136_0, if_neg e136_1, if_neg e136_2, if_neg e136_3, if_neg e136_4, if_pos e136_5]) hR hA)
                    refine hr_tableOut (tgt := 196) X dX5_says_136 (sp_out (n := 6) (by decide) (fun i hi => by match i, hi with | 0, _ => exact (fun z => e136_0 ((nI_eq (by omega) (by omega)).mp z)) | 1, _ => exact (fun z => e136_1 ((nI_eq (by omega) (by omega)).mp z)) | 2, _ => exact (fun z => e136_2 ((nI_eq (by omega) (by omega)).mp z)) | 3, _ => exact (fun z => e136_3 ((nI_eq (by omega) (by omega)).mp z)) | 4, _ => exact (fun z => e136_4 ((nI_eq (by omega) (by omega)).mp z)) | 5, _ => exact (fun z => e136_5 ((nI_eq (by omega) (by omega)).mp z)) | (k + 6), hi => omega)) (by decide) ?_
                    refine hr_aload0 (q := 197) X dX5_says_196 rfl ?_
                    refine hr_getR (v := am 12) (q := 200) X dX5_says_197 rfl fr_q1394_5 rfl hR.om (hR.f rfl) ?_
                    refine hr_iload3 (q := 201) X dX5_says_200 rfl ?_
                    refine hr_ialdN (v := (nI (A.1.1 12 (A.1.1 21 (iN a1))))) (q := 202) X dX5_says_201 rfl (hR.ka (n := 7) rfl rfl rfl) (Or.inl rfl) (by omega) (by decide) ((hR.ar rfl _).trans (hA.p (by decide) (by decide) (by omega))) ?_
                    have b201 := hW.w.b12 (show A.1.1 21 (iN a1) < 7 by omega)
                    exact hr_iret X hr dX5_says_202 (tw_end (by rw [sq_says, if_pos c5, if_neg c9, if_pos c15, if_neg (show ¬ ((A.1.1 18 (iN a1)) = 1) by omega), if_neg (show ¬ ((A.1.1 18 (iN a1)) = 0) by omega), if_neg (show ¬ ((iN a2) = 1) by omega), if_pos (show (iN a2) = 3 by omega), if_pos (show (A.1.1 9 (A.1.1 21 (iN a1))) = 5 by omega), if_pos (show (iN a2) = 0 by omega), if_neg e136_0, if_neg e136_1, if_neg e136_2, if_neg e136_3, if_neg e136_4, if_neg e136_5]) hR hA)
                  · refine hr_iload2 (q := 118) X dX5_says_117 rfl ?_
                    refine hr_iload4 (q := 120) X dX5_says_118 rfl ?_
                    refine hr_icmpN_eq (q := 123) (tgt := 135) X dX5_says_120 rfl (by decide) (by omega) (by omega) (fun c120 => ?_) (fun c120 => ?_)
                    · refine hr_iload2 (q := 136) X dX5_says_135 rfl ?_
                      by_cases e136_0 : (iN a2) = 0
                      · refine hr_tableIn (off := 40) (tgt := 176) X dX5_says_136 (by rw [(congrArg nI e136_0)]; decide) (by rw [(congrArg nI e136_0)]; decide) (by rw [(congrArg nI e136_0)]; rfl) (by decide) ?_
                        refine hr_aload0 (q := 177) X dX5_says_176 rfl ?_
                        refine hr_getR (v := am 14) (q := 180) X dX5_says_177 rfl fr_q1396_5 rfl hR.om (hR.f rfl) ?_
                        refine hr_iload3 (q := 181) X dX5_says_180 rfl ?_
                        refine hr_ialdN (v := (nI (A.1.1 14 (A.1.1 21 (iN a1))))) (q := 182) X dX5_says_181 rfl (hR.ka (n := 7) rfl rfl rfl) (Or.inl rfl) (by omega) (by decide) ((hR.ar rfl _).trans (hA.p (by decide) (by decide) (by omega))) ?_
                        have b181 := hW.w.b14 (show A.1.1 21 (iN a1) < 7 by omega)
                        exact hr_iret X hr dX5_says_182 (tw_end (by rw [sq_says, if_pos c5, if_neg c9, if_pos c15, if_neg (show ¬ ((A.1.1 18 (iN a1)) = 1) by omega), if_neg (show ¬ ((A.1.1 18 (iN a1)) = 0) by omega), if_neg (show ¬ ((iN a2) = 1) by omega), if_pos (show (iN a2) = 3 by omega), if_pos (show (A.1.1 9 (A.1.1 21 (iN a1))) = 5 by omega), if_neg (show ¬ ((iN a2) = 0) by omega), if_pos (show (iN a2) = (A.1.1 9 (A.1.1 21 (iN a1))) by omega), if_pos e136_0]) hR hA)
                      by_cases e136_1 : (iN a2) = 1
                      · refine hr_tableIn (off := 47) (tgt := 183) X dX5_says_136 (by rw [(congrArg nI e136_1)]; decide) (by rw [(congrArg nI e136_1)]; decide) (by rw [(congrArg nI e136_1)]; rfl) (by decide) ?_
                        refine hr_aload0 (q := 184) X dX5_says_183 rfl ?_
                        refine hr_iload3 (q := 185) X dX5_says_184 rfl ?_
                        refine hr_callP (q := 188) (hc_V (n := 1) (ci := 5) (As := [.int (nI (A.1.1 21 (iN a1)))]) X dX5_says_185 rfl (tk_shows X.tr hR hA.t hw (x := A.1.1 21 (iN a1)) (by omega)) q1555 cv_X5_shows ⟨Nat.le_of_ble_eq_true rfl, Nat.le_of_ble_eq_true rfl⟩ rfl (Nat.le_of_ble_eq_true rfl) hR.om rfl rfl) rfl ?_
                        have := sp_shows_lt (t := A.1) hw (x := (A.1.1 21 (iN a1))) (by omega)
                        exact hr_iret X hr dX5_says_188 (tw_end (by rw [sq_says, if_pos c5, if_neg c9, if_pos c15, if_neg (show ¬ ((A.1.1 18 (iN a1)) = 1) by omega), if_neg (show ¬ ((A.1.1 18 (iN a1)) = 0) by omega), if_neg (show ¬ ((iN a2) = 1) by omega), if_pos (show (iN a2) = 3 by omega), if_pos (show (A.1.1 9 (A.1.1 21 (iN a1))) = 5 by omega), if_neg (show ¬ ((iN a2) = 0) by omega), if_pos (show (iN a2) = (A.1.1 9 (A.1.1 21 (iN a1))) by omega), if_neg e136_0, if_pos e136_1]) hR hA)
                      by_cases e136_2 : (iN a2) = 2
                      · refine hr_tableIn (off := 47) (tgt := 183) X dX5_says_136 (by rw [(congrArg nI e136_2)]; decide) (by rw [(congrArg nI e136_2)]; decide) (by rw [(congrArg nI e136_2)]; rfl) (by decide) ?_
                        refine hr_aload0 (q := 184) X dX5_says_183 rfl ?_
                        refine hr_iload3 (q := 185) X dX5_says_184 rfl ?_
                        refine hr_callP (q := 188) (hc_V (n := 1) (ci := 5) (As := [.int (nI (A.1.1 21 (iN a1)))]) X dX5_says_185 rfl (tk_shows X.tr hR hA.t hw (x := A.1.1 21 (iN a1)) (by omega)) q1555 cv_X5_shows ⟨Nat.le_of_ble_eq_true rfl, Nat.le_of_ble_eq_true rfl⟩ rfl (Nat.le_of_ble_eq_true rfl) hR.om rfl rfl) rfl ?_
                        have := sp_shows_lt (t := A.1) hw (x := (A.1.1 21 (iN a1))) (by omega)
                        exact hr_iret X hr dX5_says_188 (tw_end (by rw [sq_says, if_pos c5, if_neg c9, if_pos c15, if_neg (show ¬ ((A.1.1 18 (iN a1)) = 1) by omega), if_neg (show ¬ ((A.1.1 18 (iN a1)) = 0) by omega), if_neg (show ¬ ((iN a2) = 1) by omega), if_pos (show (iN a2) = 3 by omega), if_pos (show (A.1.1 9 (A.1.1 21 (iN a1))) = 5 by omega), if_neg (show ¬ ((iN a2) = 0) by omega), if_pos (show (iN a2) = (A.1.1 9 (A.1.1 21 (iN a1))) by omega), if_neg e136_0, if_neg e136_1, if_pos e136_2]) hR hA)
                      by_cases e136_3 : (iN a2) = 3
                      · refine hr_tableIn (off := 53) (tgt := 189) X dX5_says_136 (by rw [(congrArg nI e136_3)]; decide) (by rw [(congrArg nI e136_3)]; decide) (by rw [(congrArg nI e136_3)]; rfl) (by decide) ?_
                        refine hr_aload0 (q := 190) X dX5_says_189 rfl ?_
                        refine hr_getR (v := am 13) (q := 193) X dX5_says_190 rfl fr_q1395_5 rfl hR.om (hR.f rfl) ?_
                        refine hr_iload3 (q := 194) X dX5_says_193 rfl ?_
                        refine hr_ialdN (v := (nI (A.1.1 13 (A.1.1 21 (iN a1))))) (q := 195) X dX5_says_194 rfl (hR.ka (n := 7) rfl rfl rfl) (Or.inl rfl) (by omega) (by decide) ((hR.ar rfl _).trans (hA.p (by decide) (by decide) (by omega))) ?_
                        have b194 := hW.w.b13 (show A.1.1 21 (iN a1) < 7 by omega)
                        exact hr_iret X hr dX5_says_195 (tw_end (by rw [sq_says, if_pos c5, if_neg c9, if_pos c15, if_neg (show ¬ ((A.1.1 18 (iN a1)) = 1) by omega), if_neg (show ¬ ((A.1.1 18 (iN a1)) = 0) by omega), if_neg (show ¬ ((iN a2) = 1) by omega), if_pos (show (iN a2) = 3 by omega), if_pos (show (A.1.1 9 (A.1.1 21 (iN a1))) = 5 by omega), if_neg (show ¬ ((iN a2) = 0) by omega), if_pos (show (iN a2) = (A.1.1 9 (A.1.1 21 (iN a1))) by omega), if_neg e136_0, if_neg e136_1, if_neg e136_2, if_pos e136_3]) hR hA)
                      by_cases e136_4 : (iN a2) = 4
                      · refine hr_tableIn (off := 60) (tgt := 196) X dX5_says_136 (by rw [(congrArg nI e136_4)]; decide) (by rw [(congrArg nI e136_4)]; decide) (by rw [(congrArg nI e136_4)]; rfl) (by decide) ?_
                        refine hr_aload0 (q := 197) X dX5_says_196 rfl ?_
                        refine hr_getR (v := am 12) (q := 200) X dX5_says_197 rfl fr_q1394_5 rfl hR.om (hR.f rfl) ?_
                        refine hr_iload3 (q := 201) X dX5_says_200 rfl ?_
                        refine hr_ialdN (v := (nI (A.1.1 12 (A.1.1 21 (iN a1))))) (q := 202) X dX5_says_201 rfl (hR.ka (n := 7) rfl rfl rfl) (Or.inl rfl) (by omega) (by decide) ((hR.ar rfl _).trans (hA.p (by decide) (by decide) (by omega))) ?_
                        have b201 := hW.w.b12 (show A.1.1 21 (iN a1) < 7 by omega)
                        exact hr_iret X hr dX5_says_202 (tw_end (by rw [sq_says, if_pos c5, if_neg c9, if_pos c15, if_neg (show ¬ ((A.1.1 18 (iN a1)) = 1) by omega), if_neg (show ¬ ((A.1.1 18 (iN a1)) = 0) by omega), if_neg (show ¬ ((iN a2) = 1) by omega), if_pos (show (iN a2) = 3 by omega), if_pos (show (A.1.1 9 (A.1.1 21 (iN a1))) = 5 by omega), if_neg (show ¬ ((iN a2) = 0) by omega), if_pos (show (iN a2) = (A.1.1 9 (A.1.1 21 (iN a1))) by omega), if_neg e136_0, if_neg e136_1, if_neg e136_2, if_neg e136_3, if_pos e136_4]) hR hA)
                      by_cases e136_5 : (iN a2) = 5
                      · refine hr_tableIn (off := 53) (tgt := 189) X dX5_says_136 (by rw [(congrArg nI e136_5)]; decide) (by rw [(congrArg nI e136_5)]; decide) (by rw [(congrArg nI e136_5)]; rfl) (by decide) ?_
                        refine hr_aload0 (q := 190) X dX5_says_189 rfl ?_
                        refine hr_getR (v := am 13) (q := 193) X dX5_says_190 rfl fr_q1395_5 rfl hR.om (hR.f rfl) ?_
                        refine hr_iload3 (q := 194) X dX5_says_193 rfl ?_
                        refine hr_ialdN (v := (nI (A.1.1 13 (A.1.1 21 (iN a1))))) (q := 195) X dX5_says_194 rfl (hR.ka (n := 7) rfl rfl rfl) (Or.inl rfl) (by omega) (by decide) ((hR.ar rfl _).trans (hA.p (by decide) (by decide) (by omega))) ?_
                        have b194 := hW.w.b13 (show A.1.1 21 (iN a1) < 7 by omega)
                        exact hr_iret X hr dX5_says_195 (tw_end (by rw [sq_says, if_pos c5, if_neg c9, if_pos c15, if_neg (show ¬ ((A.1.1 18 (iN a1)) = 1) by omega), if_neg (show ¬ ((A.1.1 18 (iN a1)) = 0) by omega), if_neg (show ¬ ((iN a2) = 1) by omega), if_pos (show (iN a2) = 3 by omega), if_pos (show (A.1.1 9 (A.1.1 21 (iN a1))) = 5 by omega), if_neg (show ¬ ((iN a2) = 0) by omega), if_pos (show (iN a2) = (A.1.1 9 (A.1.1 21 (iN a1))) by omega), if_neg e136_0, if_neg e136_1, if_neg e136_2, if_neg e136_3, if_neg e136_4, if_pos e136_5]) hR hA)
                      refine hr_tableOut (tgt := 196) X dX5_says_136 (sp_out (n := 6) (by decide) (fun i hi => by match i, hi with | 0, _ => exact (fun z => e136_0 ((nI_eq (by omega) (by omega)).mp z)) | 1, _ => exact (fun z => e136_1 ((nI_eq (by omega) (by omega)).mp z)) | 2, _ => exact (fun z => e136_2 ((nI_eq (by omega) (by omega)).mp z)) | 3, _ => exact (fun z => e136_3 ((nI_eq (by omega) (by omega)).mp z)) | 4, _ => exact (fun z => e136_4 ((nI_eq (by omega) (by omega)).mp z)) | 5, _ => exact (fun z => e136_5 ((nI_eq (by omega) (by omega)).mp z)) | (k + 6), hi => omega)) (by decide) ?_
                      refine hr_aload0 (q := 197) X dX5_says_196 rfl ?_
                      refine hr_getR (v := am 12) (q := 200) X dX5_says_197 rfl fr_q1394_5 rfl hR.om (hR.f rfl) ?_
                      refine hr_iload3 (q := 201) X dX5_says_200 rfl ?_
                      refine hr_ialdN (v := (nI (A.1.1 12 (A.1.1 21 (iN a1))))) (q := 202) X dX5_says_201 rfl (hR.ka (n := 7) rfl rfl rfl) (Or.inl rfl) (by omega) (by decide) ((hR.ar rfl _).trans (hA.p (by decide) (by decide) (by omega))) ?_
                      have b201 := hW.w.b12 (show A.1.1 21 (iN a1) < 7 by omega)
                      exact hr_iret X hr dX5_says_202 (tw_end (by rw [sq_says, if_pos c5, if_neg c9, if_pos c15, if_neg (show ¬ ((A.1.1 18 (iN a1)) = 1) by omega), if_neg (show ¬ ((A.1.1 18 (iN a1)) = 0) by omega), if_neg (show ¬ ((iN a2) = 1) by omega), if_pos (show (iN a2) = 3 by omega), if_pos (show (A.1.1 9 (A.1.1 21 (iN a1))) = 5 by omega), if_neg (show ¬ ((iN a2) = 0) by omega), if_pos (show (iN a2) = (A.1.1 9 (A.1.1 21 (iN a1))) by omega), if_neg e136_0, if_neg e136_1, if_neg e136_2, if_neg e136_3, if_neg e136_4, if_neg e136_5]) hR hA)
                    · refine hr_iload5 (q := 125) X dX5_says_123 rfl ?_
                      refine hr_if_ne (q := 128) (tgt := 135) X dX5_says_125 rfl (by decide) (fun _ => ?_) (fun z => absurd z (by decide))
                      refine hr_iload2 (q := 136) X dX5_says_135 rfl ?_
                      by_cases e136_0 : (iN a2) = 0
                      · refine hr_tableIn (off := 40) (tgt := 176) X dX5_says_136 (by rw [(congrArg nI e136_0)]; decide) (by rw [(congrArg nI e136_0)]; decide) (by rw [(congrArg nI e136_0)]; rfl) (by decide) ?_
                        refine hr_aload0 (q := 177) X dX5_says_176 rfl ?_
                        refine hr_getR (v := am 14) (q := 180) X dX5_says_177 rfl fr_q1396_5 rfl hR.om (hR.f rfl) ?_
                        refine hr_iload3 (q := 181) X dX5_says_180 rfl ?_
                        refine hr_ialdN (v := (nI (A.1.1 14 (A.1.1 21 (iN a1))))) (q := 182) X dX5_says_181 rfl (hR.ka (n := 7) rfl rfl rfl) (Or.inl rfl) (by omega) (by decide) ((hR.ar rfl _).trans (hA.p (by decide) (by decide) (by omega))) ?_
                        have b181 := hW.w.b14 (show A.1.1 21 (iN a1) < 7 by omega)
                        exact hr_iret X hr dX5_says_182 (tw_end (by rw [sq_says, if_pos c5, if_neg c9, if_pos c15, if_neg (show ¬ ((A.1.1 18 (iN a1)) = 1) by omega), if_neg (show ¬ ((A.1.1 18 (iN a1)) = 0) by omega), if_neg (show ¬ ((iN a2) = 1) by omega), if_pos (show (iN a2) = 3 by omega), if_pos (show (A.1.1 9 (A.1.1 21 (iN a1))) = 5 by omega), if_neg (show ¬ ((iN a2) = 0) by omega), if_neg (show ¬ ((iN a2) = (A.1.1 9 (A.1.1 21 (iN a1)))) by omega), if_pos e136_0]) hR hA)
                      by_cases e136_1 : (iN a2) = 1
                      · refine hr_tableIn (off := 47) (tgt := 183) X dX5_says_136 (by rw [(congrArg nI e136_1)]; decide) (by rw [(congrArg nI e136_1)]; decide) (by rw [(congrArg nI e136_1)]; rfl) (by decide) ?_
                        refine hr_aload0 (q := 184) X dX5_says_183 rfl ?_
                        refine hr_iload3 (q := 185) X dX5_says_184 rfl ?_
                        refine hr_callP (q := 188) (hc_V (n := 1) (ci := 5) (As := [.int (nI (A.1.1 21 (iN a1)))]) X dX5_says_185 rfl (tk_shows X.tr hR hA.t hw (x := A.1.1 21 (iN a1)) (by omega)) q1555 cv_X5_shows ⟨Nat.le_of_ble_eq_true rfl, Nat.le_of_ble_eq_true rfl⟩ rfl (Nat.le_of_ble_eq_true rfl) hR.om rfl rfl) rfl ?_
                        have := sp_shows_lt (t := A.1) hw (x := (A.1.1 21 (iN a1))) (by omega)
                        exact hr_iret X hr dX5_says_188 (tw_end (by rw [sq_says, if_pos c5, if_neg c9, if_pos c15, if_neg (show ¬ ((A.1.1 18 (iN a1)) = 1) by omega), if_neg (show ¬ ((A.1.1 18 (iN a1)) = 0) by omega), if_neg (show ¬ ((iN a2) = 1) by omega), if_pos (show (iN a2) = 3 by omega), if_pos (show (A.1.1 9 (A.1.1 21 (iN a1))) = 5 by omega), if_neg (show ¬ ((iN a2) = 0) by omega), if_neg (show ¬ ((iN a2) = (A.1.1 9 (A.1.1 21 (iN a1)))) by omega), if_neg e136_0, if_pos e136_1]) hR hA)
                      by_cases e136_2 : (iN a2) = 2
                      · refine hr_tableIn (off := 47) (tgt := 183) X dX5_says_136 (by rw [(congrArg nI e136_2)]; decide) (by rw [(congrArg nI e136_2)]; decide) (by rw [(congrArg nI e136_2)]; rfl) (by decide) ?_
                        refine hr_aload0 (q := 184) X dX5_says_183 rfl ?_
                        refine hr_iload3 (q := 185) X dX5_says_184 rfl ?_
                        refine hr_callP (q := 188) (hc_V (n := 1) (ci := 5) (As := [.int (nI (A.1.1 21 (iN a1)))]) X dX5_says_185 rfl (tk_shows X.tr hR hA.t hw (x := A.1.1 21 (iN a1)) (by omega)) q1555 cv_X5_shows ⟨Nat.le_of_ble_eq_true rfl, Nat.le_of_ble_eq_true rfl⟩ rfl (Nat.le_of_ble_eq_true rfl) hR.om rfl rfl) rfl ?_
                        have := sp_shows_lt (t := A.1) hw (x := (A.1.1 21 (iN a1))) (by omega)
                        exact hr_iret X hr dX5_says_188 (tw_end (by rw [sq_says, if_pos c5, if_neg c9, if_pos c15, if_neg (show ¬ ((A.1.1 18 (iN a1)) = 1) by omega), if_neg (show ¬ ((A.1.1 18 (iN a1)) = 0) by omega), if_neg (show ¬ ((iN a2) = 1) by omega), if_pos (show (iN a2) = 3 by omega), if_pos (show (A.1.1 9 (A.1.1 21 (iN a1))) = 5 by omega), if_neg (show ¬ ((iN a2) = 0) by omega), if_neg (show ¬ ((iN a2) = (A.1.1 9 (A.1.1 21 (iN a1)))) by omega), if_neg e136_0, if_neg e136_1, if_pos e136_2]) hR hA)
                      by_cases e136_3 : (iN a2) = 3
                      · refine hr_tableIn (off := 53) (tgt := 189) X dX5_says_136 (by rw [(congrArg nI e136_3)]; decide) (by rw [(congrArg nI e136_3)]; decide) (by rw [(congrArg nI e136_3)]; rfl) (by decide) ?_
                        refine hr_aload0 (q := 190) X dX5_says_189 rfl ?_
                        refine hr_getR (v := am 13) (q := 193) X dX5_says_190 rfl fr_q1395_5 rfl hR.om (hR.f rfl) ?_
                        refine hr_iload3 (q := 194) X dX5_says_193 rfl ?_
                        refine hr_ialdN (v := (nI (A.1.1 13 (A.1.1 21 (iN a1))))) (q := 195) X dX5_says_194 rfl (hR.ka (n := 7) rfl rfl rfl) (Or.inl rfl) (by omega) (by decide) ((hR.ar rfl _).trans (hA.p (by decide) (by decide) (by omega))) ?_
                        have b194 := hW.w.b13 (show A.1.1 21 (iN a1) < 7 by omega)
                        exact hr_iret X hr dX5_says_195 (tw_end (by rw [sq_says, if_pos c5, if_neg c9, if_pos c15, if_neg (show ¬ ((A.1.1 18 (iN a1)) = 1) by omega), if_neg (show ¬ ((A.1.1 18 (iN a1)) = 0) by omega), if_neg (show ¬ ((iN a2) = 1) by omega), if_pos (show (iN a2) = 3 by omega), if_pos (show (A.1.1 9 (A.1.1 21 (iN a1))) = 5 by omega), if_neg (show ¬ ((iN a2) = 0) by omega), if_neg (show ¬ ((iN a2) = (A.1.1 9 (A.1.1 21 (iN a1)))) by omega), if_neg e136_0, if_neg e136_1, if_neg e136_2, if_pos e136_3]) hR hA)
                      by_cases e136_4 : (iN a2) = 4
                      · refine hr_tableIn (off := 60) (tgt := 196) X dX5_says_136 (by rw [(congrArg nI e136_4)]; decide) (by rw [(congrArg nI e136_4)]; decide) (by rw [(congrArg nI e136_4)]; rfl) (by decide) ?_
                        refine hr_aload0 (q := 197) X dX5_says_196 rfl ?_
                        refine hr_getR (v := am 12) (q := 200) X dX5_says_197 rfl fr_q1394_5 rfl hR.om (hR.f rfl) ?_
                        refine hr_iload3 (q := 201) X dX5_says_200 rfl ?_
                        refine hr_ialdN (v := (nI (A.1.1 12 (A.1.1 21 (iN a1))))) (q := 202) X dX5_says_201 rfl (hR.ka (n := 7) rfl rfl rfl) (Or.inl rfl) (by omega) (by decide) ((hR.ar rfl _).trans (hA.p (by decide) (by decide) (by omega))) ?_
                        have b201 := hW.w.b12 (show A.1.1 21 (iN a1) < 7 by omega)
                        exact hr_iret X hr dX5_says_202 (tw_end (by rw [sq_says, if_pos c5, if_neg c9, if_pos c15, if_neg (show ¬ ((A.1.1 18 (iN a1)) = 1) by omega), if_neg (show ¬ ((A.1.1 18 (iN a1)) = 0) by omega), if_neg (show ¬ ((iN a2) = 1) by omega), if_pos (show (iN a2) = 3 by omega), if_pos (show (A.1.1 9 (A.1.1 21 (iN a1))) = 5 by omega), if_neg (show ¬ ((iN a2) = 0) by omega), if_neg (show ¬ ((iN a2) = (A.1.1 9 (A.1.1 21 (iN a1)))) by omega), if_neg e136_0, if_neg e136_1, if_neg e136_2, if_neg e136_3, if_pos e136_4]) hR hA)
                      by_cases e136_5 : (iN a2) = 5
                      · refine hr_tableIn (off := 53) (tgt := 189) X dX5_says_136 (by rw [(congrArg nI e136_5)]; decide) (by rw [(congrArg nI e136_5)]; decide) (by rw [(congrArg nI e136_5)]; rfl) (by decide) ?_
                        refine hr_aload0 (q := 190) X dX5_says_189 rfl ?_
                        refine hr_getR (v := am 13) (q := 193) X dX5_says_190 rfl fr_q1395_5 rfl hR.om (hR.f rfl) ?_
                        refine hr_iload3 (q := 194) X dX5_says_193 rfl ?_
                        refine hr_ialdN (v := (nI (A.1.1 13 (A.1.1 21 (iN a1))))) (q := 195) X dX5_says_194 rfl (hR.ka (n := 7) rfl rfl rfl) (Or.inl rfl) (by omega) (by decide) ((hR.ar rfl _).trans (hA.p (by decide) (by decide) (by omega))) ?_
                        have b194 := hW.w.b13 (show A.1.1 21 (iN a1) < 7 by omega)
                        exact hr_iret X hr dX5_says_195 (tw_end (by rw [sq_says, if_pos c5, if_neg c9, if_pos c15, if_neg (show ¬ ((A.1.1 18 (iN a1)) = 1) by omega), if_neg (show ¬ ((A.1.1 18 (iN a1)) = 0) by omega), if_neg (show ¬ ((iN a2) = 1) by omega), if_pos (show (iN a2) = 3 by omega), if_pos (show (A.1.1 9 (A.1.1 21 (iN a1))) = 5 by omega), if_neg (show ¬ ((iN a2) = 0) by omega), if_neg (show ¬ ((iN a2) = (A.1.1 9 (A.1.1 21 (iN a1)))) by omega), if_neg e136_0, if_neg e136_1, if_neg e136_2, if_neg e136_3, if_neg e136_4, if_pos e136_5]) hR hA)
                      refine hr_tableOut (tgt := 196) X dX5_says_136 (sp_out (n := 6) (by decide) (fun i hi => by match i, hi with | 0, _ => exact (fun z => e136_0 ((nI_eq (by omega) (by omega)).mp z)) | 1, _ => exact (fun z => e136_1 ((nI_eq (by omega) (by omega)).mp z)) | 2, _ => exact (fun z => e136_2 ((nI_eq (by omega) (by omega)).mp z)) | 3, _ => exact (fun z => e136_3 ((nI_eq (by omega) (by omega)).mp z)) | 4, _ => exact (fun z => e136_4 ((nI_eq (by omega) (by omega)).mp z)) | 5, _ => exact (fun z => e136_5 ((nI_eq (by omega) (by omega)).mp z)) | (k + 6), hi => omega)) (by decide) ?_
                      refine hr_aload0 (q := 197) X dX5_says_196 rfl ?_
                      refine hr_getR (v := am 12) (q := 200) X dX5_says_197 rfl fr_q1394_5 rfl hR.om (hR.f rfl) ?_
                      refine hr_iload3 (q := 201) X dX5_says_200 rfl ?_
                      refine hr_ialdN (v := (nI (A.1.1 12 (A.1.1 21 (iN a1))))) (q := 202) X dX5_says_201 rfl (hR.ka (n := 7) rfl rfl rfl) (Or.inl rfl) (by omega) (by decide) ((hR.ar rfl _).trans (hA.p (by decide) (by decide) (by omega))) ?_
                      have b201 := hW.w.b12 (show A.1.1 21 (iN a1) < 7 by omega)
                      exact hr_iret X hr dX5_says_202 (tw_end (by rw [sq_says, if_pos c5, if_neg c9, if_pos c15, if_neg (show ¬ ((A.1.1 18 (iN a1)) = 1) by omega), if_neg (show ¬ ((A.1.1 18 (iN a1)) = 0) by omega), if_neg (show ¬ ((iN a2) = 1) by omega), if_pos (show (iN a2) = 3 by omega), if_pos (show (A.1.1 9 (A.1.1 21 (iN a1))) = 5 by omega), if_neg (show ¬ ((iN a2) = 0) by omega), if_neg (show ¬ ((iN a2) = (A.1.1 9 (A.1.1 21 (iN a1)))) by omega), if_neg e136_0, if_neg e136_1, if_neg e136_2, if_neg e136_3, if_neg e136_4, if_neg e136_5]) hR hA)
                · refine hr_iload2 (q := 95) X dX5_says_94 rfl ?_
                  refine hr_iconst (v := (nI 4)) (q := 96) X dX5_says_95 rfl rfl ?_
                  refine hr_icmpN_ne (q := 99) (tgt := 110) X dX5_says_96 rfl (by decide) (by omega) (by omega) (fun c96 => ?_) (fun c96 => ?_)
                  · refine hr_iconst (v := (nI 0)) (q := 111) X dX5_says_110 rfl rfl ?_
                    refine hr_istore5 (q := 113) X dX5_says_111 rfl rfl (Nat.le_of_ble_eq_true rfl) ?_
                    refine hr_iload2 (q := 114) X dX5_says_113 rfl ?_
                    refine hr_ifN_eq (q := 117) (tgt := 135) X dX5_says_114 rfl (by decide) (by omega) (fun c114 => ?_) (fun c114 => ?_)
                    · refine hr_iload2 (q := 136) X dX5_says_135 rfl ?_
                      by_cases e136_0 : (iN a2) = 0
                      · refine hr_tableIn (off := 40) (tgt := 176) X dX5_says_136 (by rw [(congrArg nI e136_0)]; decide) (by rw [(congrArg nI e136_0)]; decide) (by rw [(congrArg nI e136_0)]; rfl) (by decide) ?_
                        refine hr_aload0 (q := 177) X dX5_says_176 rfl ?_
                        refine hr_getR (v := am 14) (q := 180) X dX5_says_177 rfl fr_q1396_5 rfl hR.om (hR.f rfl) ?_
                        refine hr_iload3 (q := 181) X dX5_says_180 rfl ?_
                        refine hr_ialdN (v := (nI (A.1.1 14 (A.1.1 21 (iN a1))))) (q := 182) X dX5_says_181 rfl (hR.ka (n := 7) rfl rfl rfl) (Or.inl rfl) (by omega) (by decide) ((hR.ar rfl _).trans (hA.p (by decide) (by decide) (by omega))) ?_
                        have b181 := hW.w.b14 (show A.1.1 21 (iN a1) < 7 by omega)
                        exact hr_iret X hr dX5_says_182 (tw_end (by rw [sq_says, if_pos c5, if_neg c9, if_pos c15, if_neg (show ¬ ((A.1.1 18 (iN a1)) = 1) by omega), if_neg (show ¬ ((A.1.1 18 (iN a1)) = 0) by omega), if_neg (show ¬ ((iN a2) = 1) by omega), if_pos (show (iN a2) = 3 by omega), if_neg (show ¬ ((A.1.1 9 (A.1.1 21 (iN a1))) = 5) by omega), if_neg (show ¬ ((iN a2) = 4) by omega), if_pos (show (iN a2) = 0 by omega), if_pos e136_0]) hR hA)
                      by_cases e136_1 : (iN a2) = 1
                      · refine hr_tableIn (off := 47) (tgt := 183) X dX5_says_136 (by rw [(congrArg nI e136_1)]; decide) (by rw [(congrArg nI e136_1)]; decide) (by rw [(congrArg nI e136_1)]; rfl) (by decide) ?_
                        refine hr_aload0 (q := 184) X dX5_says_183 rfl ?_
                        refine hr_iload3 (q := 185) X dX5_says_184 rfl ?_
                        refine hr_callP (q := 188) (hc_V (n := 1) (ci := 5) (As := [.int (nI (A.1.1 21 (iN a1)))]) X dX5_says_185 rfl (tk_shows X.tr hR hA.t hw (x := A.1.1 21 (iN a1)) (by omega)) q1555 cv_X5_shows ⟨Nat.le_of_ble_eq_true rfl, Nat.le_of_ble_eq_true rfl⟩ rfl (Nat.le_of_ble_eq_true rfl) hR.om rfl rfl) rfl ?_
                        have := sp_shows_lt (t := A.1) hw (x := (A.1.1 21 (iN a1))) (by omega)
                        exact hr_iret X hr dX5_says_188 (tw_end (by rw [sq_says, if_pos c5, if_neg c9, if_pos c15, if_neg (show ¬ ((A.1.1 18 (iN a1)) = 1) by omega), if_neg (show ¬ ((A.1.1 18 (iN a1)) = 0) by omega), if_neg (show ¬ ((iN a2) = 1) by omega), if_pos (show (iN a2) = 3 by omega), if_neg (show ¬ ((A.1.1 9 (A.1.1 21 (iN a1))) = 5) by omega), if_neg (show ¬ ((iN a2) = 4) by omega), if_pos (show (iN a2) = 0 by omega), if_neg e136_0, if_pos e136_1]) hR hA)
                      by_cases e136_2 : (iN a2) = 2
                      · refine hr_tableIn (off := 47) (tgt := 183) X dX5_says_136 (by rw [(congrArg nI e136_2)]; decide) (by rw [(congrArg nI e136_2)]; decide) (by rw [(congrArg nI e136_2)]; rfl) (by decide) ?_
                        refine hr_aload0 (q := 184) X dX5_says_183 rfl ?_
                        refine hr_iload3 (q := 185) X dX5_says_184 rfl ?_
                        refine hr_callP (q := 188) (hc_V (n := 1) (ci := 5) (As := [.int (nI (A.1.1 21 (iN a1)))]) X dX5_says_185 rfl (tk_shows X.tr hR hA.t hw (x := A.1.1 21 (iN a1)) (by omega)) q1555 cv_X5_shows ⟨Nat.le_of_ble_eq_true rfl, Nat.le_of_ble_eq_true rfl⟩ rfl (Nat.le_of_ble_eq_true rfl) hR.om rfl rfl) rfl ?_
                        have := sp_shows_lt (t := A.1) hw (x := (A.1.1 21 (iN a1))) (by omega)
                        exact hr_iret X hr dX5_says_188 (tw_end (by rw [sq_says, if_pos c5, if_neg c9, if_pos c15, if_neg (show ¬ ((A.1.1 18 (iN a1)) = 1) by omega), if_neg (show ¬ ((A.1.1 18 (iN a1)) = 0) by omega), if_neg (show ¬ ((iN a2) = 1) by omega), if_pos (show (iN a2) = 3 by omega), if_neg (show ¬ ((A.1.1 9 (A.1.1 21 (iN a1))) = 5) by omega), if_neg (show ¬ ((iN a2) = 4) by omega), if_pos (show (iN a2) = 0 by omega), if_neg e136_0, if_neg e136_1, if_pos e136_2]) hR hA)
                      by_cases e136_3 : (iN a2) = 3
                      · refine hr_tableIn (off := 53) (tgt := 189) X dX5_says_136 (by rw [(congrArg nI e136_3)]; decide) (by rw [(congrArg nI e136_3)]; decide) (by rw [(congrArg nI e136_3)]; rfl) (by decide) ?_
                        refine hr_aload0 (q := 190) X dX5_says_189 rfl ?_
                        refine hr_getR (v := am 13) (q := 193) X dX5_says_190 rfl fr_q1395_5 rfl hR.om (hR.f rfl) ?_
                        refine hr_iload3 (q := 194) X dX5_says_193 rfl ?_
                        refine hr_ialdN (v := (nI (A.1.1 13 (A.1.1 21 (iN a1))))) (q := 195) X dX5_says_194 rfl (hR.ka (n := 7) rfl rfl rfl) (Or.inl rfl) (by omega) (by decide) ((hR.ar rfl _).trans (hA.p (by decide) (by decide) (by omega))) ?_
                        have b194 := hW.w.b13 (show A.1.1 21 (iN a1) < 7 by omega)
                        exact hr_iret X hr dX5_says_195 (tw_end (by rw [sq_says, if_pos c5, if_neg c9, if_pos c15, if_neg (show ¬ ((A.1.1 18 (iN a1)) = 1) by omega), if_neg (show ¬ ((A.1.1 18 (iN a1)) = 0) by omega), if_neg (show ¬ ((iN a2) = 1) by omega), if_pos (show (iN a2) = 3 by omega), if_neg (show ¬ ((A.1.1 9 (A.1.1 21 (iN a1))) = 5) by omega), if_neg (show ¬ ((iN a2) = 4) by omega), if_pos (show (iN a2) = 0 by omega), if_neg e136_0, if_neg e136_1, if_neg e136_2, if_pos e136_3]) hR hA)
                      by_cases e136_4 : (iN a2) = 4
                      · refine hr_tableIn (off := 60) (tgt := 196) X dX5_says_136 (by rw [(congrArg nI e136_4)]; decide) (by rw [(congrArg nI e136_4)]; decide) (by rw [(congrArg nI e136_4)]; rfl) (by decide) ?_
                        refine hr_aload0 (q := 197) X dX5_says_196 rfl ?_
                        refine hr_getR (v := am 12) (q := 200) X dX5_says_197 rfl fr_q1394_5 rfl hR.om (hR.f rfl) ?_
                        refine hr_iload3 (q := 201) X dX5_says_200 rfl ?_
                        refine hr_ialdN (v := (nI (A.1.1 12 (A.1.1 21 (iN a1))))) (q := 202) X dX5_says_201 rfl (hR.ka (n := 7) rfl rfl rfl) (Or.inl rfl) (by omega) (by decide) ((hR.ar rfl _).trans (hA.p (by decide) (by decide) (by omega))) ?_
                        have b201 := hW.w.b12 (show A.1.1 21 (iN a1) < 7 by omega)
                        exact hr_iret X hr dX5_says_202 (tw_end (by rw [sq_says, if_pos c5, if_neg c9, if_pos c15, if_neg (show ¬ ((A.1.1 18 (iN a1)) = 1) by omega), if_neg (show ¬ ((A.1.1 18 (iN a1)) = 0) by omega), if_neg (show ¬ ((iN a2) = 1) by omega), if_pos (show (iN a2) = 3 by omega), if_neg (show ¬ ((A.1.1 9 (A.1.1 21 (iN a1))) = 5) by omega), if_neg (show ¬ ((iN a2) = 4) by omega), if_pos (show (iN a2) = 0 by omega), if_neg e136_0, if_neg e136_1, if_neg e136_2, if_neg e136_3, if_pos e136_4]) hR hA)
                      by_cases e136_5 : (iN a2) = 5
                      · refine hr_tableIn (off := 53) (tgt := 189) X dX5_says_136 (by rw [(congrArg nI e136_5)]; decide) (by rw [(congrArg nI e136_5)]; decide) (by rw [(congrArg nI e136_5)]; rfl) (by decide) ?_
                        refine hr_aload0 (q := 190) X dX5_says_189 rfl ?_
                        refine hr_getR (v := am 13) (q := 193) X dX5_says_190 rfl fr_q1395_5 rfl hR.om (hR.f rfl) ?_
                        refine hr_iload3 (q := 194) X dX5_says_193 rfl ?_
                        refine hr_ialdN (v := (nI (A.1.1 13 (A.1.1 21 (iN a1))))) (q := 195) X dX5_says_194 rfl (hR.ka (n := 7) rfl rfl rfl) (Or.inl rfl) (by omega) (by decide) ((hR.ar rfl _).trans (hA.p (by decide) (by decide) (by omega))) ?_
                        have b194 := hW.w.b13 (show A.1.1 21 (iN a1) < 7 by omega)
                        exact hr_iret X hr dX5_says_195 (tw_end (by rw [sq_says, if_pos c5, if_neg c9, if_pos c15, if_neg (show ¬ ((A.1.1 18 (iN a1)) = 1) by omega), if_neg (show ¬ ((A.1.1 18 (iN a1)) = 0) by omega), if_neg (show ¬ ((iN a2) = 1) by omega), if_pos (show (iN a2) = 3 by omega), if_neg (show ¬ ((A.1.1 9 (A.1.1 21 (iN a1))) = 5) by omega), if_neg (show ¬ ((iN a2) = 4) by omega), if_pos (show (iN a2) = 0 by omega), if_neg e136_0, if_neg e136_1, if_neg e136_2, if_neg e136_3, if_neg e136_4, if_pos e136_5]) hR hA)
                      refine hr_tableOut (tgt := 196) X dX5_says_136 (sp_out (n := 6) (by decide) (fun i hi => by match i, hi with | 0, _ => exact (fun z => e136_0 ((nI_eq (by omega) (by omega)).mp z)) | 1, _ => exact (fun z => e136_1 ((nI_eq (by omega) (by omega)).mp z)) | 2, _ => exact (fun z => e136_2 ((nI_eq (by omega) (by omega)).mp z)) | 3, _ => exact (fun z => e136_3 ((nI_eq (by omega) (by omega)).mp z)) | 4, _ => exact (fun z => e136_4 ((nI_eq (by omega) (by omega)).mp z)) | 5, _ => exact (fun z => e136_5 ((nI_eq (by omega) (by omega)).mp z)) | (k + 6), hi => omega)) (by decide) ?_
                      refine hr_aload0 (q := 197) X dX5_says_196 rfl ?_
                      refine hr_getR (v := am 12) (q := 200) X dX5_says_197 rfl fr_q1394_5 rfl hR.om (hR.f rfl) ?_
                      refine hr_iload3 (q := 201) X dX5_says_200 rfl ?_
                      refine hr_ialdN (v := (nI (A.1.1 12 (A.1.1 21 (iN a1))))) (q := 202) X dX5_says_201 rfl (hR.ka (n := 7) rfl rfl rfl) (Or.inl rfl) (by omega) (by decide) ((hR.ar rfl _).trans (hA.p (by decide) (by decide) (by omega))) ?_
                      have b201 := hW.w.b12 (show A.1.1 21 (iN a1) < 7 by omega)
                      exact hr_iret X hr dX5_says_202 (tw_end (by rw [sq_says, if_pos c5, if_neg c9, if_pos c15, if_neg (show ¬ ((A.1.1 18 (iN a1)) = 1) by omega), if_neg (show ¬ ((A.1.1 18 (iN a1)) = 0) by omega), if_neg (show ¬ ((iN a2) = 1) by omega), if_pos (show (iN a2) = 3 by omega), if_neg (show ¬ ((A.1.1 9 (A.1.1 21 (iN a1))) = 5) by omega), if_neg (show ¬ ((iN a2) = 4) by omega), if_pos (show (iN a2) = 0 by omega), if_neg e136_0, if_neg e136_1, if_neg e136_2, if_neg e136_3, if_neg e136_4, if_neg e136_5]) hR hA)
                    · refine hr_iload2 (q := 118) X dX5_says_117 rfl ?_
                      refine hr_iload4 (q := 120) X dX5_says_118 rfl ?_
                      refine hr_icmpN_eq (q := 123) (tgt := 135) X dX5_says_120 rfl (by decide) (by omega) (by omega) (fun c120 => ?_) (fun c120 => ?_)
                      · refine hr_iload2 (q := 136) X dX5_says_135 rfl ?_
                        by_cases e136_0 : (iN a2) = 0
                        · refine hr_tableIn (off := 40) (tgt := 176) X dX5_says_136 (by rw [(congrArg nI e136_0)]; decide) (by rw [(congrArg nI e136_0)]; decide) (by rw [(congrArg nI e136_0)]; rfl) (by decide) ?_
                          refine hr_aload0 (q := 177) X dX5_says_176 rfl ?_
                          refine hr_getR (v := am 14) (q := 180) X dX5_says_177 rfl fr_q1396_5 rfl hR.om (hR.f rfl) ?_
                          refine hr_iload3 (q := 181) X dX5_says_180 rfl ?_
                          refine hr_ialdN (v := (nI (A.1.1 14 (A.1.1 21 (iN a1))))) (q := 182) X dX5_says_181 rfl (hR.ka (n := 7) rfl rfl rfl) (Or.inl rfl) (by omega) (by decide) ((hR.ar rfl _).trans (hA.p (by decide) (by decide) (by omega))) ?_
                          have b181 := hW.w.b14 (show A.1.1 21 (iN a1) < 7 by omega)
                          exact hr_iret X hr dX5_says_182 (tw_end (by rw [sq_says, if_pos c5, if_neg c9, if_pos c15, if_neg (show ¬ ((A.1.1 18 (iN a1)) = 1) by omega), if_neg (show ¬ ((A.1.1 18 (iN a1)) = 0) by omega), if_neg (show ¬ ((iN a2) = 1) by omega), if_pos (show (iN a2) = 3 by omega), if_neg (show ¬ ((A.1.1 9 (A.1.1 21 (iN a1))) = 5) by omega), if_neg (show ¬ ((iN a2) = 4) by omega), if_neg (show ¬ ((iN a2) = 0) by omega), if_pos (show (iN a2) = (A.1.1 9 (A.1.1 21 (iN a1))) by omega), if_pos e136_0]) hR hA)
                        by_cases e136_1 : (iN a2) = 1
                        · refine hr_tableIn (off := 47) (tgt := 183) X dX5_says_136 (by rw [(congrArg nI e136_1)]; decide) (by rw [(congrArg nI e136_1)]; decide) (by rw [(congrArg nI e136_1)]; rfl) (by decide) ?_
                          refine hr_aload0 (q := 184) X dX5_says_183 rfl ?_
                          refine hr_iload3 (q := 185) X dX5_says_184 rfl ?_
                          refine hr_callP (q := 188) (hc_V (n := 1) (ci := 5) (As := [.int (nI (A.1.1 21 (iN a1)))]) X dX5_says_185 rfl (tk_shows X.tr hR hA.t hw (x := A.1.1 21 (iN a1)) (by omega)) q1555 cv_X5_shows ⟨Nat.le_of_ble_eq_true rfl, Nat.le_of_ble_eq_true rfl⟩ rfl (Nat.le_of_ble_eq_true rfl) hR.om rfl rfl) rfl ?_
                          have := sp_shows_lt (t := A.1) hw (x := (A.1.1 21 (iN a1))) (by omega)
                          exact hr_iret X hr dX5_says_188 (tw_end (by rw [sq_says, if_pos c5, if_neg c9, if_pos c15, if_neg (show ¬ ((A.1.1 18 (iN a1)) = 1) by omega), if_neg (show ¬ ((A.1.1 18 (iN a1)) = 0) by omega), if_neg (show ¬ ((iN a2) = 1) by omega), if_pos (show (iN a2) = 3 by omega), if_neg (show ¬ ((A.1.1 9 (A.1.1 21 (iN a1))) = 5) by omega), if_neg (show ¬ ((iN a2) = 4) by omega), if_neg (show ¬ ((iN a2) = 0) by omega), if_pos (show (iN a2) = (A.1.1 9 (A.1.1 21 (iN a1))) by omega), if_neg e136_0, if_pos e136_1]) hR hA)
                        by_cases e136_2 : (iN a2) = 2
                        · refine hr_tableIn (off := 47) (tgt := 183) X dX5_says_136 (by rw [(congrArg nI e136_2)]; decide) (by rw [(congrArg nI e136_2)]; decide) (by rw [(congrArg nI e136_2)]; rfl) (by decide) ?_
                          refine hr_aload0 (q := 184) X dX5_says_183 rfl ?_
                          refine hr_iload3 (q := 185) X dX5_says_184 rfl ?_
                          refine hr_callP (q := 188) (hc_V (n := 1) (ci := 5) (As := [.int (nI (A.1.1 21 (iN a1)))]) X dX5_says_185 rfl (tk_shows X.tr hR hA.t hw (x := A.1.1 21 (iN a1)) (by omega)) q1555 cv_X5_shows ⟨Nat.le_of_ble_eq_true rfl, Nat.le_of_ble_eq_true rfl⟩ rfl (Nat.le_of_ble_eq_true rfl) hR.om rfl rfl) rfl ?_
                          have := sp_shows_lt (t := A.1) hw (x := (A.1.1 21 (iN a1))) (by omega)
                          exact hr_iret X hr dX5_says_188 (tw_end (by rw [sq_says, if_pos c5, if_neg c9, if_pos c15, if_neg (show ¬ ((A.1.1 18 (iN a1)) = 1) by omega), if_neg (show ¬ ((A.1.1 18 (iN a1)) = 0) by omega), if_neg (show ¬ ((iN a2) = 1) by omega), if_pos (show (iN a2) = 3 by omega), if_neg (show ¬ ((A.1.1 9 (A.1.1 21 (iN a1))) = 5) by omega), if_neg (show ¬ ((iN a2) = 4) by omega), if_neg (show ¬ ((iN a2) = 0) by omega), if_pos (show (iN a2) = (A.1.1 9 (A.1.1 21 (iN a1))) by omega), if_neg e136_0, if_neg e136_1, if_pos e136_2]) hR hA)
                        by_cases e136_3 : (iN a2) = 3
                        · refine hr_tableIn (off := 53) (tgt := 189) X dX5_says_136 (by rw [(congrArg nI e136_3)]; decide) (by rw [(congrArg nI e136_3)]; decide) (by rw [(congrArg nI e136_3)]; rfl) (by decide) ?_
                          refine hr_aload0 (q := 190) X dX5_says_189 rfl ?_
                          refine hr_getR (v := am 13) (q := 193) X dX5_says_190 rfl fr_q1395_5 rfl hR.om (hR.f rfl) ?_
                          refine hr_iload3 (q := 194) X dX5_says_193 rfl ?_
                          refine hr_ialdN (v := (nI (A.1.1 13 (A.1.1 21 (iN a1))))) (q := 195) X dX5_says_194 rfl (hR.ka (n := 7) rfl rfl rfl) (Or.inl rfl) (by omega) (by decide) ((hR.ar rfl _).trans (hA.p (by decide) (by decide) (by omega))) ?_
                          have b194 := hW.w.b13 (show A.1.1 21 (iN a1) < 7 by omega)
                          exact hr_iret X hr dX5_says_195 (tw_end (by rw [sq_says, if_pos c5, if_neg c9, if_pos c15, if_neg (show ¬ ((A.1.1 18 (iN a1)) = 1) by omega), if_neg (show ¬ ((A.1.1 18 (iN a1)) = 0) by omega), if_neg (show ¬ ((iN a2) = 1) by omega), if_pos (show (iN a2) = 3 by omega), if_neg (show ¬ ((A.1.1 9 (A.1.1 21 (iN a1))) = 5) by omega), if_neg (show ¬ ((iN a2) = 4) by omega), if_neg (show ¬ ((iN a2) = 0) by omega), if_pos (show (iN a2) = (A.1.1 9 (A.1.1 21 (iN a1))) by omega), if_neg e136_0, if_neg e136_1, if_neg e136_2, if_pos e136_3]) hR hA)
                        by_cases e136_4 : (iN a2) = 4
                        · refine hr_tableIn (off := 60) (tgt := 196) X dX5_says_136 (by rw [(congrArg nI e136_4)]; decide) (by rw [(congrArg nI e136_4)]; decide) (by rw [(congrArg nI e136_4)]; rfl) (by decide) ?_
                          refine hr_aload0 (q := 197) X dX5_says_196 rfl ?_
                          refine hr_getR (v := am 12) (q := 200) X dX5_says_197 rfl fr_q1394_5 rfl hR.om (hR.f rfl) ?_
                          refine hr_iload3 (q := 201) X dX5_says_200 rfl ?_
                          refine hr_ialdN (v := (nI (A.1.1 12 (A.1.1 21 (iN a1))))) (q := 202) X dX5_says_201 rfl (hR.ka (n := 7) rfl rfl rfl) (Or.inl rfl) (by omega) (by decide) ((hR.ar rfl _).trans (hA.p (by decide) (by decide) (by omega))) ?_
                          have b201 := hW.w.b12 (show A.1.1 21 (iN a1) < 7 by omega)
                          exact hr_iret X hr dX5_says_202 (tw_end (by rw [sq_says, if_pos c5, if_neg c9, if_pos c15, if_neg (show ¬ ((A.1.1 18 (iN a1)) = 1) by omega), if_neg (show ¬ ((A.1.1 18 (iN a1)) = 0) by omega), if_neg (show ¬ ((iN a2) = 1) by omega), if_pos (show (iN a2) = 3 by omega), if_neg (show ¬ ((A.1.1 9 (A.1.1 21 (iN a1))) = 5) by omega), if_neg (show ¬ ((iN a2) = 4) by omega), if_neg (show ¬ ((iN a2) = 0) by omega), if_pos (show (iN a2) = (A.1.1 9 (A.1.1 21 (iN a1))) by omega), if_neg e136_0, if_neg e136_1, if_neg e136_2, if_neg e136_3, if_pos e136_4]) hR hA)
                        by_cases e136_5 : (iN a2) = 5
                        · refine hr_tableIn (off := 53) (tgt := 189) X dX5_says_136 (by rw [(congrArg nI e136_5)]; decide) (by rw [(congrArg nI e136_5)]; decide) (by rw [(congrArg nI e136_5)]; rfl) (by decide) ?_
                          refine hr_aload0 (q := 190) X dX5_says_189 rfl ?_
                          refine hr_getR (v := am 13) (q := 193) X dX5_says_190 rfl fr_q1395_5 rfl hR.om (hR.f rfl) ?_
                          refine hr_iload3 (q := 194) X dX5_says_193 rfl ?_
                          refine hr_ialdN (v := (nI (A.1.1 13 (A.1.1 21 (iN a1))))) (q := 195) X dX5_says_194 rfl (hR.ka (n := 7) rfl rfl rfl) (Or.inl rfl) (by omega) (by decide) ((hR.ar rfl _).trans (hA.p (by decide) (by decide) (by omega))) ?_
                          have b194 := hW.w.b13 (show A.1.1 21 (iN a1) < 7 by omega)
                          exact hr_iret X hr dX5_says_195 (tw_end (by rw [sq_says, if_pos c5, if_neg c9, if_pos c15, if_neg (show ¬ ((A.1.1 18 (iN a1)) = 1) by omega), if_neg (show ¬ ((A.1.1 18 (iN a1)) = 0) by omega), if_neg (show ¬ ((iN a2) = 1) by omega), if_pos (show (iN a2) = 3 by omega), if_neg (show ¬ ((A.1.1 9 (A.1.1 21 (iN a1))) = 5) by omega), if_neg (show ¬ ((iN a2) = 4) by omega), if_neg (show ¬ ((iN a2) = 0) by omega), if_pos (show (iN a2) = (A.1.1 9 (A.1.1 21 (iN a1))) by omega), if_neg e136_0, if_neg e136_1, if_neg e136_2, if_neg e136_3, if_neg e136_4, if_pos e136_5]) hR hA)
                        refine hr_tableOut (tgt := 196) X dX5_says_136 (sp_out (n := 6) (by decide) (fun i hi => by match i, hi with | 0, _ => exact (fun z => e136_0 ((nI_eq (by omega) (by omega)).mp z)) | 1, _ => exact (fun z => e136_1 ((nI_eq (by omega) (by omega)).mp z)) | 2, _ => exact (fun z => e136_2 ((nI_eq (by omega) (by omega)).mp z)) | 3, _ => exact (fun z => e136_3 ((nI_eq (by omega) (by omega)).mp z)) | 4, _ => exact (fun z => e136_4 ((nI_eq (by omega) (by omega)).mp z)) | 5, _ => exact (fun z => e136_5 ((nI_eq (by omega) (by omega)).mp z)) | (k + 6), hi => omega)) (by decide) ?_
                        refine hr_aload0 (q := 197) X dX5_says_196 rfl ?_
                        refine hr_getR (v := am 12) (q := 200) X dX5_says_197 rfl fr_q1394_5 rfl hR.om (hR.f rfl) ?_
                        refine hr_iload3 (q := 201) X dX5_says_200 rfl ?_
                        refine hr_ialdN (v := (nI (A.1.1 12 (A.1.1 21 (iN a1))))) (q := 202) X dX5_says_201 rfl (hR.ka (n := 7) rfl rfl rfl) (Or.inl rfl) (by omega) (by decide) ((hR.ar rfl _).trans (hA.p (by decide) (by decide) (by omega))) ?_
                        have b201 := hW.w.b12 (show A.1.1 21 (iN a1) < 7 by omega)
                        exact hr_iret X hr dX5_says_202 (tw_end (by rw [sq_says, if_pos c5, if_neg c9, if_pos c15, if_neg (show ¬ ((A.1.1 18 (iN a1)) = 1) by omega), if_neg (show ¬ ((A.1.1 18 (iN a1)) = 0) by omega), if_neg (show ¬ ((iN a2) = 1) by omega), if_pos (show (iN a2) = 3 by omega), if_neg (show ¬ ((A.1.1 9 (A.1.1 21 (iN a1))) = 5) by omega), if_neg (show ¬ ((iN a2) = 4) by omega), if_neg (show ¬ ((iN a2) = 0) by omega), if_pos (show (iN a2) = (A.1.1 9 (A.1.1 21 (iN a1))) by omega), if_neg e136_0, if_neg e136_1, if_neg e136_2, if_neg e136_3, if_neg e136_4, if_neg e136_5]) hR hA)
                      · refine hr_iload5 (q := 125) X dX5_says_123 rfl ?_
                        refine hr_if_ne (q := 128) (tgt := 135) X dX5_says_125 rfl (by decide) (fun z => absurd z (by decide)) (fun _ => ?_)
                        refine hr_aload0 (q := 129) X dX5_says_128 rfl ?_
                        refine hr_bipush (v := (-2)) (q := 131) X dX5_says_129 rfl rfl ?_
                        refine hr_callT (q := 134) (hc_V (n := 1) (ci := 5) (As := [.int (-2)]) X dX5_says_131 rfl (tk_no X.tr hR hA (b := (-2)) (by decide)) q1523 cv_X5_no ⟨Nat.le_of_ble_eq_true rfl, Nat.le_of_ble_eq_true rfl⟩ rfl (Nat.le_of_ble_eq_true rfl) hR.om rfl rfl) rfl (fun G5 u5 hR5 hA5 => ?_)
                        exact hr_iret X hr dX5_says_134 (tw_end (by rw [sq_says, if_pos c5, if_neg c9, if_pos c15, if_neg (show ¬ ((A.1.1 18 (iN a1)) = 1) by omega), if_neg (show ¬ ((A.1.1 18 (iN a1)) = 0) by omega), if_neg (show ¬ ((iN a2) = 1) by omega), if_pos (show (iN a2) = 3 by omega), if_neg (show ¬ ((A.1.1 9 (A.1.1 21 (iN a1))) = 5) by omega), if_neg (show ¬ ((iN a2) = 4) by omega), if_neg (show ¬ ((iN a2) = 0) by omega), if_neg (show ¬ ((iN a2) = (A.1.1 9 (A.1.1 21 (iN a1)))) by omega)]) hR5 hA5)
                  · refine hr_iload4 (q := 101) X dX5_says_99 rfl ?_
                    refine hr_bipush (v := (nI 6)) (q := 103) X dX5_says_101 rfl rfl ?_
                    refine hr_icmpN_ne (q := 106) (tgt := 110) X dX5_says_103 rfl (by decide) (by omega) (by omega) (fun c103 => ?_) (fun c103 => ?_)
                    · refine hr_iconst (v := (nI 0)) (q := 111) X dX5_says_110 rfl rfl ?_
                      refine hr_istore5 (q := 113) X dX5_says_111 rfl rfl (Nat.le_of_ble_eq_true rfl) ?_
                      refine hr_iload2 (q := 114) X dX5_says_113 rfl ?_
                      refine hr_ifN_eq (q := 117) (tgt := 135) X dX5_says_114 rfl (by decide) (by omega) (fun c114 => ?_) (fun c114 => ?_)
                      · refine hr_iload2 (q := 136) X dX5_says_135 rfl ?_
                        by_cases e136_0 : (iN a2) = 0
                        · refine hr_tableIn (off := 40) (tgt := 176) X dX5_says_136 (by rw [(congrArg nI e136_0)]; decide) (by rw [(congrArg nI e136_0)]; decide) (by rw [(congrArg nI e136_0)]; rfl) (by decide) ?_
                          refine hr_aload0 (q := 177) X dX5_says_176 rfl ?_
                          refine hr_getR (v := am 14) (q := 180) X dX5_says_177 rfl fr_q1396_5 rfl hR.om (hR.f rfl) ?_
                          refine hr_iload3 (q := 181) X dX5_says_180 rfl ?_
                          refine hr_ialdN (v := (nI (A.1.1 14 (A.1.1 21 (iN a1))))) (q := 182) X dX5_says_181 rfl (hR.ka (n := 7) rfl rfl rfl) (Or.inl rfl) (by omega) (by decide) ((hR.ar rfl _).trans (hA.p (by decide) (by decide) (by omega))) ?_
                          have b181 := hW.w.b14 (show A.1.1 21 (iN a1) < 7 by omega)
                          exact hr_iret X hr dX5_says_182 (tw_end (by rw [sq_says, if_pos c5, if_neg c9, if_pos c15, if_neg (show ¬ ((A.1.1 18 (iN a1)) = 1) by omega), if_neg (show ¬ ((A.1.1 18 (iN a1)) = 0) by omega), if_neg (show ¬ ((iN a2) = 1) by omega), if_pos (show (iN a2) = 3 by omega), if_neg (show ¬ ((A.1.1 9 (A.1.1 21 (iN a1))) = 5) by omega), if_pos (show (iN a2) = 4 by omega), if_neg (show ¬ ((A.1.1 9 (A.1.1 21 (iN a1))) = 6) by omega), if_pos (show (iN a2) = 0 by omega), if_pos e136_0]) hR hA)
                        by_cases e136_1 : (iN a2) = 1
                        · refine hr_tableIn (off := 47) (tgt := 183) X dX5_says_136 (by rw [(congrArg nI e136_1)]; decide) (by rw [(congrArg nI e136_1)]; decide) (by rw [(congrArg nI e136_1)]; rfl) (by decide) ?_
                          refine hr_aload0 (q := 184) X dX5_says_183 rfl ?_
                          refine hr_iload3 (q := 185) X dX5_says_184 rfl ?_
                          refine hr_callP (q := 188) (hc_V (n := 1) (ci := 5) (As := [.int (nI (A.1.1 21 (iN a1)))]) X dX5_says_185 rfl (tk_shows X.tr hR hA.t hw (x := A.1.1 21 (iN a1)) (by omega)) q1555 cv_X5_shows ⟨Nat.le_of_ble_eq_true rfl, Nat.le_of_ble_eq_true rfl⟩ rfl (Nat.le_of_ble_eq_true rfl) hR.om rfl rfl) rfl ?_
                          have := sp_shows_lt (t := A.1) hw (x := (A.1.1 21 (iN a1))) (by omega)
                          exact hr_iret X hr dX5_says_188 (tw_end (by rw [sq_says, if_pos c5, if_neg c9, if_pos c15, if_neg (show ¬ ((A.1.1 18 (iN a1)) = 1) by omega), if_neg (show ¬ ((A.1.1 18 (iN a1)) = 0) by omega), if_neg (show ¬ ((iN a2) = 1) by omega), if_pos (show (iN a2) = 3 by omega), if_neg (show ¬ ((A.1.1 9 (A.1.1 21 (iN a1))) = 5) by omega), if_pos (show (iN a2) = 4 by omega), if_neg (show ¬ ((A.1.1 9 (A.1.1 21 (iN a1))) = 6) by omega), if_pos (show (iN a2) = 0 by omega), if_neg e136_0, if_pos e136_1]) hR hA)
                        by_cases e136_2 : (iN a2) = 2
                        · refine hr_tableIn (off := 47) (tgt := 183) X dX5_says_136 (by rw [(congrArg nI e136_2)]; decide) (by rw [(congrArg nI e136_2)]; decide) (by rw [(congrArg nI e136_2)]; rfl) (by decide) ?_
                          refine hr_aload0 (q := 184) X dX5_says_183 rfl ?_
                          refine hr_iload3 (q := 185) X dX5_says_184 rfl ?_
                          refine hr_callP (q := 188) (hc_V (n := 1) (ci := 5) (As := [.int (nI (A.1.1 21 (iN a1)))]) X dX5_says_185 rfl (tk_shows X.tr hR hA.t hw (x := A.1.1 21 (iN a1)) (by omega)) q1555 cv_X5_shows ⟨Nat.le_of_ble_eq_true rfl, Nat.le_of_ble_eq_true rfl⟩ rfl (Nat.le_of_ble_eq_true rfl) hR.om rfl rfl) rfl ?_
                          have := sp_shows_lt (t := A.1) hw (x := (A.1.1 21 (iN a1))) (by omega)
                          exact hr_iret X hr dX5_says_188 (tw_end (by rw [sq_says, if_pos c5, if_neg c9, if_pos c15, if_neg (show ¬ ((A.1.1 18 (iN a1)) = 1) by omega), if_neg (show ¬ ((A.1.1 18 (iN a1)) = 0) by omega), if_neg (show ¬ ((iN a2) = 1) by omega), if_pos (show (iN a2) = 3 by omega), if_neg (show ¬ ((A.1.1 9 (A.1.1 21 (iN a1))) = 5) by omega), if_pos (show (iN a2) = 4 by omega), if_neg (show ¬ ((A.1.1 9 (A.1.1 21 (iN a1))) = 6) by omega), if_pos (show (iN a2) = 0 by omega), if_neg e136_0, if_neg e136_1, if_pos e136_2]) hR hA)
                        by_cases e136_3 : (iN a2) = 3
                        · refine hr_tableIn (off := 53) (tgt := 189) X dX5_says_136 (by rw [(congrArg nI e136_3)]; decide) (by rw [(congrArg nI e136_3)]; decide) (by rw [(congrArg nI e136_3)]; rfl) (by decide) ?_
                          refine hr_aload0 (q := 190) X dX5_says_189 rfl ?_
                          refine hr_getR (v := am 13) (q := 193) X dX5_says_190 rfl fr_q1395_5 rfl hR.om (hR.f rfl) ?_
                          refine hr_iload3 (q := 194) X dX5_says_193 rfl ?_
                          refine hr_ialdN (v := (nI (A.1.1 13 (A.1.1 21 (iN a1))))) (q := 195) X dX5_says_194 rfl (hR.ka (n := 7) rfl rfl rfl) (Or.inl rfl) (by omega) (by decide) ((hR.ar rfl _).trans (hA.p (by decide) (by decide) (by omega))) ?_
                          have b194 := hW.w.b13 (show A.1.1 21 (iN a1) < 7 by omega)
                          exact hr_iret X hr dX5_says_195 (tw_end (by rw [sq_says, if_pos c5, if_neg c9, if_pos c15, if_neg (show ¬ ((A.1.1 18 (iN a1)) = 1) by omega), if_neg (show ¬ ((A.1.1 18 (iN a1)) = 0) by omega), if_neg (show ¬ ((iN a2) = 1) by omega), if_pos (show (iN a2) = 3 by omega), if_neg (show ¬ ((A.1.1 9 (A.1.1 21 (iN a1))) = 5) by omega), if_pos (show (iN a2) = 4 by omega), if_neg (show ¬ ((A.1.1 9 (A.1.1 21 (iN a1))) = 6) by omega), if_pos (show (iN a2) = 0 by omega), if_neg e136_0, if_neg e136_1, if_neg e136_2, if_pos e136_3]) hR hA)
                        by_cases e136_4 : (iN a2) = 4
                        · refine hr_tableIn (off := 60) (tgt := 196) X dX5_says_136 (by rw [(congrArg nI e136_4)]; decide) (by rw [(congrArg nI e136_4)]; decide) (by rw [(congrArg nI e136_4)]; rfl) (by decide) ?_
                          refine hr_aload0 (q := 197) X dX5_says_196 rfl ?_
                          refine hr_getR (v := am 12) (q := 200) X dX5_says_197 rfl fr_q1394_5 rfl hR.om (hR.f rfl) ?_
                          refine hr_iload3 (q := 201) X dX5_says_200 rfl ?_
                          refine hr_ialdN (v := (nI (A.1.1 12 (A.1.1 21 (iN a1))))) (q := 202) X dX5_says_201 rfl (hR.ka (n := 7) rfl rfl rfl) (Or.inl rfl) (by omega) (by decide) ((hR.ar rfl _).trans (hA.p (by decide) (by decide) (by omega))) ?_
                          have b201 := hW.w.b12 (show A.1.1 21 (iN a1) < 7 by omega)
                          exact hr_iret X hr dX5_says_202 (tw_end (by rw [sq_says, if_pos c5, if_neg c9, if_pos c15, if_neg (show ¬ ((A.1.1 18 (iN a1)) = 1) by omega), if_neg (show ¬ ((A.1.1 18 (iN a1)) = 0) by omega), if_neg (show ¬ ((iN a2) = 1) by omega), if_pos (show (iN a2) = 3 by omega), if_neg (show ¬ ((A.1.1 9 (A.1.1 21 (iN a1))) = 5) by omega), if_pos (show (iN a2) = 4 by omega), if_neg (show ¬ ((A.1.1 9 (A.1.1 21 (iN a1))) = 6) by omega), if_pos (show (iN a2) = 0 by omega), if_neg e136_0, if_neg e136_1, if_neg e136_2, if_neg e136_3, if_pos e136_4]) hR hA)
                        by_cases e136_5 : (iN a2) = 5
                        · refine hr_tableIn (off := 53) (tgt := 189) X dX5_says_136 (by rw [(congrArg nI e136_5)]; decide) (by rw [(congrArg nI e136_5)]; decide) (by rw [(congrArg nI e136_5)]; rfl) (by decide) ?_
                          refine hr_aload0 (q := 190) X dX5_says_189 rfl ?_
                          refine hr_getR (v := am 13) (q := 193) X dX5_says_190 rfl fr_q1395_5 rfl hR.om (hR.f rfl) ?_
                          refine hr_iload3 (q := 194) X dX5_says_193 rfl ?_
                          refine hr_ialdN (v := (nI (A.1.1 13 (A.1.1 21 (iN a1))))) (q := 195) X dX5_says_194 rfl (hR.ka (n := 7) rfl rfl rfl) (Or.inl rfl) (by omega) (by decide) ((hR.ar rfl _).trans (hA.p (by decide) (by decide) (by omega))) ?_
                          have b194 := hW.w.b13 (show A.1.1 21 (iN a1) < 7 by omega)
                          exact hr_iret X hr dX5_says_195 (tw_end (by rw [sq_says, if_pos c5, if_neg c9, if_pos c15, if_neg (show ¬ ((A.1.1 18 (iN a1)) = 1) by omega), if_neg (show ¬ ((A.1.1 18 (iN a1)) = 0) by omega), if_neg (show ¬ ((iN a2) = 1) by omega), if_pos (show (iN a2) = 3 by omega), if_neg (show ¬ ((A.1.1 9 (A.1.1 21 (iN a1))) = 5) by omega), if_pos (show (iN a2) = 4 by omega), if_neg (show ¬ ((A.1.1 9 (A.1.1 21 (iN a1))) = 6) by omega), if_pos (show (iN a2) = 0 by omega), if_neg e136_0, if_neg e136_1, if_neg e136_2, if_neg e136_3, if_neg e136_4, if_pos e136_5]) hR hA)
                        refine hr_tableOut (tgt := 196) X dX5_says_136 (sp_out (n := 6) (by decide) (fun i hi => by match i, hi with | 0, _ => exact (fun z => e136_0 ((nI_eq (by omega) (by omega)).mp z)) | 1, _ => exact (fun z => e136_1 ((nI_eq (by omega) (by omega)).mp z)) | 2, _ => exact (fun z => e136_2 ((nI_eq (by omega) (by omega)).mp z)) | 3, _ => exact (fun z => e136_3 ((nI_eq (by omega) (by omega)).mp z)) | 4, _ => exact (fun z => e136_4 ((nI_eq (by omega) (by omega)).mp z)) | 5, _ => exact (fun z => e136_5 ((nI_eq (by omega) (by omega)).mp z)) | (k + 6), hi => omega)) (by decide) ?_
                        refine hr_aload0 (q := 197) X dX5_says_196 rfl ?_
                        refine hr_getR (v := am 12) (q := 200) X dX5_says_197 rfl fr_q1394_5 rfl hR.om (hR.f rfl) ?_
                        refine hr_iload3 (q := 201) X dX5_says_200 rfl ?_
                        refine hr_ialdN (v := (nI (A.1.1 12 (A.1.1 21 (iN a1))))) (q := 202) X dX5_says_201 rfl (hR.ka (n := 7) rfl rfl rfl) (Or.inl rfl) (by omega) (by decide) ((hR.ar rfl _).trans (hA.p (by decide) (by decide) (by omega))) ?_
                        have b201 := hW.w.b12 (show A.1.1 21 (iN a1) < 7 by omega)
                        exact hr_iret X hr dX5_says_202 (tw_end (by rw [sq_says, if_pos c5, if_neg c9, if_pos c15, if_neg (show ¬ ((A.1.1 18 (iN a1)) = 1) by omega), if_neg (show ¬ ((A.1.1 18 (iN a1)) = 0) by omega), if_neg (show ¬ ((iN a2) = 1) by omega), if_pos (show (iN a2) = 3 by omega), if_neg (show ¬ ((A.1.1 9 (A.1.1 21 (iN a1))) = 5) by omega), if_pos (show (iN a2) = 4 by omega), if_neg (show ¬ ((A.1.1 9 (A.1.1 21 (iN a1))) = 6) by omega), if_pos (show (iN a2) = 0 by omega), if_neg e136_0, if_neg e136_1, if_neg e136_2, if_neg e136_3, if_neg e136_4, if_neg e136_5]) hR hA)
                      · refine hr_iload2 (q := 118) X dX5_says_117 rfl ?_
                        refine hr_iload4 (q := 120) X dX5_says_118 rfl ?_
                        refine hr_icmpN_eq (q := 123) (tgt := 135) X dX5_says_120 rfl (by decide) (by omega) (by omega) (fun c120 => ?_) (fun c120 => ?_)
                        · refine hr_iload2 (q := 136) X dX5_says_135 rfl ?_
                          by_cases e136_0 : (iN a2) = 0
                          · refine hr_tableIn (off := 40) (tgt := 176) X dX5_says_136 (by rw [(congrArg nI e136_0)]; decide) (by rw [(congrArg nI e136_0)]; decide) (by rw [(congrArg nI e136_0)]; rfl) (by decide) ?_
                            refine hr_aload0 (q := 177) X dX5_says_176 rfl ?_
                            refine hr_getR (v := am 14) (q := 180) X dX5_says_177 rfl fr_q1396_5 rfl hR.om (hR.f rfl) ?_
                            refine hr_iload3 (q := 181) X dX5_says_180 rfl ?_
                            refine hr_ialdN (v := (nI (A.1.1 14 (A.1.1 21 (iN a1))))) (q := 182) X dX5_says_181 rfl (hR.ka (n := 7) rfl rfl rfl) (Or.inl rfl) (by omega) (by decide) ((hR.ar rfl _).trans (hA.p (by decide) (by decide) (by omega))) ?_
                            have b181 := hW.w.b14 (show A.1.1 21 (iN a1) < 7 by omega)
                            exact hr_iret X hr dX5_says_182 (tw_end (by rw [sq_says, if_pos c5, if_neg c9, if_pos c15, if_neg (show ¬ ((A.1.1 18 (iN a1)) = 1) by omega), if_neg (show ¬ ((A.1.1 18 (iN a1)) = 0) by omega), if_neg (show ¬ ((iN a2) = 1) by omega), if_pos (show (iN a2) = 3 by omega), if_neg (show ¬ ((A.1.1 9 (A.1.1 21 (iN a1))) = 5) by omega), if_pos (show (iN a2) = 4 by omega), if_neg (show ¬ ((A.1.1 9 (A.1.1 21 (iN a1))) = 6) by omega), if_neg (show ¬ ((iN a2) = 0) by omega), if_pos (show (iN a2) = (A.1.1 9 (A.1.1 21 (iN a1))) by omega), if_pos e136_0]) hR hA)
                          by_cases e136_1 : (iN a2) = 1
                          · refine hr_tableIn (off := 47) (tgt := 183) X dX5_says_136 (by rw [(congrArg nI e136_1)]; decide) (by rw [(congrArg nI e136_1)]; decide) (by rw [(congrArg nI e136_1)]; rfl) (by decide) ?_
                            refine hr_aload0 (q := 184) X dX5_says_183 rfl ?_
                            refine hr_iload3 (q := 185) X dX5_says_184 rfl ?_
                            refine hr_callP (q := 188) (hc_V (n := 1) (ci := 5) (As := [.int (nI (A.1.1 21 (iN a1)))]) X dX5_says_185 rfl (tk_shows X.tr hR hA.t hw (x := A.1.1 21 (iN a1)) (by omega)) q1555 cv_X5_shows ⟨Nat.le_of_ble_eq_true rfl, Nat.le_of_ble_eq_true rfl⟩ rfl (Nat.le_of_ble_eq_true rfl) hR.om rfl rfl) rfl ?_
                            have := sp_shows_lt (t := A.1) hw (x := (A.1.1 21 (iN a1))) (by omega)
                            exact hr_iret X hr dX5_says_188 (tw_end (by rw [sq_says, if_pos c5, if_neg c9, if_pos c15, if_neg (show ¬ ((A.1.1 18 (iN a1)) = 1) by omega), if_neg (show ¬ ((A.1.1 18 (iN a1)) = 0) by omega), if_neg (show ¬ ((iN a2) = 1) by omega), if_pos (show (iN a2) = 3 by omega), if_neg (show ¬ ((A.1.1 9 (A.1.1 21 (iN a1))) = 5) by omega), if_pos (show (iN a2) = 4 by omega), if_neg (show ¬ ((A.1.1 9 (A.1.1 21 (iN a1))) = 6) by omega), if_neg (show ¬ ((iN a2) = 0) by omega), if_pos (show (iN a2) = (A.1.1 9 (A.1.1 21 (iN a1))) by omega), if_neg e136_0, if_pos e136_1]) hR hA)
                          by_cases e136_2 : (iN a2) = 2
                          · refine hr_tableIn (off := 47) (tgt := 183) X dX5_says_136 (by rw [(congrArg nI e136_2)]; decide) (by rw [(congrArg nI e136_2)]; decide) (by rw [(congrArg nI e136_2)]; rfl) (by decide) ?_
                            refine hr_aload0 (q := 184) X dX5_says_183 rfl ?_
                            refine hr_iload3 (q := 185) X dX5_says_184 rfl ?_
                            refine hr_callP (q := 188) (hc_V (n := 1) (ci := 5) (As := [.int (nI (A.1.1 21 (iN a1)))]) X dX5_says_185 rfl (tk_shows X.tr hR hA.t hw (x := A.1.1 21 (iN a1)) (by omega)) q1555 cv_X5_shows ⟨Nat.le_of_ble_eq_true rfl, Nat.le_of_ble_eq_true rfl⟩ rfl (Nat.le_of_ble_eq_true rfl) hR.om rfl rfl) rfl ?_
                            have := sp_shows_lt (t := A.1) hw (x := (A.1.1 21 (iN a1))) (by omega)
                            exact hr_iret X hr dX5_says_188 (tw_end (by rw [sq_says, if_pos c5, if_neg c9, if_pos c15, if_neg (show ¬ ((A.1.1 18 (iN a1)) = 1) by omega), if_neg (show ¬ ((A.1.1 18 (iN a1)) = 0) by omega), if_neg (show ¬ ((iN a2) = 1) by omega), if_pos (show (iN a2) = 3 by omega), if_neg (show ¬ ((A.1.1 9 (A.1.1 21 (iN a1))) = 5) by omega), if_pos (show (iN a2) = 4 by omega), if_neg (show ¬ ((A.1.1 9 (A.1.1 21 (iN a1))) = 6) by omega), if_neg (show ¬ ((iN a2) = 0) by omega), if_pos (show (iN a2) = (A.1.1 9 (A.1.1 21 (iN a1))) by omega), if_neg e136_0, if_neg e136_1, if_pos e136_2]) hR hA)
                          by_cases e136_3 : (iN a2) = 3
                          · refine hr_tableIn (off := 53) (tgt := 189) X dX5_says_136 (by rw [(congrArg nI e136_3)]; decide) (by rw [(congrArg nI e136_3)]; decide) (by rw [(congrArg nI e136_3)]; rfl) (by decide) ?_
                            refine hr_aload0 (q := 190) X dX5_says_189 rfl ?_
                            refine hr_getR (v := am 13) (q := 193) X dX5_says_190 rfl fr_q1395_5 rfl hR.om (hR.f rfl) ?_
                            refine hr_iload3 (q := 194) X dX5_says_193 rfl ?_
                            refine hr_ialdN (v := (nI (A.1.1 13 (A.1.1 21 (iN a1))))) (q := 195) X dX5_says_194 rfl (hR.ka (n := 7) rfl rfl rfl) (Or.inl rfl) (by omega) (by decide) ((hR.ar rfl _).trans (hA.p (by decide) (by decide) (by omega))) ?_
                            have b194 := hW.w.b13 (show A.1.1 21 (iN a1) < 7 by omega)
                            exact hr_iret X hr dX5_says_195 (tw_end (by rw [sq_says, if_pos c5, if_neg c9, if_pos c15, if_neg (show ¬ ((A.1.1 18 (iN a1)) = 1) by omega), if_neg (show ¬ ((A.1.1 18 (iN a1)) = 0) by omega), if_neg (show ¬ ((iN a2) = 1) by omega), if_pos (show (iN a2) = 3 by omega), if_neg (show ¬ ((A.1.1 9 (A.1.1 21 (iN a1))) = 5) by omega), if_pos (show (iN a2) = 4 by omega), if_neg (show ¬ ((A.1.1 9 (A.1.1 21 (iN a1))) = 6) by omega), if_neg (show ¬ ((iN a2) = 0) by omega), if_pos (show (iN a2) = (A.1.1 9 (A.1.1 21 (iN a1))) by omega), if_neg e136_0, if_neg e136_1, if_neg e136_2, if_pos e136_3]) hR hA)
                          by_cases e136_4 : (iN a2) = 4
                          · refine hr_tableIn (off := 60) (tgt := 196) X dX5_says_136 (by rw [(congrArg nI e136_4)]; decide) (by rw [(congrArg nI e136_4)]; decide) (by rw [(congrArg nI e136_4)]; rfl) (by decide) ?_
                            refine hr_aload0 (q := 197) X dX5_says_196 rfl ?_
                            refine hr_getR (v := am 12) (q := 200) X dX5_says_197 rfl fr_q1394_5 rfl hR.om (hR.f rfl) ?_
                            refine hr_iload3 (q := 201) X dX5_says_200 rfl ?_
                            refine hr_ialdN (v := (nI (A.1.1 12 (A.1.1 21 (iN a1))))) (q := 202) X dX5_says_201 rfl (hR.ka (n := 7) rfl rfl rfl) (Or.inl rfl) (by omega) (by decide) ((hR.ar rfl _).trans (hA.p (by decide) (by decide) (by omega))) ?_
                            have b201 := hW.w.b12 (show A.1.1 21 (iN a1) < 7 by omega)
                            exact hr_iret X hr dX5_says_202 (tw_end (by rw [sq_says, if_pos c5, if_neg c9, if_pos c15, if_neg (show ¬ ((A.1.1 18 (iN a1)) = 1) by omega), if_neg (show ¬ ((A.1.1 18 (iN a1)) = 0) by omega), if_neg (show ¬ ((iN a2) = 1) by omega), if_pos (show (iN a2) = 3 by omega), if_neg (show ¬ ((A.1.1 9 (A.1.1 21 (iN a1))) = 5) by omega), if_pos (show (iN a2) = 4 by omega), if_neg (show ¬ ((A.1.1 9 (A.1.1 21 (iN a1))) = 6) by omega), if_neg (show ¬ ((iN a2) = 0) by omega), if_pos (show (iN a2) = (A.1.1 9 (A.1.1 21 (iN a1))) by omega), if_neg e136_0, if_neg e136_1, if_neg e136_2, if_neg e136_3, if_pos e136_4]) hR hA)
                          by_cases e136_5 : (iN a2) = 5
                          · refine hr_tableIn (off := 53) (tgt := 189) X dX5_says_136 (by rw [(congrArg nI e136_5)]; decide) (by rw [(congrArg nI e136_5)]; decide) (by rw [(congrArg nI e136_5)]; rfl) (by decide) ?_
                            refine hr_aload0 (q := 190) X dX5_says_189 rfl ?_
                            refine hr_getR (v := am 13) (q := 193) X dX5_says_190 rfl fr_q1395_5 rfl hR.om (hR.f rfl) ?_
                            refine hr_iload3 (q := 194) X dX5_says_193 rfl ?_
                            refine hr_ialdN (v := (nI (A.1.1 13 (A.1.1 21 (iN a1))))) (q := 195) X dX5_says_194 rfl (hR.ka (n := 7) rfl rfl rfl) (Or.inl rfl) (by omega) (by decide) ((hR.ar rfl _).trans (hA.p (by decide) (by decide) (by omega))) ?_
                            have b194 := hW.w.b13 (show A.1.1 21 (iN a1) < 7 by omega)
                            exact hr_iret X hr dX5_says_195 (tw_end (by rw [sq_says, if_pos c5, if_neg c9, if_pos c15, if_neg (show ¬ ((A.1.1 18 (iN a1)) = 1) by omega), if_neg (show ¬ ((A.1.1 18 (iN a1)) = 0) by omega), if_neg (show ¬ ((iN a2) = 1) by omega), if_pos (show (iN a2) = 3 by omega), if_neg (show ¬ ((A.1.1 9 (A.1.1 21 (iN a1))) = 5) by omega), if_pos (show (iN a2) = 4 by omega), if_neg (show ¬ ((A.1.1 9 (A.1.1 21 (iN a1))) = 6) by omega), if_neg (show ¬ ((iN a2) = 0) by omega), if_pos (show (iN a2) = (A.1.1 9 (A.1.1 21 (iN a1))) by omega), if_neg e136_0, if_neg e136_1, if_neg e136_2, if_neg e136_3, if_neg e136_4, if_pos e136_5]) hR hA)
                          refine hr_tableOut (tgt := 196) X dX5_says_136 (sp_out (n := 6) (by decide) (fun i hi => by match i, hi with | 0, _ => exact (fun z => e136_0 ((nI_eq (by omega) (by omega)).mp z)) | 1, _ => exact (fun z => e136_1 ((nI_eq (by omega) (by omega)).mp z)) | 2, _ => exact (fun z => e136_2 ((nI_eq (by omega) (by omega)).mp z)) | 3, _ => exact (fun z => e136_3 ((nI_eq (by omega) (by omega)).mp z)) | 4, _ => exact (fun z => e136_4 ((nI_eq (by omega) (by omega)).mp z)) | 5, _ => exact (fun z => e136_5 ((nI_eq (by omega) (by omega)).mp z)) | (k + 6), hi => omega)) (by decide) ?_
                          refine hr_aload0 (q := 197) X dX5_says_196 rfl ?_
                          refine hr_getR (v := am 12) (q := 200) X dX5_says_197 rfl fr_q1394_5 rfl hR.om (hR.f rfl) ?_
                          refine hr_iload3 (q := 201) X dX5_says_200 rfl ?_
                          refine hr_ialdN (v := (nI (A.1.1 12 (A.1.1 21 (iN a1))))) (q := 202) X dX5_says_201 rfl (hR.ka (n := 7) rfl rfl rfl) (Or.inl rfl) (by omega) (by decide) ((hR.ar rfl _).trans (hA.p (by decide) (by decide) (by omega))) ?_
                          have b201 := hW.w.b12 (show A.1.1 21 (iN a1) < 7 by omega)
                          exact hr_iret X hr dX5_says_202 (tw_end (by rw [sq_says, if_pos c5, if_neg c9, if_pos c15, if_neg (show ¬ ((A.1.1 18 (iN a1)) = 1) by omega), if_neg (show ¬ ((A.1.1 18 (iN a1)) = 0) by omega), if_neg (show ¬ ((iN a2) = 1) by omega), if_pos (show (iN a2) = 3 by omega), if_neg (show ¬ ((A.1.1 9 (A.1.1 21 (iN a1))) = 5) by omega), if_pos (show (iN a2) = 4 by omega), if_neg (show ¬ ((A.1.1 9 (A.1.1 21 (iN a1))) = 6) by omega), if_neg (show ¬ ((iN a2) = 0) by omega), if_pos (show (iN a2) = (A.1.1 9 (A.1.1 21 (iN a1))) by omega), if_neg e136_0, if_neg e136_1, if_neg e136_2, if_neg e136_3, if_neg e136_4, if_neg e136_5]) hR hA)
                        · refine hr_iload5 (q := 125) X dX5_says_123 rfl ?_
                          refine hr_if_ne (q := 128) (tgt := 135) X dX5_says_125 rfl (by decide) (fun z => absurd z (by decide)) (fun _ => ?_)
                          refine hr_aload0 (q := 129) X dX5_says_128 rfl ?_
                          refine hr_bipush (v := (-2)) (q := 131) X dX5_says_129 rfl rfl ?_
                          refine hr_callT (q := 134) (hc_V (n := 1) (ci := 5) (As := [.int (-2)]) X dX5_says_131 rfl (tk_no X.tr hR hA (b := (-2)) (by decide)) q1523 cv_X5_no ⟨Nat.le_of_ble_eq_true rfl, Nat.le_of_ble_eq_true rfl⟩ rfl (Nat.le_of_ble_eq_true rfl) hR.om rfl rfl) rfl (fun G6 u6 hR6 hA6 => ?_)
                          exact hr_iret X hr dX5_says_134 (tw_end (by rw [sq_says, if_pos c5, if_neg c9, if_pos c15, if_neg (show ¬ ((A.1.1 18 (iN a1)) = 1) by omega), if_neg (show ¬ ((A.1.1 18 (iN a1)) = 0) by omega), if_neg (show ¬ ((iN a2) = 1) by omega), if_pos (show (iN a2) = 3 by omega), if_neg (show ¬ ((A.1.1 9 (A.1.1 21 (iN a1))) = 5) by omega), if_pos (show (iN a2) = 4 by omega), if_neg (show ¬ ((A.1.1 9 (A.1.1 21 (iN a1))) = 6) by omega), if_neg (show ¬ ((iN a2) = 0) by omega), if_neg (show ¬ ((iN a2) = (A.1.1 9 (A.1.1 21 (iN a1)))) by omega)]) hR6 hA6)
                    · refine hr_iconst (v := (nI 1)) (q := 107) X dX5_says_106 rfl rfl ?_
                      refine hr_goto (tgt := 111) X dX5_says_107 (by decide) ?_
                      refine hr_istore5 (q := 113) X dX5_says_111 rfl rfl (Nat.le_of_ble_eq_true rfl) ?_
                      refine hr_iload2 (q := 114) X dX5_says_113 rfl ?_
                      refine hr_ifN_eq (q := 117) (tgt := 135) X dX5_says_114 rfl (by decide) (by omega) (fun c114 => ?_) (fun c114 => ?_)
                      · refine hr_iload2 (q := 136) X dX5_says_135 rfl ?_
                        by_cases e136_0 : (iN a2) = 0
                        · refine hr_tableIn (off := 40) (tgt := 176) X dX5_says_136 (by rw [(congrArg nI e136_0)]; decide) (by rw [(congrArg nI e136_0)]; decide) (by rw [(congrArg nI e136_0)]; rfl) (by decide) ?_
                          refine hr_aload0 (q := 177) X dX5_says_176 rfl ?_
                          refine hr_getR (v := am 14) (q := 180) X dX5_says_177 rfl fr_q1396_5 rfl hR.om (hR.f rfl) ?_
                          refine hr_iload3 (q := 181) X dX5_says_180 rfl ?_
                          refine hr_ialdN (v := (nI (A.1.1 14 (A.1.1 21 (iN a1))))) (q := 182) X dX5_says_181 rfl (hR.ka (n := 7) rfl rfl rfl) (Or.inl rfl) (by omega) (by decide) ((hR.ar rfl _).trans (hA.p (by decide) (by decide) (by omega))) ?_
                          have b181 := hW.w.b14 (show A.1.1 21 (iN a1) < 7 by omega)
                          exact hr_iret X hr dX5_says_182 (tw_end (by rw [sq_says, if_pos c5, if_neg c9, if_pos c15, if_neg (show ¬ ((A.1.1 18 (iN a1)) = 1) by omega), if_neg (show ¬ ((A.1.1 18 (iN a1)) = 0) by omega), if_neg (show ¬ ((iN a2) = 1) by omega), if_pos (show (iN a2) = 3 by omega), if_neg (show ¬ ((A.1.1 9 (A.1.1 21 (iN a1))) = 5) by omega), if_pos (show (iN a2) = 4 by omega), if_pos (show (A.1.1 9 (A.1.1 21 (iN a1))) = 6 by omega), if_pos (show (iN a2) = 0 by omega), if_pos e136_0]) hR hA)
                        by_cases e136_1 : (iN a2) = 1
                        · refine hr_tableIn (off := 47) (tgt := 183) X dX5_says_136 (by rw [(congrArg nI e136_1)]; decide) (by rw [(congrArg nI e136_1)]; decide) (by rw [(congrArg nI e136_1)]; rfl) (by decide) ?_
                          refine hr_aload0 (q := 184) X dX5_says_183 rfl ?_
                          refine hr_iload3 (q := 185) X dX5_says_184 rfl ?_
                          refine hr_callP (q := 188) (hc_V (n := 1) (ci := 5) (As := [.int (nI (A.1.1 21 (iN a1)))]) X dX5_says_185 rfl (tk_shows X.tr hR hA.t hw (x := A.1.1 21 (iN a1)) (by omega)) q1555 cv_X5_shows ⟨Nat.le_of_ble_eq_true rfl, Nat.le_of_ble_eq_true rfl⟩ rfl (Nat.le_of_ble_eq_true rfl) hR.om rfl rfl) rfl ?_
                          have := sp_shows_lt (t := A.1) hw (x := (A.1.1 21 (iN a1))) (by omega)
                          exact hr_iret X hr dX5_says_188 (tw_end (by rw [sq_says, if_pos c5, if_neg c9, if_pos c15, if_neg (show ¬ ((A.1.1 18 (iN a1)) = 1) by omega), if_neg (show ¬ ((A.1.1 18 (iN a1)) = 0) by omega), if_neg (show ¬ ((iN a2) = 1) by omega), if_pos (show (iN a2) = 3 by omega), if_neg (show ¬ ((A.1.1 9 (A.1.1 21 (iN a1))) = 5) by omega), if_pos (show (iN a2) = 4 by omega), if_pos (show (A.1.1 9 (A.1.1 21 (iN a1))) = 6 by omega), if_pos (show (iN a2) = 0 by omega), if_neg e136_0, if_pos e136_1]) hR hA)
                        by_cases e136_2 : (iN a2) = 2
                        · refine hr_tableIn (off := 47) (tgt := 183) X dX5_says_136 (by rw [(congrArg nI e136_2)]; decide) (by rw [(congrArg nI e136_2)]; decide) (by rw [(congrArg nI e136_2)]; rfl) (by decide) ?_
                          refine hr_aload0 (q := 184) X dX5_says_183 rfl ?_
                          refine hr_iload3 (q := 185) X dX5_says_184 rfl ?_
                          refine hr_callP (q := 188) (hc_V (n := 1) (ci := 5) (As := [.int (nI (A.1.1 21 (iN a1)))]) X dX5_says_185 rfl (tk_shows X.tr hR hA.t hw (x := A.1.1 21 (iN a1)) (by omega)) q1555 cv_X5_shows ⟨Nat.le_of_ble_eq_true rfl, Nat.le_of_ble_eq_true rfl⟩ rfl (Nat.le_of_ble_eq_true rfl) hR.om rfl rfl) rfl ?_
                          have := sp_shows_lt (t := A.1) hw (x := (A.1.1 21 (iN a1))) (by omega)
                          exact hr_iret X hr dX5_says_188 (tw_end (by rw [sq_says, if_pos c5, if_neg c9, if_pos c15, if_neg (show ¬ ((A.1.1 18 (iN a1)) = 1) by omega), if_neg (show ¬ ((A.1.1 18 (iN a1)) = 0) by omega), if_neg (show ¬ ((iN a2) = 1) by omega), if_pos (show (iN a2) = 3 by omega), if_neg (show ¬ ((A.1.1 9 (A.1.1 21 (iN a1))) = 5) by omega), if_pos (show (iN a2) = 4 by omega), if_pos (show (A.1.1 9 (A.1.1 21 (iN a1))) = 6 by omega), if_pos (show (iN a2) = 0 by omega), if_neg e136_0, if_neg e136_1, if_pos e136_2]) hR hA)
                        by_cases e136_3 : (iN a2) = 3
                        · refine hr_tableIn (off := 53) (tgt := 189) X dX5_says_136 (by rw [(congrArg nI e136_3)]; decide) (by rw [(congrArg nI e136_3)]; decide) (by rw [(congrArg nI e136_3)]; rfl) (by decide) ?_
                          refine hr_aload0 (q := 190) X dX5_says_189 rfl ?_
                          refine hr_getR (v := am 13) (q := 193) X dX5_says_190 rfl fr_q1395_5 rfl hR.om (hR.f rfl) ?_
                          refine hr_iload3 (q := 194) X dX5_says_193 rfl ?_
                          refine hr_ialdN (v := (nI (A.1.1 13 (A.1.1 21 (iN a1))))) (q := 195) X dX5_says_194 rfl (hR.ka (n := 7) rfl rfl rfl) (Or.inl rfl) (by omega) (by decide) ((hR.ar rfl _).trans (hA.p (by decide) (by decide) (by omega))) ?_
                          have b194 := hW.w.b13 (show A.1.1 21 (iN a1) < 7 by omega)
                          exact hr_iret X hr dX5_says_195 (tw_end (by rw [sq_says, if_pos c5, if_neg c9, if_pos c15, if_neg (show ¬ ((A.1.1 18 (iN a1)) = 1) by omega), if_neg (show ¬ ((A.1.1 18 (iN a1)) = 0) by omega), if_neg (show ¬ ((iN a2) = 1) by omega), if_pos (show (iN a2) = 3 by omega), if_neg (show ¬ ((A.1.1 9 (A.1.1 21 (iN a1))) = 5) by omega), if_pos (show (iN a2) = 4 by omega), if_pos (show (A.1.1 9 (A.1.1 21 (iN a1))) = 6 by omega), if_pos (show (iN a2) = 0 by omega), if_neg e136_0, if_neg e136_1, if_neg e136_2, if_pos e136_3]) hR hA)
                        by_cases e136_4 : (iN a2) = 4
                        · refine hr_tableIn (off := 60) (tgt := 196) X dX5_says_136 (by rw [(congrArg nI e136_4)]; decide) (by rw [(congrArg nI e136_4)]; decide) (by rw [(congrArg nI e136_4)]; rfl) (by decide) ?_
                          refine hr_aload0 (q := 197) X dX5_says_196 rfl ?_
                          refine hr_getR (v := am 12) (q := 200) X dX5_says_197 rfl fr_q1394_5 rfl hR.om (hR.f rfl) ?_
                          refine hr_iload3 (q := 201) X dX5_says_200 rfl ?_
                          refine hr_ialdN (v := (nI (A.1.1 12 (A.1.1 21 (iN a1))))) (q := 202) X dX5_says_201 rfl (hR.ka (n := 7) rfl rfl rfl) (Or.inl rfl) (by omega) (by decide) ((hR.ar rfl _).trans (hA.p (by decide) (by decide) (by omega))) ?_
                          have b201 := hW.w.b12 (show A.1.1 21 (iN a1) < 7 by omega)
                          exact hr_iret X hr dX5_says_202 (tw_end (by rw [sq_says, if_pos c5, if_neg c9, if_pos c15, if_neg (show ¬ ((A.1.1 18 (iN a1)) = 1) by omega), if_neg (show ¬ ((A.1.1 18 (iN a1)) = 0) by omega), if_neg (show ¬ ((iN a2) = 1) by omega), if_pos (show (iN a2) = 3 by omega), if_neg (show ¬ ((A.1.1 9 (A.1.1 21 (iN a1))) = 5) by omega), if_pos (show (iN a2) = 4 by omega), if_pos (show (A.1.1 9 (A.1.1 21 (iN a1))) = 6 by omega), if_pos (show (iN a2) = 0 by omega), if_neg e136_0, if_neg e136_1, if_neg e136_2, if_neg e136_3, if_pos e136_4]) hR hA)
                        by_cases e136_5 : (iN a2) = 5
                        · refine hr_tableIn (off := 53) (tgt := 189) X dX5_says_136 (by rw [(congrArg nI e136_5)]; decide) (by rw [(congrArg nI e136_5)]; decide) (by rw [(congrArg nI e136_5)]; rfl) (by decide) ?_
                          refine hr_aload0 (q := 190) X dX5_says_189 rfl ?_
                          refine hr_getR (v := am 13) (q := 193) X dX5_says_190 rfl fr_q1395_5 rfl hR.om (hR.f rfl) ?_
                          refine hr_iload3 (q := 194) X dX5_says_193 rfl ?_
                          refine hr_ialdN (v := (nI (A.1.1 13 (A.1.1 21 (iN a1))))) (q := 195) X dX5_says_194 rfl (hR.ka (n := 7) rfl rfl rfl) (Or.inl rfl) (by omega) (by decide) ((hR.ar rfl _).trans (hA.p (by decide) (by decide) (by omega))) ?_
                          have b194 := hW.w.b13 (show A.1.1 21 (iN a1) < 7 by omega)
                          exact hr_iret X hr dX5_says_195 (tw_end (by rw [sq_says, if_pos c5, if_neg c9, if_pos c15, if_neg (show ¬ ((A.1.1 18 (iN a1)) = 1) by omega), if_neg (show ¬ ((A.1.1 18 (iN a1)) = 0) by omega), if_neg (show ¬ ((iN a2) = 1) by omega), if_pos (show (iN a2) = 3 by omega), if_neg (show ¬ ((A.1.1 9 (A.1.1 21 (iN a1))) = 5) by omega), if_pos (show (iN a2) = 4 by omega), if_pos (show (A.1.1 9 (A.1.1 21 (iN a1))) = 6 by omega), if_pos (show (iN a2) = 0 by omega), if_neg e136_0, if_neg e136_1, if_neg e136_2, if_neg e136_3, if_neg e136_4, if_pos e136_5]) hR hA)
                        refine hr_tableOut (tgt := 196) X dX5_says_136 (sp_out (n := 6) (by decide) (fun i hi => by match i, hi with | 0, _ => exact (fun z => e136_0 ((nI_eq (by omega) (by omega)).mp z)) | 1, _ => exact (fun z => e136_1 ((nI_eq (by omega) (by omega)).mp z)) | 2, _ => exact (fun z => e136_2 ((nI_eq (by omega) (by omega)).mp z)) | 3, _ => exact (fun z => e136_3 ((nI_eq (by omega) (by omega)).mp z)) | 4, _ => exact (fun z => e136_4 ((nI_eq (by omega) (by omega)).mp z)) | 5, _ => exact (fun z => e136_5 ((nI_eq (by omega) (by omega)).mp z)) | (k + 6), hi => omega)) (by decide) ?_
                        refine hr_aload0 (q := 197) X dX5_says_196 rfl ?_
                        refine hr_getR (v := am 12) (q := 200) X dX5_says_197 rfl fr_q1394_5 rfl hR.om (hR.f rfl) ?_
                        refine hr_iload3 (q := 201) X dX5_says_200 rfl ?_
                        refine hr_ialdN (v := (nI (A.1.1 12 (A.1.1 21 (iN a1))))) (q := 202) X dX5_says_201 rfl (hR.ka (n := 7) rfl rfl rfl) (Or.inl rfl) (by omega) (by decide) ((hR.ar rfl _).trans (hA.p (by decide) (by decide) (by omega))) ?_
                        have b201 := hW.w.b12 (show A.1.1 21 (iN a1) < 7 by omega)
                        exact hr_iret X hr dX5_says_202 (tw_end (by rw [sq_says, if_pos c5, if_neg c9, if_pos c15, if_neg (show ¬ ((A.1.1 18 (iN a1)) = 1) by omega), if_neg (show ¬ ((A.1.1 18 (iN a1)) = 0) by omega), if_neg (show ¬ ((iN a2) = 1) by omega), if_pos (show (iN a2) = 3 by omega), if_neg (show ¬ ((A.1.1 9 (A.1.1 21 (iN a1))) = 5) by omega), if_pos (show (iN a2) = 4 by omega), if_pos (show (A.1.1 9 (A.1.1 21 (iN a1))) = 6 by omega), if_pos (show (iN a2) = 0 by omega), if_neg e136_0, if_neg e136_1, if_neg e136_2, if_neg e136_3, if_neg e136_4, if_neg e136_5]) hR hA)
                      · refine hr_iload2 (q := 118) X dX5_says_117 rfl ?_
                        refine hr_iload4 (q := 120) X dX5_says_118 rfl ?_
                        refine hr_icmpN_eq (q := 123) (tgt := 135) X dX5_says_120 rfl (by decide) (by omega) (by omega) (fun c120 => ?_) (fun c120 => ?_)
                        · refine hr_iload2 (q := 136) X dX5_says_135 rfl ?_
                          by_cases e136_0 : (iN a2) = 0
                          · refine hr_tableIn (off := 40) (tgt := 176) X dX5_says_136 (by rw [(congrArg nI e136_0)]; decide) (by rw [(congrArg nI e136_0)]; decide) (by rw [(congrArg nI e136_0)]; rfl) (by decide) ?_
                            refine hr_aload0 (q := 177) X dX5_says_176 rfl ?_
                            refine hr_getR (v := am 14) (q := 180) X dX5_says_177 rfl fr_q1396_5 rfl hR.om (hR.f rfl) ?_
                            refine hr_iload3 (q := 181) X dX5_says_180 rfl ?_
                            refine hr_ialdN (v := (nI (A.1.1 14 (A.1.1 21 (iN a1))))) (q := 182) X dX5_says_181 rfl (hR.ka (n := 7) rfl rfl rfl) (Or.inl rfl) (by omega) (by decide) ((hR.ar rfl _).trans (hA.p (by decide) (by decide) (by omega))) ?_
                            have b181 := hW.w.b14 (show A.1.1 21 (iN a1) < 7 by omega)
                            exact hr_iret X hr dX5_says_182 (tw_end (by rw [sq_says, if_pos c5, if_neg c9, if_pos c15, if_neg (show ¬ ((A.1.1 18 (iN a1)) = 1) by omega), if_neg (show ¬ ((A.1.1 18 (iN a1)) = 0) by omega), if_neg (show ¬ ((iN a2) = 1) by omega), if_pos (show (iN a2) = 3 by omega), if_neg (show ¬ ((A.1.1 9 (A.1.1 21 (iN a1))) = 5) by omega), if_pos (show (iN a2) = 4 by omega), if_pos (show (A.1.1 9 (A.1.1 21 (iN a1))) = 6 by omega), if_neg (show ¬ ((iN a2) = 0) by omega), if_pos (show (iN a2) = (A.1.1 9 (A.1.1 21 (iN a1))) by omega), if_pos e136_0]) hR hA)
                          by_cases e136_1 : (iN a2) = 1
                          · refine hr_tableIn (off := 47) (tgt := 183) X dX5_says_136 (by rw [(congrArg nI e136_1)]; decide) (by rw [(congrArg nI e136_1)]; decide) (by rw [(congrArg nI e136_1)]; rfl) (by decide) ?_
                            refine hr_aload0 (q := 184) X dX5_says_183 rfl ?_
                            refine hr_iload3 (q := 185) X dX5_says_184 rfl ?_
                            refine hr_callP (q := 188) (hc_V (n := 1) (ci := 5) (As := [.int (nI (A.1.1 21 (iN a1)))]) X dX5_says_185 rfl (tk_shows X.tr hR hA.t hw (x := A.1.1 21 (iN a1)) (by omega)) q1555 cv_X5_shows ⟨Nat.le_of_ble_eq_true rfl, Nat.le_of_ble_eq_true rfl⟩ rfl (Nat.le_of_ble_eq_true rfl) hR.om rfl rfl) rfl ?_
                            have := sp_shows_lt (t := A.1) hw (x := (A.1.1 21 (iN a1))) (by omega)
                            exact hr_iret X hr dX5_says_188 (tw_end (by rw [sq_says, if_pos c5, if_neg c9, if_pos c15, if_neg (show ¬ ((A.1.1 18 (iN a1)) = 1) by omega), if_neg (show ¬ ((A.1.1 18 (iN a1)) = 0) by omega), if_neg (show ¬ ((iN a2) = 1) by omega), if_pos (show (iN a2) = 3 by omega), if_neg (show ¬ ((A.1.1 9 (A.1.1 21 (iN a1))) = 5) by omega), if_pos (show (iN a2) = 4 by omega), if_pos (show (A.1.1 9 (A.1.1 21 (iN a1))) = 6 by omega), if_neg (show ¬ ((iN a2) = 0) by omega), if_pos (show (iN a2) = (A.1.1 9 (A.1.1 21 (iN a1))) by omega), if_neg e136_0, if_pos e136_1]) hR hA)
                          by_cases e136_2 : (iN a2) = 2
                          · refine hr_tableIn (off := 47) (tgt := 183) X dX5_says_136 (by rw [(congrArg nI e136_2)]; decide) (by rw [(congrArg nI e136_2)]; decide) (by rw [(congrArg nI e136_2)]; rfl) (by decide) ?_
                            refine hr_aload0 (q := 184) X dX5_says_183 rfl ?_
                            refine hr_iload3 (q := 185) X dX5_says_184 rfl ?_
                            refine hr_callP (q := 188) (hc_V (n := 1) (ci := 5) (As := [.int (nI (A.1.1 21 (iN a1)))]) X dX5_says_185 rfl (tk_shows X.tr hR hA.t hw (x := A.1.1 21 (iN a1)) (by omega)) q1555 cv_X5_shows ⟨Nat.le_of_ble_eq_true rfl, Nat.le_of_ble_eq_true rfl⟩ rfl (Nat.le_of_ble_eq_true rfl) hR.om rfl rfl) rfl ?_
                            have := sp_shows_lt (t := A.1) hw (x := (A.1.1 21 (iN a1))) (by omega)
                            exact hr_iret X hr dX5_says_188 (tw_end (by rw [sq_says, if_pos c5, if_neg c9, if_pos c15, if_neg (show ¬ ((A.1.1 18 (iN a1)) = 1) by omega), if_neg (show ¬ ((A.1.1 18 (iN a1)) = 0) by omega), if_neg (show ¬ ((iN a2) = 1) by omega), if_pos (show (iN a2) = 3 by omega), if_neg (show ¬ ((A.1.1 9 (A.1.1 21 (iN a1))) = 5) by omega), if_pos (show (iN a2) = 4 by omega), if_pos (show (A.1.1 9 (A.1.1 21 (iN a1))) = 6 by omega), if_neg (show ¬ ((iN a2) = 0) by omega), if_pos (show (iN a2) = (A.1.1 9 (A.1.1 21 (iN a1))) by omega), if_neg e136_0, if_neg e136_1, if_pos e136_2]) hR hA)
                          by_cases e136_3 : (iN a2) = 3
                          · refine hr_tableIn (off := 53) (tgt := 189) X dX5_says_136 (by rw [(congrArg nI e136_3)]; decide) (by rw [(congrArg nI e136_3)]; decide) (by rw [(congrArg nI e136_3)]; rfl) (by decide) ?_
                            refine hr_aload0 (q := 190) X dX5_says_189 rfl ?_
                            refine hr_getR (v := am 13) (q := 193) X dX5_says_190 rfl fr_q1395_5 rfl hR.om (hR.f rfl) ?_
                            refine hr_iload3 (q := 194) X dX5_says_193 rfl ?_
                            refine hr_ialdN (v := (nI (A.1.1 13 (A.1.1 21 (iN a1))))) (q := 195) X dX5_says_194 rfl (hR.ka (n := 7) rfl rfl rfl) (Or.inl rfl) (by omega) (by decide) ((hR.ar rfl _).trans (hA.p (by decide) (by decide) (by omega))) ?_
                            have b194 := hW.w.b13 (show A.1.1 21 (iN a1) < 7 by omega)
                            exact hr_iret X hr dX5_says_195 (tw_end (by rw [sq_says, if_pos c5, if_neg c9, if_pos c15, if_neg (show ¬ ((A.1.1 18 (iN a1)) = 1) by omega), if_neg (show ¬ ((A.1.1 18 (iN a1)) = 0) by omega), if_neg (show ¬ ((iN a2) = 1) by omega), if_pos (show (iN a2) = 3 by omega), if_neg (show ¬ ((A.1.1 9 (A.1.1 21 (iN a1))) = 5) by omega), if_pos (show (iN a2) = 4 by omega), if_pos (show (A.1.1 9 (A.1.1 21 (iN a1))) = 6 by omega), if_neg (show ¬ ((iN a2) = 0) by omega), if_pos (show (iN a2) = (A.1.1 9 (A.1.1 21 (iN a1))) by omega), if_neg e136_0, if_neg e136_1, if_neg e136_2, if_pos e136_3]) hR hA)
                          by_cases e136_4 : (iN a2) = 4
                          · refine hr_tableIn (off := 60) (tgt := 196) X dX5_says_136 (by rw [(congrArg nI e136_4)]; decide) (by rw [(congrArg nI e136_4)]; decide) (by rw [(congrArg nI e136_4)]; rfl) (by decide) ?_
                            refine hr_aload0 (q := 197) X dX5_says_196 rfl ?_
                            refine hr_getR (v := am 12) (q := 200) X dX5_says_197 rfl fr_q1394_5 rfl hR.om (hR.f rfl) ?_
                            refine hr_iload3 (q := 201) X dX5_says_200 rfl ?_
                            refine hr_ialdN (v := (nI (A.1.1 12 (A.1.1 21 (iN a1))))) (q := 202) X dX5_says_201 rfl (hR.ka (n := 7) rfl rfl rfl) (Or.inl rfl) (by omega) (by decide) ((hR.ar rfl _).trans (hA.p (by decide) (by decide) (by omega))) ?_
                            have b201 := hW.w.b12 (show A.1.1 21 (iN a1) < 7 by omega)
                            exact hr_iret X hr dX5_says_202 (tw_end (by rw [sq_says, if_pos c5, if_neg c9, if_pos c15, if_neg (show ¬ ((A.1.1 18 (iN a1)) = 1) by omega), if_neg (show ¬ ((A.1.1 18 (iN a1)) = 0) by omega), if_neg (show ¬ ((iN a2) = 1) by omega), if_pos (show (iN a2) = 3 by omega), if_neg (show ¬ ((A.1.1 9 (A.1.1 21 (iN a1))) = 5) by omega), if_pos (show (iN a2) = 4 by omega), if_pos (show (A.1.1 9 (A.1.1 21 (iN a1))) = 6 by omega), if_neg (show ¬ ((iN a2) = 0) by omega), if_pos (show (iN a2) = (A.1.1 9 (A.1.1 21 (iN a1))) by omega), if_neg e136_0, if_neg e136_1, if_neg e136_2, if_neg e136_3, if_pos e136_4]) hR hA)
                          by_cases e136_5 : (iN a2) = 5
                          · refine hr_tableIn (off := 53) (tgt := 189) X dX5_says_136 (by rw [(congrArg nI e136_5)]; decide) (by rw [(congrArg nI e136_5)]; decide) (by rw [(congrArg nI e136_5)]; rfl) (by decide) ?_
                            refine hr_aload0 (q := 190) X dX5_says_189 rfl ?_
                            refine hr_getR (v := am 13) (q := 193) X dX5_says_190 rfl fr_q1395_5 rfl hR.om (hR.f rfl) ?_
                            refine hr_iload3 (q := 194) X dX5_says_193 rfl ?_
                            refine hr_ialdN (v := (nI (A.1.1 13 (A.1.1 21 (iN a1))))) (q := 195) X dX5_says_194 rfl (hR.ka (n := 7) rfl rfl rfl) (Or.inl rfl) (by omega) (by decide) ((hR.ar rfl _).trans (hA.p (by decide) (by decide) (by omega))) ?_
                            have b194 := hW.w.b13 (show A.1.1 21 (iN a1) < 7 by omega)
                            exact hr_iret X hr dX5_says_195 (tw_end (by rw [sq_says, if_pos c5, if_neg c9, if_pos c15, if_neg (show ¬ ((A.1.1 18 (iN a1)) = 1) by omega), if_neg (show ¬ ((A.1.1 18 (iN a1)) = 0) by omega), if_neg (show ¬ ((iN a2) = 1) by omega), if_pos (show (iN a2) = 3 by omega), if_neg (show ¬ ((A.1.1 9 (A.1.1 21 (iN a1))) = 5) by omega), if_pos (show (iN a2) = 4 by omega), if_pos (show (A.1.1 9 (A.1.1 21 (iN a1))) = 6 by omega), if_neg (show ¬ ((iN a2) = 0) by omega), if_pos (show (iN a2) = (A.1.1 9 (A.1.1 21 (iN a1))) by omega), if_neg e136_0, if_neg e136_1, if_neg e136_2, if_neg e136_3, if_neg e136_4, if_pos e136_5]) hR hA)
                          refine hr_tableOut (tgt := 196) X dX5_says_136 (sp_out (n := 6) (by decide) (fun i hi => by match i, hi with | 0, _ => exact (fun z => e136_0 ((nI_eq (by omega) (by omega)).mp z)) | 1, _ => exact (fun z => e136_1 ((nI_eq (by omega) (by omega)).mp z)) | 2, _ => exact (fun z => e136_2 ((nI_eq (by omega) (by omega)).mp z)) | 3, _ => exact (fun z => e136_3 ((nI_eq (by omega) (by omega)).mp z)) | 4, _ => exact (fun z => e136_4 ((nI_eq (by omega) (by omega)).mp z)) | 5, _ => exact (fun z => e136_5 ((nI_eq (by omega) (by omega)).mp z)) | (k + 6), hi => omega)) (by decide) ?_
                          refine hr_aload0 (q := 197) X dX5_says_196 rfl ?_
                          refine hr_getR (v := am 12) (q := 200) X dX5_says_197 rfl fr_q1394_5 rfl hR.om (hR.f rfl) ?_
                          refine hr_iload3 (q := 201) X dX5_says_200 rfl ?_
                          refine hr_ialdN (v := (nI (A.1.1 12 (A.1.1 21 (iN a1))))) (q := 202) X dX5_says_201 rfl (hR.ka (n := 7) rfl rfl rfl) (Or.inl rfl) (by omega) (by decide) ((hR.ar rfl _).trans (hA.p (by decide) (by decide) (by omega))) ?_
                          have b201 := hW.w.b12 (show A.1.1 21 (iN a1) < 7 by omega)
                          exact hr_iret X hr dX5_says_202 (tw_end (by rw [sq_says, if_pos c5, if_neg c9, if_pos c15, if_neg (show ¬ ((A.1.1 18 (iN a1)) = 1) by omega), if_neg (show ¬ ((A.1.1 18 (iN a1)) = 0) by omega), if_neg (show ¬ ((iN a2) = 1) by omega), if_pos (show (iN a2) = 3 by omega), if_neg (show ¬ ((A.1.1 9 (A.1.1 21 (iN a1))) = 5) by omega), if_pos (show (iN a2) = 4 by omega), if_pos (show (A.1.1 9 (A.1.1 21 (iN a1))) = 6 by omega), if_neg (show ¬ ((iN a2) = 0) by omega), if_pos (show (iN a2) = (A.1.1 9 (A.1.1 21 (iN a1))) by omega), if_neg e136_0, if_neg e136_1, if_neg e136_2, if_neg e136_3, if_neg e136_4, if_neg e136_5]) hR hA)
                        · refine hr_iload5 (q := 125) X dX5_says_123 rfl ?_
                          refine hr_if_ne (q := 128) (tgt := 135) X dX5_says_125 rfl (by decide) (fun _ => ?_) (fun z => absurd z (by decide))
                          refine hr_iload2 (q := 136) X dX5_says_135 rfl ?_
                          by_cases e136_0 : (iN a2) = 0
                          · refine hr_tableIn (off := 40) (tgt := 176) X dX5_says_136 (by rw [(congrArg nI e136_0)]; decide) (by rw [(congrArg nI e136_0)]; decide) (by rw [(congrArg nI e136_0)]; rfl) (by decide) ?_
                            refine hr_aload0 (q := 177) X dX5_says_176 rfl ?_
                            refine hr_getR (v := am 14) (q := 180) X dX5_says_177 rfl fr_q1396_5 rfl hR.om (hR.f rfl) ?_
                            refine hr_iload3 (q := 181) X dX5_says_180 rfl ?_
                            refine hr_ialdN (v := (nI (A.1.1 14 (A.1.1 21 (iN a1))))) (q := 182) X dX5_says_181 rfl (hR.ka (n := 7) rfl rfl rfl) (Or.inl rfl) (by omega) (by decide) ((hR.ar rfl _).trans (hA.p (by decide) (by decide) (by omega))) ?_
                            have b181 := hW.w.b14 (show A.1.1 21 (iN a1) < 7 by omega)
                            exact hr_iret X hr dX5_says_182 (tw_end (by rw [sq_says, if_pos c5, if_neg c9, if_pos c15, if_neg (show ¬ ((A.1.1 18 (iN a1)) = 1) by omega), if_neg (show ¬ ((A.1.1 18 (iN a1)) = 0) by omega), if_neg (show ¬ ((iN a2) = 1) by omega), if_pos (show (iN a2) = 3 by omega), if_neg (show ¬ ((A.1.1 9 (A.1.1 21 (iN a1))) = 5) by omega), if_pos (show (iN a2) = 4 by omega), if_pos (show (A.1.1 9 (A.1.1 21 (iN a1))) = 6 by omega), if_neg (show ¬ ((iN a2) = 0) by omega), if_neg (show ¬ ((iN a2) = (A.1.1 9 (A.1.1 21 (iN a1)))) by omega), if_pos e136_0]) hR hA)
                          by_cases e136_1 : (iN a2) = 1
                          · refine hr_tableIn (off := 47) (tgt := 183) X dX5_says_136 (by rw [(congrArg nI e136_1)]; decide) (by rw [(congrArg nI e136_1)]; decide) (by rw [(congrArg nI e136_1)]; rfl) (by decide) ?_
                            refine hr_aload0 (q := 184) X dX5_says_183 rfl ?_
                            refine hr_iload3 (q := 185) X dX5_says_184 rfl ?_
                            refine hr_callP (q := 188) (hc_V (n := 1) (ci := 5) (As := [.int (nI (A.1.1 21 (iN a1)))]) X dX5_says_185 rfl (tk_shows X.tr hR hA.t hw (x := A.1.1 21 (iN a1)) (by omega)) q1555 cv_X5_shows ⟨Nat.le_of_ble_eq_true rfl, Nat.le_of_ble_eq_true rfl⟩ rfl (Nat.le_of_ble_eq_true rfl) hR.om rfl rfl) rfl ?_
                            have := sp_shows_lt (t := A.1) hw (x := (A.1.1 21 (iN a1))) (by omega)
                            exact hr_iret X hr dX5_says_188 (tw_end (by rw [sq_says, if_pos c5, if_neg c9, if_pos c15, if_neg (show ¬ ((A.1.1 18 (iN a1)) = 1) by omega), if_neg (show ¬ ((A.1.1 18 (iN a1)) = 0) by omega), if_neg (show ¬ ((iN a2) = 1) by omega), if_pos (show (iN a2) = 3 by omega), if_neg (show ¬ ((A.1.1 9 (A.1.1 21 (iN a1))) = 5) by omega), if_pos (show (iN a2) = 4 by omega), if_pos (show (A.1.1 9 (A.1.1 21 (iN a1))) = 6 by omega), if_neg (show ¬ ((iN a2) = 0) by omega), if_neg (show ¬ ((iN a2) = (A.1.1 9 (A.1.1 21 (iN a1)))) by omega), if_neg e136_0, if_pos e136_1]) hR hA)
                          by_cases e136_2 : (iN a2) = 2
                          · refine hr_tableIn (off := 47) (tgt := 183) X dX5_says_136 (by rw [(congrArg nI e136_2)]; decide) (by rw [(congrArg nI e136_2)]; decide) (by rw [(congrArg nI e136_2)]; rfl) (by decide) ?_
                            refine hr_aload0 (q := 184) X dX5_says_183 rfl ?_
                            refine hr_iload3 (q := 185) X dX5_says_184 rfl ?_
                            refine hr_callP (q := 188) (hc_V (n := 1) (ci := 5) (As := [.int (nI (A.1.1 21 (iN a1)))]) X dX5_says_185 rfl (tk_shows X.tr hR hA.t hw (x := A.1.1 21 (iN a1)) (by omega)) q1555 cv_X5_shows ⟨Nat.le_of_ble_eq_true rfl, Nat.le_of_ble_eq_true rfl⟩ rfl (Nat.le_of_ble_eq_true rfl) hR.om rfl rfl) rfl ?_
                            have := sp_shows_lt (t := A.1) hw (x := (A.1.1 21 (iN a1))) (by omega)
                            exact hr_iret X hr dX5_says_188 (tw_end (by rw [sq_says, if_pos c5, if_neg c9, if_pos c15, if_neg (show ¬ ((A.1.1 18 (iN a1)) = 1) by omega), if_neg (show ¬ ((A.1.1 18 (iN a1)) = 0) by omega), if_neg (show ¬ ((iN a2) = 1) by omega), if_pos (show (iN a2) = 3 by omega), if_neg (show ¬ ((A.1.1 9 (A.1.1 21 (iN a1))) = 5) by omega), if_pos (show (iN a2) = 4 by omega), if_pos (show (A.1.1 9 (A.1.1 21 (iN a1))) = 6 by omega), if_neg (show ¬ ((iN a2) = 0) by omega), if_neg (show ¬ ((iN a2) = (A.1.1 9 (A.1.1 21 (iN a1)))) by omega), if_neg e136_0, if_neg e136_1, if_pos e136_2]) hR hA)
                          by_cases e136_3 : (iN a2) = 3
                          · refine hr_tableIn (off := 53) (tgt := 189) X dX5_says_136 (by rw [(congrArg nI e136_3)]; decide) (by rw [(congrArg nI e136_3)]; decide) (by rw [(congrArg nI e136_3)]; rfl) (by decide) ?_
                            refine hr_aload0 (q := 190) X dX5_says_189 rfl ?_
                            refine hr_getR (v := am 13) (q := 193) X dX5_says_190 rfl fr_q1395_5 rfl hR.om (hR.f rfl) ?_
                            refine hr_iload3 (q := 194) X dX5_says_193 rfl ?_
                            refine hr_ialdN (v := (nI (A.1.1 13 (A.1.1 21 (iN a1))))) (q := 195) X dX5_says_194 rfl (hR.ka (n := 7) rfl rfl rfl) (Or.inl rfl) (by omega) (by decide) ((hR.ar rfl _).trans (hA.p (by decide) (by decide) (by omega))) ?_
                            have b194 := hW.w.b13 (show A.1.1 21 (iN a1) < 7 by omega)
                            exact hr_iret X hr dX5_says_195 (tw_end (by rw [sq_says, if_pos c5, if_neg c9, if_pos c15, if_neg (show ¬ ((A.1.1 18 (iN a1)) = 1) by omega), if_neg (show ¬ ((A.1.1 18 (iN a1)) = 0) by omega), if_neg (show ¬ ((iN a2) = 1) by omega), if_pos (show (iN a2) = 3 by omega), if_neg (show ¬ ((A.1.1 9 (A.1.1 21 (iN a1))) = 5) by omega), if_pos (show (iN a2) = 4 by omega), if_pos (show (A.1.1 9 (A.1.1 21 (iN a1))) = 6 by omega), if_neg (show ¬ ((iN a2) = 0) by omega), if_neg (show ¬ ((iN a2) = (A.1.1 9 (A.1.1 21 (iN a1)))) by omega), if_neg e136_0, if_neg e136_1, if_neg e136_2, if_pos e136_3]) hR hA)
                          by_cases e136_4 : (iN a2) = 4
                          · refine hr_tableIn (off := 60) (tgt := 196) X dX5_says_136 (by rw [(congrArg nI e136_4)]; decide) (by rw [(congrArg nI e136_4)]; decide) (by rw [(congrArg nI e136_4)]; rfl) (by decide) ?_
                            refine hr_aload0 (q := 197) X dX5_says_196 rfl ?_
                            refine hr_getR (v := am 12) (q := 200) X dX5_says_197 rfl fr_q1394_5 rfl hR.om (hR.f rfl) ?_
                            refine hr_iload3 (q := 201) X dX5_says_200 rfl ?_
                            refine hr_ialdN (v := (nI (A.1.1 12 (A.1.1 21 (iN a1))))) (q := 202) X dX5_says_201 rfl (hR.ka (n := 7) rfl rfl rfl) (Or.inl rfl) (by omega) (by decide) ((hR.ar rfl _).trans (hA.p (by decide) (by decide) (by omega))) ?_
                            have b201 := hW.w.b12 (show A.1.1 21 (iN a1) < 7 by omega)
                            exact hr_iret X hr dX5_says_202 (tw_end (by rw [sq_says, if_pos c5, if_neg c9, if_pos c15, if_neg (show ¬ ((A.1.1 18 (iN a1)) = 1) by omega), if_neg (show ¬ ((A.1.1 18 (iN a1)) = 0) by omega), if_neg (show ¬ ((iN a2) = 1) by omega), if_pos (show (iN a2) = 3 by omega), if_neg (show ¬ ((A.1.1 9 (A.1.1 21 (iN a1))) = 5) by omega), if_pos (show (iN a2) = 4 by omega), if_pos (show (A.1.1 9 (A.1.1 21 (iN a1))) = 6 by omega), if_neg (show ¬ ((iN a2) = 0) by omega), if_neg (show ¬ ((iN a2) = (A.1.1 9 (A.1.1 21 (iN a1)))) by omega), if_neg e136_0, if_neg e136_1, if_neg e136_2, if_neg e136_3, if_pos e136_4]) hR hA)
                          by_cases e136_5 : (iN a2) = 5
                          · refine hr_tableIn (off := 53) (tgt := 189) X dX5_says_136 (by rw [(congrArg nI e136_5)]; decide) (by rw [(congrArg nI e136_5)]; decide) (by rw [(congrArg nI e136_5)]; rfl) (by decide) ?_
                            refine hr_aload0 (q := 190) X dX5_says_189 rfl ?_
                            refine hr_getR (v := am 13) (q := 193) X dX5_says_190 rfl fr_q1395_5 rfl hR.om (hR.f rfl) ?_
                            refine hr_iload3 (q := 194) X dX5_says_193 rfl ?_
                            refine hr_ialdN (v := (nI (A.1.1 13 (A.1.1 21 (iN a1))))) (q := 195) X dX5_says_194 rfl (hR.ka (n := 7) rfl rfl rfl) (Or.inl rfl) (by omega) (by decide) ((hR.ar rfl _).trans (hA.p (by decide) (by decide) (by omega))) ?_
                            have b194 := hW.w.b13 (show A.1.1 21 (iN a1) < 7 by omega)
                            exact hr_iret X hr dX5_says_195 (tw_end (by rw [sq_says, if_pos c5, if_neg c9, if_pos c15, if_neg (show ¬ ((A.1.1 18 (iN a1)) = 1) by omega), if_neg (show ¬ ((A.1.1 18 (iN a1)) = 0) by omega), if_neg (show ¬ ((iN a2) = 1) by omega), if_pos (show (iN a2) = 3 by omega), if_neg (show ¬ ((A.1.1 9 (A.1.1 21 (iN a1))) = 5) by omega), if_pos (show (iN a2) = 4 by omega), if_pos (show (A.1.1 9 (A.1.1 21 (iN a1))) = 6 by omega), if_neg (show ¬ ((iN a2) = 0) by omega), if_neg (show ¬ ((iN a2) = (A.1.1 9 (A.1.1 21 (iN a1)))) by omega), if_neg e136_0, if_neg e136_1, if_neg e136_2, if_neg e136_3, if_neg e136_4, if_pos e136_5]) hR hA)
                          refine hr_tableOut (tgt := 196) X dX5_says_136 (sp_out (n := 6) (by decide) (fun i hi => by match i, hi with | 0, _ => exact (fun z => e136_0 ((nI_eq (by omega) (by omega)).mp z)) | 1, _ => exact (fun z => e136_1 ((nI_eq (by omega) (by omega)).mp z)) | 2, _ => exact (fun z => e136_2 ((nI_eq (by omega) (by omega)).mp z)) | 3, _ => exact (fun z => e136_3 ((nI_eq (by omega) (by omega)).mp z)) | 4, _ => exact (fun z => e136_4 ((nI_eq (by omega) (by omega)).mp z)) | 5, _ => exact (fun z => e136_5 ((nI_eq (by omega) (by omega)).mp z)) | (k + 6), hi => omega)) (by decide) ?_
                          refine hr_aload0 (q := 197) X dX5_says_196 rfl ?_
                          refine hr_getR (v := am 12) (q := 200) X dX5_says_197 rfl fr_q1394_5 rfl hR.om (hR.f rfl) ?_
                          refine hr_iload3 (q := 201) X dX5_says_200 rfl ?_
                          refine hr_ialdN (v := (nI (A.1.1 12 (A.1.1 21 (iN a1))))) (q := 202) X dX5_says_201 rfl (hR.ka (n := 7) rfl rfl rfl) (Or.inl rfl) (by omega) (by decide) ((hR.ar rfl _).trans (hA.p (by decide) (by decide) (by omega))) ?_
                          have b201 := hW.w.b12 (show A.1.1 21 (iN a1) < 7 by omega)
                          exact hr_iret X hr dX5_says_202 (tw_end (by rw [sq_says, if_pos c5, if_neg c9, if_pos c15, if_neg (show ¬ ((A.1.1 18 (iN a1)) = 1) by omega), if_neg (show ¬ ((A.1.1 18 (iN a1)) = 0) by omega), if_neg (show ¬ ((iN a2) = 1) by omega), if_pos (show (iN a2) = 3 by omega), if_neg (show ¬ ((A.1.1 9 (A.1.1 21 (iN a1))) = 5) by omega), if_pos (show (iN a2) = 4 by omega), if_pos (show (A.1.1 9 (A.1.1 21 (iN a1))) = 6 by omega), if_neg (show ¬ ((iN a2) = 0) by omega), if_neg (show ¬ ((iN a2) = (A.1.1 9 (A.1.1 21 (iN a1)))) by omega), if_neg e136_0, if_neg e136_1, if_neg e136_2, if_neg e136_3, if_neg e136_4, if_neg e136_5]) hR hA)
            · refine hr_iload4 (q := 79) X dX5_says_77 rfl ?_
              refine hr_iconst (v := (nI 2)) (q := 80) X dX5_says_79 rfl rfl ?_
              refine hr_icmpN_eq (q := 83) (tgt := 106) X dX5_says_80 rfl (by decide) (by omega) (by omega) (fun c80 => ?_) (fun c80 => ?_)
              · refine hr_iconst (v := (nI 1)) (q := 107) X dX5_says_106 rfl rfl ?_
                refine hr_goto (tgt := 111) X dX5_says_107 (by decide) ?_
                refine hr_istore5 (q := 113) X dX5_says_111 rfl rfl (Nat.le_of_ble_eq_true rfl) ?_
                refine hr_iload2 (q := 114) X dX5_says_113 rfl ?_
                refine hr_ifN_eq (q := 117) (tgt := 135) X dX5_says_114 rfl (by decide) (by omega) (fun c114 => ?_) (fun c114 => ?_)
                · refine hr_iload2 (q := 136) X dX5_says_135 rfl ?_
                  by_cases e136_0 : (iN a2) = 0
                  · refine hr_tableIn (off := 40) (tgt := 176) X dX5_says_136 (by rw [(congrArg nI e136_0)]; decide) (by rw [(congrArg nI e136_0)]; decide) (by rw [(congrArg nI e136_0)]; rfl) (by decide) ?_
                    refine hr_aload0 (q := 177) X dX5_says_176 rfl ?_
                    refine hr_getR (v := am 14) (q := 180) X dX5_says_177 rfl fr_q1396_5 rfl hR.om (hR.f rfl) ?_
                    refine hr_iload3 (q := 181) X dX5_says_180 rfl ?_
                    refine hr_ialdN (v := (nI (A.1.1 14 (A.1.1 21 (iN a1))))) (q := 182) X dX5_says_181 rfl (hR.ka (n := 7) rfl rfl rfl) (Or.inl rfl) (by omega) (by decide) ((hR.ar rfl _).trans (hA.p (by decide) (by decide) (by omega))) ?_
                    have b181 := hW.w.b14 (show A.1.1 21 (iN a1) < 7 by omega)
                    exact hr_iret X hr dX5_says_182 (tw_end (by rw [sq_says, if_pos c5, if_neg c9, if_pos c15, if_neg (show ¬ ((A.1.1 18 (iN a1)) = 1) by omega), if_neg (show ¬ ((A.1.1 18 (iN a1)) = 0) by omega), if_pos (show (iN a2) = 1 by omega), if_pos (show (A.1.1 9 (A.1.1 21 (iN a1))) = 2 by omega), if_pos (show (iN a2) = 0 by omega), if_pos e136_0]) hR hA)
                  by_cases e136_1 : (iN a2) = 1
                  · refine hr_tableIn (off := 47) (tgt := 183) X dX5_says_136 (by rw [(congrArg nI e136_1)]; decide) (by rw [(congrArg nI e136_1)]; decide) (by rw [(congrArg nI e136_1)]; rfl) (by decide) ?_
                    refine hr_aload0 (q := 184) X dX5_says_183 rfl ?_
                    refine hr_iload3 (q := 185) X dX5_says_184 rfl ?_
                    refine hr_callP (q := 188) (hc_V (n := 1) (ci := 5) (As := [.int (nI (A.1.1 21 (iN a1)))]) X dX5_says_185 rfl (tk_shows X.tr hR hA.t hw (x := A.1.1 21 (iN a1)) (by omega)) q1555 cv_X5_shows ⟨Nat.le_of_ble_eq_true rfl, Nat.le_of_ble_eq_true rfl⟩ rfl (Nat.le_of_ble_eq_true rfl) hR.om rfl rfl) rfl ?_
                    have := sp_shows_lt (t := A.1) hw (x := (A.1.1 21 (iN a1))) (by omega)
                    exact hr_iret X hr dX5_says_188 (tw_end (by rw [sq_says, if_pos c5, if_neg c9, if_pos c15, if_neg (show ¬ ((A.1.1 18 (iN a1)) = 1) by omega), if_neg (show ¬ ((A.1.1 18 (iN a1)) = 0) by omega), if_pos (show (iN a2) = 1 by omega), if_pos (show (A.1.1 9 (A.1.1 21 (iN a1))) = 2 by omega), if_pos (show (iN a2) = 0 by omega), if_neg e136_0, if_pos e136_1]) hR hA)
                  by_cases e136_2 : (iN a2) = 2
                  · refine hr_tableIn (off := 47) (tgt := 183) X dX5_says_136 (by rw [(congrArg nI e136_2)]; decide) (by rw [(congrArg nI e136_2)]; decide) (by rw [(congrArg nI e136_2)]; rfl) (by decide) ?_
                    refine hr_aload0 (q := 184) X dX5_says_183 rfl ?_
                    refine hr_iload3 (q := 185) X dX5_says_184 rfl ?_
                    refine hr_callP (q := 188) (hc_V (n := 1) (ci := 5) (As := [.int (nI (A.1.1 21 (iN a1)))]) X dX5_says_185 rfl (tk_shows X.tr hR hA.t hw (x := A.1.1 21 (iN a1)) (by omega)) q1555 cv_X5_shows ⟨Nat.le_of_ble_eq_true rfl, Nat.le_of_ble_eq_true rfl⟩ rfl (Nat.le_of_ble_eq_true rfl) hR.om rfl rfl) rfl ?_
                    have := sp_shows_lt (t := A.1) hw (x := (A.1.1 21 (iN a1))) (by omega)
                    exact hr_iret X hr dX5_says_188 (tw_end (by rw [sq_says, if_pos c5, if_neg c9, if_pos c15, if_neg (show ¬ ((A.1.1 18 (iN a1)) = 1) by omega), if_neg (show ¬ ((A.1.1 18 (iN a1)) = 0) by omega), if_pos (show (iN a2) = 1 by omega), if_pos (show (A.1.1 9 (A.1.1 21 (iN a1))) = 2 by omega), if_pos (show (iN a2) = 0 by omega), if_neg e136_0, if_neg e136_1, if_pos e136_2]) hR hA)
                  by_cases e136_3 : (iN a2) = 3
                  · refine hr_tableIn (off := 53) (tgt := 189) X dX5_says_136 (by rw [(congrArg nI e136_3)]; decide) (by rw [(congrArg nI e136_3)]; decide) (by rw [(congrArg nI e136_3)]; rfl) (by decide) ?_
                    refine hr_aload0 (q := 190) X dX5_says_189 rfl ?_
                    refine hr_getR (v := am 13) (q := 193) X dX5_says_190 rfl fr_q1395_5 rfl hR.om (hR.f rfl) ?_
                    refine hr_iload3 (q := 194) X dX5_says_193 rfl ?_
                    refine hr_ialdN (v := (nI (A.1.1 13 (A.1.1 21 (iN a1))))) (q := 195) X dX5_says_194 rfl (hR.ka (n := 7) rfl rfl rfl) (Or.inl rfl) (by omega) (by decide) ((hR.ar rfl _).trans (hA.p (by decide) (by decide) (by omega))) ?_
                    have b194 := hW.w.b13 (show A.1.1 21 (iN a1) < 7 by omega)
                    exact hr_iret X hr dX5_says_195 (tw_end (by rw [sq_says, if_pos c5, if_neg c9, if_pos c15, if_neg (show ¬ ((A.1.1 18 (iN a1)) = 1) by omega), if_neg (show ¬ ((A.1.1 18 (iN a1)) = 0) by omega), if_pos (show (iN a2) = 1 by omega), if_pos (show (A.1.1 9 (A.1.1 21 (iN a1))) = 2 by omega), if_pos (show (iN a2) = 0 by omega), if_neg e136_0, if_neg e136_1, if_neg e136_2, if_pos e136_3]) hR hA)
                  by_cases e136_4 : (iN a2) = 4
                  · refine hr_tableIn (off := 60) (tgt := 196) X dX5_says_136 (by rw [(congrArg nI e136_4)]; decide) (by rw [(congrArg nI e136_4)]; decide) (by rw [(congrArg nI e136_4)]; rfl) (by decide) ?_
                    refine hr_aload0 (q := 197) X dX5_says_196 rfl ?_
                    refine hr_getR (v := am 12) (q := 200) X dX5_says_197 rfl fr_q1394_5 rfl hR.om (hR.f rfl) ?_
                    refine hr_iload3 (q := 201) X dX5_says_200 rfl ?_
                    refine hr_ialdN (v := (nI (A.1.1 12 (A.1.1 21 (iN a1))))) (q := 202) X dX5_says_201 rfl (hR.ka (n := 7) rfl rfl rfl) (Or.inl rfl) (by omega) (by decide) ((hR.ar rfl _).trans (hA.p (by decide) (by decide) (by omega))) ?_
                    have b201 := hW.w.b12 (show A.1.1 21 (iN a1) < 7 by omega)
                    exact hr_iret X hr dX5_says_202 (tw_end (by rw [sq_says, if_pos c5, if_neg c9, if_pos c15, if_neg (show ¬ ((A.1.1 18 (iN a1)) = 1) by omega), if_neg (show ¬ ((A.1.1 18 (iN a1)) = 0) by omega), if_pos (show (iN a2) = 1 by omega), if_pos (show (A.1.1 9 (A.1.1 21 (iN a1))) = 2 by omega), if_pos (show (iN a2) = 0 by omega), if_neg e136_0, if_neg e136_1, if_neg e136_2, if_neg e136_3, if_pos e136_4]) hR hA)
                  by_cases e136_5 : (iN a2) = 5
                  · refine hr_tableIn (off := 53) (tgt := 189) X dX5_says_136 (by rw [(congrArg nI e136_5)]; decide) (by rw [(congrArg nI e136_5)]; decide) (by rw [(congrArg nI e136_5)]; rfl) (by decide) ?_
                    refine hr_aload0 (q := 190) X dX5_says_189 rfl ?_
                    refine hr_getR (v := am 13) (q := 193) X dX5_says_190 rfl fr_q1395_5 rfl hR.om (hR.f rfl) ?_
                    refine hr_iload3 (q := 194) X dX5_says_193 rfl ?_
                    refine hr_ialdN (v := (nI (A.1.1 13 (A.1.1 21 (iN a1))))) (q := 195) X dX5_says_194 rfl (hR.ka (n := 7) rfl rfl rfl) (Or.inl rfl) (by omega) (by decide) ((hR.ar rfl _).trans (hA.p (by decide) (by decide) (by omega))) ?_
                    have b194 := hW.w.b13 (show A.1.1 21 (iN a1) < 7 by omega)
                    exact hr_iret X hr dX5_says_195 (tw_end (by rw [sq_says, if_pos c5, if_neg c9, if_pos c15, if_neg (show ¬ ((A.1.1 18 (iN a1)) = 1) by omega), if_neg (show ¬ ((A.1.1 18 (iN a1)) = 0) by omega), if_pos (show (iN a2) = 1 by omega), if_pos (show (A.1.1 9 (A.1.1 21 (iN a1))) = 2 by omega), if_pos (show (iN a2) = 0 by omega), if_neg e136_0, if_neg e136_1, if_neg e136_2, if_neg e136_3, if_neg e136_4, if_pos e136_5]) hR hA)
                  refine hr_tableOut (tgt := 196) X dX5_says_136 (sp_out (n := 6) (by decide) (fun i hi => by match i, hi with | 0, _ => exact (fun z => e136_0 ((nI_eq (by omega) (by omega)).mp z)) | 1, _ => exact (fun z => e136_1 ((nI_eq (by omega) (by omega)).mp z)) | 2, _ => exact (fun z => e136_2 ((nI_eq (by omega) (by omega)).mp z)) | 3, _ => exact (fun z => e136_3 ((nI_eq (by omega) (by omega)).mp z)) | 4, _ => exact (fun z => e136_4 ((nI_eq (by omega) (by omega)).mp z)) | 5, _ => exact (fun z => e136_5 ((nI_eq (by omega) (by omega)).mp z)) | (k + 6), hi => omega)) (by decide) ?_
                  refine hr_aload0 (q := 197) X dX5_says_196 rfl ?_
                  refine hr_getR (v := am 12) (q := 200) X dX5_says_197 rfl fr_q1394_5 rfl hR.om (hR.f rfl) ?_
                  refine hr_iload3 (q := 201) X dX5_says_200 rfl ?_
                  refine hr_ialdN (v := (nI (A.1.1 12 (A.1.1 21 (iN a1))))) (q := 202) X dX5_says_201 rfl (hR.ka (n := 7) rfl rfl rfl) (Or.inl rfl) (by omega) (by decide) ((hR.ar rfl _).trans (hA.p (by decide) (by decide) (by omega))) ?_
                  have b201 := hW.w.b12 (show A.1.1 21 (iN a1) < 7 by omega)
                  exact hr_iret X hr dX5_says_202 (tw_end (by rw [sq_says, if_pos c5, if_neg c9, if_pos c15, if_neg (show ¬ ((A.1.1 18 (iN a1)) = 1) by omega), if_neg (show ¬ ((A.1.1 18 (iN a1)) = 0) by omega), if_pos (show (iN a2) = 1 by omega), if_pos (show (A.1.1 9 (A.1.1 21 (iN a1))) = 2 by omega), if_pos (show (iN a2) = 0 by omega), if_neg e136_0, if_neg e136_1, if_neg e136_2, if_neg e136_3, if_neg e136_4, if_neg e136_5]) hR hA)
                · refine hr_iload2 (q := 118) X dX5_says_117 rfl ?_
                  refine hr_iload4 (q := 120) X dX5_says_118 rfl ?_
                  refine hr_icmpN_eq (q := 123) (tgt := 135) X dX5_says_120 rfl (by decide) (by omega) (by omega) (fun c120 => ?_) (fun c120 => ?_)
                  · refine hr_iload2 (q := 136) X dX5_says_135 rfl ?_
                    by_cases e136_0 : (iN a2) = 0
                    · refine hr_tableIn (off := 40) (tgt := 176) X dX5_says_136 (by rw [(congrArg nI e136_0)]; decide) (by rw [(congrArg nI e136_0)]; decide) (by rw [(congrArg nI e136_0)]; rfl) (by decide) ?_
                      refine hr_aload0 (q := 177) X dX5_says_176 rfl ?_
                      refine hr_getR (v := am 14) (q := 180) X dX5_says_177 rfl fr_q1396_5 rfl hR.om (hR.f rfl) ?_
                      refine hr_iload3 (q := 181) X dX5_says_180 rfl ?_
                      refine hr_ialdN (v := (nI (A.1.1 14 (A.1.1 21 (iN a1))))) (q := 182) X dX5_says_181 rfl (hR.ka (n := 7) rfl rfl rfl) (Or.inl rfl) (by omega) (by decide) ((hR.ar rfl _).trans (hA.p (by decide) (by decide) (by omega))) ?_
                      have b181 := hW.w.b14 (show A.1.1 21 (iN a1) < 7 by omega)
                      exact hr_iret X hr dX5_says_182 (tw_end (by rw [sq_says, if_pos c5, if_neg c9, if_pos c15, if_neg (show ¬ ((A.1.1 18 (iN a1)) = 1) by omega), if_neg (show ¬ ((A.1.1 18 (iN a1)) = 0) by omega), if_pos (show (iN a2) = 1 by omega), if_pos (show (A.1.1 9 (A.1.1 21 (iN a1))) = 2 by omega), if_neg (show ¬ ((iN a2) = 0) by omega), if_pos (show (iN a2) = (A.1.1 9 (A.1.1 21 (iN a1))) by omega), if_pos e136_0]) hR hA)
                    by_cases e136_1 : (iN a2) = 1
                    · refine hr_tableIn (off := 47) (tgt := 183) X dX5_says_136 (by rw [(congrArg nI e136_1)]; decide) (by rw [(congrArg nI e136_1)]; decide) (by rw [(congrArg nI e136_1)]; rfl) (by decide) ?_
                      refine hr_aload0 (q := 184) X dX5_says_183 rfl ?_
                      refine hr_iload3 (q := 185) X dX5_says_184 rfl ?_
                      refine hr_callP (q := 188) (hc_V (n := 1) (ci := 5) (As := [.int (nI (A.1.1 21 (iN a1)))]) X dX5_says_185 rfl (tk_shows X.tr hR hA.t hw (x := A.1.1 21 (iN a1)) (by omega)) q1555 cv_X5_shows ⟨Nat.le_of_ble_eq_true rfl, Nat.le_of_ble_eq_true rfl⟩ rfl (Nat.le_of_ble_eq_true rfl) hR.om rfl rfl) rfl ?_
                      have := sp_shows_lt (t := A.1) hw (x := (A.1.1 21 (iN a1))) (by omega)
                      exact hr_iret X hr dX5_says_188 (tw_end (by rw [sq_says, if_pos c5, if_neg c9, if_pos c15, if_neg (show ¬ ((A.1.1 18 (iN a1)) = 1) by omega), if_neg (show ¬ ((A.1.1 18 (iN a1)) = 0) by omega), if_pos (show (iN a2) = 1 by omega), if_pos (show (A.1.1 9 (A.1.1 21 (iN a1))) = 2 by omega), if_neg (show ¬ ((iN a2) = 0) by omega), if_pos (show (iN a2) = (A.1.1 9 (A.1.1 21 (iN a1))) by omega), if_neg e136_0, if_pos e136_1]) hR hA)
                    by_cases e136_2 : (iN a2) = 2
                    · refine hr_tableIn (off := 47) (tgt := 183) X dX5_says_136 (by rw [(congrArg nI e136_2)]; decide) (by rw [(congrArg nI e136_2)]; decide) (by rw [(congrArg nI e136_2)]; rfl) (by decide) ?_
                      refine hr_aload0 (q := 184) X dX5_says_183 rfl ?_
                      refine hr_iload3 (q := 185) X dX5_says_184 rfl ?_
                      refine hr_callP (q := 188) (hc_V (n := 1) (ci := 5) (As := [.int (nI (A.1.1 21 (iN a1)))]) X dX5_says_185 rfl (tk_shows X.tr hR hA.t hw (x := A.1.1 21 (iN a1)) (by omega)) q1555 cv_X5_shows ⟨Nat.le_of_ble_eq_true rfl, Nat.le_of_ble_eq_true rfl⟩ rfl (Nat.le_of_ble_eq_true rfl) hR.om rfl rfl) rfl ?_
                      have := sp_shows_lt (t := A.1) hw (x := (A.1.1 21 (iN a1))) (by omega)
                      exact hr_iret X hr dX5_says_188 (tw_end (by rw [sq_says, if_pos c5, if_neg c9, if_pos c15, if_neg (show ¬ ((A.1.1 18 (iN a1)) = 1) by omega), if_neg (show ¬ ((A.1.1 18 (iN a1)) = 0) by omega), if_pos (show (iN a2) = 1 by omega), if_pos (show (A.1.1 9 (A.1.1 21 (iN a1))) = 2 by omega), if_neg (show ¬ ((iN a2) = 0) by omega), if_pos (show (iN a2) = (A.1.1 9 (A.1.1 21 (iN a1))) by omega), if_neg e136_0, if_neg e136_1, if_pos e136_2]) hR hA)
                    by_cases e136_3 : (iN a2) = 3
                    · refine hr_tableIn (off := 53) (tgt := 189) X dX5_says_136 (by rw [(congrArg nI e136_3)]; decide) (by rw [(congrArg nI e136_3)]; decide) (by rw [(congrArg nI e136_3)]; rfl) (by decide) ?_
                      refine hr_aload0 (q := 190) X dX5_says_189 rfl ?_
                      refine hr_getR (v := am 13) (q := 193) X dX5_says_190 rfl fr_q1395_5 rfl hR.om (hR.f rfl) ?_
                      refine hr_iload3 (q := 194) X dX5_says_193 rfl ?_
                      refine hr_ialdN (v := (nI (A.1.1 13 (A.1.1 21 (iN a1))))) (q := 195) X dX5_says_194 rfl (hR.ka (n := 7) rfl rfl rfl) (Or.inl rfl) (by omega) (by decide) ((hR.ar rfl _).trans (hA.p (by decide) (by decide) (by omega))) ?_
                      have b194 := hW.w.b13 (show A.1.1 21 (iN a1) < 7 by omega)
                      exact hr_iret X hr dX5_says_195 (tw_end (by rw [sq_says, if_pos c5, if_neg c9, if_pos c15, if_neg (show ¬ ((A.1.1 18 (iN a1)) = 1) by omega), if_neg (show ¬ ((A.1.1 18 (iN a1)) = 0) by omega), if_pos (show (iN a2) = 1 by omega), if_pos (show (A.1.1 9 (A.1.1 21 (iN a1))) = 2 by omega), if_neg (show ¬ ((iN a2) = 0) by omega), if_pos (show (iN a2) = (A.1.1 9 (A.1.1 21 (iN a1))) by omega), if_neg e136_0, if_neg e136_1, if_neg e136_2, if_pos e136_3]) hR hA)
                    by_cases e136_4 : (iN a2) = 4
                    · refine hr_tableIn (off := 60) (tgt := 196) X dX5_says_136 (by rw [(congrArg nI e136_4)]; decide) (by rw [(congrArg nI e136_4)]; decide) (by rw [(congrArg nI e136_4)]; rfl) (by decide) ?_
                      refine hr_aload0 (q := 197) X dX5_says_196 rfl ?_
                      refine hr_getR (v := am 12) (q := 200) X dX5_says_197 rfl fr_q1394_5 rfl hR.om (hR.f rfl) ?_
                      refine hr_iload3 (q := 201) X dX5_says_200 rfl ?_
                      refine hr_ialdN (v := (nI (A.1.1 12 (A.1.1 21 (iN a1))))) (q := 202) X dX5_says_201 rfl (hR.ka (n := 7) rfl rfl rfl) (Or.inl rfl) (by omega) (by decide) ((hR.ar rfl _).trans (hA.p (by decide) (by decide) (by omega))) ?_
                      have b201 := hW.w.b12 (show A.1.1 21 (iN a1) < 7 by omega)
                      exact hr_iret X hr dX5_says_202 (tw_end (by rw [sq_says, if_pos c5, if_neg c9, if_pos c15, if_neg (show ¬ ((A.1.1 18 (iN a1)) = 1) by omega), if_neg (show ¬ ((A.1.1 18 (iN a1)) = 0) by omega), if_pos (show (iN a2) = 1 by omega), if_pos (show (A.1.1 9 (A.1.1 21 (iN a1))) = 2 by omega), if_neg (show ¬ ((iN a2) = 0) by omega), if_pos (show (iN a2) = (A.1.1 9 (A.1.1 21 (iN a1))) by omega), if_neg e136_0, if_neg e136_1, if_neg e136_2, if_neg e136_3, if_pos e136_4]) hR hA)
                    by_cases e136_5 : (iN a2) = 5
                    · refine hr_tableIn (off := 53) (tgt := 189) X dX5_says_136 (by rw [(congrArg nI e136_5)]; decide) (by rw [(congrArg nI e136_5)]; decide) (by rw [(congrArg nI e136_5)]; rfl) (by decide) ?_
                      refine hr_aload0 (q := 190) X dX5_says_189 rfl ?_
                      refine hr_getR (v := am 13) (q := 193) X dX5_says_190 rfl fr_q1395_5 rfl hR.om (hR.f rfl) ?_
                      refine hr_iload3 (q := 194) X dX5_says_193 rfl ?_
                      refine hr_ialdN (v := (nI (A.1.1 13 (A.1.1 21 (iN a1))))) (q := 195) X dX5_says_194 rfl (hR.ka (n := 7) rfl rfl rfl) (Or.inl rfl) (by omega) (by decide) ((hR.ar rfl _).trans (hA.p (by decide) (by decide) (by omega))) ?_
                      have b194 := hW.w.b13 (show A.1.1 21 (iN a1) < 7 by omega)
                      exact hr_iret X hr dX5_says_195 (tw_end (by rw [sq_says, if_pos c5, if_neg c9, if_pos c15, if_neg (show ¬ ((A.1.1 18 (iN a1)) = 1) by omega), if_neg (show ¬ ((A.1.1 18 (iN a1)) = 0) by omega), if_pos (show (iN a2) = 1 by omega), if_pos (show (A.1.1 9 (A.1.1 21 (iN a1))) = 2 by omega), if_neg (show ¬ ((iN a2) = 0) by omega), if_pos (show (iN a2) = (A.1.1 9 (A.1.1 21 (iN a1))) by omega), if_neg e136_0, if_neg e136_1, if_neg e136_2, if_neg e136_3, if_neg e136_4, if_pos e136_5]) hR hA)
                    refine hr_tableOut (tgt := 196) X dX5_says_136 (sp_out (n := 6) (by decide) (fun i hi => by match i, hi with | 0, _ => exact (fun z => e136_0 ((nI_eq (by omega) (by omega)).mp z)) | 1, _ => exact (fun z => e136_1 ((nI_eq (by omega) (by omega)).mp z)) | 2, _ => exact (fun z => e136_2 ((nI_eq (by omega) (by omega)).mp z)) | 3, _ => exact (fun z => e136_3 ((nI_eq (by omega) (by omega)).mp z)) | 4, _ => exact (fun z => e136_4 ((nI_eq (by omega) (by omega)).mp z)) | 5, _ => exact (fun z => e136_5 ((nI_eq (by omega) (by omega)).mp z)) | (k + 6), hi => omega)) (by decide) ?_
                    refine hr_aload0 (q := 197) X dX5_says_196 rfl ?_
                    refine hr_getR (v := am 12) (q := 200) X dX5_says_197 rfl fr_q1394_5 rfl hR.om (hR.f rfl) ?_
                    refine hr_iload3 (q := 201) X dX5_says_200 rfl ?_
                    refine hr_ialdN (v := (nI (A.1.1 12 (A.1.1 21 (iN a1))))) (q := 202) X dX5_says_201 rfl (hR.ka (n := 7) rfl rfl rfl) (Or.inl rfl) (by omega) (by decide) ((hR.ar rfl _).trans (hA.p (by decide) (by decide) (by omega))) ?_
                    have b201 := hW.w.b12 (show A.1.1 21 (iN a1) < 7 by omega)
                    exact hr_iret X hr dX5_says_202 (tw_end (by rw [sq_says, if_pos c5, if_neg c9, if_pos c15, if_neg (show ¬ ((A.1.1 18 (iN a1)) = 1) by omega), if_neg (show ¬ ((A.1.1 18 (iN a1)) = 0) by omega), if_pos (show (iN a2) = 1 by omega), if_pos (show (A.1.1 9 (A.1.1 21 (iN a1))) = 2 by omega), if_neg (show ¬ ((iN a2) = 0) by omega), if_pos (show (iN a2) = (A.1.1 9 (A.1.1 21 (iN a1))) by omega), if_neg e136_0, if_neg e136_1, if_neg e136_2, if_neg e136_3, if_neg e136_4, if_neg e136_5]) hR hA)
                  · refine hr_iload5 (q := 125) X dX5_says_123 rfl ?_
                    refine hr_if_ne (q := 128) (tgt := 135) X dX5_says_125 rfl (by decide) (fun _ => ?_) (fun z => absurd z (by decide))
                    refine hr_iload2 (q := 136) X dX5_says_135 rfl ?_
                    by_cases e136_0 : (iN a2) = 0
                    · refine hr_tableIn (off := 40) (tgt := 176) X dX5_says_136 (by rw [(congrArg nI e136_0)]; decide) (by rw [(congrArg nI e136_0)]; decide) (by rw [(congrArg nI e136_0)]; rfl) (by decide) ?_
                      refine hr_aload0 (q := 177) X dX5_says_176 rfl ?_
                      refine hr_getR (v := am 14) (q := 180) X dX5_says_177 rfl fr_q1396_5 rfl hR.om (hR.f rfl) ?_
                      refine hr_iload3 (q := 181) X dX5_says_180 rfl ?_
                      refine hr_ialdN (v := (nI (A.1.1 14 (A.1.1 21 (iN a1))))) (q := 182) X dX5_says_181 rfl (hR.ka (n := 7) rfl rfl rfl) (Or.inl rfl) (by omega) (by decide) ((hR.ar rfl _).trans (hA.p (by decide) (by decide) (by omega))) ?_
                      have b181 := hW.w.b14 (show A.1.1 21 (iN a1) < 7 by omega)
                      exact hr_iret X hr dX5_says_182 (tw_end (by rw [sq_says, if_pos c5, if_neg c9, if_pos c15, if_neg (show ¬ ((A.1.1 18 (iN a1)) = 1) by omega), if_neg (show ¬ ((A.1.1 18 (iN a1)) = 0) by omega), if_pos (show (iN a2) = 1 by omega), if_pos (show (A.1.1 9 (A.1.1 21 (iN a1))) = 2 by omega), if_neg (show ¬ ((iN a2) = 0) by omega), if_neg (show ¬ ((iN a2) = (A.1.1 9 (A.1.1 21 (iN a1)))) by omega), if_pos e136_0]) hR hA)
                    by_cases e136_1 : (iN a2) = 1
                    · refine hr_tableIn (off := 47) (tgt := 183) X dX5_says_136 (by rw [(congrArg nI e136_1)]; decide) (by rw [(congrArg nI e136_1)]; decide) (by rw [(congrArg nI e136_1)]; rfl) (by decide) ?_
                      refine hr_aload0 (q := 184) X dX5_says_183 rfl ?_
                      refine hr_iload3 (q := 185) X dX5_says_184 rfl ?_
                      refine hr_callP (q := 188) (hc_V (n := 1) (ci := 5) (As := [.int (nI (A.1.1 21 (iN a1)))]) X dX5_says_185 rfl (tk_shows X.tr hR hA.t hw (x := A.1.1 21 (iN a1)) (by omega)) q1555 cv_X5_shows ⟨Nat.le_of_ble_eq_true rfl, Nat.le_of_ble_eq_true rfl⟩ rfl (Nat.le_of_ble_eq_true rfl) hR.om rfl rfl) rfl ?_
                      have := sp_shows_lt (t := A.1) hw (x := (A.1.1 21 (iN a1))) (by omega)
                      exact hr_iret X hr dX5_says_188 (tw_end (by rw [sq_says, if_pos c5, if_neg c9, if_pos c15, if_neg (show ¬ ((A.1.1 18 (iN a1)) = 1) by omega), if_neg (show ¬ ((A.1.1 18 (iN a1)) = 0) by omega), if_pos (show (iN a2) = 1 by omega), if_pos (show (A.1.1 9 (A.1.1 21 (iN a1))) = 2 by omega), if_neg (show ¬ ((iN a2) = 0) by omega), if_neg (show ¬ ((iN a2) = (A.1.1 9 (A.1.1 21 (iN a1)))) by omega), if_neg e136_0, if_pos e136_1]) hR hA)
                    by_cases e136_2 : (iN a2) = 2
                    · refine hr_tableIn (off := 47) (tgt := 183) X dX5_says_136 (by rw [(congrArg nI e136_2)]; decide) (by rw [(congrArg nI e136_2)]; decide) (by rw [(congrArg nI e136_2)]; rfl) (by decide) ?_
                      refine hr_aload0 (q := 184) X dX5_says_183 rfl ?_
                      refine hr_iload3 (q := 185) X dX5_says_184 rfl ?_
                      refine hr_callP (q := 188) (hc_V (n := 1) (ci := 5) (As := [.int (nI (A.1.1 21 (iN a1)))]) X dX5_says_185 rfl (tk_shows X.tr hR hA.t hw (x := A.1.1 21 (iN a1)) (by omega)) q1555 cv_X5_shows ⟨Nat.le_of_ble_eq_true rfl, Nat.le_of_ble_eq_true rfl⟩ rfl (Nat.le_of_ble_eq_true rfl) hR.om rfl rfl) rfl ?_
                      have := sp_shows_lt (t := A.1) hw (x := (A.1.1 21 (iN a1))) (by omega)
                      exact hr_iret X hr dX5_says_188 (tw_end (by rw [sq_says, if_pos c5, if_neg c9, if_pos c15, if_neg (show ¬ ((A.1.1 18 (iN a1)) = 1) by omega), if_neg (show ¬ ((A.1.1 18 (iN a1)) = 0) by omega), if_pos (show (iN a2) = 1 by omega), if_pos (show (A.1.1 9 (A.1.1 21 (iN a1))) = 2 by omega), if_neg (show ¬ ((iN a2) = 0) by omega), if_neg (show ¬ ((iN a2) = (A.1.1 9 (A.1.1 21 (iN a1)))) by omega), if_neg e136_0, if_neg e136_1, if_pos e136_2]) hR hA)
                    by_cases e136_3 : (iN a2) = 3
                    · refine hr_tableIn (off := 53) (tgt := 189) X dX5_says_136 (by rw [(congrArg nI e136_3)]; decide) (by rw [(congrArg nI e136_3)]; decide) (by rw [(congrArg nI e136_3)]; rfl) (by decide) ?_
                      refine hr_aload0 (q := 190) X dX5_says_189 rfl ?_
                      refine hr_getR (v := am 13) (q := 193) X dX5_says_190 rfl fr_q1395_5 rfl hR.om (hR.f rfl) ?_
                      refine hr_iload3 (q := 194) X dX5_says_193 rfl ?_
                      refine hr_ialdN (v := (nI (A.1.1 13 (A.1.1 21 (iN a1))))) (q := 195) X dX5_says_194 rfl (hR.ka (n := 7) rfl rfl rfl) (Or.inl rfl) (by omega) (by decide) ((hR.ar rfl _).trans (hA.p (by decide) (by decide) (by omega))) ?_
                      have b194 := hW.w.b13 (show A.1.1 21 (iN a1) < 7 by omega)
                      exact hr_iret X hr dX5_says_195 (tw_end (by rw [sq_says, if_pos c5, if_neg c9, if_pos c15, if_neg (show ¬ ((A.1.1 18 (iN a1)) = 1) by omega), if_neg (show ¬ ((A.1.1 18 (iN a1)) = 0) by omega), if_pos (show (iN a2) = 1 by omega), if_pos (show (A.1.1 9 (A.1.1 21 (iN a1))) = 2 by omega), if_neg (show ¬ ((iN a2) = 0) by omega), if_neg (show ¬ ((iN a2) = (A.1.1 9 (A.1.1 21 (iN a1)))) by omega), if_neg e136_0, if_neg e136_1, if_neg e136_2, if_pos e136_3]) hR hA)
                    by_cases e136_4 : (iN a2) = 4
                    · refine hr_tableIn (off := 60) (tgt := 196) X dX5_says_136 (by rw [(congrArg nI e136_4)]; decide) (by rw [(congrArg nI e136_4)]; decide) (by rw [(congrArg nI e136_4)]; rfl) (by decide) ?_
                      refine hr_aload0 (q := 197) X dX5_says_196 rfl ?_
                      refine hr_getR (v := am 12) (q := 200) X dX5_says_197 rfl fr_q1394_5 rfl hR.om (hR.f rfl) ?_
                      refine hr_iload3 (q := 201) X dX5_says_200 rfl ?_
                      refine hr_ialdN (v := (nI (A.1.1 12 (A.1.1 21 (iN a1))))) (q := 202) X dX5_says_201 rfl (hR.ka (n := 7) rfl rfl rfl) (Or.inl rfl) (by omega) (by decide) ((hR.ar rfl _).trans (hA.p (by decide) (by decide) (by omega))) ?_
                      have b201 := hW.w.b12 (show A.1.1 21 (iN a1) < 7 by omega)
                      exact hr_iret X hr dX5_says_202 (tw_end (by rw [sq_says, if_pos c5, if_neg c9, if_pos c15, if_neg (show ¬ ((A.1.1 18 (iN a1)) = 1) by omega), if_neg (show ¬ ((A.1.1 18 (iN a1)) = 0) by omega), if_pos (show (iN a2) = 1 by omega), if_pos (show (A.1.1 9 (A.1.1 21 (iN a1))) = 2 by omega), if_neg (show ¬ ((iN a2) = 0) by omega), if_neg (show ¬ ((iN a2) = (A.1.1 9 (A.1.1 21 (iN a1)))) by omega), if_neg e136_0, if_neg e136_1, if_neg e136_2, if_neg e136_3, if_pos e136_4]) hR hA)
                    by_cases e136_5 : (iN a2) = 5
                    · refine hr_tableIn (off := 53) (tgt := 189) X dX5_says_136 (by rw [(congrArg nI e136_5)]; decide) (by rw [(congrArg nI e136_5)]; decide) (by rw [(congrArg nI e136_5)]; rfl) (by decide) ?_
                      refine hr_aload0 (q := 190) X dX5_says_189 rfl ?_
                      refine hr_getR (v := am 13) (q := 193) X dX5_says_190 rfl fr_q1395_5 rfl hR.om (hR.f rfl) ?_
                      refine hr_iload3 (q := 194) X dX5_says_193 rfl ?_
                      refine hr_ialdN (v := (nI (A.1.1 13 (A.1.1 21 (iN a1))))) (q := 195) X dX5_says_194 rfl (hR.ka (n := 7) rfl rfl rfl) (Or.inl rfl) (by omega) (by decide) ((hR.ar rfl _).trans (hA.p (by decide) (by decide) (by omega))) ?_
                      have b194 := hW.w.b13 (show A.1.1 21 (iN a1) < 7 by omega)
                      exact hr_iret X hr dX5_says_195 (tw_end (by rw [sq_says, if_pos c5, if_neg c9, if_pos c15, if_neg (show ¬ ((A.1.1 18 (iN a1)) = 1) by omega), if_neg (show ¬ ((A.1.1 18 (iN a1)) = 0) by omega), if_pos (show (iN a2) = 1 by omega), if_pos (show (A.1.1 9 (A.1.1 21 (iN a1))) = 2 by omega), if_neg (show ¬ ((iN a2) = 0) by omega), if_neg (show ¬ ((iN a2) = (A.1.1 9 (A.1.1 21 (iN a1)))) by omega), if_neg e136_0, if_neg e136_1, if_neg e136_2, if_neg e136_3, if_neg e136_4, if_pos e136_5]) hR hA)
                    refine hr_tableOut (tgt := 196) X dX5_says_136 (sp_out (n := 6) (by decide) (fun i hi => by match i, hi with | 0, _ => exact (fun z => e136_0 ((nI_eq (by omega) (by omega)).mp z)) | 1, _ => exact (fun z => e136_1 ((nI_eq (by omega) (by omega)).mp z)) | 2, _ => exact (fun z => e136_2 ((nI_eq (by omega) (by omega)).mp z)) | 3, _ => exact (fun z => e136_3 ((nI_eq (by omega) (by omega)).mp z)) | 4, _ => exact (fun z => e136_4 ((nI_eq (by omega) (by omega)).mp z)) | 5, _ => exact (fun z => e136_5 ((nI_eq (by omega) (by omega)).mp z)) | (k + 6), hi => omega)) (by decide) ?_
                    refine hr_aload0 (q := 197) X dX5_says_196 rfl ?_
                    refine hr_getR (v := am 12) (q := 200) X dX5_says_197 rfl fr_q1394_5 rfl hR.om (hR.f rfl) ?_
                    refine hr_iload3 (q := 201) X dX5_says_200 rfl ?_
                    refine hr_ialdN (v := (nI (A.1.1 12 (A.1.1 21 (iN a1))))) (q := 202) X dX5_says_201 rfl (hR.ka (n := 7) rfl rfl rfl) (Or.inl rfl) (by omega) (by decide) ((hR.ar rfl _).trans (hA.p (by decide) (by decide) (by omega))) ?_
                    have b201 := hW.w.b12 (show A.1.1 21 (iN a1) < 7 by omega)
                    exact hr_iret X hr dX5_says_202 (tw_end (by rw [sq_says, if_pos c5, if_neg c9, if_pos c15, if_neg (show ¬ ((A.1.1 18 (iN a1)) = 1) by omega), if_neg (show ¬ ((A.1.1 18 (iN a1)) = 0) by omega), if_pos (show (iN a2) = 1 by omega), if_pos (show (A.1.1 9 (A.1.1 21 (iN a1))) = 2 by omega), if_neg (show ¬ ((iN a2) = 0) by omega), if_neg (show ¬ ((iN a2) = (A.1.1 9 (A.1.1 21 (iN a1)))) by omega), if_neg e136_0, if_neg e136_1, if_neg e136_2, if_neg e136_3, if_neg e136_4, if_neg e136_5]) hR hA)
              · refine hr_iload2 (q := 84) X dX5_says_83 rfl ?_
                refine hr_iconst (v := (nI 3)) (q := 85) X dX5_says_84 rfl rfl ?_
                refine hr_icmpN_ne (q := 88) (tgt := 94) X dX5_says_85 rfl (by decide) (by omega) (by omega) (fun c85 => ?_) (fun c85 => ?_)
                · refine hr_iload2 (q := 95) X dX5_says_94 rfl ?_
                  refine hr_iconst (v := (nI 4)) (q := 96) X dX5_says_95 rfl rfl ?_
                  refine hr_icmpN_ne (q := 99) (tgt := 110) X dX5_says_96 rfl (by decide) (by omega) (by omega) (fun c96 => ?_) (fun c96 => ?_)
                  · refine hr_iconst (v := (nI 0)) (q := 111) X dX5_says_110 rfl rfl ?_
                    refine hr_istore5 (q := 113) X dX5_says_111 rfl rfl (Nat.le_of_ble_eq_true rfl) ?_
                    refine hr_iload2 (q := 114) X dX5_says_113 rfl ?_
                    refine hr_ifN_eq (q := 117) (tgt := 135) X dX5_says_114 rfl (by decide) (by omega) (fun c114 => ?_) (fun c114 => ?_)
                    · refine hr_iload2 (q := 136) X dX5_says_135 rfl ?_
                      by_cases e136_0 : (iN a2) = 0
                      · refine hr_tableIn (off := 40) (tgt := 176) X dX5_says_136 (by rw [(congrArg nI e136_0)]; decide) (by rw [(congrArg nI e136_0)]; decide) (by rw [(congrArg nI e136_0)]; rfl) (by decide) ?_
                        refine hr_aload0 (q := 177) X dX5_says_176 rfl ?_
                        refine hr_getR (v := am 14) (q := 180) X dX5_says_177 rfl fr_q1396_5 rfl hR.om (hR.f rfl) ?_
                        refine hr_iload3 (q := 181) X dX5_says_180 rfl ?_
                        refine hr_ialdN (v := (nI (A.1.1 14 (A.1.1 21 (iN a1))))) (q := 182) X dX5_says_181 rfl (hR.ka (n := 7) rfl rfl rfl) (Or.inl rfl) (by omega) (by decide) ((hR.ar rfl _).trans (hA.p (by decide) (by decide) (by omega))) ?_
                        have b181 := hW.w.b14 (show A.1.1 21 (iN a1) < 7 by omega)
                        exact hr_iret X hr dX5_says_182 (tw_end (by rw [sq_says, if_pos c5, if_neg c9, if_pos c15, if_neg (show ¬ ((A.1.1 18 (iN a1)) = 1) by omega), if_neg (show ¬ ((A.1.1 18 (iN a1)) = 0) by omega), if_pos (show (iN a2) = 1 by omega), if_neg (show ¬ ((A.1.1 9 (A.1.1 21 (iN a1))) = 2) by omega), if_neg (show ¬ ((iN a2) = 3) by omega), if_neg (show ¬ ((iN a2) = 4) by omega), if_pos (show (iN a2) = 0 by omega), if_pos e136_0]) hR hA)
                      by_cases e136_1 : (iN a2) = 1
                      · refine hr_tableIn (off := 47) (tgt := 183) X dX5_says_136 (by rw [(congrArg nI e136_1)]; decide) (by rw [(congrArg nI e136_1)]; decide) (by rw [(congrArg nI e136_1)]; rfl) (by decide) ?_
                        refine hr_aload0 (q := 184) X dX5_says_183 rfl ?_
                        refine hr_iload3 (q := 185) X dX5_says_184 rfl ?_
                        refine hr_callP (q := 188) (hc_V (n := 1) (ci := 5) (As := [.int (nI (A.1.1 21 (iN a1)))]) X dX5_says_185 rfl (tk_shows X.tr hR hA.t hw (x := A.1.1 21 (iN a1)) (by omega)) q1555 cv_X5_shows ⟨Nat.le_of_ble_eq_true rfl, Nat.le_of_ble_eq_true rfl⟩ rfl (Nat.le_of_ble_eq_true rfl) hR.om rfl rfl) rfl ?_
                        have := sp_shows_lt (t := A.1) hw (x := (A.1.1 21 (iN a1))) (by omega)
                        exact hr_iret X hr dX5_says_188 (tw_end (by rw [sq_says, if_pos c5, if_neg c9, if_pos c15, if_neg (show ¬ ((A.1.1 18 (iN a1)) = 1) by omega), if_neg (show ¬ ((A.1.1 18 (iN a1)) = 0) by omega), if_pos (show (iN a2) = 1 by omega), if_neg (show ¬ ((A.1.1 9 (A.1.1 21 (iN a1))) = 2) by omega), if_neg (show ¬ ((iN a2) = 3) by omega), if_neg (show ¬ ((iN a2) = 4) by omega), if_pos (show (iN a2) = 0 by omega), if_neg e136_0, if_pos e136_1]) hR hA)
                      by_cases e136_2 : (iN a2) = 2
                      · refine hr_tableIn (off := 47) (tgt := 183) X dX5_says_136 (by rw [(congrArg nI e136_2)]; decide) (by rw [(congrArg nI e136_2)]; decide) (by rw [(congrArg nI e136_2)]; rfl) (by decide) ?_
                        refine hr_aload0 (q := 184) X dX5_says_183 rfl ?_
                        refine hr_iload3 (q := 185) X dX5_says_184 rfl ?_
                        refine hr_callP (q := 188) (hc_V (n := 1) (ci := 5) (As := [.int (nI (A.1.1 21 (iN a1)))]) X dX5_says_185 rfl (tk_shows X.tr hR hA.t hw (x := A.1.1 21 (iN a1)) (by omega)) q1555 cv_X5_shows ⟨Nat.le_of_ble_eq_true rfl, Nat.le_of_ble_eq_true rfl⟩ rfl (Nat.le_of_ble_eq_true rfl) hR.om rfl rfl) rfl ?_
                        have := sp_shows_lt (t := A.1) hw (x := (A.1.1 21 (iN a1))) (by omega)
                        exact hr_iret X hr dX5_says_188 (tw_end (by rw [sq_says, if_pos c5, if_neg c9, if_pos c15, if_neg (show ¬ ((A.1.1 18 (iN a1)) = 1) by omega), if_neg (show ¬ ((A.1.1 18 (iN a1)) = 0) by omega), if_pos (show (iN a2) = 1 by omega), if_neg (show ¬ ((A.1.1 9 (A.1.1 21 (iN a1))) = 2) by omega), if_neg (show ¬ ((iN a2) = 3) by omega), if_neg (show ¬ ((iN a2) = 4) by omega), if_pos (show (iN a2) = 0 by omega), if_neg e136_0, if_neg e136_1, if_pos e136_2]) hR hA)
                      by_cases e136_3 : (iN a2) = 3
                      · refine hr_tableIn (off := 53) (tgt := 189) X dX5_says_136 (by rw [(congrArg nI e136_3)]; decide) (by rw [(congrArg nI e136_3)]; decide) (by rw [(congrArg nI e136_3)]; rfl) (by decide) ?_
                        refine hr_aload0 (q := 190) X dX5_says_189 rfl ?_
                        refine hr_getR (v := am 13) (q := 193) X dX5_says_190 rfl fr_q1395_5 rfl hR.om (hR.f rfl) ?_
                        refine hr_iload3 (q := 194) X dX5_says_193 rfl ?_
                        refine hr_ialdN (v := (nI (A.1.1 13 (A.1.1 21 (iN a1))))) (q := 195) X dX5_says_194 rfl (hR.ka (n := 7) rfl rfl rfl) (Or.inl rfl) (by omega) (by decide) ((hR.ar rfl _).trans (hA.p (by decide) (by decide) (by omega))) ?_
                        have b194 := hW.w.b13 (show A.1.1 21 (iN a1) < 7 by omega)
                        exact hr_iret X hr dX5_says_195 (tw_end (by rw [sq_says, if_pos c5, if_neg c9, if_pos c15, if_neg (show ¬ ((A.1.1 18 (iN a1)) = 1) by omega), if_neg (show ¬ ((A.1.1 18 (iN a1)) = 0) by omega), if_pos (show (iN a2) = 1 by omega), if_neg (show ¬ ((A.1.1 9 (A.1.1 21 (iN a1))) = 2) by omega), if_neg (show ¬ ((iN a2) = 3) by omega), if_neg (show ¬ ((iN a2) = 4) by omega), if_pos (show (iN a2) = 0 by omega), if_neg e136_0, if_neg e136_1, if_neg e136_2, if_pos e136_3]) hR hA)
                      by_cases e136_4 : (iN a2) = 4
                      · refine hr_tableIn (off := 60) (tgt := 196) X dX5_says_136 (by rw [(congrArg nI e136_4)]; decide) (by rw [(congrArg nI e136_4)]; decide) (by rw [(congrArg nI e136_4)]; rfl) (by decide) ?_
                        refine hr_aload0 (q := 197) X dX5_says_196 rfl ?_
                        refine hr_getR (v := am 12) (q := 200) X dX5_says_197 rfl fr_q1394_5 rfl hR.om (hR.f rfl) ?_
                        refine hr_iload3 (q := 201) X dX5_says_200 rfl ?_
                        refine hr_ialdN (v := (nI (A.1.1 12 (A.1.1 21 (iN a1))))) (q := 202) X dX5_says_201 rfl (hR.ka (n := 7) rfl rfl rfl) (Or.inl rfl) (by omega) (by decide) ((hR.ar rfl _).trans (hA.p (by decide) (by decide) (by omega))) ?_
                        have b201 := hW.w.b12 (show A.1.1 21 (iN a1) < 7 by omega)
                        exact hr_iret X hr dX5_says_202 (tw_end (by rw [sq_says, if_pos c5, if_neg c9, if_pos c15, if_neg (show ¬ ((A.1.1 18 (iN a1)) = 1) by omega), if_neg (show ¬ ((A.1.1 18 (iN a1)) = 0) by omega), if_pos (show (iN a2) = 1 by omega), if_neg (show ¬ ((A.1.1 9 (A.1.1 21 (iN a1))) = 2) by omega), if_neg (show ¬ ((iN a2) = 3) by omega), if_neg (show ¬ ((iN a2) = 4) by omega), if_pos (show (iN a2) = 0 by omega), if_neg e136_0, if_neg e136_1, if_neg e136_2, if_neg e136_3, if_pos e136_4]) hR hA)
                      by_cases e136_5 : (iN a2) = 5
                      · refine hr_tableIn (off := 53) (tgt := 189) X dX5_says_136 (by rw [(congrArg nI e136_5)]; decide) (by rw [(congrArg nI e136_5)]; decide) (by rw [(congrArg nI e136_5)]; rfl) (by decide) ?_
                        refine hr_aload0 (q := 190) X dX5_says_189 rfl ?_
                        refine hr_getR (v := am 13) (q := 193) X dX5_says_190 rfl fr_q1395_5 rfl hR.om (hR.f rfl) ?_
                        refine hr_iload3 (q := 194) X dX5_says_193 rfl ?_
                        refine hr_ialdN (v := (nI (A.1.1 13 (A.1.1 21 (iN a1))))) (q := 195) X dX5_says_194 rfl (hR.ka (n := 7) rfl rfl rfl) (Or.inl rfl) (by omega) (by decide) ((hR.ar rfl _).trans (hA.p (by decide) (by decide) (by omega))) ?_
                        have b194 := hW.w.b13 (show A.1.1 21 (iN a1) < 7 by omega)
                        exact hr_iret X hr dX5_says_195 (tw_end (by rw [sq_says, if_pos c5, if_neg c9, if_pos c15, if_neg (show ¬ ((A.1.1 18 (iN a1)) = 1) by omega), if_neg (show ¬ ((A.1.1 18 (iN a1)) = 0) by omega), if_pos (show (iN a2) = 1 by omega), if_neg (show ¬ ((A.1.1 9 (A.1.1 21 (iN a1))) = 2) by omega), if_neg (show ¬ ((iN a2) = 3) by omega), if_neg (show ¬ ((iN a2) = 4) by omega), if_pos (show (iN a2) = 0 by omega), if_neg e136_0, if_neg e136_1, if_neg e136_2, if_neg e136_3, if_neg e136_4, if_pos e136_5]) hR hA)
                      refine hr_tableOut (tgt := 196) X dX5_says_136 (sp_out (n := 6) (by decide) (fun i hi => by match i, hi with | 0, _ => exact (fun z => e136_0 ((nI_eq (by omega) (by omega)).mp z)) | 1, _ => exact (fun z => e136_1 ((nI_eq (by omega) (by omega)).mp z)) | 2, _ => exact (fun z => e136_2 ((nI_eq (by omega) (by omega)).mp z)) | 3, _ => exact (fun z => e136_3 ((nI_eq (by omega) (by omega)).mp z)) | 4, _ => exact (fun z => e136_4 ((nI_eq (by omega) (by omega)).mp z)) | 5, _ => exact (fun z => e136_5 ((nI_eq (by omega) (by omega)).mp z)) | (k + 6), hi => omega)) (by decide) ?_
                      refine hr_aload0 (q := 197) X dX5_says_196 rfl ?_
                      refine hr_getR (v := am 12) (q := 200) X dX5_says_197 rfl fr_q1394_5 rfl hR.om (hR.f rfl) ?_
                      refine hr_iload3 (q := 201) X dX5_says_200 rfl ?_
                      refine hr_ialdN (v := (nI (A.1.1 12 (A.1.1 21 (iN a1))))) (q := 202) X dX5_says_201 rfl (hR.ka (n := 7) rfl rfl rfl) (Or.inl rfl) (by omega) (by decide) ((hR.ar rfl _).trans (hA.p (by decide) (by decide) (by omega))) ?_
                      have b201 := hW.w.b12 (show A.1.1 21 (iN a1) < 7 by omega)
                      exact hr_iret X hr dX5_says_202 (tw_end (by rw [sq_says, if_pos c5, if_neg c9, if_pos c15, if_neg (show ¬ ((A.1.1 18 (iN a1)) = 1) by omega), if_neg (show ¬ ((A.1.1 18 (iN a1)) = 0) by omega), if_pos (show (iN a2) = 1 by omega), if_neg (show ¬ ((A.1.1 9 (A.1.1 21 (iN a1))) = 2) by omega), if_neg (show ¬ ((iN a2) = 3) by omega), if_neg (show ¬ ((iN a2) = 4) by omega), if_pos (show (iN a2) = 0 by omega), if_neg e136_0, if_neg e136_1, if_neg e136_2, if_neg e136_3, if_neg e136_4, if_neg e136_5]) hR hA)
                    · refine hr_iload2 (q := 118) X dX5_says_117 rfl ?_
                      refine hr_iload4 (q := 120) X dX5_says_118 rfl ?_
                      refine hr_icmpN_eq (q := 123) (tgt := 135) X dX5_says_120 rfl (by decide) (by omega) (by omega) (fun c120 => ?_) (fun c120 => ?_)
                      · refine hr_iload2 (q := 136) X dX5_says_135 rfl ?_
                        by_cases e136_0 : (iN a2) = 0
                        · refine hr_tableIn (off := 40) (tgt := 176) X dX5_says_136 (by rw [(congrArg nI e136_0)]; decide) (by rw [(congrArg nI e136_0)]; decide) (by rw [(congrArg nI e136_0)]; rfl) (by decide) ?_
                          refine hr_aload0 (q := 177) X dX5_says_176 rfl ?_
                          refine hr_getR (v := am 14) (q := 180) X dX5_says_177 rfl fr_q1396_5 rfl hR.om (hR.f rfl) ?_
                          refine hr_iload3 (q := 181) X dX5_says_180 rfl ?_
                          refine hr_ialdN (v := (nI (A.1.1 14 (A.1.1 21 (iN a1))))) (q := 182) X dX5_says_181 rfl (hR.ka (n := 7) rfl rfl rfl) (Or.inl rfl) (by omega) (by decide) ((hR.ar rfl _).trans (hA.p (by decide) (by decide) (by omega))) ?_
                          have b181 := hW.w.b14 (show A.1.1 21 (iN a1) < 7 by omega)
                          exact hr_iret X hr dX5_says_182 (tw_end (by rw [sq_says, if_pos c5, if_neg c9, if_pos c15, if_neg (show ¬ ((A.1.1 18 (iN a1)) = 1) by omega), if_neg (show ¬ ((A.1.1 18 (iN a1)) = 0) by omega), if_pos (show (iN a2) = 1 by omega), if_neg (show ¬ ((A.1.1 9 (A.1.1 21 (iN a1))) = 2) by omega), if_neg (show ¬ ((iN a2) = 3) by omega), if_neg (show ¬ ((iN a2) = 4) by omega), if_neg (show ¬ ((iN a2) = 0) by omega), if_pos (show (iN a2) = (A.1.1 9 (A.1.1 21 (iN a1))) by omega), if_pos e136_0]) hR hA)
                        by_cases e136_1 : (iN a2) = 1
                        · refine hr_tableIn (off := 47) (tgt := 183) X dX5_says_136 (by rw [(congrArg nI e136_1)]; decide) (by rw [(congrArg nI e136_1)]; decide) (by rw [(congrArg nI e136_1)]; rfl) (by decide) ?_
                          refine hr_aload0 (q := 184) X dX5_says_183 rfl ?_
                          refine hr_iload3 (q := 185) X dX5_says_184 rfl ?_
                          refine hr_callP (q := 188) (hc_V (n := 1) (ci := 5) (As := [.int (nI (A.1.1 21 (iN a1)))]) X dX5_says_185 rfl (tk_shows X.tr hR hA.t hw (x := A.1.1 21 (iN a1)) (by omega)) q1555 cv_X5_shows ⟨Nat.le_of_ble_eq_true rfl, Nat.le_of_ble_eq_true rfl⟩ rfl (Nat.le_of_ble_eq_true rfl) hR.om rfl rfl) rfl ?_
                          have := sp_shows_lt (t := A.1) hw (x := (A.1.1 21 (iN a1))) (by omega)
                          exact hr_iret X hr dX5_says_188 (tw_end (by rw [sq_says, if_pos c5, if_neg c9, if_pos c15, if_neg (show ¬ ((A.1.1 18 (iN a1)) = 1) by omega), if_neg (show ¬ ((A.1.1 18 (iN a1)) = 0) by omega), if_pos (show (iN a2) = 1 by omega), if_neg (show ¬ ((A.1.1 9 (A.1.1 21 (iN a1))) = 2) by omega), if_neg (show ¬ ((iN a2) = 3) by omega), if_neg (show ¬ ((iN a2) = 4) by omega), if_neg (show ¬ ((iN a2) = 0) by omega), if_pos (show (iN a2) = (A.1.1 9 (A.1.1 21 (iN a1))) by omega), if_neg e136_0, if_pos e136_1]) hR hA)
                        by_cases e136_2 : (iN a2) = 2
                        · refine hr_tableIn (off := 47) (tgt := 183) X dX5_says_136 (by rw [(congrArg nI e136_2)]; decide) (by rw [(congrArg nI e136_2)]; decide) (by rw [(congrArg nI e136_2)]; rfl) (by decide) ?_
                          refine hr_aload0 (q := 184) X dX5_says_183 rfl ?_
                          refine hr_iload3 (q := 185) X dX5_says_184 rfl ?_
                          refine hr_callP (q := 188) (hc_V (n := 1) (ci := 5) (As := [.int (nI (A.1.1 21 (iN a1)))]) X dX5_says_185 rfl (tk_shows X.tr hR hA.t hw (x := A.1.1 21 (iN a1)) (by omega)) q1555 cv_X5_shows ⟨Nat.le_of_ble_eq_true rfl, Nat.le_of_ble_eq_true rfl⟩ rfl (Nat.le_of_ble_eq_true rfl) hR.om rfl rfl) rfl ?_
                          have := sp_shows_lt (t := A.1) hw (x := (A.1.1 21 (iN a1))) (by omega)
                          exact hr_iret X hr dX5_says_188 (tw_end (by rw [sq_says, if_pos c5, if_neg c9, if_pos c15, if_neg (show ¬ ((A.1.1 18 (iN a1)) = 1) by omega), if_neg (show ¬ ((A.1.1 18 (iN a1)) = 0) by omega), if_pos (show (iN a2) = 1 by omega), if_neg (show ¬ ((A.1.1 9 (A.1.1 21 (iN a1))) = 2) by omega), if_neg (show ¬ ((iN a2) = 3) by omega), if_neg (show ¬ ((iN a2) = 4) by omega), if_neg (show ¬ ((iN a2) = 0) by omega), if_pos (show (iN a2) = (A.1.1 9 (A.1.1 21 (iN a1))) by omega), if_neg e136_0, if_neg e136_1, if_pos e136_2]) hR hA)
                        by_cases e136_3 : (iN a2) = 3
                        · refine hr_tableIn (off := 53) (tgt := 189) X dX5_says_136 (by rw [(congrArg nI e136_3)]; decide) (by rw [(congrArg nI e136_3)]; decide) (by rw [(congrArg nI e136_3)]; rfl) (by decide) ?_
                          refine hr_aload0 (q := 190) X dX5_says_189 rfl ?_
                          refine hr_getR (v := am 13) (q := 193) X dX5_says_190 rfl fr_q1395_5 rfl hR.om (hR.f rfl) ?_
                          refine hr_iload3 (q := 194) X dX5_says_193 rfl ?_
                          refine hr_ialdN (v := (nI (A.1.1 13 (A.1.1 21 (iN a1))))) (q := 195) X dX5_says_194 rfl (hR.ka (n := 7) rfl rfl rfl) (Or.inl rfl) (by omega) (by decide) ((hR.ar rfl _).trans (hA.p (by decide) (by decide) (by omega))) ?_
                          have b194 := hW.w.b13 (show A.1.1 21 (iN a1) < 7 by omega)
                          exact hr_iret X hr dX5_says_195 (tw_end (by rw [sq_says, if_pos c5, if_neg c9, if_pos c15, if_neg (show ¬ ((A.1.1 18 (iN a1)) = 1) by omega), if_neg (show ¬ ((A.1.1 18 (iN a1)) = 0) by omega), if_pos (show (iN a2) = 1 by omega), if_neg (show ¬ ((A.1.1 9 (A.1.1 21 (iN a1))) = 2) by omega), if_neg (show ¬ ((iN a2) = 3) by omega), if_neg (show ¬ ((iN a2) = 4) by omega), if_neg (show ¬ ((iN a2) = 0) by omega), if_pos (show (iN a2) = (A.1.1 9 (A.1.1 21 (iN a1))) by omega), if_neg e136_0, if_neg e136_1, if_neg e136_2, if_pos e136_3]) hR hA)
                        by_cases e136_4 : (iN a2) = 4
                        · refine hr_tableIn (off := 60) (tgt := 196) X dX5_says_136 (by rw [(congrArg nI e136_4)]; decide) (by rw [(congrArg nI e136_4)]; decide) (by rw [(congrArg nI e136_4)]; rfl) (by decide) ?_
                          refine hr_aload0 (q := 197) X dX5_says_196 rfl ?_
                          refine hr_getR (v := am 12) (q := 200) X dX5_says_197 rfl fr_q1394_5 rfl hR.om (hR.f rfl) ?_
                          refine hr_iload3 (q := 201) X dX5_says_200 rfl ?_
                          refine hr_ialdN (v := (nI (A.1.1 12 (A.1.1 21 (iN a1))))) (q := 202) X dX5_says_201 rfl (hR.ka (n := 7) rfl rfl rfl) (Or.inl rfl) (by omega) (by decide) ((hR.ar rfl _).trans (hA.p (by decide) (by decide) (by omega))) ?_
                          have b201 := hW.w.b12 (show A.1.1 21 (iN a1) < 7 by omega)
                          exact hr_iret X hr dX5_says_202 (tw_end (by rw [sq_says, if_pos c5, if_neg c9, if_pos c15, if_neg (show ¬ ((A.1.1 18 (iN a1)) = 1) by omega), if_neg (show ¬ ((A.1.1 18 (iN a1)) = 0) by omega), if_pos (show (iN a2) = 1 by omega), if_neg (show ¬ ((A.1.1 9 (A.1.1 21 (iN a1))) = 2) by omega), if_neg (show ¬ ((iN a2) = 3) by omega), if_neg (show ¬ ((iN a2) = 4) by omega), if_neg (show ¬ ((iN a2) = 0) by omega), if_pos (show (iN a2) = (A.1.1 9 (A.1.1 21 (iN a1))) by omega), if_neg e136_0, if_neg e136_1, if_neg e136_2, if_neg e136_3, if_pos e136_4]) hR hA)
                        by_cases e136_5 : (iN a2) = 5
                        · refine hr_tableIn (off := 53) (tgt := 189) X dX5_says_136 (by rw [(congrArg nI e136_5)]; decide) (by rw [(congrArg nI e136_5)]; decide) (by rw [(congrArg nI e136_5)]; rfl) (by decide) ?_
                          refine hr_aload0 (q := 190) X dX5_says_189 rfl ?_
                          refine hr_getR (v := am 13) (q := 193) X dX5_says_190 rfl fr_q1395_5 rfl hR.om (hR.f rfl) ?_
                          refine hr_iload3 (q := 194) X dX5_says_193 rfl ?_
                          refine hr_ialdN (v := (nI (A.1.1 13 (A.1.1 21 (iN a1))))) (q := 195) X dX5_says_194 rfl (hR.ka (n := 7) rfl rfl rfl) (Or.inl rfl) (by omega) (by decide) ((hR.ar rfl _).trans (hA.p (by decide) (by decide) (by omega))) ?_
                          have b194 := hW.w.b13 (show A.1.1 21 (iN a1) < 7 by omega)
                          exact hr_iret X hr dX5_says_195 (tw_end (by rw [sq_says, if_pos c5, if_neg c9, if_pos c15, if_neg (show ¬ ((A.1.1 18 (iN a1)) = 1) by omega), if_neg (show ¬ ((A.1.1 18 (iN a1)) = 0) by omega), if_pos (show (iN a2) = 1 by omega), if_neg (show ¬ ((A.1.1 9 (A.1.1 21 (iN a1))) = 2) by omega), if_neg (show ¬ ((iN a2) = 3) by omega), if_neg (show ¬ ((iN a2) = 4) by omega), if_neg (show ¬ ((iN a2) = 0) by omega), if_pos (show (iN a2) = (A.1.1 9 (A.1.1 21 (iN a1))) by omega), if_neg e136_0, if_neg e136_1, if_neg e136_2, if_neg e136_3, if_neg e136_4, if_pos e136_5]) hR hA)
                        refine hr_tableOut (tgt := 196) X dX5_says_136 (sp_out (n := 6) (by decide) (fun i hi => by match i, hi with | 0, _ => exact (fun z => e136_0 ((nI_eq (by omega) (by omega)).mp z)) | 1, _ => exact (fun z => e136_1 ((nI_eq (by omega) (by omega)).mp z)) | 2, _ => exact (fun z => e136_2 ((nI_eq (by omega) (by omega)).mp z)) | 3, _ => exact (fun z => e136_3 ((nI_eq (by omega) (by omega)).mp z)) | 4, _ => exact (fun z => e136_4 ((nI_eq (by omega) (by omega)).mp z)) | 5, _ => exact (fun z => e136_5 ((nI_eq (by omega) (by omega)).mp z)) | (k + 6), hi => omega)) (by decide) ?_
                        refine hr_aload0 (q := 197) X dX5_says_196 rfl ?_
                        refine hr_getR (v := am 12) (q := 200) X dX5_says_197 rfl fr_q1394_5 rfl hR.om (hR.f rfl) ?_
                        refine hr_iload3 (q := 201) X dX5_says_200 rfl ?_
                        refine hr_ialdN (v := (nI (A.1.1 12 (A.1.1 21 (iN a1))))) (q := 202) X dX5_says_201 rfl (hR.ka (n := 7) rfl rfl rfl) (Or.inl rfl) (by omega) (by decide) ((hR.ar rfl _).trans (hA.p (by decide) (by decide) (by omega))) ?_
                        have b201 := hW.w.b12 (show A.1.1 21 (iN a1) < 7 by omega)
                        exact hr_iret X hr dX5_says_202 (tw_end (by rw [sq_says, if_pos c5, if_neg c9, if_pos c15, if_neg (show ¬ ((A.1.1 18 (iN a1)) = 1) by omega), if_neg (show ¬ ((A.1.1 18 (iN a1)) = 0) by omega), if_pos (show (iN a2) = 1 by omega), if_neg (show ¬ ((A.1.1 9 (A.1.1 21 (iN a1))) = 2) by omega), if_neg (show ¬ ((iN a2) = 3) by omega), if_neg (show ¬ ((iN a2) = 4) by omega), if_neg (show ¬ ((iN a2) = 0) by omega), if_pos (show (iN a2) = (A.1.1 9 (A.1.1 21 (iN a1))) by omega), if_neg e136_0, if_neg e136_1, if_neg e136_2, if_neg e136_3, if_neg e136_4, if_neg e136_5]) hR hA)
                      · refine hr_iload5 (q := 125) X dX5_says_123 rfl ?_
                        refine hr_if_ne (q := 128) (tgt := 135) X dX5_says_125 rfl (by decide) (fun z => absurd z (by decide)) (fun _ => ?_)
                        refine hr_aload0 (q := 129) X dX5_says_128 rfl ?_
                        refine hr_bipush (v := (-2)) (q := 131) X dX5_says_129 rfl rfl ?_
                        refine hr_callT (q := 134) (hc_V (n := 1) (ci := 5) (As := [.int (-2)]) X dX5_says_131 rfl (tk_no X.tr hR hA (b := (-2)) (by decide)) q1523 cv_X5_no ⟨Nat.le_of_ble_eq_true rfl, Nat.le_of_ble_eq_true rfl⟩ rfl (Nat.le_of_ble_eq_true rfl) hR.om rfl rfl) rfl (fun G7 u7 hR7 hA7 => ?_)
                        exact hr_iret X hr dX5_says_134 (tw_end (by rw [sq_says, if_pos c5, if_neg c9, if_pos c15, if_neg (show ¬ ((A.1.1 18 (iN a1)) = 1) by omega), if_neg (show ¬ ((A.1.1 18 (iN a1)) = 0) by omega), if_pos (show (iN a2) = 1 by omega), if_neg (show ¬ ((A.1.1 9 (A.1.1 21 (iN a1))) = 2) by omega), if_neg (show ¬ ((iN a2) = 3) by omega), if_neg (show ¬ ((iN a2) = 4) by omega), if_neg (show ¬ ((iN a2) = 0) by omega), if_neg (show ¬ ((iN a2) = (A.1.1 9 (A.1.1 21 (iN a1)))) by omega)]) hR7 hA7)
                  · refine hr_iload4 (q := 101) X dX5_says_99 rfl ?_
                    refine hr_bipush (v := (nI 6)) (q := 103) X dX5_says_101 rfl rfl ?_
                    refine hr_icmpN_ne (q := 106) (tgt := 110) X dX5_says_103 rfl (by decide) (by omega) (by omega) (fun c103 => ?_) (fun c103 => ?_)
                    · refine hr_iconst (v := (nI 0)) (q := 111) X dX5_says_110 rfl rfl ?_
                      refine hr_istore5 (q := 113) X dX5_says_111 rfl rfl (Nat.le_of_ble_eq_true rfl) ?_
                      refine hr_iload2 (q := 114) X dX5_says_113 rfl ?_
                      refine hr_ifN_eq (q := 117) (tgt := 135) X dX5_says_114 rfl (by decide) (by omega) (fun c114 => ?_) (fun c114 => ?_)
                      · refine hr_iload2 (q := 136) X dX5_says_135 rfl ?_
                        by_cases e136_0 : (iN a2) = 0
                        · refine hr_tableIn (off := 40) (tgt := 176) X dX5_says_136 (by rw [(congrArg nI e136_0)]; decide) (by rw [(congrArg nI e136_0)]; decide) (by rw [(congrArg nI e136_0)]; rfl) (by decide) ?_
                          refine hr_aload0 (q := 177) X dX5_says_176 rfl ?_
                          refine hr_getR (v := am 14) (q := 180) X dX5_says_177 rfl fr_q1396_5 rfl hR.om (hR.f rfl) ?_
                          refine hr_iload3 (q := 181) X dX5_says_180 rfl ?_
                          refine hr_ialdN (v := (nI (A.1.1 14 (A.1.1 21 (iN a1))))) (q := 182) X dX5_says_181 rfl (hR.ka (n := 7) rfl rfl rfl) (Or.inl rfl) (by omega) (by decide) ((hR.ar rfl _).trans (hA.p (by decide) (by decide) (by omega))) ?_
                          have b181 := hW.w.b14 (show A.1.1 21 (iN a1) < 7 by omega)
                          exact hr_iret X hr dX5_says_182 (tw_end (by rw [sq_says, if_pos c5, if_neg c9, if_pos c15, if_neg (show ¬ ((A.1.1 18 (iN a1)) = 1) by omega), if_neg (show ¬ ((A.1.1 18 (iN a1)) = 0) by omega), if_pos (show (iN a2) = 1 by omega), if_neg (show ¬ ((A.1.1 9 (A.1.1 21 (iN a1))) = 2) by omega), if_neg (show ¬ ((iN a2) = 3) by omega), if_pos (show (iN a2) = 4 by omega), if_neg (show ¬ ((A.1.1 9 (A.1.1 21 (iN a1))) = 6) by omega), if_pos (show (iN a2) = 0 by omega), if_pos e136_0]) hR hA)
                        by_cases e136_1 : (iN a2) = 1
                        · refine hr_tableIn (off := 47) (tgt := 183) X dX5_says_136 (by rw [(congrArg nI e136_1)]; decide) (by rw [(congrArg nI e136_1)]; decide) (by rw [(congrArg nI e136_1)]; rfl) (by decide) ?_
                          refine hr_aload0 (q := 184) X dX5_says_183 rfl ?_
                          refine hr_iload3 (q := 185) X dX5_says_184 rfl ?_
                          refine hr_callP (q := 188) (hc_V (n := 1) (ci := 5) (As := [.int (nI (A.1.1 21 (iN a1)))]) X dX5_says_185 rfl (tk_shows X.tr hR hA.t hw (x := A.1.1 21 (iN a1)) (by omega)) q1555 cv_X5_shows ⟨Nat.le_of_ble_eq_true rfl, Nat.le_of_ble_eq_true rfl⟩ rfl (Nat.le_of_ble_eq_true rfl) hR.om rfl rfl) rfl ?_
                          have := sp_shows_lt (t := A.1) hw (x := (A.1.1 21 (iN a1))) (by omega)
                          exact hr_iret X hr dX5_says_188 (tw_end (by rw [sq_says, if_pos c5, if_neg c9, if_pos c15, if_neg (show ¬ ((A.1.1 18 (iN a1)) = 1) by omega), if_neg (show ¬ ((A.1.1 18 (iN a1)) = 0) by omega), if_pos (show (iN a2) = 1 by omega), if_neg (show ¬ ((A.1.1 9 (A.1.1 21 (iN a1))) = 2) by omega), if_neg (show ¬ ((iN a2) = 3) by omega), if_pos (show (iN a2) = 4 by omega), if_neg (show ¬ ((A.1.1 9 (A.1.1 21 (iN a1))) = 6) by omega), if_pos (show (iN a2) = 0 by omega), if_neg e136_0, if_pos e136_1]) hR hA)
                        by_cases e136_2 : (iN a2) = 2
                        · refine hr_tableIn (off := 47) (tgt := 183) X dX5_says_136 (by rw [(congrArg nI e136_2)]; decide) (by rw [(congrArg nI e136_2)]; decide) (by rw [(congrArg nI e136_2)]; rfl) (by decide) ?_
                          refine hr_aload0 (q := 184) X dX5_says_183 rfl ?_
                          refine hr_iload3 (q := 185) X dX5_says_184 rfl ?_
                          refine hr_callP (q := 188) (hc_V (n := 1) (ci := 5) (As := [.int (nI (A.1.1 21 (iN a1)))]) X dX5_says_185 rfl (tk_shows X.tr hR hA.t hw (x := A.1.1 21 (iN a1)) (by omega)) q1555 cv_X5_shows ⟨Nat.le_of_ble_eq_true rfl, Nat.le_of_ble_eq_true rfl⟩ rfl (Nat.le_of_ble_eq_true rfl) hR.om rfl rfl) rfl ?_
                          have := sp_shows_lt (t := A.1) hw (x := (A.1.1 21 (iN a1))) (by omega)
                          exact hr_iret X hr dX5_says_188 (tw_end (by rw [sq_says, if_pos c5, if_neg c9, if_pos c15, if_neg (show ¬ ((A.1.1 18 (iN a1)) = 1) by omega), if_neg (show ¬ ((A.1.1 18 (iN a1)) = 0) by omega), if_pos (show (iN a2) = 1 by omega), if_neg (show ¬ ((A.1.1 9 (A.1.1 21 (iN a1))) = 2) by omega), if_neg (show ¬ ((iN a2) = 3) by omega), if_pos (show (iN a2) = 4 by omega), if_neg (show ¬ ((A.1.1 9 (A.1.1 21 (iN a1))) = 6) by omega), if_pos (show (iN a2) = 0 by omega), if_neg e136_0, if_neg e136_1, if_pos e136_2]) hR hA)
                        by_cases e136_3 : (iN a2) = 3
                        · refine hr_tableIn (off := 53) (tgt := 189) X dX5_says_136 (by rw [(congrArg nI e136_3)]; decide) (by rw [(congrArg nI e136_3)]; decide) (by rw [(congrArg nI e136_3)]; rfl) (by decide) ?_
                          refine hr_aload0 (q := 190) X dX5_says_189 rfl ?_
                          refine hr_getR (v := am 13) (q := 193) X dX5_says_190 rfl fr_q1395_5 rfl hR.om (hR.f rfl) ?_
                          refine hr_iload3 (q := 194) X dX5_says_193 rfl ?_
                          refine hr_ialdN (v := (nI (A.1.1 13 (A.1.1 21 (iN a1))))) (q := 195) X dX5_says_194 rfl (hR.ka (n := 7) rfl rfl rfl) (Or.inl rfl) (by omega) (by decide) ((hR.ar rfl _).trans (hA.p (by decide) (by decide) (by omega))) ?_
                          have b194 := hW.w.b13 (show A.1.1 21 (iN a1) < 7 by omega)
                          exact hr_iret X hr dX5_says_195 (tw_end (by rw [sq_says, if_pos c5, if_neg c9, if_pos c15, if_neg (show ¬ ((A.1.1 18 (iN a1)) = 1) by omega), if_neg (show ¬ ((A.1.1 18 (iN a1)) = 0) by omega), if_pos (show (iN a2) = 1 by omega), if_neg (show ¬ ((A.1.1 9 (A.1.1 21 (iN a1))) = 2) by omega), if_neg (show ¬ ((iN a2) = 3) by omega), if_pos (show (iN a2) = 4 by omega), if_neg (show ¬ ((A.1.1 9 (A.1.1 21 (iN a1))) = 6) by omega), if_pos (show (iN a2) = 0 by omega), if_neg e136_0, if_neg e136_1, if_neg e136_2, if_pos e136_3]) hR hA)
                        by_cases e136_4 : (iN a2) = 4
                        · refine hr_tableIn (off := 60) (tgt := 196) X dX5_says_136 (by rw [(congrArg nI e136_4)]; decide) (by rw [(congrArg nI e136_4)]; decide) (by rw [(congrArg nI e136_4)]; rfl) (by decide) ?_
                          refine hr_aload0 (q := 197) X dX5_says_196 rfl ?_
                          refine hr_getR (v := am 12) (q := 200) X dX5_says_197 rfl fr_q1394_5 rfl hR.om (hR.f rfl) ?_
                          refine hr_iload3 (q := 201) X dX5_says_200 rfl ?_
                          refine hr_ialdN (v := (nI (A.1.1 12 (A.1.1 21 (iN a1))))) (q := 202) X dX5_says_201 rfl (hR.ka (n := 7) rfl rfl rfl) (Or.inl rfl) (by omega) (by decide) ((hR.ar rfl _).trans (hA.p (by decide) (by decide) (by omega))) ?_
                          have b201 := hW.w.b12 (show A.1.1 21 (iN a1) < 7 by omega)
                          exact hr_iret X hr dX5_says_202 (tw_end (by rw [sq_says, if_pos c5, if_neg c9, if_pos c15, if_neg (show ¬ ((A.1.1 18 (iN a1)) = 1) by omega), if_neg (show ¬ ((A.1.1 18 (iN a1)) = 0) by omega), if_pos (show (iN a2) = 1 by omega), if_neg (show ¬ ((A.1.1 9 (A.1.1 21 (iN a1))) = 2) by omega), if_neg (show ¬ ((iN a2) = 3) by omega), if_pos (show (iN a2) = 4 by omega), if_neg (show ¬ ((A.1.1 9 (A.1.1 21 (iN a1))) = 6) by omega), if_pos (show (iN a2) = 0 by omega), if_neg e136_0, if_neg e136_1, if_neg e136_2, if_neg e136_3, if_pos e136_4]) hR hA)
                        by_cases e136_5 : (iN a2) = 5
                        · refine hr_tableIn (off := 53) (tgt := 189) X dX5_says_136 (by rw [(congrArg nI e136_5)]; decide) (by rw [(congrArg nI e136_5)]; decide) (by rw [(congrArg nI e136_5)]; rfl) (by decide) ?_
                          refine hr_aload0 (q := 190) X dX5_says_189 rfl ?_
                          refine hr_getR (v := am 13) (q := 193) X dX5_says_190 rfl fr_q1395_5 rfl hR.om (hR.f rfl) ?_
                          refine hr_iload3 (q := 194) X dX5_says_193 rfl ?_
                          refine hr_ialdN (v := (nI (A.1.1 13 (A.1.1 21 (iN a1))))) (q := 195) X dX5_says_194 rfl (hR.ka (n := 7) rfl rfl rfl) (Or.inl rfl) (by omega) (by decide) ((hR.ar rfl _).trans (hA.p (by decide) (by decide) (by omega))) ?_
                          have b194 := hW.w.b13 (show A.1.1 21 (iN a1) < 7 by omega)
                          exact hr_iret X hr dX5_says_195 (tw_end (by rw [sq_says, if_pos c5, if_neg c9, if_pos c15, if_neg (show ¬ ((A.1.1 18 (iN a1)) = 1) by omega), if_neg (show ¬ ((A.1.1 18 (iN a1)) = 0) by omega), if_pos (show (iN a2) = 1 by omega), if_neg (show ¬ ((A.1.1 9 (A.1.1 21 (iN a1))) = 2) by omega), if_neg (show ¬ ((iN a2) = 3) by omega), if_pos (show (iN a2) = 4 by omega), if_neg (show ¬ ((A.1.1 9 (A.1.1 21 (iN a1))) = 6) by omega), if_pos (show (iN a2) = 0 by omega), if_neg e136_0, if_neg e136_1, if_neg e136_2, if_neg e136_3, if_neg e136_4, if_pos e136_5]) hR hA)
                        refine hr_tableOut (tgt := 196) X dX5_says_136 (sp_out (n := 6) (by decide) (fun i hi => by match i, hi with | 0, _ => exact (fun z => e136_0 ((nI_eq (by omega) (by omega)).mp z)) | 1, _ => exact (fun z => e136_1 ((nI_eq (by omega) (by omega)).mp z)) | 2, _ => exact (fun z => e136_2 ((nI_eq (by omega) (by omega)).mp z)) | 3, _ => exact (fun z => e136_3 ((nI_eq (by omega) (by omega)).mp z)) | 4, _ => exact (fun z => e136_4 ((nI_eq (by omega) (by omega)).mp z)) | 5, _ => exact (fun z => e136_5 ((nI_eq (by omega) (by omega)).mp z)) | (k + 6), hi => omega)) (by decide) ?_
                        refine hr_aload0 (q := 197) X dX5_says_196 rfl ?_
                        refine hr_getR (v := am 12) (q := 200) X dX5_says_197 rfl fr_q1394_5 rfl hR.om (hR.f rfl) ?_
                        refine hr_iload3 (q := 201) X dX5_says_200 rfl ?_
                        refine hr_ialdN (v := (nI (A.1.1 12 (A.1.1 21 (iN a1))))) (q := 202) X dX5_says_201 rfl (hR.ka (n := 7) rfl rfl rfl) (Or.inl rfl) (by omega) (by decide) ((hR.ar rfl _).trans (hA.p (by decide) (by decide) (by omega))) ?_
                        have b201 := hW.w.b12 (show A.1.1 21 (iN a1) < 7 by omega)
                        exact hr_iret X hr dX5_says_202 (tw_end (by rw [sq_says, if_pos c5, if_neg c9, if_pos c15, if_neg (show ¬ ((A.1.1 18 (iN a1)) = 1) by omega), if_neg (show ¬ ((A.1.1 18 (iN a1)) = 0) by omega), if_pos (show (iN a2) = 1 by omega), if_neg (show ¬ ((A.1.1 9 (A.1.1 21 (iN a1))) = 2) by omega), if_neg (show ¬ ((iN a2) = 3) by omega), if_pos (show (iN a2) = 4 by omega), if_neg (show ¬ ((A.1.1 9 (A.1.1 21 (iN a1))) = 6) by omega), if_pos (show (iN a2) = 0 by omega), if_neg e136_0, if_neg e136_1, if_neg e136_2, if_neg e136_3, if_neg e136_4, if_neg e136_5]) hR hA)
                      · refine hr_iload2 (q := 118) X dX5_says_117 rfl ?_
                        refine hr_iload4 (q := 120) X dX5_says_118 rfl ?_
                        refine hr_icmpN_eq (q := 123) (tgt := 135) X dX5_says_120 rfl (by decide) (by omega) (by omega) (fun c120 => ?_) (fun c120 => ?_)
                        · refine hr_iload2 (q := 136) X dX5_says_135 rfl ?_
                          by_cases e136_0 : (iN a2) = 0
                          · refine hr_tableIn (off := 40) (tgt := 176) X dX5_says_136 (by rw [(congrArg nI e136_0)]; decide) (by rw [(congrArg nI e136_0)]; decide) (by rw [(congrArg nI e136_0)]; rfl) (by decide) ?_
                            refine hr_aload0 (q := 177) X dX5_says_176 rfl ?_
                            refine hr_getR (v := am 14) (q := 180) X dX5_says_177 rfl fr_q1396_5 rfl hR.om (hR.f rfl) ?_
                            refine hr_iload3 (q := 181) X dX5_says_180 rfl ?_
                            refine hr_ialdN (v := (nI (A.1.1 14 (A.1.1 21 (iN a1))))) (q := 182) X dX5_says_181 rfl (hR.ka (n := 7) rfl rfl rfl) (Or.inl rfl) (by omega) (by decide) ((hR.ar rfl _).trans (hA.p (by decide) (by decide) (by omega))) ?_
                            have b181 := hW.w.b14 (show A.1.1 21 (iN a1) < 7 by omega)
                            exact hr_iret X hr dX5_says_182 (tw_end (by rw [sq_says, if_pos c5, if_neg c9, if_pos c15, if_neg (show ¬ ((A.1.1 18 (iN a1)) = 1) by omega), if_neg (show ¬ ((A.1.1 18 (iN a1)) = 0) by omega), if_pos (show (iN a2) = 1 by omega), if_neg (show ¬ ((A.1.1 9 (A.1.1 21 (iN a1))) = 2) by omega), if_neg (show ¬ ((iN a2) = 3) by omega), if_pos (show (iN a2) = 4 by omega), if_neg (show ¬ ((A.1.1 9 (A.1.1 21 (iN a1))) = 6) by omega), if_neg (show ¬ ((iN a2) = 0) by omega), if_pos (show (iN a2) = (A.1.1 9 (A.1.1 21 (iN a1))) by omega), if_pos e136_0]) hR hA)
                          by_cases e136_1 : (iN a2) = 1
                          · refine hr_tableIn (off := 47) (tgt := 183) X dX5_says_136 (by rw [(congrArg nI e136_1)]; decide) (by rw [(congrArg nI e136_1)]; decide) (by rw [(congrArg nI e136_1)]; rfl) (by decide) ?_
                            refine hr_aload0 (q := 184) X dX5_says_183 rfl ?_
                            refine hr_iload3 (q := 185) X dX5_says_184 rfl ?_
                            refine hr_callP (q := 188) (hc_V (n := 1) (ci := 5) (As := [.int (nI (A.1.1 21 (iN a1)))]) X dX5_says_185 rfl (tk_shows X.tr hR hA.t hw (x := A.1.1 21 (iN a1)) (by omega)) q1555 cv_X5_shows ⟨Nat.le_of_ble_eq_true rfl, Nat.le_of_ble_eq_true rfl⟩ rfl (Nat.le_of_ble_eq_true rfl) hR.om rfl rfl) rfl ?_
                            have := sp_shows_lt (t := A.1) hw (x := (A.1.1 21 (iN a1))) (by omega)
                            exact hr_iret X hr dX5_says_188 (tw_end (by rw [sq_says, if_pos c5, if_neg c9, if_pos c15, if_neg (show ¬ ((A.1.1 18 (iN a1)) = 1) by omega), if_neg (show ¬ ((A.1.1 18 (iN a1)) = 0) by omega), if_pos (show (iN a2) = 1 by omega), if_neg (show ¬ ((A.1.1 9 (A.1.1 21 (iN a1))) = 2) by omega), if_neg (show ¬ ((iN a2) = 3) by omega), if_pos (show (iN a2) = 4 by omega), if_neg (show ¬ ((A.1.1 9 (A.1.1 21 (iN a1))) = 6) by omega), if_neg (show ¬ ((iN a2) = 0) by omega), if_pos (show (iN a2) = (A.1.1 9 (A.1.1 21 (iN a1))) by omega), if_neg e136_0, if_pos e136_1]) hR hA)
                          by_cases e136_2 : (iN a2) = 2
                          · refine hr_tableIn (off := 47) (tgt := 183) X dX5_says_136 (by rw [(congrArg nI e136_2)]; decide) (by rw [(congrArg nI e136_2)]; decide) (by rw [(congrArg nI e136_2)]; rfl) (by decide) ?_
                            refine hr_aload0 (q := 184) X dX5_says_183 rfl ?_
                            refine hr_iload3 (q := 185) X dX5_says_184 rfl ?_
                            refine hr_callP (q := 188) (hc_V (n := 1) (ci := 5) (As := [.int (nI (A.1.1 21 (iN a1)))]) X dX5_says_185 rfl (tk_shows X.tr hR hA.t hw (x := A.1.1 21 (iN a1)) (by omega)) q1555 cv_X5_shows ⟨Nat.le_of_ble_eq_true rfl, Nat.le_of_ble_eq_true rfl⟩ rfl (Nat.le_of_ble_eq_true rfl) hR.om rfl rfl) rfl ?_
                            have := sp_shows_lt (t := A.1) hw (x := (A.1.1 21 (iN a1))) (by omega)
                            exact hr_iret X hr dX5_says_188 (tw_end (by rw [sq_says, if_pos c5, if_neg c9, if_pos c15, if_neg (show ¬ ((A.1.1 18 (iN a1)) = 1) by omega), if_neg (show ¬ ((A.1.1 18 (iN a1)) = 0) by omega), if_pos (show (iN a2) = 1 by omega), if_neg (show ¬ ((A.1.1 9 (A.1.1 21 (iN a1))) = 2) by omega), if_neg (show ¬ ((iN a2) = 3) by omega), if_pos (show (iN a2) = 4 by omega), if_neg (show ¬ ((A.1.1 9 (A.1.1 21 (iN a1))) = 6) by omega), if_neg (show ¬ ((iN a2) = 0) by omega), if_pos (show (iN a2) = (A.1.1 9 (A.1.1 21 (iN a1))) by omega), if_neg e136_0, if_neg e136_1, if_pos e136_2]) hR hA)
                          by_cases e136_3 : (iN a2) = 3
                          · refine hr_tableIn (off := 53) (tgt := 189) X dX5_says_136 (by rw [(congrArg nI e136_3)]; decide) (by rw [(congrArg nI e136_3)]; decide) (by rw [(congrArg nI e136_3)]; rfl) (by decide) ?_
                            refine hr_aload0 (q := 190) X dX5_says_189 rfl ?_
                            refine hr_getR (v := am 13) (q := 193) X dX5_says_190 rfl fr_q1395_5 rfl hR.om (hR.f rfl) ?_
                            refine hr_iload3 (q := 194) X dX5_says_193 rfl ?_
                            refine hr_ialdN (v := (nI (A.1.1 13 (A.1.1 21 (iN a1))))) (q := 195) X dX5_says_194 rfl (hR.ka (n := 7) rfl rfl rfl) (Or.inl rfl) (by omega) (by decide) ((hR.ar rfl _).trans (hA.p (by decide) (by decide) (by omega))) ?_
                            have b194 := hW.w.b13 (show A.1.1 21 (iN a1) < 7 by omega)
                            exact hr_iret X hr dX5_says_195 (tw_end (by rw [sq_says, if_pos c5, if_neg c9, if_pos c15, if_neg (show ¬ ((A.1.1 18 (iN a1)) = 1) by omega), if_neg (show ¬ ((A.1.1 18 (iN a1)) = 0) by omega), if_pos (show (iN a2) = 1 by omega), if_neg (show ¬ ((A.1.1 9 (A.1.1 21 (iN a1))) = 2) by omega), if_neg (show ¬ ((iN a2) = 3) by omega), if_pos (show (iN a2) = 4 by omega), if_neg (show ¬ ((A.1.1 9 (A.1.1 21 (iN a1))) = 6) by omega), if_neg (show ¬ ((iN a2) = 0) by omega), if_pos (show (iN a2) = (A.1.1 9 (A.1.1 21 (iN a1))) by omega), if_neg e136_0, if_neg e136_1, if_neg e136_2, if_pos e136_3]) hR hA)
                          by_cases e136_4 : (iN a2) = 4
                          · refine hr_tableIn (off := 60) (tgt := 196) X dX5_says_136 (by rw [(congrArg nI e136_4)]; decide) (by rw [(congrArg nI e136_4)]; decide) (by rw [(congrArg nI e136_4)]; rfl) (by decide) ?_
                            refine hr_aload0 (q := 197) X dX5_says_196 rfl ?_
                            refine hr_getR (v := am 12) (q := 200) X dX5_says_197 rfl fr_q1394_5 rfl hR.om (hR.f rfl) ?_
                            refine hr_iload3 (q := 201) X dX5_says_200 rfl ?_
                            refine hr_ialdN (v := (nI (A.1.1 12 (A.1.1 21 (iN a1))))) (q := 202) X dX5_says_201 rfl (hR.ka (n := 7) rfl rfl rfl) (Or.inl rfl) (by omega) (by decide) ((hR.ar rfl _).trans (hA.p (by decide) (by decide) (by omega))) ?_
                            have b201 := hW.w.b12 (show A.1.1 21 (iN a1) < 7 by omega)
                            exact hr_iret X hr dX5_says_202 (tw_end (by rw [sq_says, if_pos c5, if_neg c9, if_pos c15, if_neg (show ¬ ((A.1.1 18 (iN a1)) = 1) by omega), if_neg (show ¬ ((A.1.1 18 (iN a1)) = 0) by omega), if_pos (show (iN a2) = 1 by omega), if_neg (show ¬ ((A.1.1 9 (A.1.1 21 (iN a1))) = 2) by omega), if_neg (show ¬ ((iN a2) = 3) by omega), if_pos (show (iN a2) = 4 by omega), if_neg (show ¬ ((A.1.1 9 (A.1.1 21 (iN a1))) = 6) by omega), if_neg (show ¬ ((iN a2) = 0) by omega), if_pos (show (iN a2) = (A.1.1 9 (A.1.1 21 (iN a1))) by omega), if_neg e136_0, if_neg e136_1, if_neg e136_2, if_neg e136_3, if_pos e136_4]) hR hA)
                          by_cases e136_5 : (iN a2) = 5
                          · refine hr_tableIn (off := 53) (tgt := 189) X dX5_says_136 (by rw [(congrArg nI e136_5)]; decide) (by rw [(congrArg nI e136_5)]; decide) (by rw [(congrArg nI e136_5)]; rfl) (by decide) ?_
                            refine hr_aload0 (q := 190) X dX5_says_189 rfl ?_
                            refine hr_getR (v := am 13) (q := 193) X dX5_says_190 rfl fr_q1395_5 rfl hR.om (hR.f rfl) ?_
                            refine hr_iload3 (q := 194) X dX5_says_193 rfl ?_
                            refine hr_ialdN (v := (nI (A.1.1 13 (A.1.1 21 (iN a1))))) (q := 195) X dX5_says_194 rfl (hR.ka (n := 7) rfl rfl rfl) (Or.inl rfl) (by omega) (by decide) ((hR.ar rfl _).trans (hA.p (by decide) (by decide) (by omega))) ?_
                            have b194 := hW.w.b13 (show A.1.1 21 (iN a1) < 7 by omega)
                            exact hr_iret X hr dX5_says_195 (tw_end (by rw [sq_says, if_pos c5, if_neg c9, if_pos c15, if_neg (show ¬ ((A.1.1 18 (iN a1)) = 1) by omega), if_neg (show ¬ ((A.1.1 18 (iN a1)) = 0) by omega), if_pos (show (iN a2) = 1 by omega), if_neg (show ¬ ((A.1.1 9 (A.1.1 21 (iN a1))) = 2) by omega), if_neg (show ¬ ((iN a2) = 3) by omega), if_pos (show (iN a2) = 4 by omega), if_neg (show ¬ ((A.1.1 9 (A.1.1 21 (iN a1))) = 6) by omega), if_neg (show ¬ ((iN a2) = 0) by omega), if_pos (show (iN a2) = (A.1.1 9 (A.1.1 21 (iN a1))) by omega), if_neg e136_0, if_neg e136_1, if_neg e136_2, if_neg e136_3, if_neg e136_4, if_pos e136_5]) hR hA)
                          refine hr_tableOut (tgt := 196) X dX5_says_136 (sp_out (n := 6) (by decide) (fun i hi => by match i, hi with | 0, _ => exact (fun z => e136_0 ((nI_eq (by omega) (by omega)).mp z)) | 1, _ => exact (fun z => e136_1 ((nI_eq (by omega) (by omega)).mp z)) | 2, _ => exact (fun z => e136_2 ((nI_eq (by omega) (by omega)).mp z)) | 3, _ => exact (fun z => e136_3 ((nI_eq (by omega) (by omega)).mp z)) | 4, _ => exact (fun z => e136_4 ((nI_eq (by omega) (by omega)).mp z)) | 5, _ => exact (fun z => e136_5 ((nI_eq (by omega) (by omega)).mp z)) | (k + 6), hi => omega)) (by decide) ?_
                          refine hr_aload0 (q := 197) X dX5_says_196 rfl ?_
                          refine hr_getR (v := am 12) (q := 200) X dX5_says_197 rfl fr_q1394_5 rfl hR.om (hR.f rfl) ?_
                          refine hr_iload3 (q := 201) X dX5_says_200 rfl ?_
                          refine hr_ialdN (v := (nI (A.1.1 12 (A.1.1 21 (iN a1))))) (q := 202) X dX5_says_201 rfl (hR.ka (n := 7) rfl rfl rfl) (Or.inl rfl) (by omega) (by decide) ((hR.ar rfl _).trans (hA.p (by decide) (by decide) (by omega))) ?_
                          have b201 := hW.w.b12 (show A.1.1 21 (iN a1) < 7 by omega)
                          exact hr_iret X hr dX5_says_202 (tw_end (by rw [sq_says, if_pos c5, if_neg c9, if_pos c15, if_neg (show ¬ ((A.1.1 18 (iN a1)) = 1) by omega), if_neg (show ¬ ((A.1.1 18 (iN a1)) = 0) by omega), if_pos (show (iN a2) = 1 by omega), if_neg (show ¬ ((A.1.1 9 (A.1.1 21 (iN a1))) = 2) by omega), if_neg (show ¬ ((iN a2) = 3) by omega), if_pos (show (iN a2) = 4 by omega), if_neg (show ¬ ((A.1.1 9 (A.1.1 21 (iN a1))) = 6) by omega), if_neg (show ¬ ((iN a2) = 0) by omega), if_pos (show (iN a2) = (A.1.1 9 (A.1.1 21 (iN a1))) by omega), if_neg e136_0, if_neg e136_1, if_neg e136_2, if_neg e136_3, if_neg e136_4, if_neg e136_5]) hR hA)
                        · refine hr_iload5 (q := 125) X dX5_says_123 rfl ?_
                          refine hr_if_ne (q := 128) (tgt := 135) X dX5_says_125 rfl (by decide) (fun z => absurd z (by decide)) (fun _ => ?_)
                          refine hr_aload0 (q := 129) X dX5_says_128 rfl ?_
                          refine hr_bipush (v := (-2)) (q := 131) X dX5_says_129 rfl rfl ?_
                          refine hr_callT (q := 134) (hc_V (n := 1) (ci := 5) (As := [.int (-2)]) X dX5_says_131 rfl (tk_no X.tr hR hA (b := (-2)) (by decide)) q1523 cv_X5_no ⟨Nat.le_of_ble_eq_true rfl, Nat.le_of_ble_eq_true rfl⟩ rfl (Nat.le_of_ble_eq_true rfl) hR.om rfl rfl) rfl (fun G8 u8 hR8 hA8 => ?_)
                          exact hr_iret X hr dX5_says_134 (tw_end (by rw [sq_says, if_pos c5, if_neg c9, if_pos c15, if_neg (show ¬ ((A.1.1 18 (iN a1)) = 1) by omega), if_neg (show ¬ ((A.1.1 18 (iN a1)) = 0) by omega), if_pos (show (iN a2) = 1 by omega), if_neg (show ¬ ((A.1.1 9 (A.1.1 21 (iN a1))) = 2) by omega), if_neg (show ¬ ((iN a2) = 3) by omega), if_pos (show (iN a2) = 4 by omega), if_neg (show ¬ ((A.1.1 9 (A.1.1 21 (iN a1))) = 6) by omega), if_neg (show ¬ ((iN a2) = 0) by omega), if_neg (show ¬ ((iN a2) = (A.1.1 9 (A.1.1 21 (iN a1)))) by omega)]) hR8 hA8)
                    · refine hr_iconst (v := (nI 1)) (q := 107) X dX5_says_106 rfl rfl ?_
                      refine hr_goto (tgt := 111) X dX5_says_107 (by decide) ?_
                      refine hr_istore5 (q := 113) X dX5_says_111 rfl rfl (Nat.le_of_ble_eq_true rfl) ?_
                      refine hr_iload2 (q := 114) X dX5_says_113 rfl ?_
                      refine hr_ifN_eq (q := 117) (tgt := 135) X dX5_says_114 rfl (by decide) (by omega) (fun c114 => ?_) (fun c114 => ?_)
                      · refine hr_iload2 (q := 136) X dX5_says_135 rfl ?_
                        by_cases e136_0 : (iN a2) = 0
                        · refine hr_tableIn (off := 40) (tgt := 176) X dX5_says_136 (by rw [(congrArg nI e136_0)]; decide) (by rw [(congrArg nI e136_0)]; decide) (by rw [(congrArg nI e136_0)]; rfl) (by decide) ?_
                          refine hr_aload0 (q := 177) X dX5_says_176 rfl ?_
                          refine hr_getR (v := am 14) (q := 180) X dX5_says_177 rfl fr_q1396_5 rfl hR.om (hR.f rfl) ?_
                          refine hr_iload3 (q := 181) X dX5_says_180 rfl ?_
                          refine hr_ialdN (v := (nI (A.1.1 14 (A.1.1 21 (iN a1))))) (q := 182) X dX5_says_181 rfl (hR.ka (n := 7) rfl rfl rfl) (Or.inl rfl) (by omega) (by decide) ((hR.ar rfl _).trans (hA.p (by decide) (by decide) (by omega))) ?_
                          have b181 := hW.w.b14 (show A.1.1 21 (iN a1) < 7 by omega)
                          exact hr_iret X hr dX5_says_182 (tw_end (by rw [sq_says, if_pos c5, if_neg c9, if_pos c15, if_neg (show ¬ ((A.1.1 18 (iN a1)) = 1) by omega), if_neg (show ¬ ((A.1.1 18 (iN a1)) = 0) by omega), if_pos (show (iN a2) = 1 by omega), if_neg (show ¬ ((A.1.1 9 (A.1.1 21 (iN a1))) = 2) by omega), if_neg (show ¬ ((iN a2) = 3) by omega), if_pos (show (iN a2) = 4 by omega), if_pos (show (A.1.1 9 (A.1.1 21 (iN a1))) = 6 by omega), if_pos (show (iN a2) = 0 by omega), if_pos e136_0]) hR hA)
                        by_cases e136_1 : (iN a2) = 1
                        · refine hr_tableIn (off := 47) (tgt := 183) X dX5_says_136 (by rw [(congrArg nI e136_1)]; decide) (by rw [(congrArg nI e136_1)]; decide) (by rw [(congrArg nI e136_1)]; rfl) (by decide) ?_
                          refine hr_aload0 (q := 184) X dX5_says_183 rfl ?_
                          refine hr_iload3 (q := 185) X dX5_says_184 rfl ?_
                          refine hr_callP (q := 188) (hc_V (n := 1) (ci := 5) (As := [.int (nI (A.1.1 21 (iN a1)))]) X dX5_says_185 rfl (tk_shows X.tr hR hA.t hw (x := A.1.1 21 (iN a1)) (by omega)) q1555 cv_X5_shows ⟨Nat.le_of_ble_eq_true rfl, Nat.le_of_ble_eq_true rfl⟩ rfl (Nat.le_of_ble_eq_true rfl) hR.om rfl rfl) rfl ?_
                          have := sp_shows_lt (t := A.1) hw (x := (A.1.1 21 (iN a1))) (by omega)
                          exact hr_iret X hr dX5_says_188 (tw_end (by rw [sq_says, if_pos c5, if_neg c9, if_pos c15, if_neg (show ¬ ((A.1.1 18 (iN a1)) = 1) by omega), if_neg (show ¬ ((A.1.1 18 (iN a1)) = 0) by omega), if_pos (show (iN a2) = 1 by omega), if_neg (show ¬ ((A.1.1 9 (A.1.1 21 (iN a1))) = 2) by omega), if_neg (show ¬ ((iN a2) = 3) by omega), if_pos (show (iN a2) = 4 by omega), if_pos (show (A.1.1 9 (A.1.1 21 (iN a1))) = 6 by omega), if_pos (show (iN a2) = 0 by omega), if_neg e136_0, if_pos e136_1]) hR hA)
                        by_cases e136_2 : (iN a2) = 2
                        · refine hr_tableIn (off := 47) (tgt := 183) X dX5_says_136 (by rw [(congrArg nI e136_2)]; decide) (by rw [(congrArg nI e136_2)]; decide) (by rw [(congrArg nI e136_2)]; rfl) (by decide) ?_
                          refine hr_aload0 (q := 184) X dX5_says_183 rfl ?_
                          refine hr_iload3 (q := 185) X dX5_says_184 rfl ?_
                          refine hr_callP (q := 188) (hc_V (n := 1) (ci := 5) (As := [.int (nI (A.1.1 21 (iN a1)))]) X dX5_says_185 rfl (tk_shows X.tr hR hA.t hw (x := A.1.1 21 (iN a1)) (by omega)) q1555 cv_X5_shows ⟨Nat.le_of_ble_eq_true rfl, Nat.le_of_ble_eq_true rfl⟩ rfl (Nat.le_of_ble_eq_true rfl) hR.om rfl rfl) rfl ?_
                          have := sp_shows_lt (t := A.1) hw (x := (A.1.1 21 (iN a1))) (by omega)
                          exact hr_iret X hr dX5_says_188 (tw_end (by rw [sq_says, if_pos c5, if_neg c9, if_pos c15, if_neg (show ¬ ((A.1.1 18 (iN a1)) = 1) by omega), if_neg (show ¬ ((A.1.1 18 (iN a1)) = 0) by omega), if_pos (show (iN a2) = 1 by omega), if_neg (show ¬ ((A.1.1 9 (A.1.1 21 (iN a1))) = 2) by omega), if_neg (show ¬ ((iN a2) = 3) by omega), if_pos (show (iN a2) = 4 by omega), if_pos (show (A.1.1 9 (A.1.1 21 (iN a1))) = 6 by omega), if_pos (show (iN a2) = 0 by omega), if_neg e136_0, if_neg e136_1, if_pos e136_2]) hR hA)
                        by_cases e136_3 : (iN a2) = 3
                        · refine hr_tableIn (off := 53) (tgt := 189) X dX5_says_136 (by rw [(congrArg nI e136_3)]; decide) (by rw [(congrArg nI e136_3)]; decide) (by rw [(congrArg nI e136_3)]; rfl) (by decide) ?_
                          refine hr_aload0 (q := 190) X dX5_says_189 rfl ?_
                          refine hr_getR (v := am 13) (q := 193) X dX5_says_190 rfl fr_q1395_5 rfl hR.om (hR.f rfl) ?_
                          refine hr_iload3 (q := 194) X dX5_says_193 rfl ?_
                          refine hr_ialdN (v := (nI (A.1.1 13 (A.1.1 21 (iN a1))))) (q := 195) X dX5_says_194 rfl (hR.ka (n := 7) rfl rfl rfl) (Or.inl rfl) (by omega) (by decide) ((hR.ar rfl _).trans (hA.p (by decide) (by decide) (by omega))) ?_
                          have b194 := hW.w.b13 (show A.1.1 21 (iN a1) < 7 by omega)
                          exact hr_iret X hr dX5_says_195 (tw_end (by rw [sq_says, if_pos c5, if_neg c9, if_pos c15, if_neg (show ¬ ((A.1.1 18 (iN a1)) = 1) by omega), if_neg (show ¬ ((A.1.1 18 (iN a1)) = 0) by omega), if_pos (show (iN a2) = 1 by omega), if_neg (show ¬ ((A.1.1 9 (A.1.1 21 (iN a1))) = 2) by omega), if_neg (show ¬ ((iN a2) = 3) by omega), if_pos (show (iN a2) = 4 by omega), if_pos (show (A.1.1 9 (A.1.1 21 (iN a1))) = 6 by omega), if_pos (show (iN a2) = 0 by omega), if_neg e136_0, if_neg e136_1, if_neg e136_2, if_pos e136_3]) hR hA)
                        by_cases e136_4 : (iN a2) = 4
                        · refine hr_tableIn (off := 60) (tgt := 196) X dX5_says_136 (by rw [(congrArg nI e136_4)]; decide) (by rw [(congrArg nI e136_4)]; decide) (by rw [(congrArg nI e136_4)]; rfl) (by decide) ?_
                          refine hr_aload0 (q := 197) X dX5_says_196 rfl ?_
                          refine hr_getR (v := am 12) (q := 200) X dX5_says_197 rfl fr_q1394_5 rfl hR.om (hR.f rfl) ?_
                          refine hr_iload3 (q := 201) X dX5_says_200 rfl ?_
                          refine hr_ialdN (v := (nI (A.1.1 12 (A.1.1 21 (iN a1))))) (q := 202) X dX5_says_201 rfl (hR.ka (n := 7) rfl rfl rfl) (Or.inl rfl) (by omega) (by decide) ((hR.ar rfl _).trans (hA.p (by decide) (by decide) (by omega))) ?_
                          have b201 := hW.w.b12 (show A.1.1 21 (iN a1) < 7 by omega)
                          exact hr_iret X hr dX5_says_202 (tw_end (by rw [sq_says, if_pos c5, if_neg c9, if_pos c15, if_neg (show ¬ ((A.1.1 18 (iN a1)) = 1) by omega), if_neg (show ¬ ((A.1.1 18 (iN a1)) = 0) by omega), if_pos (show (iN a2) = 1 by omega), if_neg (show ¬ ((A.1.1 9 (A.1.1 21 (iN a1))) = 2) by omega), if_neg (show ¬ ((iN a2) = 3) by omega), if_pos (show (iN a2) = 4 by omega), if_pos (show (A.1.1 9 (A.1.1 21 (iN a1))) = 6 by omega), if_pos (show (iN a2) = 0 by omega), if_neg e136_0, if_neg e136_1, if_neg e136_2, if_neg e136_3, if_pos e136_4]) hR hA)
                        by_cases e136_5 : (iN a2) = 5
                        · refine hr_tableIn (off := 53) (tgt := 189) X dX5_says_136 (by rw [(congrArg nI e136_5)]; decide) (by rw [(congrArg nI e136_5)]; decide) (by rw [(congrArg nI e136_5)]; rfl) (by decide) ?_
                          refine hr_aload0 (q := 190) X dX5_says_189 rfl ?_
                          refine hr_getR (v := am 13) (q := 193) X dX5_says_190 rfl fr_q1395_5 rfl hR.om (hR.f rfl) ?_
                          refine hr_iload3 (q := 194) X dX5_says_193 rfl ?_
                          refine hr_ialdN (v := (nI (A.1.1 13 (A.1.1 21 (iN a1))))) (q := 195) X dX5_says_194 rfl (hR.ka (n := 7) rfl rfl rfl) (Or.inl rfl) (by omega) (by decide) ((hR.ar rfl _).trans (hA.p (by decide) (by decide) (by omega))) ?_
                          have b194 := hW.w.b13 (show A.1.1 21 (iN a1) < 7 by omega)
                          exact hr_iret X hr dX5_says_195 (tw_end (by rw [sq_says, if_pos c5, if_neg c9, if_pos c15, if_neg (show ¬ ((A.1.1 18 (iN a1)) = 1) by omega), if_neg (show ¬ ((A.1.1 18 (iN a1)) = 0) by omega), if_pos (show (iN a2) = 1 by omega), if_neg (show ¬ ((A.1.1 9 (A.1.1 21 (iN a1))) = 2) by omega), if_neg (show ¬ ((iN a2) = 3) by omega), if_pos (show (iN a2) = 4 by omega), if_pos (show (A.1.1 9 (A.1.1 21 (iN a1))) = 6 by omega), if_pos (show (iN a2) = 0 by omega), if_neg e136_0, if_neg e136_1, if_neg e136_2, if_neg e136_3, if_neg e136_4, if_pos e136_5]) hR hA)
                        refine hr_tableOut (tgt := 196) X dX5_says_136 (sp_out (n := 6) (by decide) (fun i hi => by match i, hi with | 0, _ => exact (fun z => e136_0 ((nI_eq (by omega) (by omega)).mp z)) | 1, _ => exact (fun z => e136_1 ((nI_eq (by omega) (by omega)).mp z)) | 2, _ => exact (fun z => e136_2 ((nI_eq (by omega) (by omega)).mp z)) | 3, _ => exact (fun z => e136_3 ((nI_eq (by omega) (by omega)).mp z)) | 4, _ => exact (fun z => e136_4 ((nI_eq (by omega) (by omega)).mp z)) | 5, _ => exact (fun z => e136_5 ((nI_eq (by omega) (by omega)).mp z)) | (k + 6), hi => omega)) (by decide) ?_
                        refine hr_aload0 (q := 197) X dX5_says_196 rfl ?_
                        refine hr_getR (v := am 12) (q := 200) X dX5_says_197 rfl fr_q1394_5 rfl hR.om (hR.f rfl) ?_
                        refine hr_iload3 (q := 201) X dX5_says_200 rfl ?_
                        refine hr_ialdN (v := (nI (A.1.1 12 (A.1.1 21 (iN a1))))) (q := 202) X dX5_says_201 rfl (hR.ka (n := 7) rfl rfl rfl) (Or.inl rfl) (by omega) (by decide) ((hR.ar rfl _).trans (hA.p (by decide) (by decide) (by omega))) ?_
                        have b201 := hW.w.b12 (show A.1.1 21 (iN a1) < 7 by omega)
                        exact hr_iret X hr dX5_says_202 (tw_end (by rw [sq_says, if_pos c5, if_neg c9, if_pos c15, if_neg (show ¬ ((A.1.1 18 (iN a1)) = 1) by omega), if_neg (show ¬ ((A.1.1 18 (iN a1)) = 0) by omega), if_pos (show (iN a2) = 1 by omega), if_neg (show ¬ ((A.1.1 9 (A.1.1 21 (iN a1))) = 2) by omega), if_neg (show ¬ ((iN a2) = 3) by omega), if_pos (show (iN a2) = 4 by omega), if_pos (show (A.1.1 9 (A.1.1 21 (iN a1))) = 6 by omega), if_pos (show (iN a2) = 0 by omega), if_neg e136_0, if_neg e136_1, if_neg e136_2, if_neg e136_3, if_neg e136_4, if_neg e136_5]) hR hA)
                      · refine hr_iload2 (q := 118) X dX5_says_117 rfl ?_
                        refine hr_iload4 (q := 120) X dX5_says_118 rfl ?_
                        refine hr_icmpN_eq (q := 123) (tgt := 135) X dX5_says_120 rfl (by decide) (by omega) (by omega) (fun c120 => ?_) (fun c120 => ?_)
                        · refine hr_iload2 (q := 136) X dX5_says_135 rfl ?_
                          by_cases e136_0 : (iN a2) = 0
                          · refine hr_tableIn (off := 40) (tgt := 176) X dX5_says_136 (by rw [(congrArg nI e136_0)]; decide) (by rw [(congrArg nI e136_0)]; decide) (by rw [(congrArg nI e136_0)]; rfl) (by decide) ?_
                            refine hr_aload0 (q := 177) X dX5_says_176 rfl ?_
                            refine hr_getR (v := am 14) (q := 180) X dX5_says_177 rfl fr_q1396_5 rfl hR.om (hR.f rfl) ?_
                            refine hr_iload3 (q := 181) X dX5_says_180 rfl ?_
                            refine hr_ialdN (v := (nI (A.1.1 14 (A.1.1 21 (iN a1))))) (q := 182) X dX5_says_181 rfl (hR.ka (n := 7) rfl rfl rfl) (Or.inl rfl) (by omega) (by decide) ((hR.ar rfl _).trans (hA.p (by decide) (by decide) (by omega))) ?_
                            have b181 := hW.w.b14 (show A.1.1 21 (iN a1) < 7 by omega)
                            exact hr_iret X hr dX5_says_182 (tw_end (by rw [sq_says, if_pos c5, if_neg c9, if_pos c15, if_neg (show ¬ ((A.1.1 18 (iN a1)) = 1) by omega), if_neg (show ¬ ((A.1.1 18 (iN a1)) = 0) by omega), if_pos (show (iN a2) = 1 by omega), if_neg (show ¬ ((A.1.1 9 (A.1.1 21 (iN a1))) = 2) by omega), if_neg (show ¬ ((iN a2) = 3) by omega), if_pos (show (iN a2) = 4 by omega), if_pos (show (A.1.1 9 (A.1.1 21 (iN a1))) = 6 by omega), if_neg (show ¬ ((iN a2) = 0) by omega), if_pos (show (iN a2) = (A.1.1 9 (A.1.1 21 (iN a1))) by omega), if_pos e136_0]) hR hA)
                          by_cases e136_1 : (iN a2) = 1
                          · refine hr_tableIn (off := 47) (tgt := 183) X dX5_says_136 (by rw [(congrArg nI e136_1)]; decide) (by rw [(congrArg nI e136_1)]; decide) (by rw [(congrArg nI e136_1)]; rfl) (by decide) ?_
                            refine hr_aload0 (q := 184) X dX5_says_183 rfl ?_
                            refine hr_iload3 (q := 185) X dX5_says_184 rfl ?_
                            refine hr_callP (q := 188) (hc_V (n := 1) (ci := 5) (As := [.int (nI (A.1.1 21 (iN a1)))]) X dX5_says_185 rfl (tk_shows X.tr hR hA.t hw (x := A.1.1 21 (iN a1)) (by omega)) q1555 cv_X5_shows ⟨Nat.le_of_ble_eq_true rfl, Nat.le_of_ble_eq_true rfl⟩ rfl (Nat.le_of_ble_eq_true rfl) hR.om rfl rfl) rfl ?_
                            have := sp_shows_lt (t := A.1) hw (x := (A.1.1 21 (iN a1))) (by omega)
                            exact hr_iret X hr dX5_says_188 (tw_end (by rw [sq_says, if_pos c5, if_neg c9, if_pos c15, if_neg (show ¬ ((A.1.1 18 (iN a1)) = 1) by omega), if_neg (show ¬ ((A.1.1 18 (iN a1)) = 0) by omega), if_pos (show (iN a2) = 1 by omega), if_neg (show ¬ ((A.1.1 9 (A.1.1 21 (iN a1))) = 2) by omega), if_neg (show ¬ ((iN a2) = 3) by omega), if_pos (show (iN a2) = 4 by omega), if_pos (show (A.1.1 9 (A.1.1 21 (iN a1))) = 6 by omega), if_neg (show ¬ ((iN a2) = 0) by omega), if_pos (show (iN a2) = (A.1.1 9 (A.1.1 21 (iN a1))) by omega), if_neg e136_0, if_pos e136_1]) hR hA)
                          by_cases e136_2 : (iN a2) = 2
                          · refine hr_tableIn (off := 47) (tgt := 183) X dX5_says_136 (by rw [(congrArg nI e136_2)]; decide) (by rw [(congrArg nI e136_2)]; decide) (by rw [(congrArg nI e136_2)]; rfl) (by decide) ?_
                            refine hr_aload0 (q := 184) X dX5_says_183 rfl ?_
                            refine hr_iload3 (q := 185) X dX5_says_184 rfl ?_
                            refine hr_callP (q := 188) (hc_V (n := 1) (ci := 5) (As := [.int (nI (A.1.1 21 (iN a1)))]) X dX5_says_185 rfl (tk_shows X.tr hR hA.t hw (x := A.1.1 21 (iN a1)) (by omega)) q1555 cv_X5_shows ⟨Nat.le_of_ble_eq_true rfl, Nat.le_of_ble_eq_true rfl⟩ rfl (Nat.le_of_ble_eq_true rfl) hR.om rfl rfl) rfl ?_
                            have := sp_shows_lt (t := A.1) hw (x := (A.1.1 21 (iN a1))) (by omega)
                            exact hr_iret X hr dX5_says_188 (tw_end (by rw [sq_says, if_pos c5, if_neg c9, if_pos c15, if_neg (show ¬ ((A.1.1 18 (iN a1)) = 1) by omega), if_neg (show ¬ ((A.1.1 18 (iN a1)) = 0) by omega), if_pos (show (iN a2) = 1 by omega), if_neg (show ¬ ((A.1.1 9 (A.1.1 21 (iN a1))) = 2) by omega), if_neg (show ¬ ((iN a2) = 3) by omega), if_pos (show (iN a2) = 4 by omega), if_pos (show (A.1.1 9 (A.1.1 21 (iN a1))) = 6 by omega), if_neg (show ¬ ((iN a2) = 0) by omega), if_pos (show (iN a2) = (A.1.1 9 (A.1.1 21 (iN a1))) by omega), if_neg e136_0, if_neg e136_1, if_pos e136_2]) hR hA)
                          by_cases e136_3 : (iN a2) = 3
                          · refine hr_tableIn (off := 53) (tgt := 189) X dX5_says_136 (by rw [(congrArg nI e136_3)]; decide) (by rw [(congrArg nI e136_3)]; decide) (by rw [(congrArg nI e136_3)]; rfl) (by decide) ?_
                            refine hr_aload0 (q := 190) X dX5_says_189 rfl ?_
                            refine hr_getR (v := am 13) (q := 193) X dX5_says_190 rfl fr_q1395_5 rfl hR.om (hR.f rfl) ?_
                            refine hr_iload3 (q := 194) X dX5_says_193 rfl ?_
                            refine hr_ialdN (v := (nI (A.1.1 13 (A.1.1 21 (iN a1))))) (q := 195) X dX5_says_194 rfl (hR.ka (n := 7) rfl rfl rfl) (Or.inl rfl) (by omega) (by decide) ((hR.ar rfl _).trans (hA.p (by decide) (by decide) (by omega))) ?_
                            have b194 := hW.w.b13 (show A.1.1 21 (iN a1) < 7 by omega)
                            exact hr_iret X hr dX5_says_195 (tw_end (by rw [sq_says, if_pos c5, if_neg c9, if_pos c15, if_neg (show ¬ ((A.1.1 18 (iN a1)) = 1) by omega), if_neg (show ¬ ((A.1.1 18 (iN a1)) = 0) by omega), if_pos (show (iN a2) = 1 by omega), if_neg (show ¬ ((A.1.1 9 (A.1.1 21 (iN a1))) = 2) by omega), if_neg (show ¬ ((iN a2) = 3) by omega), if_pos (show (iN a2) = 4 by omega), if_pos (show (A.1.1 9 (A.1.1 21 (iN a1))) = 6 by omega), if_neg (show ¬ ((iN a2) = 0) by omega), if_pos (show (iN a2) = (A.1.1 9 (A.1.1 21 (iN a1))) by omega), if_neg e136_0, if_neg e136_1, if_neg e136_2, if_pos e136_3]) hR hA)
                          by_cases e136_4 : (iN a2) = 4
                          · refine hr_tableIn (off := 60) (tgt := 196) X dX5_says_136 (by rw [(congrArg nI e136_4)]; decide) (by rw [(congrArg nI e136_4)]; decide) (by rw [(congrArg nI e136_4)]; rfl) (by decide) ?_
                            refine hr_aload0 (q := 197) X dX5_says_196 rfl ?_
                            refine hr_getR (v := am 12) (q := 200) X dX5_says_197 rfl fr_q1394_5 rfl hR.om (hR.f rfl) ?_
                            refine hr_iload3 (q := 201) X dX5_says_200 rfl ?_
                            refine hr_ialdN (v := (nI (A.1.1 12 (A.1.1 21 (iN a1))))) (q := 202) X dX5_says_201 rfl (hR.ka (n := 7) rfl rfl rfl) (Or.inl rfl) (by omega) (by decide) ((hR.ar rfl _).trans (hA.p (by decide) (by decide) (by omega))) ?_
                            have b201 := hW.w.b12 (show A.1.1 21 (iN a1) < 7 by omega)
                            exact hr_iret X hr dX5_says_202 (tw_end (by rw [sq_says, if_pos c5, if_neg c9, if_pos c15, if_neg (show ¬ ((A.1.1 18 (iN a1)) = 1) by omega), if_neg (show ¬ ((A.1.1 18 (iN a1)) = 0) by omega), if_pos (show (iN a2) = 1 by omega), if_neg (show ¬ ((A.1.1 9 (A.1.1 21 (iN a1))) = 2) by omega), if_neg (show ¬ ((iN a2) = 3) by omega), if_pos (show (iN a2) = 4 by omega), if_pos (show (A.1.1 9 (A.1.1 21 (iN a1))) = 6 by omega), if_neg (show ¬ ((iN a2) = 0) by omega), if_pos (show (iN a2) = (A.1.1 9 (A.1.1 21 (iN a1))) by omega), if_neg e136_0, if_neg e136_1, if_neg e136_2, if_neg e136_3, if_pos e136_4]) hR hA)
                          by_cases e136_5 : (iN a2) = 5
                          · refine hr_tableIn (off := 53) (tgt := 189) X dX5_says_136 (by rw [(congrArg nI e136_5)]; decide) (by rw [(congrArg nI e136_5)]; decide) (by rw [(congrArg nI e136_5)]; rfl) (by decide) ?_
                            refine hr_aload0 (q := 190) X dX5_says_189 rfl ?_
                            refine hr_getR (v := am 13) (q := 193) X dX5_says_190 rfl fr_q1395_5 rfl hR.om (hR.f rfl) ?_
                            refine hr_iload3 (q := 194) X dX5_says_193 rfl ?_
                            refine hr_ialdN (v := (nI (A.1.1 13 (A.1.1 21 (iN a1))))) (q := 195) X dX5_says_194 rfl (hR.ka (n := 7) rfl rfl rfl) (Or.inl rfl) (by omega) (by decide) ((hR.ar rfl _).trans (hA.p (by decide) (by decide) (by omega))) ?_
                            have b194 := hW.w.b13 (show A.1.1 21 (iN a1) < 7 by omega)
                            exact hr_iret X hr dX5_says_195 (tw_end (by rw [sq_says, if_pos c5, if_neg c9, if_pos c15, if_neg (show ¬ ((A.1.1 18 (iN a1)) = 1) by omega), if_neg (show ¬ ((A.1.1 18 (iN a1)) = 0) by omega), if_pos (show (iN a2) = 1 by omega), if_neg (show ¬ ((A.1.1 9 (A.1.1 21 (iN a1))) = 2) by omega), if_neg (show ¬ ((iN a2) = 3) by omega), if_pos (show (iN a2) = 4 by omega), if_pos (show (A.1.1 9 (A.1.1 21 (iN a1))) = 6 by omega), if_neg (show ¬ ((iN a2) = 0) by omega), if_pos (show (iN a2) = (A.1.1 9 (A.1.1 21 (iN a1))) by omega), if_neg e136_0, if_neg e136_1, if_neg e136_2, if_neg e136_3, if_neg e136_4, if_pos e136_5]) hR hA)
                          refine hr_tableOut (tgt := 196) X dX5_says_136 (sp_out (n := 6) (by decide) (fun i hi => by match i, hi with | 0, _ => exact (fun z => e136_0 ((nI_eq (by omega) (by omega)).mp z)) | 1, _ => exact (fun z => e136_1 ((nI_eq (by omega) (by omega)).mp z)) | 2, _ => exact (fun z => e136_2 ((nI_eq (by omega) (by omega)).mp z)) | 3, _ => exact (fun z => e136_3 ((nI_eq (by omega) (by omega)).mp z)) | 4, _ => exact (fun z => e136_4 ((nI_eq (by omega) (by omega)).mp z)) | 5, _ => exact (fun z => e136_5 ((nI_eq (by omega) (by omega)).mp z)) | (k + 6), hi => omega)) (by decide) ?_
                          refine hr_aload0 (q := 197) X dX5_says_196 rfl ?_
                          refine hr_getR (v := am 12) (q := 200) X dX5_says_197 rfl fr_q1394_5 rfl hR.om (hR.f rfl) ?_
                          refine hr_iload3 (q := 201) X dX5_says_200 rfl ?_
                          refine hr_ialdN (v := (nI (A.1.1 12 (A.1.1 21 (iN a1))))) (q := 202) X dX5_says_201 rfl (hR.ka (n := 7) rfl rfl rfl) (Or.inl rfl) (by omega) (by decide) ((hR.ar rfl _).trans (hA.p (by decide) (by decide) (by omega))) ?_
                          have b201 := hW.w.b12 (show A.1.1 21 (iN a1) < 7 by omega)
                          exact hr_iret X hr dX5_says_202 (tw_end (by rw [sq_says, if_pos c5, if_neg c9, if_pos c15, if_neg (show ¬ ((A.1.1 18 (iN a1)) = 1) by omega), if_neg (show ¬ ((A.1.1 18 (iN a1)) = 0) by omega), if_pos (show (iN a2) = 1 by omega), if_neg (show ¬ ((A.1.1 9 (A.1.1 21 (iN a1))) = 2) by omega), if_neg (show ¬ ((iN a2) = 3) by omega), if_pos (show (iN a2) = 4 by omega), if_pos (show (A.1.1 9 (A.1.1 21 (iN a1))) = 6 by omega), if_neg (show ¬ ((iN a2) = 0) by omega), if_pos (show (iN a2) = (A.1.1 9 (A.1.1 21 (iN a1))) by omega), if_neg e136_0, if_neg e136_1, if_neg e136_2, if_neg e136_3, if_neg e136_4, if_neg e136_5]) hR hA)
                        · refine hr_iload5 (q := 125) X dX5_says_123 rfl ?_
                          refine hr_if_ne (q := 128) (tgt := 135) X dX5_says_125 rfl (by decide) (fun _ => ?_) (fun z => absurd z (by decide))
                          refine hr_iload2 (q := 136) X dX5_says_135 rfl ?_
                          by_cases e136_0 : (iN a2) = 0
                          · refine hr_tableIn (off := 40) (tgt := 176) X dX5_says_136 (by rw [(congrArg nI e136_0)]; decide) (by rw [(congrArg nI e136_0)]; decide) (by rw [(congrArg nI e136_0)]; rfl) (by decide) ?_
                            refine hr_aload0 (q := 177) X dX5_says_176 rfl ?_
                            refine hr_getR (v := am 14) (q := 180) X dX5_says_177 rfl fr_q1396_5 rfl hR.om (hR.f rfl) ?_
                            refine hr_iload3 (q := 181) X dX5_says_180 rfl ?_
                            refine hr_ialdN (v := (nI (A.1.1 14 (A.1.1 21 (iN a1))))) (q := 182) X dX5_says_181 rfl (hR.ka (n := 7) rfl rfl rfl) (Or.inl rfl) (by omega) (by decide) ((hR.ar rfl _).trans (hA.p (by decide) (by decide) (by omega))) ?_
                            have b181 := hW.w.b14 (show A.1.1 21 (iN a1) < 7 by omega)
                            exact hr_iret X hr dX5_says_182 (tw_end (by rw [sq_says, if_pos c5, if_neg c9, if_pos c15, if_neg (show ¬ ((A.1.1 18 (iN a1)) = 1) by omega), if_neg (show ¬ ((A.1.1 18 (iN a1)) = 0) by omega), if_pos (show (iN a2) = 1 by omega), if_neg (show ¬ ((A.1.1 9 (A.1.1 21 (iN a1))) = 2) by omega), if_neg (show ¬ ((iN a2) = 3) by omega), if_pos (show (iN a2) = 4 by omega), if_pos (show (A.1.1 9 (A.1.1 21 (iN a1))) = 6 by omega), if_neg (show ¬ ((iN a2) = 0) by omega), if_neg (show ¬ ((iN a2) = (A.1.1 9 (A.1.1 21 (iN a1)))) by omega), if_pos e136_0]) hR hA)
                          by_cases e136_1 : (iN a2) = 1
                          · refine hr_tableIn (off := 47) (tgt := 183) X dX5_says_136 (by rw [(congrArg nI e136_1)]; decide) (by rw [(congrArg nI e136_1)]; decide) (by rw [(congrArg nI e136_1)]; rfl) (by decide) ?_
                            refine hr_aload0 (q := 184) X dX5_says_183 rfl ?_
                            refine hr_iload3 (q := 185) X dX5_says_184 rfl ?_
                            refine hr_callP (q := 188) (hc_V (n := 1) (ci := 5) (As := [.int (nI (A.1.1 21 (iN a1)))]) X dX5_says_185 rfl (tk_shows X.tr hR hA.t hw (x := A.1.1 21 (iN a1)) (by omega)) q1555 cv_X5_shows ⟨Nat.le_of_ble_eq_true rfl, Nat.le_of_ble_eq_true rfl⟩ rfl (Nat.le_of_ble_eq_true rfl) hR.om rfl rfl) rfl ?_
                            have := sp_shows_lt (t := A.1) hw (x := (A.1.1 21 (iN a1))) (by omega)
                            exact hr_iret X hr dX5_says_188 (tw_end (by rw [sq_says, if_pos c5, if_neg c9, if_pos c15, if_neg (show ¬ ((A.1.1 18 (iN a1)) = 1) by omega), if_neg (show ¬ ((A.1.1 18 (iN a1)) = 0) by omega), if_pos (show (iN a2) = 1 by omega), if_neg (show ¬ ((A.1.1 9 (A.1.1 21 (iN a1))) = 2) by omega), if_neg (show ¬ ((iN a2) = 3) by omega), if_pos (show (iN a2) = 4 by omega), if_pos (show (A.1.1 9 (A.1.1 21 (iN a1))) = 6 by omega), if_neg (show ¬ ((iN a2) = 0) by omega), if_neg (show ¬ ((iN a2) = (A.1.1 9 (A.1.1 21 (iN a1)))) by omega), if_neg e136_0, if_pos e136_1]) hR hA)
                          by_cases e136_2 : (iN a2) = 2
                          · refine hr_tableIn (off := 47) (tgt := 183) X dX5_says_136 (by rw [(congrArg nI e136_2)]; decide) (by rw [(congrArg nI e136_2)]; decide) (by rw [(congrArg nI e136_2)]; rfl) (by decide) ?_
                            refine hr_aload0 (q := 184) X dX5_says_183 rfl ?_
                            refine hr_iload3 (q := 185) X dX5_says_184 rfl ?_
                            refine hr_callP (q := 188) (hc_V (n := 1) (ci := 5) (As := [.int (nI (A.1.1 21 (iN a1)))]) X dX5_says_185 rfl (tk_shows X.tr hR hA.t hw (x := A.1.1 21 (iN a1)) (by omega)) q1555 cv_X5_shows ⟨Nat.le_of_ble_eq_true rfl, Nat.le_of_ble_eq_true rfl⟩ rfl (Nat.le_of_ble_eq_true rfl) hR.om rfl rfl) rfl ?_
                            have := sp_shows_lt (t := A.1) hw (x := (A.1.1 21 (iN a1))) (by omega)
                            exact hr_iret X hr dX5_says_188 (tw_end (by rw [sq_says, if_pos c5, if_neg c9, if_pos c15, if_neg (show ¬ ((A.1.1 18 (iN a1)) = 1) by omega), if_neg (show ¬ ((A.1.1 18 (iN a1)) = 0) by omega), if_pos (show (iN a2) = 1 by omega), if_neg (show ¬ ((A.1.1 9 (A.1.1 21 (iN a1))) = 2) by omega), if_neg (show ¬ ((iN a2) = 3) by omega), if_pos (show (iN a2) = 4 by omega), if_pos (show (A.1.1 9 (A.1.1 21 (iN a1))) = 6 by omega), if_neg (show ¬ ((iN a2) = 0) by omega), if_neg (show ¬ ((iN a2) = (A.1.1 9 (A.1.1 21 (iN a1)))) by omega), if_neg e136_0, if_neg e136_1, if_pos e136_2]) hR hA)
                          by_cases e136_3 : (iN a2) = 3
                          · refine hr_tableIn (off := 53) (tgt := 189) X dX5_says_136 (by rw [(congrArg nI e136_3)]; decide) (by rw [(congrArg nI e136_3)]; decide) (by rw [(congrArg nI e136_3)]; rfl) (by decide) ?_
                            refine hr_aload0 (q := 190) X dX5_says_189 rfl ?_
                            refine hr_getR (v := am 13) (q := 193) X dX5_says_190 rfl fr_q1395_5 rfl hR.om (hR.f rfl) ?_
                            refine hr_iload3 (q := 194) X dX5_says_193 rfl ?_
                            refine hr_ialdN (v := (nI (A.1.1 13 (A.1.1 21 (iN a1))))) (q := 195) X dX5_says_194 rfl (hR.ka (n := 7) rfl rfl rfl) (Or.inl rfl) (by omega) (by decide) ((hR.ar rfl _).trans (hA.p (by decide) (by decide) (by omega))) ?_
                            have b194 := hW.w.b13 (show A.1.1 21 (iN a1) < 7 by omega)
                            exact hr_iret X hr dX5_says_195 (tw_end (by rw [sq_says, if_pos c5, if_neg c9, if_pos c15, if_neg (show ¬ ((A.1.1 18 (iN a1)) = 1) by omega), if_neg (show ¬ ((A.1.1 18 (iN a1)) = 0) by omega), if_pos (show (iN a2) = 1 by omega), if_neg (show ¬ ((A.1.1 9 (A.1.1 21 (iN a1))) = 2) by omega), if_neg (show ¬ ((iN a2) = 3) by omega), if_pos (show (iN a2) = 4 by omega), if_pos (show (A.1.1 9 (A.1.1 21 (iN a1))) = 6 by omega), if_neg (show ¬ ((iN a2) = 0) by omega), if_neg (show ¬ ((iN a2) = (A.1.1 9 (A.1.1 21 (iN a1)))) by omega), if_neg e136_0, if_neg e136_1, if_neg e136_2, if_pos e136_3]) hR hA)
                          by_cases e136_4 : (iN a2) = 4
                          · refine hr_tableIn (off := 60) (tgt := 196) X dX5_says_136 (by rw [(congrArg nI e136_4)]; decide) (by rw [(congrArg nI e136_4)]; decide) (by rw [(congrArg nI e136_4)]; rfl) (by decide) ?_
                            refine hr_aload0 (q := 197) X dX5_says_196 rfl ?_
                            refine hr_getR (v := am 12) (q := 200) X dX5_says_197 rfl fr_q1394_5 rfl hR.om (hR.f rfl) ?_
                            refine hr_iload3 (q := 201) X dX5_says_200 rfl ?_
                            refine hr_ialdN (v := (nI (A.1.1 12 (A.1.1 21 (iN a1))))) (q := 202) X dX5_says_201 rfl (hR.ka (n := 7) rfl rfl rfl) (Or.inl rfl) (by omega) (by decide) ((hR.ar rfl _).trans (hA.p (by decide) (by decide) (by omega))) ?_
                            have b201 := hW.w.b12 (show A.1.1 21 (iN a1) < 7 by omega)
                            exact hr_iret X hr dX5_says_202 (tw_end (by rw [sq_says, if_pos c5, if_neg c9, if_pos c15, if_neg (show ¬ ((A.1.1 18 (iN a1)) = 1) by omega), if_neg (show ¬ ((A.1.1 18 (iN a1)) = 0) by omega), if_pos (show (iN a2) = 1 by omega), if_neg (show ¬ ((A.1.1 9 (A.1.1 21 (iN a1))) = 2) by omega), if_neg (show ¬ ((iN a2) = 3) by omega), if_pos (show (iN a2) = 4 by omega), if_pos (show (A.1.1 9 (A.1.1 21 (iN a1))) = 6 by omega), if_neg (show ¬ ((iN a2) = 0) by omega), if_neg (show ¬ ((iN a2) = (A.1.1 9 (A.1.1 21 (iN a1)))) by omega), if_neg e136_0, if_neg e136_1, if_neg e136_2, if_neg e136_3, if_pos e136_4]) hR hA)
                          by_cases e136_5 : (iN a2) = 5
                          · refine hr_tableIn (off := 53) (tgt := 189) X dX5_says_136 (by rw [(congrArg nI e136_5)]; decide) (by rw [(congrArg nI e136_5)]; decide) (by rw [(congrArg nI e136_5)]; rfl) (by decide) ?_
                            refine hr_aload0 (q := 190) X dX5_says_189 rfl ?_
                            refine hr_getR (v := am 13) (q := 193) X dX5_says_190 rfl fr_q1395_5 rfl hR.om (hR.f rfl) ?_
                            refine hr_iload3 (q := 194) X dX5_says_193 rfl ?_
                            refine hr_ialdN (v := (nI (A.1.1 13 (A.1.1 21 (iN a1))))) (q := 195) X dX5_says_194 rfl (hR.ka (n := 7) rfl rfl rfl) (Or.inl rfl) (by omega) (by decide) ((hR.ar rfl _).trans (hA.p (by decide) (by decide) (by omega))) ?_
                            have b194 := hW.w.b13 (show A.1.1 21 (iN a1) < 7 by omega)
                            exact hr_iret X hr dX5_says_195 (tw_end (by rw [sq_says, if_pos c5, if_neg c9, if_pos c15, if_neg (show ¬ ((A.1.1 18 (iN a1)) = 1) by omega), if_neg (show ¬ ((A.1.1 18 (iN a1)) = 0) by omega), if_pos (show (iN a2) = 1 by omega), if_neg (show ¬ ((A.1.1 9 (A.1.1 21 (iN a1))) = 2) by omega), if_neg (show ¬ ((iN a2) = 3) by omega), if_pos (show (iN a2) = 4 by omega), if_pos (show (A.1.1 9 (A.1.1 21 (iN a1))) = 6 by omega), if_neg (show ¬ ((iN a2) = 0) by omega), if_neg (show ¬ ((iN a2) = (A.1.1 9 (A.1.1 21 (iN a1)))) by omega), if_neg e136_0, if_neg e136_1, if_neg e136_2, if_neg e136_3, if_neg e136_4, if_pos e136_5]) hR hA)
                          refine hr_tableOut (tgt := 196) X dX5_says_136 (sp_out (n := 6) (by decide) (fun i hi => by match i, hi with | 0, _ => exact (fun z => e136_0 ((nI_eq (by omega) (by omega)).mp z)) | 1, _ => exact (fun z => e136_1 ((nI_eq (by omega) (by omega)).mp z)) | 2, _ => exact (fun z => e136_2 ((nI_eq (by omega) (by omega)).mp z)) | 3, _ => exact (fun z => e136_3 ((nI_eq (by omega) (by omega)).mp z)) | 4, _ => exact (fun z => e136_4 ((nI_eq (by omega) (by omega)).mp z)) | 5, _ => exact (fun z => e136_5 ((nI_eq (by omega) (by omega)).mp z)) | (k + 6), hi => omega)) (by decide) ?_
                          refine hr_aload0 (q := 197) X dX5_says_196 rfl ?_
                          refine hr_getR (v := am 12) (q := 200) X dX5_says_197 rfl fr_q1394_5 rfl hR.om (hR.f rfl) ?_
                          refine hr_iload3 (q := 201) X dX5_says_200 rfl ?_
                          refine hr_ialdN (v := (nI (A.1.1 12 (A.1.1 21 (iN a1))))) (q := 202) X dX5_says_201 rfl (hR.ka (n := 7) rfl rfl rfl) (Or.inl rfl) (by omega) (by decide) ((hR.ar rfl _).trans (hA.p (by decide) (by decide) (by omega))) ?_
                          have b201 := hW.w.b12 (show A.1.1 21 (iN a1) < 7 by omega)
                          exact hr_iret X hr dX5_says_202 (tw_end (by rw [sq_says, if_pos c5, if_neg c9, if_pos c15, if_neg (show ¬ ((A.1.1 18 (iN a1)) = 1) by omega), if_neg (show ¬ ((A.1.1 18 (iN a1)) = 0) by omega), if_pos (show (iN a2) = 1 by omega), if_neg (show ¬ ((A.1.1 9 (A.1.1 21 (iN a1))) = 2) by omega), if_neg (show ¬ ((iN a2) = 3) by omega), if_pos (show (iN a2) = 4 by omega), if_pos (show (A.1.1 9 (A.1.1 21 (iN a1))) = 6 by omega), if_neg (show ¬ ((iN a2) = 0) by omega), if_neg (show ¬ ((iN a2) = (A.1.1 9 (A.1.1 21 (iN a1)))) by omega), if_neg e136_0, if_neg e136_1, if_neg e136_2, if_neg e136_3, if_neg e136_4, if_neg e136_5]) hR hA)
                · refine hr_iload4 (q := 90) X dX5_says_88 rfl ?_
                  refine hr_iconst (v := (nI 5)) (q := 91) X dX5_says_90 rfl rfl ?_
                  refine hr_icmpN_eq (q := 94) (tgt := 106) X dX5_says_91 rfl (by decide) (by omega) (by omega) (fun c91 => ?_) (fun c91 => ?_)
                  · refine hr_iconst (v := (nI 1)) (q := 107) X dX5_says_106 rfl rfl ?_
                    refine hr_goto (tgt := 111) X dX5_says_107 (by decide) ?_
                    refine hr_istore5 (q := 113) X dX5_says_111 rfl rfl (Nat.le_of_ble_eq_true rfl) ?_
                    refine hr_iload2 (q := 114) X dX5_says_113 rfl ?_
                    refine hr_ifN_eq (q := 117) (tgt := 135) X dX5_says_114 rfl (by decide) (by omega) (fun c114 => ?_) (fun c114 => ?_)
                    · refine hr_iload2 (q := 136) X dX5_says_135 rfl ?_
                      by_cases e136_0 : (iN a2) = 0
                      · refine hr_tableIn (off := 40) (tgt := 176) X dX5_says_136 (by rw [(congrArg nI e136_0)]; decide) (by rw [(congrArg nI e136_0)]; decide) (by rw [(congrArg nI e136_0)]; rfl) (by decide) ?_
                        refine hr_aload0 (q := 177) X dX5_says_176 rfl ?_
                        refine hr_getR (v := am 14) (q := 180) X dX5_says_177 rfl fr_q1396_5 rfl hR.om (hR.f rfl) ?_
                        refine hr_iload3 (q := 181) X dX5_says_180 rfl ?_
                        refine hr_ialdN (v := (nI (A.1.1 14 (A.1.1 21 (iN a1))))) (q := 182) X dX5_says_181 rfl (hR.ka (n := 7) rfl rfl rfl) (Or.inl rfl) (by omega) (by decide) ((hR.ar rfl _).trans (hA.p (by decide) (by decide) (by omega))) ?_
                        have b181 := hW.w.b14 (show A.1.1 21 (iN a1) < 7 by omega)
                        exact hr_iret X hr dX5_says_182 (tw_end (by rw [sq_says, if_pos c5, if_neg c9, if_pos c15, if_neg (show ¬ ((A.1.1 18 (iN a1)) = 1) by omega), if_neg (show ¬ ((A.1.1 18 (iN a1)) = 0) by omega), if_pos (show (iN a2) = 1 by omega), if_neg (show ¬ ((A.1.1 9 (A.1.1 21 (iN a1))) = 2) by omega), if_pos (show (iN a2) = 3 by omega), if_pos (show (A.1.1 9 (A.1.1 21 (iN a1))) = 5 by omega), if_pos (show (iN a2) = 0 by omega), if_pos e136_0]) hR hA)
                      by_cases e136_1 : (iN a2) = 1
                      · refine hr_tableIn (off := 47) (tgt := 183) X dX5_says_136 (by rw [(congrArg nI e136_1)]; decide) (by rw [(congrArg nI e136_1)]; decide) (by rw [(congrArg nI e136_1)]; rfl) (by decide) ?_
                        refine hr_aload0 (q := 184) X dX5_says_183 rfl ?_
                        refine hr_iload3 (q := 185) X dX5_says_184 rfl ?_
                        refine hr_callP (q := 188) (hc_V (n := 1) (ci := 5) (As := [.int (nI (A.1.1 21 (iN a1)))]) X dX5_says_185 rfl (tk_shows X.tr hR hA.t hw (x := A.1.1 21 (iN a1)) (by omega)) q1555 cv_X5_shows ⟨Nat.le_of_ble_eq_true rfl, Nat.le_of_ble_eq_true rfl⟩ rfl (Nat.le_of_ble_eq_true rfl) hR.om rfl rfl) rfl ?_
                        have := sp_shows_lt (t := A.1) hw (x := (A.1.1 21 (iN a1))) (by omega)
                        exact hr_iret X hr dX5_says_188 (tw_end (by rw [sq_says, if_pos c5, if_neg c9, if_pos c15, if_neg (show ¬ ((A.1.1 18 (iN a1)) = 1) by omega), if_neg (show ¬ ((A.1.1 18 (iN a1)) = 0) by omega), if_pos (show (iN a2) = 1 by omega), if_neg (show ¬ ((A.1.1 9 (A.1.1 21 (iN a1))) = 2) by omega), if_pos (show (iN a2) = 3 by omega), if_pos (show (A.1.1 9 (A.1.1 21 (iN a1))) = 5 by omega), if_pos (show (iN a2) = 0 by omega), if_neg e136_0, if_pos e136_1]) hR hA)
                      by_cases e136_2 : (iN a2) = 2
                      · refine hr_tableIn (off := 47) (tgt := 183) X dX5_says_136 (by rw [(congrArg nI e136_2)]; decide) (by rw [(congrArg nI e136_2)]; decide) (by rw [(congrArg nI e136_2)]; rfl) (by decide) ?_
                        refine hr_aload0 (q := 184) X dX5_says_183 rfl ?_
                        refine hr_iload3 (q := 185) X dX5_says_184 rfl ?_
                        refine hr_callP (q := 188) (hc_V (n := 1) (ci := 5) (As := [.int (nI (A.1.1 21 (iN a1)))]) X dX5_says_185 rfl (tk_shows X.tr hR hA.t hw (x := A.1.1 21 (iN a1)) (by omega)) q1555 cv_X5_shows ⟨Nat.le_of_ble_eq_true rfl, Nat.le_of_ble_eq_true rfl⟩ rfl (Nat.le_of_ble_eq_true rfl) hR.om rfl rfl) rfl ?_
                        have := sp_shows_lt (t := A.1) hw (x := (A.1.1 21 (iN a1))) (by omega)
                        exact hr_iret X hr dX5_says_188 (tw_end (by rw [sq_says, if_pos c5, if_neg c9, if_pos c15, if_neg (show ¬ ((A.1.1 18 (iN a1)) = 1) by omega), if_neg (show ¬ ((A.1.1 18 (iN a1)) = 0) by omega), if_pos (show (iN a2) = 1 by omega), if_neg (show ¬ ((A.1.1 9 (A.1.1 21 (iN a1))) = 2) by omega), if_pos (show (iN a2) = 3 by omega), if_pos (show (A.1.1 9 (A.1.1 21 (iN a1))) = 5 by omega), if_pos (show (iN a2) = 0 by omega), if_neg e136_0, if_neg e136_1, if_pos e136_2]) hR hA)
                      by_cases e136_3 : (iN a2) = 3
                      · refine hr_tableIn (off := 53) (tgt := 189) X dX5_says_136 (by rw [(congrArg nI e136_3)]; decide) (by rw [(congrArg nI e136_3)]; decide) (by rw [(congrArg nI e136_3)]; rfl) (by decide) ?_
                        refine hr_aload0 (q := 190) X dX5_says_189 rfl ?_
                        refine hr_getR (v := am 13) (q := 193) X dX5_says_190 rfl fr_q1395_5 rfl hR.om (hR.f rfl) ?_
                        refine hr_iload3 (q := 194) X dX5_says_193 rfl ?_
                        refine hr_ialdN (v := (nI (A.1.1 13 (A.1.1 21 (iN a1))))) (q := 195) X dX5_says_194 rfl (hR.ka (n := 7) rfl rfl rfl) (Or.inl rfl) (by omega) (by decide) ((hR.ar rfl _).trans (hA.p (by decide) (by decide) (by omega))) ?_
                        have b194 := hW.w.b13 (show A.1.1 21 (iN a1) < 7 by omega)
                        exact hr_iret X hr dX5_says_195 (tw_end (by rw [sq_says, if_pos c5, if_neg c9, if_pos c15, if_neg (show ¬ ((A.1.1 18 (iN a1)) = 1) by omega), if_neg (show ¬ ((A.1.1 18 (iN a1)) = 0) by omega), if_pos (show (iN a2) = 1 by omega), if_neg (show ¬ ((A.1.1 9 (A.1.1 21 (iN a1))) = 2) by omega), if_pos (show (iN a2) = 3 by omega), if_pos (show (A.1.1 9 (A.1.1 21 (iN a1))) = 5 by omega), if_pos (show (iN a2) = 0 by omega), if_neg e136_0, if_neg e136_1, if_neg e136_2, if_pos e136_3]) hR hA)
                      by_cases e136_4 : (iN a2) = 4
                      · refine hr_tableIn (off := 60) (tgt := 196) X dX5_says_136 (by rw [(congrArg nI e136_4)]; decide) (by rw [(congrArg nI e136_4)]; decide) (by rw [(congrArg nI e136_4)]; rfl) (by decide) ?_
                        refine hr_aload0 (q := 197) X dX5_says_196 rfl ?_
                        refine hr_getR (v := am 12) (q := 200) X dX5_says_197 rfl fr_q1394_5 rfl hR.om (hR.f rfl) ?_
                        refine hr_iload3 (q := 201) X dX5_says_200 rfl ?_
                        refine hr_ialdN (v := (nI (A.1.1 12 (A.1.1 21 (iN a1))))) (q := 202) X dX5_says_201 rfl (hR.ka (n := 7) rfl rfl rfl) (Or.inl rfl) (by omega) (by decide) ((hR.ar rfl _).trans (hA.p (by decide) (by decide) (by omega))) ?_
                        have b201 := hW.w.b12 (show A.1.1 21 (iN a1) < 7 by omega)
                        exact hr_iret X hr dX5_says_202 (tw_end (by rw [sq_says, if_pos c5, if_neg c9, if_pos c15, if_neg (show ¬ ((A.1.1 18 (iN a1)) = 1) by omega), if_neg (show ¬ ((A.1.1 18 (iN a1)) = 0) by omega), if_pos (show (iN a2) = 1 by omega), if_neg (show ¬ ((A.1.1 9 (A.1.1 21 (iN a1))) = 2) by omega), if_pos (show (iN a2) = 3 by omega), if_pos (show (A.1.1 9 (A.1.1 21 (iN a1))) = 5 by omega), if_pos (show (iN a2) = 0 by omega), if_neg e136_0, if_neg e136_1, if_neg e136_2, if_neg e136_3, if_pos e136_4]) hR hA)
                      by_cases e136_5 : (iN a2) = 5
                      · refine hr_tableIn (off := 53) (tgt := 189) X dX5_says_136 (by rw [(congrArg nI e136_5)]; decide) (by rw [(congrArg nI e136_5)]; decide) (by rw [(congrArg nI e136_5)]; rfl) (by decide) ?_
                        refine hr_aload0 (q := 190) X dX5_says_189 rfl ?_
                        refine hr_getR (v := am 13) (q := 193) X dX5_says_190 rfl fr_q1395_5 rfl hR.om (hR.f rfl) ?_
                        refine hr_iload3 (q := 194) X dX5_says_193 rfl ?_
                        refine hr_ialdN (v := (nI (A.1.1 13 (A.1.1 21 (iN a1))))) (q := 195) X dX5_says_194 rfl (hR.ka (n := 7) rfl rfl rfl) (Or.inl rfl) (by omega) (by decide) ((hR.ar rfl _).trans (hA.p (by decide) (by decide) (by omega))) ?_
                        have b194 := hW.w.b13 (show A.1.1 21 (iN a1) < 7 by omega)
                        exact hr_iret X hr dX5_says_195 (tw_end (by rw [sq_says, if_pos c5, if_neg c9, if_pos c15, if_neg (show ¬ ((A.1.1 18 (iN a1)) = 1) by omega), if_neg (show ¬ ((A.1.1 18 (iN a1)) = 0) by omega), if_pos (show (iN a2) = 1 by omega), if_neg (show ¬ ((A.1.1 9 (A.1.1 21 (iN a1))) = 2) by omega), if_pos (show (iN a2) = 3 by omega), if_pos (show (A.1.1 9 (A.1.1 21 (iN a1))) = 5 by omega), if_pos (show (iN a2) = 0 by omega), if_neg e136_0, if_neg e136_1, if_neg e136_2, if_neg e136_3, if_neg e136_4, if_pos e136_5]) hR hA)
                      refine hr_tableOut (tgt := 196) X dX5_says_136 (sp_out (n := 6) (by decide) (fun i hi => by match i, hi with | 0, _ => exact (fun z => e136_0 ((nI_eq (by omega) (by omega)).mp z)) | 1, _ => exact (fun z => e136_1 ((nI_eq (by omega) (by omega)).mp z)) | 2, _ => exact (fun z => e136_2 ((nI_eq (by omega) (by omega)).mp z)) | 3, _ => exact (fun z => e136_3 ((nI_eq (by omega) (by omega)).mp z)) | 4, _ => exact (fun z => e136_4 ((nI_eq (by omega) (by omega)).mp z)) | 5, _ => exact (fun z => e136_5 ((nI_eq (by omega) (by omega)).mp z)) | (k + 6), hi => omega)) (by decide) ?_
                      refine hr_aload0 (q := 197) X dX5_says_196 rfl ?_
                      refine hr_getR (v := am 12) (q := 200) X dX5_says_197 rfl fr_q1394_5 rfl hR.om (hR.f rfl) ?_
                      refine hr_iload3 (q := 201) X dX5_says_200 rfl ?_
                      refine hr_ialdN (v := (nI (A.1.1 12 (A.1.1 21 (iN a1))))) (q := 202) X dX5_says_201 rfl (hR.ka (n := 7) rfl rfl rfl) (Or.inl rfl) (by omega) (by decide) ((hR.ar rfl _).trans (hA.p (by decide) (by decide) (by omega))) ?_
                      have b201 := hW.w.b12 (show A.1.1 21 (iN a1) < 7 by omega)
                      exact hr_iret X hr dX5_says_202 (tw_end (by rw [sq_says, if_pos c5, if_neg c9, if_pos c15, if_neg (show ¬ ((A.1.1 18 (iN a1)) = 1) by omega), if_neg (show ¬ ((A.1.1 18 (iN a1)) = 0) by omega), if_pos (show (iN a2) = 1 by omega), if_neg (show ¬ ((A.1.1 9 (A.1.1 21 (iN a1))) = 2) by omega), if_pos (show (iN a2) = 3 by omega), if_pos (show (A.1.1 9 (A.1.1 21 (iN a1))) = 5 by omega), if_pos (show (iN a2) = 0 by omega), if_neg e136_0, if_neg e136_1, if_neg e136_2, if_neg e136_3, if_neg e136_4, if_neg e136_5]) hR hA)
                    · refine hr_iload2 (q := 118) X dX5_says_117 rfl ?_
                      refine hr_iload4 (q := 120) X dX5_says_118 rfl ?_
                      refine hr_icmpN_eq (q := 123) (tgt := 135) X dX5_says_120 rfl (by decide) (by omega) (by omega) (fun c120 => ?_) (fun c120 => ?_)
                      · refine hr_iload2 (q := 136) X dX5_says_135 rfl ?_
                        by_cases e136_0 : (iN a2) = 0
                        · refine hr_tableIn (off := 40) (tgt := 176) X dX5_says_136 (by rw [(congrArg nI e136_0)]; decide) (by rw [(congrArg nI e136_0)]; decide) (by rw [(congrArg nI e136_0)]; rfl) (by decide) ?_
                          refine hr_aload0 (q := 177) X dX5_says_176 rfl ?_
                          refine hr_getR (v := am 14) (q := 180) X dX5_says_177 rfl fr_q1396_5 rfl hR.om (hR.f rfl) ?_
                          refine hr_iload3 (q := 181) X dX5_says_180 rfl ?_
                          refine hr_ialdN (v := (nI (A.1.1 14 (A.1.1 21 (iN a1))))) (q := 182) X dX5_says_181 rfl (hR.ka (n := 7) rfl rfl rfl) (Or.inl rfl) (by omega) (by decide) ((hR.ar rfl _).trans (hA.p (by decide) (by decide) (by omega))) ?_
                          have b181 := hW.w.b14 (show A.1.1 21 (iN a1) < 7 by omega)
                          exact hr_iret X hr dX5_says_182 (tw_end (by rw [sq_says, if_pos c5, if_neg c9, if_pos c15, if_neg (show ¬ ((A.1.1 18 (iN a1)) = 1) by omega), if_neg (show ¬ ((A.1.1 18 (iN a1)) = 0) by omega), if_pos (show (iN a2) = 1 by omega), if_neg (show ¬ ((A.1.1 9 (A.1.1 21 (iN a1))) = 2) by omega), if_pos (show (iN a2) = 3 by omega), if_pos (show (A.1.1 9 (A.1.1 21 (iN a1))) = 5 by omega), if_neg (show ¬ ((iN a2) = 0) by omega), if_pos (show (iN a2) = (A.1.1 9 (A.1.1 21 (iN a1))) by omega), if_pos e136_0]) hR hA)
                        by_cases e136_1 : (iN a2) = 1
                        · refine hr_tableIn (off := 47) (tgt := 183) X dX5_says_136 (by rw [(congrArg nI e136_1)]; decide) (by rw [(congrArg nI e136_1)]; decide) (by rw [(congrArg nI e136_1)]; rfl) (by decide) ?_
                          refine hr_aload0 (q := 184) X dX5_says_183 rfl ?_
                          refine hr_iload3 (q := 185) X dX5_says_184 rfl ?_
                          refine hr_callP (q := 188) (hc_V (n := 1) (ci := 5) (As := [.int (nI (A.1.1 21 (iN a1)))]) X dX5_says_185 rfl (tk_shows X.tr hR hA.t hw (x := A.1.1 21 (iN a1)) (by omega)) q1555 cv_X5_shows ⟨Nat.le_of_ble_eq_true rfl, Nat.le_of_ble_eq_true rfl⟩ rfl (Nat.le_of_ble_eq_true rfl) hR.om rfl rfl) rfl ?_
                          have := sp_shows_lt (t := A.1) hw (x := (A.1.1 21 (iN a1))) (by omega)
                          exact hr_iret X hr dX5_says_188 (tw_end (by rw [sq_says, if_pos c5, if_neg c9, if_pos c15, if_neg (show ¬ ((A.1.1 18 (iN a1)) = 1) by omega), if_neg (show ¬ ((A.1.1 18 (iN a1)) = 0) by omega), if_pos (show (iN a2) = 1 by omega), if_neg (show ¬ ((A.1.1 9 (A.1.1 21 (iN a1))) = 2) by omega), if_pos (show (iN a2) = 3 by omega), if_pos (show (A.1.1 9 (A.1.1 21 (iN a1))) = 5 by omega), if_neg (show ¬ ((iN a2) = 0) by omega), if_pos (show (iN a2) = (A.1.1 9 (A.1.1 21 (iN a1))) by omega), if_neg e136_0, if_pos e136_1]) hR hA)
                        by_cases e136_2 : (iN a2) = 2
                        · refine hr_tableIn (off := 47) (tgt := 183) X dX5_says_136 (by rw [(congrArg nI e136_2)]; decide) (by rw [(congrArg nI e136_2)]; decide) (by rw [(congrArg nI e136_2)]; rfl) (by decide) ?_
                          refine hr_aload0 (q := 184) X dX5_says_183 rfl ?_
                          refine hr_iload3 (q := 185) X dX5_says_184 rfl ?_
                          refine hr_callP (q := 188) (hc_V (n := 1) (ci := 5) (As := [.int (nI (A.1.1 21 (iN a1)))]) X dX5_says_185 rfl (tk_shows X.tr hR hA.t hw (x := A.1.1 21 (iN a1)) (by omega)) q1555 cv_X5_shows ⟨Nat.le_of_ble_eq_true rfl, Nat.le_of_ble_eq_true rfl⟩ rfl (Nat.le_of_ble_eq_true rfl) hR.om rfl rfl) rfl ?_
                          have := sp_shows_lt (t := A.1) hw (x := (A.1.1 21 (iN a1))) (by omega)
                          exact hr_iret X hr dX5_says_188 (tw_end (by rw [sq_says, if_pos c5, if_neg c9, if_pos c15, if_neg (show ¬ ((A.1.1 18 (iN a1)) = 1) by omega), if_neg (show ¬ ((A.1.1 18 (iN a1)) = 0) by omega), if_pos (show (iN a2) = 1 by omega), if_neg (show ¬ ((A.1.1 9 (A.1.1 21 (iN a1))) = 2) by omega), if_pos (show (iN a2) = 3 by omega), if_pos (show (A.1.1 9 (A.1.1 21 (iN a1))) = 5 by omega), if_neg (show ¬ ((iN a2) = 0) by omega), if_pos (show (iN a2) = (A.1.1 9 (A.1.1 21 (iN a1))) by omega), if_neg e136_0, if_neg e136_1, if_pos e136_2]) hR hA)
                        by_cases e136_3 : (iN a2) = 3
                        · refine hr_tableIn (off := 53) (tgt := 189) X dX5_says_136 (by rw [(congrArg nI e136_3)]; decide) (by rw [(congrArg nI e136_3)]; decide) (by rw [(congrArg nI e136_3)]; rfl) (by decide) ?_
                          refine hr_aload0 (q := 190) X dX5_says_189 rfl ?_
                          refine hr_getR (v := am 13) (q := 193) X dX5_says_190 rfl fr_q1395_5 rfl hR.om (hR.f rfl) ?_
                          refine hr_iload3 (q := 194) X dX5_says_193 rfl ?_
                          refine hr_ialdN (v := (nI (A.1.1 13 (A.1.1 21 (iN a1))))) (q := 195) X dX5_says_194 rfl (hR.ka (n := 7) rfl rfl rfl) (Or.inl rfl) (by omega) (by decide) ((hR.ar rfl _).trans (hA.p (by decide) (by decide) (by omega))) ?_
                          have b194 := hW.w.b13 (show A.1.1 21 (iN a1) < 7 by omega)
                          exact hr_iret X hr dX5_says_195 (tw_end (by rw [sq_says, if_pos c5, if_neg c9, if_pos c15, if_neg (show ¬ ((A.1.1 18 (iN a1)) = 1) by omega), if_neg (show ¬ ((A.1.1 18 (iN a1)) = 0) by omega), if_pos (show (iN a2) = 1 by omega), if_neg (show ¬ ((A.1.1 9 (A.1.1 21 (iN a1))) = 2) by omega), if_pos (show (iN a2) = 3 by omega), if_pos (show (A.1.1 9 (A.1.1 21 (iN a1))) = 5 by omega), if_neg (show ¬ ((iN a2) = 0) by omega), if_pos (show (iN a2) = (A.1.1 9 (A.1.1 21 (iN a1))) by omega), if_neg e136_0, if_neg e136_1, if_neg e136_2, if_pos e136_3]) hR hA)
                        by_cases e136_4 : (iN a2) = 4
                        · refine hr_tableIn (off := 60) (tgt := 196) X dX5_says_136 (by rw [(congrArg nI e136_4)]; decide) (by rw [(congrArg nI e136_4)]; decide) (by rw [(congrArg nI e136_4)]; rfl) (by decide) ?_
                          refine hr_aload0 (q := 197) X dX5_says_196 rfl ?_
                          refine hr_getR (v := am 12) (q := 200) X dX5_says_197 rfl fr_q1394_5 rfl hR.om (hR.f rfl) ?_
                          refine hr_iload3 (q := 201) X dX5_says_200 rfl ?_
                          refine hr_ialdN (v := (nI (A.1.1 12 (A.1.1 21 (iN a1))))) (q := 202) X dX5_says_201 rfl (hR.ka (n := 7) rfl rfl rfl) (Or.inl rfl) (by omega) (by decide) ((hR.ar rfl _).trans (hA.p (by decide) (by decide) (by omega))) ?_
                          have b201 := hW.w.b12 (show A.1.1 21 (iN a1) < 7 by omega)
                          exact hr_iret X hr dX5_says_202 (tw_end (by rw [sq_says, if_pos c5, if_neg c9, if_pos c15, if_neg (show ¬ ((A.1.1 18 (iN a1)) = 1) by omega), if_neg (show ¬ ((A.1.1 18 (iN a1)) = 0) by omega), if_pos (show (iN a2) = 1 by omega), if_neg (show ¬ ((A.1.1 9 (A.1.1 21 (iN a1))) = 2) by omega), if_pos (show (iN a2) = 3 by omega), if_pos (show (A.1.1 9 (A.1.1 21 (iN a1))) = 5 by omega), if_neg (show ¬ ((iN a2) = 0) by omega), if_pos (show (iN a2) = (A.1.1 9 (A.1.1 21 (iN a1))) by omega), if_neg e136_0, if_neg e136_1, if_neg e136_2, if_neg e136_3, if_pos e136_4]) hR hA)
                        by_cases e136_5 : (iN a2) = 5
                        · refine hr_tableIn (off := 53) (tgt := 189) X dX5_says_136 (by rw [(congrArg nI e136_5)]; decide) (by rw [(congrArg nI e136_5)]; decide) (by rw [(congrArg nI e136_5)]; rfl) (by decide) ?_
                          refine hr_aload0 (q := 190) X dX5_says_189 rfl ?_
                          refine hr_getR (v := am 13) (q := 193) X dX5_says_190 rfl fr_q1395_5 rfl hR.om (hR.f rfl) ?_
                          refine hr_iload3 (q := 194) X dX5_says_193 rfl ?_
                          refine hr_ialdN (v := (nI (A.1.1 13 (A.1.1 21 (iN a1))))) (q := 195) X dX5_says_194 rfl (hR.ka (n := 7) rfl rfl rfl) (Or.inl rfl) (by omega) (by decide) ((hR.ar rfl _).trans (hA.p (by decide) (by decide) (by omega))) ?_
                          have b194 := hW.w.b13 (show A.1.1 21 (iN a1) < 7 by omega)
                          exact hr_iret X hr dX5_says_195 (tw_end (by rw [sq_says, if_pos c5, if_neg c9, if_pos c15, if_neg (show ¬ ((A.1.1 18 (iN a1)) = 1) by omega), if_neg (show ¬ ((A.1.1 18 (iN a1)) = 0) by omega), if_pos (show (iN a2) = 1 by omega), if_neg (show ¬ ((A.1.1 9 (A.1.1 21 (iN a1))) = 2) by omega), if_pos (show (iN a2) = 3 by omega), if_pos (show (A.1.1 9 (A.1.1 21 (iN a1))) = 5 by omega), if_neg (show ¬ ((iN a2) = 0) by omega), if_pos (show (iN a2) = (A.1.1 9 (A.1.1 21 (iN a1))) by omega), if_neg e136_0, if_neg e136_1, if_neg e136_2, if_neg e136_3, if_neg e136_4, if_pos e136_5]) hR hA)
                        refine hr_tableOut (tgt := 196) X dX5_says_136 (sp_out (n := 6) (by decide) (fun i hi => by match i, hi with | 0, _ => exact (fun z => e136_0 ((nI_eq (by omega) (by omega)).mp z)) | 1, _ => exact (fun z => e136_1 ((nI_eq (by omega) (by omega)).mp z)) | 2, _ => exact (fun z => e136_2 ((nI_eq (by omega) (by omega)).mp z)) | 3, _ => exact (fun z => e136_3 ((nI_eq (by omega) (by omega)).mp z)) | 4, _ => exact (fun z => e136_4 ((nI_eq (by omega) (by omega)).mp z)) | 5, _ => exact (fun z => e136_5 ((nI_eq (by omega) (by omega)).mp z)) | (k + 6), hi => omega)) (by decide) ?_
                        refine hr_aload0 (q := 197) X dX5_says_196 rfl ?_
                        refine hr_getR (v := am 12) (q := 200) X dX5_says_197 rfl fr_q1394_5 rfl hR.om (hR.f rfl) ?_
                        refine hr_iload3 (q := 201) X dX5_says_200 rfl ?_
                        refine hr_ialdN (v := (nI (A.1.1 12 (A.1.1 21 (iN a1))))) (q := 202) X dX5_says_201 rfl (hR.ka (n := 7) rfl rfl rfl) (Or.inl rfl) (by omega) (by decide) ((hR.ar rfl _).trans (hA.p (by decide) (by decide) (by omega))) ?_
                        have b201 := hW.w.b12 (show A.1.1 21 (iN a1) < 7 by omega)
                        exact hr_iret X hr dX5_says_202 (tw_end (by rw [sq_says, if_pos c5, if_neg c9, if_pos c15, if_neg (show ¬ ((A.1.1 18 (iN a1)) = 1) by omega), if_neg (show ¬ ((A.1.1 18 (iN a1)) = 0) by omega), if_pos (show (iN a2) = 1 by omega), if_neg (show ¬ ((A.1.1 9 (A.1.1 21 (iN a1))) = 2) by omega), if_pos (show (iN a2) = 3 by omega), if_pos (show (A.1.1 9 (A.1.1 21 (iN a1))) = 5 by omega), if_neg (show ¬ ((iN a2) = 0) by omega), if_pos (show (iN a2) = (A.1.1 9 (A.1.1 21 (iN a1))) by omega), if_neg e136_0, if_neg e136_1, if_neg e136_2, if_neg e136_3, if_neg e136_4, if_neg e136_5]) hR hA)
                      · refine hr_iload5 (q := 125) X dX5_says_123 rfl ?_
                        refine hr_if_ne (q := 128) (tgt := 135) X dX5_says_125 rfl (by decide) (fun _ => ?_) (fun z => absurd z (by decide))
                        refine hr_iload2 (q := 136) X dX5_says_135 rfl ?_
                        by_cases e136_0 : (iN a2) = 0
                        · refine hr_tableIn (off := 40) (tgt := 176) X dX5_says_136 (by rw [(congrArg nI e136_0)]; decide) (by rw [(congrArg nI e136_0)]; decide) (by rw [(congrArg nI e136_0)]; rfl) (by decide) ?_
                          refine hr_aload0 (q := 177) X dX5_says_176 rfl ?_
                          refine hr_getR (v := am 14) (q := 180) X dX5_says_177 rfl fr_q1396_5 rfl hR.om (hR.f rfl) ?_
                          refine hr_iload3 (q := 181) X dX5_says_180 rfl ?_
                          refine hr_ialdN (v := (nI (A.1.1 14 (A.1.1 21 (iN a1))))) (q := 182) X dX5_says_181 rfl (hR.ka (n := 7) rfl rfl rfl) (Or.inl rfl) (by omega) (by decide) ((hR.ar rfl _).trans (hA.p (by decide) (by decide) (by omega))) ?_
                          have b181 := hW.w.b14 (show A.1.1 21 (iN a1) < 7 by omega)
                          exact hr_iret X hr dX5_says_182 (tw_end (by rw [sq_says, if_pos c5, if_neg c9, if_pos c15, if_neg (show ¬ ((A.1.1 18 (iN a1)) = 1) by omega), if_neg (show ¬ ((A.1.1 18 (iN a1)) = 0) by omega), if_pos (show (iN a2) = 1 by omega), if_neg (show ¬ ((A.1.1 9 (A.1.1 21 (iN a1))) = 2) by omega), if_pos (show (iN a2) = 3 by omega), if_pos (show (A.1.1 9 (A.1.1 21 (iN a1))) = 5 by omega), if_neg (show ¬ ((iN a2) = 0) by omega), if_neg (show ¬ ((iN a2) = (A.1.1 9 (A.1.1 21 (iN a1)))) by omega), if_pos e136_0]) hR hA)
                        by_cases e136_1 : (iN a2) = 1
                        · refine hr_tableIn (off := 47) (tgt := 183) X dX5_says_136 (by rw [(congrArg nI e136_1)]; decide) (by rw [(congrArg nI e136_1)]; decide) (by rw [(congrArg nI e136_1)]; rfl) (by decide) ?_
                          refine hr_aload0 (q := 184) X dX5_says_183 rfl ?_
                          refine hr_iload3 (q := 185) X dX5_says_184 rfl ?_
                          refine hr_callP (q := 188) (hc_V (n := 1) (ci := 5) (As := [.int (nI (A.1.1 21 (iN a1)))]) X dX5_says_185 rfl (tk_shows X.tr hR hA.t hw (x := A.1.1 21 (iN a1)) (by omega)) q1555 cv_X5_shows ⟨Nat.le_of_ble_eq_true rfl, Nat.le_of_ble_eq_true rfl⟩ rfl (Nat.le_of_ble_eq_true rfl) hR.om rfl rfl) rfl ?_
                          have := sp_shows_lt (t := A.1) hw (x := (A.1.1 21 (iN a1))) (by omega)
                          exact hr_iret X hr dX5_says_188 (tw_end (by rw [sq_says, if_pos c5, if_neg c9, if_pos c15, if_neg (show ¬ ((A.1.1 18 (iN a1)) = 1) by omega), if_neg (show ¬ ((A.1.1 18 (iN a1)) = 0) by omega), if_pos (show (iN a2) = 1 by omega), if_neg (show ¬ ((A.1.1 9 (A.1.1 21 (iN a1))) = 2) by omega), if_pos (show (iN a2) = 3 by omega), if_pos (show (A.1.1 9 (A.1.1 21 (iN a1))) = 5 by omega), if_neg (show ¬ ((iN a2) = 0) by omega), if_neg (show ¬ ((iN a2) = (A.1.1 9 (A.1.1 21 (iN a1)))) by omega), if_neg e136_0, if_pos e136_1]) hR hA)
                        by_cases e136_2 : (iN a2) = 2
                        · refine hr_tableIn (off := 47) (tgt := 183) X dX5_says_136 (by rw [(congrArg nI e136_2)]; decide) (by rw [(congrArg nI e136_2)]; decide) (by rw [(congrArg nI e136_2)]; rfl) (by decide) ?_
                          refine hr_aload0 (q := 184) X dX5_says_183 rfl ?_
                          refine hr_iload3 (q := 185) X dX5_says_184 rfl ?_
                          refine hr_callP (q := 188) (hc_V (n := 1) (ci := 5) (As := [.int (nI (A.1.1 21 (iN a1)))]) X dX5_says_185 rfl (tk_shows X.tr hR hA.t hw (x := A.1.1 21 (iN a1)) (by omega)) q1555 cv_X5_shows ⟨Nat.le_of_ble_eq_true rfl, Nat.le_of_ble_eq_true rfl⟩ rfl (Nat.le_of_ble_eq_true rfl) hR.om rfl rfl) rfl ?_
                          have := sp_shows_lt (t := A.1) hw (x := (A.1.1 21 (iN a1))) (by omega)
                          exact hr_iret X hr dX5_says_188 (tw_end (by rw [sq_says, if_pos c5, if_neg c9, if_pos c15, if_neg (show ¬ ((A.1.1 18 (iN a1)) = 1) by omega), if_neg (show ¬ ((A.1.1 18 (iN a1)) = 0) by omega), if_pos (show (iN a2) = 1 by omega), if_neg (show ¬ ((A.1.1 9 (A.1.1 21 (iN a1))) = 2) by omega), if_pos (show (iN a2) = 3 by omega), if_pos (show (A.1.1 9 (A.1.1 21 (iN a1))) = 5 by omega), if_neg (show ¬ ((iN a2) = 0) by omega), if_neg (show ¬ ((iN a2) = (A.1.1 9 (A.1.1 21 (iN a1)))) by omega), if_neg e136_0, if_neg e136_1, if_pos e136_2]) hR hA)
                        by_cases e136_3 : (iN a2) = 3
                        · refine hr_tableIn (off := 53) (tgt := 189) X dX5_says_136 (by rw [(congrArg nI e136_3)]; decide) (by rw [(congrArg nI e136_3)]; decide) (by rw [(congrArg nI e136_3)]; rfl) (by decide) ?_
                          refine hr_aload0 (q := 190) X dX5_says_189 rfl ?_
                          refine hr_getR (v := am 13) (q := 193) X dX5_says_190 rfl fr_q1395_5 rfl hR.om (hR.f rfl) ?_
                          refine hr_iload3 (q := 194) X dX5_says_193 rfl ?_
                          refine hr_ialdN (v := (nI (A.1.1 13 (A.1.1 21 (iN a1))))) (q := 195) X dX5_says_194 rfl (hR.ka (n := 7) rfl rfl rfl) (Or.inl rfl) (by omega) (by decide) ((hR.ar rfl _).trans (hA.p (by decide) (by decide) (by omega))) ?_
                          have b194 := hW.w.b13 (show A.1.1 21 (iN a1) < 7 by omega)
                          exact hr_iret X hr dX5_says_195 (tw_end (by rw [sq_says, if_pos c5, if_neg c9, if_pos c15, if_neg (show ¬ ((A.1.1 18 (iN a1)) = 1) by omega), if_neg (show ¬ ((A.1.1 18 (iN a1)) = 0) by omega), if_pos (show (iN a2) = 1 by omega), if_neg (show ¬ ((A.1.1 9 (A.1.1 21 (iN a1))) = 2) by omega), if_pos (show (iN a2) = 3 by omega), if_pos (show (A.1.1 9 (A.1.1 21 (iN a1))) = 5 by omega), if_neg (show ¬ ((iN a2) = 0) by omega), if_neg (show ¬ ((iN a2) = (A.1.1 9 (A.1.1 21 (iN a1)))) by omega), if_neg e136_0, if_neg e136_1, if_neg e136_2, if_pos e136_3]) hR hA)
                        by_cases e136_4 : (iN a2) = 4
                        · refine hr_tableIn (off := 60) (tgt := 196) X dX5_says_136 (by rw [(congrArg nI e136_4)]; decide) (by rw [(congrArg nI e136_4)]; decide) (by rw [(congrArg nI e136_4)]; rfl) (by decide) ?_
                          refine hr_aload0 (q := 197) X dX5_says_196 rfl ?_
                          refine hr_getR (v := am 12) (q := 200) X dX5_says_197 rfl fr_q1394_5 rfl hR.om (hR.f rfl) ?_
                          refine hr_iload3 (q := 201) X dX5_says_200 rfl ?_
                          refine hr_ialdN (v := (nI (A.1.1 12 (A.1.1 21 (iN a1))))) (q := 202) X dX5_says_201 rfl (hR.ka (n := 7) rfl rfl rfl) (Or.inl rfl) (by omega) (by decide) ((hR.ar rfl _).trans (hA.p (by decide) (by decide) (by omega))) ?_
                          have b201 := hW.w.b12 (show A.1.1 21 (iN a1) < 7 by omega)
                          exact hr_iret X hr dX5_says_202 (tw_end (by rw [sq_says, if_pos c5, if_neg c9, if_pos c15, if_neg (show ¬ ((A.1.1 18 (iN a1)) = 1) by omega), if_neg (show ¬ ((A.1.1 18 (iN a1)) = 0) by omega), if_pos (show (iN a2) = 1 by omega), if_neg (show ¬ ((A.1.1 9 (A.1.1 21 (iN a1))) = 2) by omega), if_pos (show (iN a2) = 3 by omega), if_pos (show (A.1.1 9 (A.1.1 21 (iN a1))) = 5 by omega), if_neg (show ¬ ((iN a2) = 0) by omega), if_neg (show ¬ ((iN a2) = (A.1.1 9 (A.1.1 21 (iN a1)))) by omega), if_neg e136_0, if_neg e136_1, if_neg e136_2, if_neg e136_3, if_pos e136_4]) hR hA)
                        by_cases e136_5 : (iN a2) = 5
                        · refine hr_tableIn (off := 53) (tgt := 189) X dX5_says_136 (by rw [(congrArg nI e136_5)]; decide) (by rw [(congrArg nI e136_5)]; decide) (by rw [(congrArg nI e136_5)]; rfl) (by decide) ?_
                          refine hr_aload0 (q := 190) X dX5_says_189 rfl ?_
                          refine hr_getR (v := am 13) (q := 193) X dX5_says_190 rfl fr_q1395_5 rfl hR.om (hR.f rfl) ?_
                          refine hr_iload3 (q := 194) X dX5_says_193 rfl ?_
                          refine hr_ialdN (v := (nI (A.1.1 13 (A.1.1 21 (iN a1))))) (q := 195) X dX5_says_194 rfl (hR.ka (n := 7) rfl rfl rfl) (Or.inl rfl) (by omega) (by decide) ((hR.ar rfl _).trans (hA.p (by decide) (by decide) (by omega))) ?_
                          have b194 := hW.w.b13 (show A.1.1 21 (iN a1) < 7 by omega)
                          exact hr_iret X hr dX5_says_195 (tw_end (by rw [sq_says, if_pos c5, if_neg c9, if_pos c15, if_neg (show ¬ ((A.1.1 18 (iN a1)) = 1) by omega), if_neg (show ¬ ((A.1.1 18 (iN a1)) = 0) by omega), if_pos (show (iN a2) = 1 by omega), if_neg (show ¬ ((A.1.1 9 (A.1.1 21 (iN a1))) = 2) by omega), if_pos (show (iN a2) = 3 by omega), if_pos (show (A.1.1 9 (A.1.1 21 (iN a1))) = 5 by omega), if_neg (show ¬ ((iN a2) = 0) by omega), if_neg (show ¬ ((iN a2) = (A.1.1 9 (A.1.1 21 (iN a1)))) by omega), if_neg e136_0, if_neg e136_1, if_neg e136_2, if_neg e136_3, if_neg e136_4, if_pos e136_5]) hR hA)
                        refine hr_tableOut (tgt := 196) X dX5_says_136 (sp_out (n := 6) (by decide) (fun i hi => by match i, hi with | 0, _ => exact (fun z => e136_0 ((nI_eq (by omega) (by omega)).mp z)) | 1, _ => exact (fun z => e136_1 ((nI_eq (by omega) (by omega)).mp z)) | 2, _ => exact (fun z => e136_2 ((nI_eq (by omega) (by omega)).mp z)) | 3, _ => exact (fun z => e136_3 ((nI_eq (by omega) (by omega)).mp z)) | 4, _ => exact (fun z => e136_4 ((nI_eq (by omega) (by omega)).mp z)) | 5, _ => exact (fun z => e136_5 ((nI_eq (by omega) (by omega)).mp z)) | (k + 6), hi => omega)) (by decide) ?_
                        refine hr_aload0 (q := 197) X dX5_says_196 rfl ?_
                        refine hr_getR (v := am 12) (q := 200) X dX5_says_197 rfl fr_q1394_5 rfl hR.om (hR.f rfl) ?_
                        refine hr_iload3 (q := 201) X dX5_says_200 rfl ?_
                        refine hr_ialdN (v := (nI (A.1.1 12 (A.1.1 21 (iN a1))))) (q := 202) X dX5_says_201 rfl (hR.ka (n := 7) rfl rfl rfl) (Or.inl rfl) (by omega) (by decide) ((hR.ar rfl _).trans (hA.p (by decide) (by decide) (by omega))) ?_
                        have b201 := hW.w.b12 (show A.1.1 21 (iN a1) < 7 by omega)
                        exact hr_iret X hr dX5_says_202 (tw_end (by rw [sq_says, if_pos c5, if_neg c9, if_pos c15, if_neg (show ¬ ((A.1.1 18 (iN a1)) = 1) by omega), if_neg (show ¬ ((A.1.1 18 (iN a1)) = 0) by omega), if_pos (show (iN a2) = 1 by omega), if_neg (show ¬ ((A.1.1 9 (A.1.1 21 (iN a1))) = 2) by omega), if_pos (show (iN a2) = 3 by omega), if_pos (show (A.1.1 9 (A.1.1 21 (iN a1))) = 5 by omega), if_neg (show ¬ ((iN a2) = 0) by omega), if_neg (show ¬ ((iN a2) = (A.1.1 9 (A.1.1 21 (iN a1)))) by omega), if_neg e136_0, if_neg e136_1, if_neg e136_2, if_neg e136_3, if_neg e136_4, if_neg e136_5]) hR hA)
                  · refine hr_iload2 (q := 95) X dX5_says_94 rfl ?_
                    refine hr_iconst (v := (nI 4)) (q := 96) X dX5_says_95 rfl rfl ?_
                    refine hr_icmpN_ne (q := 99) (tgt := 110) X dX5_says_96 rfl (by decide) (by omega) (by omega) (fun c96 => ?_) (fun c96 => ?_)
                    · refine hr_iconst (v := (nI 0)) (q := 111) X dX5_says_110 rfl rfl ?_
                      refine hr_istore5 (q := 113) X dX5_says_111 rfl rfl (Nat.le_of_ble_eq_true rfl) ?_
                      refine hr_iload2 (q := 114) X dX5_says_113 rfl ?_
                      refine hr_ifN_eq (q := 117) (tgt := 135) X dX5_says_114 rfl (by decide) (by omega) (fun c114 => ?_) (fun c114 => ?_)
                      · refine hr_iload2 (q := 136) X dX5_says_135 rfl ?_
                        by_cases e136_0 : (iN a2) = 0
                        · refine hr_tableIn (off := 40) (tgt := 176) X dX5_says_136 (by rw [(congrArg nI e136_0)]; decide) (by rw [(congrArg nI e136_0)]; decide) (by rw [(congrArg nI e136_0)]; rfl) (by decide) ?_
                          refine hr_aload0 (q := 177) X dX5_says_176 rfl ?_
                          refine hr_getR (v := am 14) (q := 180) X dX5_says_177 rfl fr_q1396_5 rfl hR.om (hR.f rfl) ?_
                          refine hr_iload3 (q := 181) X dX5_says_180 rfl ?_
                          refine hr_ialdN (v := (nI (A.1.1 14 (A.1.1 21 (iN a1))))) (q := 182) X dX5_says_181 rfl (hR.ka (n := 7) rfl rfl rfl) (Or.inl rfl) (by omega) (by decide) ((hR.ar rfl _).trans (hA.p (by decide) (by decide) (by omega))) ?_
                          have b181 := hW.w.b14 (show A.1.1 21 (iN a1) < 7 by omega)
                          exact hr_iret X hr dX5_says_182 (tw_end (by rw [sq_says, if_pos c5, if_neg c9, if_pos c15, if_neg (show ¬ ((A.1.1 18 (iN a1)) = 1) by omega), if_neg (show ¬ ((A.1.1 18 (iN a1)) = 0) by omega), if_pos (show (iN a2) = 1 by omega), if_neg (show ¬ ((A.1.1 9 (A.1.1 21 (iN a1))) = 2) by omega), if_pos (show (iN a2) = 3 by omega), if_neg (show ¬ ((A.1.1 9 (A.1.1 21 (iN a1))) = 5) by omega), if_neg (show ¬ ((iN a2) = 4) by omega), if_pos (show (iN a2) = 0 by omega), if_pos e136_0]) hR hA)
                        by_cases e136_1 : (iN a2) = 1
                        · refine hr_tableIn (off := 47) (tgt := 183) X dX5_says_136 (by rw [(congrArg nI e136_1)]; decide) (by rw [(congrArg nI e136_1)]; decide) (by rw [(congrArg nI e136_1)]; rfl) (by decide) ?_
                          refine hr_aload0 (q := 184) X dX5_says_183 rfl ?_
                          refine hr_iload3 (q := 185) X dX5_says_184 rfl ?_
                          refine hr_callP (q := 188) (hc_V (n := 1) (ci := 5) (As := [.int (nI (A.1.1 21 (iN a1)))]) X dX5_says_185 rfl (tk_shows X.tr hR hA.t hw (x := A.1.1 21 (iN a1)) (by omega)) q1555 cv_X5_shows ⟨Nat.le_of_ble_eq_true rfl, Nat.le_of_ble_eq_true rfl⟩ rfl (Nat.le_of_ble_eq_true rfl) hR.om rfl rfl) rfl ?_
                          have := sp_shows_lt (t := A.1) hw (x := (A.1.1 21 (iN a1))) (by omega)
                          exact hr_iret X hr dX5_says_188 (tw_end (by rw [sq_says, if_pos c5, if_neg c9, if_pos c15, if_neg (show ¬ ((A.1.1 18 (iN a1)) = 1) by omega), if_neg (show ¬ ((A.1.1 18 (iN a1)) = 0) by omega), if_pos (show (iN a2) = 1 by omega), if_neg (show ¬ ((A.1.1 9 (A.1.1 21 (iN a1))) = 2) by omega), if_pos (show (iN a2) = 3 by omega), if_neg (show ¬ ((A.1.1 9 (A.1.1 21 (iN a1))) = 5) by omega), if_neg (show ¬ ((iN a2) = 4) by omega), if_pos (show (iN a2) = 0 by omega), if_neg e136_0, if_pos e136_1]) hR hA)
                        by_cases e136_2 : (iN a2) = 2
                        · refine hr_tableIn (off := 47) (tgt := 183) X dX5_says_136 (by rw [(congrArg nI e136_2)]; decide) (by rw [(congrArg nI e136_2)]; decide) (by rw [(congrArg nI e136_2)]; rfl) (by decide) ?_
                          refine hr_aload0 (q := 184) X dX5_says_183 rfl ?_
                          refine hr_iload3 (q := 185) X dX5_says_184 rfl ?_
                          refine hr_callP (q := 188) (hc_V (n := 1) (ci := 5) (As := [.int (nI (A.1.1 21 (iN a1)))]) X dX5_says_185 rfl (tk_shows X.tr hR hA.t hw (x := A.1.1 21 (iN a1)) (by omega)) q1555 cv_X5_shows ⟨Nat.le_of_ble_eq_true rfl, Nat.le_of_ble_eq_true rfl⟩ rfl (Nat.le_of_ble_eq_true rfl) hR.om rfl rfl) rfl ?_
                          have := sp_shows_lt (t := A.1) hw (x := (A.1.1 21 (iN a1))) (by omega)
                          exact hr_iret X hr dX5_says_188 (tw_end (by rw [sq_says, if_pos c5, if_neg c9, if_pos c15, if_neg (show ¬ ((A.1.1 18 (iN a1)) = 1) by omega), if_neg (show ¬ ((A.1.1 18 (iN a1)) = 0) by omega), if_pos (show (iN a2) = 1 by omega), if_neg (show ¬ ((A.1.1 9 (A.1.1 21 (iN a1))) = 2) by omega), if_pos (show (iN a2) = 3 by omega), if_neg (show ¬ ((A.1.1 9 (A.1.1 21 (iN a1))) = 5) by omega), if_neg (show ¬ ((iN a2) = 4) by omega), if_pos (show (iN a2) = 0 by omega), if_neg e136_0, if_neg e136_1, if_pos e136_2]) hR hA)
                        by_cases e136_3 : (iN a2) = 3
                        · refine hr_tableIn (off := 53) (tgt := 189) X dX5_says_136 (by rw [(congrArg nI e136_3)]; decide) (by rw [(congrArg nI e136_3)]; decide) (by rw [(congrArg nI e136_3)]; rfl) (by decide) ?_
                          refine hr_aload0 (q := 190) X dX5_says_189 rfl ?_
                          refine hr_getR (v := am 13) (q := 193) X dX5_says_190 rfl fr_q1395_5 rfl hR.om (hR.f rfl) ?_
                          refine hr_iload3 (q := 194) X dX5_says_193 rfl ?_
                          refine hr_ialdN (v := (nI (A.1.1 13 (A.1.1 21 (iN a1))))) (q := 195) X dX5_says_194 rfl (hR.ka (n := 7) rfl rfl rfl) (Or.inl rfl) (by omega) (by decide) ((hR.ar rfl _).trans (hA.p (by decide) (by decide) (by omega))) ?_
                          have b194 := hW.w.b13 (show A.1.1 21 (iN a1) < 7 by omega)
                          exact hr_iret X hr dX5_says_195 (tw_end (by rw [sq_says, if_pos c5, if_neg c9, if_pos c15, if_neg (show ¬ ((A.1.1 18 (iN a1)) = 1) by omega), if_neg (show ¬ ((A.1.1 18 (iN a1)) = 0) by omega), if_pos (show (iN a2) = 1 by omega), if_neg (show ¬ ((A.1.1 9 (A.1.1 21 (iN a1))) = 2) by omega), if_pos (show (iN a2) = 3 by omega), if_neg (show ¬ ((A.1.1 9 (A.1.1 21 (iN a1))) = 5) by omega), if_neg (show ¬ ((iN a2) = 4) by omega), if_pos (show (iN a2) = 0 by omega), if_neg e136_0, if_neg e136_1, if_neg e136_2, if_pos e136_3]) hR hA)
                        by_cases e136_4 : (iN a2) = 4
                        · refine hr_tableIn (off := 60) (tgt := 196) X dX5_says_136 (by rw [(congrArg nI e136_4)]; decide) (by rw [(congrArg nI e136_4)]; decide) (by rw [(congrArg nI e136_4)]; rfl) (by decide) ?_
                          refine hr_aload0 (q := 197) X dX5_says_196 rfl ?_
                          refine hr_getR (v := am 12) (q := 200) X dX5_says_197 rfl fr_q1394_5 rfl hR.om (hR.f rfl) ?_
                          refine hr_iload3 (q := 201) X dX5_says_200 rfl ?_
                          refine hr_ialdN (v := (nI (A.1.1 12 (A.1.1 21 (iN a1))))) (q := 202) X dX5_says_201 rfl (hR.ka (n := 7) rfl rfl rfl) (Or.inl rfl) (by omega) (by decide) ((hR.ar rfl _).trans (hA.p (by decide) (by decide) (by omega))) ?_
                          have b201 := hW.w.b12 (show A.1.1 21 (iN a1) < 7 by omega)
                          exact hr_iret X hr dX5_says_202 (tw_end (by rw [sq_says, if_pos c5, if_neg c9, if_pos c15, if_neg (show ¬ ((A.1.1 18 (iN a1)) = 1) by omega), if_neg (show ¬ ((A.1.1 18 (iN a1)) = 0) by omega), if_pos (show (iN a2) = 1 by omega), if_neg (show ¬ ((A.1.1 9 (A.1.1 21 (iN a1))) = 2) by omega), if_pos (show (iN a2) = 3 by omega), if_neg (show ¬ ((A.1.1 9 (A.1.1 21 (iN a1))) = 5) by omega), if_neg (show ¬ ((iN a2) = 4) by omega), if_pos (show (iN a2) = 0 by omega), if_neg e136_0, if_neg e136_1, if_neg e136_2, if_neg e136_3, if_pos e136_4]) hR hA)
                        by_cases e136_5 : (iN a2) = 5
                        · refine hr_tableIn (off := 53) (tgt := 189) X dX5_says_136 (by rw [(congrArg nI e136_5)]; decide) (by rw [(congrArg nI e136_5)]; decide) (by rw [(congrArg nI e136_5)]; rfl) (by decide) ?_
                          refine hr_aload0 (q := 190) X dX5_says_189 rfl ?_
                          refine hr_getR (v := am 13) (q := 193) X dX5_says_190 rfl fr_q1395_5 rfl hR.om (hR.f rfl) ?_
                          refine hr_iload3 (q := 194) X dX5_says_193 rfl ?_
                          refine hr_ialdN (v := (nI (A.1.1 13 (A.1.1 21 (iN a1))))) (q := 195) X dX5_says_194 rfl (hR.ka (n := 7) rfl rfl rfl) (Or.inl rfl) (by omega) (by decide) ((hR.ar rfl _).trans (hA.p (by decide) (by decide) (by omega))) ?_
                          have b194 := hW.w.b13 (show A.1.1 21 (iN a1) < 7 by omega)
                          exact hr_iret X hr dX5_says_195 (tw_end (by rw [sq_says, if_pos c5, if_neg c9, if_pos c15, if_neg (show ¬ ((A.1.1 18 (iN a1)) = 1) by omega), if_neg (show ¬ ((A.1.1 18 (iN a1)) = 0) by omega), if_pos (show (iN a2) = 1 by omega), if_neg (show ¬ ((A.1.1 9 (A.1.1 21 (iN a1))) = 2) by omega), if_pos (show (iN a2) = 3 by omega), if_neg (show ¬ ((A.1.1 9 (A.1.1 21 (iN a1))) = 5) by omega), if_neg (show ¬ ((iN a2) = 4) by omega), if_pos (show (iN a2) = 0 by omega), if_neg e136_0, if_neg e136_1, if_neg e136_2, if_neg e136_3, if_neg e136_4, if_pos e136_5]) hR hA)
                        refine hr_tableOut (tgt := 196) X dX5_says_136 (sp_out (n := 6) (by decide) (fun i hi => by match i, hi with | 0, _ => exact (fun z => e136_0 ((nI_eq (by omega) (by omega)).mp z)) | 1, _ => exact (fun z => e136_1 ((nI_eq (by omega) (by omega)).mp z)) | 2, _ => exact (fun z => e136_2 ((nI_eq (by omega) (by omega)).mp z)) | 3, _ => exact (fun z => e136_3 ((nI_eq (by omega) (by omega)).mp z)) | 4, _ => exact (fun z => e136_4 ((nI_eq (by omega) (by omega)).mp z)) | 5, _ => exact (fun z => e136_5 ((nI_eq (by omega) (by omega)).mp z)) | (k + 6), hi => omega)) (by decide) ?_
                        refine hr_aload0 (q := 197) X dX5_says_196 rfl ?_
                        refine hr_getR (v := am 12) (q := 200) X dX5_says_197 rfl fr_q1394_5 rfl hR.om (hR.f rfl) ?_
                        refine hr_iload3 (q := 201) X dX5_says_200 rfl ?_
                        refine hr_ialdN (v := (nI (A.1.1 12 (A.1.1 21 (iN a1))))) (q := 202) X dX5_says_201 rfl (hR.ka (n := 7) rfl rfl rfl) (Or.inl rfl) (by omega) (by decide) ((hR.ar rfl _).trans (hA.p (by decide) (by decide) (by omega))) ?_
                        have b201 := hW.w.b12 (show A.1.1 21 (iN a1) < 7 by omega)
                        exact hr_iret X hr dX5_says_202 (tw_end (by rw [sq_says, if_pos c5, if_neg c9, if_pos c15, if_neg (show ¬ ((A.1.1 18 (iN a1)) = 1) by omega), if_neg (show ¬ ((A.1.1 18 (iN a1)) = 0) by omega), if_pos (show (iN a2) = 1 by omega), if_neg (show ¬ ((A.1.1 9 (A.1.1 21 (iN a1))) = 2) by omega), if_pos (show (iN a2) = 3 by omega), if_neg (show ¬ ((A.1.1 9 (A.1.1 21 (iN a1))) = 5) by omega), if_neg (show ¬ ((iN a2) = 4) by omega), if_pos (show (iN a2) = 0 by omega), if_neg e136_0, if_neg e136_1, if_neg e136_2, if_neg e136_3, if_neg e136_4, if_neg e136_5]) hR hA)
                      · refine hr_iload2 (q := 118) X dX5_says_117 rfl ?_
                        refine hr_iload4 (q := 120) X dX5_says_118 rfl ?_
                        refine hr_icmpN_eq (q := 123) (tgt := 135) X dX5_says_120 rfl (by decide) (by omega) (by omega) (fun c120 => ?_) (fun c120 => ?_)
                        · refine hr_iload2 (q := 136) X dX5_says_135 rfl ?_
                          by_cases e136_0 : (iN a2) = 0
                          · refine hr_tableIn (off := 40) (tgt := 176) X dX5_says_136 (by rw [(congrArg nI e136_0)]; decide) (by rw [(congrArg nI e136_0)]; decide) (by rw [(congrArg nI e136_0)]; rfl) (by decide) ?_
                            refine hr_aload0 (q := 177) X dX5_says_176 rfl ?_
                            refine hr_getR (v := am 14) (q := 180) X dX5_says_177 rfl fr_q1396_5 rfl hR.om (hR.f rfl) ?_
                            refine hr_iload3 (q := 181) X dX5_says_180 rfl ?_
                            refine hr_ialdN (v := (nI (A.1.1 14 (A.1.1 21 (iN a1))))) (q := 182) X dX5_says_181 rfl (hR.ka (n := 7) rfl rfl rfl) (Or.inl rfl) (by omega) (by decide) ((hR.ar rfl _).trans (hA.p (by decide) (by decide) (by omega))) ?_
                            have b181 := hW.w.b14 (show A.1.1 21 (iN a1) < 7 by omega)
                            exact hr_iret X hr dX5_says_182 (tw_end (by rw [sq_says, if_pos c5, if_neg c9, if_pos c15, if_neg (show ¬ ((A.1.1 18 (iN a1)) = 1) by omega), if_neg (show ¬ ((A.1.1 18 (iN a1)) = 0) by omega), if_pos (show (iN a2) = 1 by omega), if_neg (show ¬ ((A.1.1 9 (A.1.1 21 (iN a1))) = 2) by omega), if_pos (show (iN a2) = 3 by omega), if_neg (show ¬ ((A.1.1 9 (A.1.1 21 (iN a1))) = 5) by omega), if_neg (show ¬ ((iN a2) = 4) by omega), if_neg (show ¬ ((iN a2) = 0) by omega), if_pos (show (iN a2) = (A.1.1 9 (A.1.1 21 (iN a1))) by omega), if_pos e136_0]) hR hA)
                          by_cases e136_1 : (iN a2) = 1
                          · refine hr_tableIn (off := 47) (tgt := 183) X dX5_says_136 (by rw [(congrArg nI e136_1)]; decide) (by rw [(congrArg nI e136_1)]; decide) (by rw [(congrArg nI e136_1)]; rfl) (by decide) ?_
                            refine hr_aload0 (q := 184) X dX5_says_183 rfl ?_
                            refine hr_iload3 (q := 185) X dX5_says_184 rfl ?_
                            refine hr_callP (q := 188) (hc_V (n := 1) (ci := 5) (As := [.int (nI (A.1.1 21 (iN a1)))]) X dX5_says_185 rfl (tk_shows X.tr hR hA.t hw (x := A.1.1 21 (iN a1)) (by omega)) q1555 cv_X5_shows ⟨Nat.le_of_ble_eq_true rfl, Nat.le_of_ble_eq_true rfl⟩ rfl (Nat.le_of_ble_eq_true rfl) hR.om rfl rfl) rfl ?_
                            have := sp_shows_lt (t := A.1) hw (x := (A.1.1 21 (iN a1))) (by omega)
                            exact hr_iret X hr dX5_says_188 (tw_end (by rw [sq_says, if_pos c5, if_neg c9, if_pos c15, if_neg (show ¬ ((A.1.1 18 (iN a1)) = 1) by omega), if_neg (show ¬ ((A.1.1 18 (iN a1)) = 0) by omega), if_pos (show (iN a2) = 1 by omega), if_neg (show ¬ ((A.1.1 9 (A.1.1 21 (iN a1))) = 2) by omega), if_pos (show (iN a2) = 3 by omega), if_neg (show ¬ ((A.1.1 9 (A.1.1 21 (iN a1))) = 5) by omega), if_neg (show ¬ ((iN a2) = 4) by omega), if_neg (show ¬ ((iN a2) = 0) by omega), if_pos (show (iN a2) = (A.1.1 9 (A.1.1 21 (iN a1))) by omega), if_neg e136_0, if_pos e136_1]) hR hA)
                          by_cases e136_2 : (iN a2) = 2
                          · refine hr_tableIn (off := 47) (tgt := 183) X dX5_says_136 (by rw [(congrArg nI e136_2)]; decide) (by rw [(congrArg nI e136_2)]; decide) (by rw [(congrArg nI e136_2)]; rfl) (by decide) ?_
                            refine hr_aload0 (q := 184) X dX5_says_183 rfl ?_
                            refine hr_iload3 (q := 185) X dX5_says_184 rfl ?_
                            refine hr_callP (q := 188) (hc_V (n := 1) (ci := 5) (As := [.int (nI (A.1.1 21 (iN a1)))]) X dX5_says_185 rfl (tk_shows X.tr hR hA.t hw (x := A.1.1 21 (iN a1)) (by omega)) q1555 cv_X5_shows ⟨Nat.le_of_ble_eq_true rfl, Nat.le_of_ble_eq_true rfl⟩ rfl (Nat.le_of_ble_eq_true rfl) hR.om rfl rfl) rfl ?_
                            have := sp_shows_lt (t := A.1) hw (x := (A.1.1 21 (iN a1))) (by omega)
                            exact hr_iret X hr dX5_says_188 (tw_end (by rw [sq_says, if_pos c5, if_neg c9, if_pos c15, if_neg (show ¬ ((A.1.1 18 (iN a1)) = 1) by omega), if_neg (show ¬ ((A.1.1 18 (iN a1)) = 0) by omega), if_pos (show (iN a2) = 1 by omega), if_neg (show ¬ ((A.1.1 9 (A.1.1 21 (iN a1))) = 2) by omega), if_pos (show (iN a2) = 3 by omega), if_neg (show ¬ ((A.1.1 9 (A.1.1 21 (iN a1))) = 5) by omega), if_neg (show ¬ ((iN a2) = 4) by omega), if_neg (show ¬ ((iN a2) = 0) by omega), if_pos (show (iN a2) = (A.1.1 9 (A.1.1 21 (iN a1))) by omega), if_neg e136_0, if_neg e136_1, if_pos e136_2]) hR hA)
                          by_cases e136_3 : (iN a2) = 3
                          · refine hr_tableIn (off := 53) (tgt := 189) X dX5_says_136 (by rw [(congrArg nI e136_3)]; decide) (by rw [(congrArg nI e136_3)]; decide) (by rw [(congrArg nI e136_3)]; rfl) (by decide) ?_
                            refine hr_aload0 (q := 190) X dX5_says_189 rfl ?_
                            refine hr_getR (v := am 13) (q := 193) X dX5_says_190 rfl fr_q1395_5 rfl hR.om (hR.f rfl) ?_
                            refine hr_iload3 (q := 194) X dX5_says_193 rfl ?_
                            refine hr_ialdN (v := (nI (A.1.1 13 (A.1.1 21 (iN a1))))) (q := 195) X dX5_says_194 rfl (hR.ka (n := 7) rfl rfl rfl) (Or.inl rfl) (by omega) (by decide) ((hR.ar rfl _).trans (hA.p (by decide) (by decide) (by omega))) ?_
                            have b194 := hW.w.b13 (show A.1.1 21 (iN a1) < 7 by omega)
                            exact hr_iret X hr dX5_says_195 (tw_end (by rw [sq_says, if_pos c5, if_neg c9, if_pos c15, if_neg (show ¬ ((A.1.1 18 (iN a1)) = 1) by omega), if_neg (show ¬ ((A.1.1 18 (iN a1)) = 0) by omega), if_pos (show (iN a2) = 1 by omega), if_neg (show ¬ ((A.1.1 9 (A.1.1 21 (iN a1))) = 2) by omega), if_pos (show (iN a2) = 3 by omega), if_neg (show ¬ ((A.1.1 9 (A.1.1 21 (iN a1))) = 5) by omega), if_neg (show ¬ ((iN a2) = 4) by omega), if_neg (show ¬ ((iN a2) = 0) by omega), if_pos (show (iN a2) = (A.1.1 9 (A.1.1 21 (iN a1))) by omega), if_neg e136_0, if_neg e136_1, if_neg e136_2, if_pos e136_3]) hR hA)
                          by_cases e136_4 : (iN a2) = 4
                          · refine hr_tableIn (off := 60) (tgt := 196) X dX5_says_136 (by rw [(congrArg nI e136_4)]; decide) (by rw [(congrArg nI e136_4)]; decide) (by rw [(congrArg nI e136_4)]; rfl) (by decide) ?_
                            refine hr_aload0 (q := 197) X dX5_says_196 rfl ?_
                            refine hr_getR (v := am 12) (q := 200) X dX5_says_197 rfl fr_q1394_5 rfl hR.om (hR.f rfl) ?_
                            refine hr_iload3 (q := 201) X dX5_says_200 rfl ?_
                            refine hr_ialdN (v := (nI (A.1.1 12 (A.1.1 21 (iN a1))))) (q := 202) X dX5_says_201 rfl (hR.ka (n := 7) rfl rfl rfl) (Or.inl rfl) (by omega) (by decide) ((hR.ar rfl _).trans (hA.p (by decide) (by decide) (by omega))) ?_
                            have b201 := hW.w.b12 (show A.1.1 21 (iN a1) < 7 by omega)
                            exact hr_iret X hr dX5_says_202 (tw_end (by rw [sq_says, if_pos c5, if_neg c9, if_pos c15, if_neg (show ¬ ((A.1.1 18 (iN a1)) = 1) by omega), if_neg (show ¬ ((A.1.1 18 (iN a1)) = 0) by omega), if_pos (show (iN a2) = 1 by omega), if_neg (show ¬ ((A.1.1 9 (A.1.1 21 (iN a1))) = 2) by omega), if_pos (show (iN a2) = 3 by omega), if_neg (show ¬ ((A.1.1 9 (A.1.1 21 (iN a1))) = 5) by omega), if_neg (show ¬ ((iN a2) = 4) by omega), if_neg (show ¬ ((iN a2) = 0) by omega), if_pos (show (iN a2) = (A.1.1 9 (A.1.1 21 (iN a1))) by omega), if_neg e136_0, if_neg e136_1, if_neg e136_2, if_neg e136_3, if_pos e136_4]) hR hA)
                          by_cases e136_5 : (iN a2) = 5
                          · refine hr_tableIn (off := 53) (tgt := 189) X dX5_says_136 (by rw [(congrArg nI e136_5)]; decide) (by rw [(congrArg nI e136_5)]; decide) (by rw [(congrArg nI e136_5)]; rfl) (by decide) ?_
                            refine hr_aload0 (q := 190) X dX5_says_189 rfl ?_
                            refine hr_getR (v := am 13) (q := 193) X dX5_says_190 rfl fr_q1395_5 rfl hR.om (hR.f rfl) ?_
                            refine hr_iload3 (q := 194) X dX5_says_193 rfl ?_
                            refine hr_ialdN (v := (nI (A.1.1 13 (A.1.1 21 (iN a1))))) (q := 195) X dX5_says_194 rfl (hR.ka (n := 7) rfl rfl rfl) (Or.inl rfl) (by omega) (by decide) ((hR.ar rfl _).trans (hA.p (by decide) (by decide) (by omega))) ?_
                            have b194 := hW.w.b13 (show A.1.1 21 (iN a1) < 7 by omega)
                            exact hr_iret X hr dX5_says_195 (tw_end (by rw [sq_says, if_pos c5, if_neg c9, if_pos c15, if_neg (show ¬ ((A.1.1 18 (iN a1)) = 1) by omega), if_neg (show ¬ ((A.1.1 18 (iN a1)) = 0) by omega), if_pos (show (iN a2) = 1 by omega), if_neg (show ¬ ((A.1.1 9 (A.1.1 21 (iN a1))) = 2) by omega), if_pos (show (iN a2) = 3 by omega), if_neg (show ¬ ((A.1.1 9 (A.1.1 21 (iN a1))) = 5) by omega), if_neg (show ¬ ((iN a2) = 4) by omega), if_neg (show ¬ ((iN a2) = 0) by omega), if_pos (show (iN a2) = (A.1.1 9 (A.1.1 21 (iN a1))) by omega), if_neg e136_0, if_neg e136_1, if_neg e136_2, if_neg e136_3, if_neg e136_4, if_pos e136_5]) hR hA)
                          refine hr_tableOut (tgt := 196) X dX5_says_136 (sp_out (n := 6) (by decide) (fun i hi => by match i, hi with | 0, _ => exact (fun z => e136_0 ((nI_eq (by omega) (by omega)).mp z)) | 1, _ => exact (fun z => e136_1 ((nI_eq (by omega) (by omega)).mp z)) | 2, _ => exact (fun z => e136_2 ((nI_eq (by omega) (by omega)).mp z)) | 3, _ => exact (fun z => e136_3 ((nI_eq (by omega) (by omega)).mp z)) | 4, _ => exact (fun z => e136_4 ((nI_eq (by omega) (by omega)).mp z)) | 5, _ => exact (fun z => e136_5 ((nI_eq (by omega) (by omega)).mp z)) | (k + 6), hi => omega)) (by decide) ?_
                          refine hr_aload0 (q := 197) X dX5_says_196 rfl ?_
                          refine hr_getR (v := am 12) (q := 200) X dX5_says_197 rfl fr_q1394_5 rfl hR.om (hR.f rfl) ?_
                          refine hr_iload3 (q := 201) X dX5_says_200 rfl ?_
                          refine hr_ialdN (v := (nI (A.1.1 12 (A.1.1 21 (iN a1))))) (q := 202) X dX5_says_201 rfl (hR.ka (n := 7) rfl rfl rfl) (Or.inl rfl) (by omega) (by decide) ((hR.ar rfl _).trans (hA.p (by decide) (by decide) (by omega))) ?_
                          have b201 := hW.w.b12 (show A.1.1 21 (iN a1) < 7 by omega)
                          exact hr_iret X hr dX5_says_202 (tw_end (by rw [sq_says, if_pos c5, if_neg c9, if_pos c15, if_neg (show ¬ ((A.1.1 18 (iN a1)) = 1) by omega), if_neg (show ¬ ((A.1.1 18 (iN a1)) = 0) by omega), if_pos (show (iN a2) = 1 by omega), if_neg (show ¬ ((A.1.1 9 (A.1.1 21 (iN a1))) = 2) by omega), if_pos (show (iN a2) = 3 by omega), if_neg (show ¬ ((A.1.1 9 (A.1.1 21 (iN a1))) = 5) by omega), if_neg (show ¬ ((iN a2) = 4) by omega), if_neg (show ¬ ((iN a2) = 0) by omega), if_pos (show (iN a2) = (A.1.1 9 (A.1.1 21 (iN a1))) by omega), if_neg e136_0, if_neg e136_1, if_neg e136_2, if_neg e136_3, if_neg e136_4, if_neg e136_5]) hR hA)
                        · refine hr_iload5 (q := 125) X dX5_says_123 rfl ?_
                          refine hr_if_ne (q := 128) (tgt := 135) X dX5_says_125 rfl (by decide) (fun z => absurd z (by decide)) (fun _ => ?_)
                          refine hr_aload0 (q := 129) X dX5_says_128 rfl ?_
                          refine hr_bipush (v := (-2)) (q := 131) X dX5_says_129 rfl rfl ?_
                          refine hr_callT (q := 134) (hc_V (n := 1) (ci := 5) (As := [.int (-2)]) X dX5_says_131 rfl (tk_no X.tr hR hA (b := (-2)) (by decide)) q1523 cv_X5_no ⟨Nat.le_of_ble_eq_true rfl, Nat.le_of_ble_eq_true rfl⟩ rfl (Nat.le_of_ble_eq_true rfl) hR.om rfl rfl) rfl (fun G9 u9 hR9 hA9 => ?_)
                          exact hr_iret X hr dX5_says_134 (tw_end (by rw [sq_says, if_pos c5, if_neg c9, if_pos c15, if_neg (show ¬ ((A.1.1 18 (iN a1)) = 1) by omega), if_neg (show ¬ ((A.1.1 18 (iN a1)) = 0) by omega), if_pos (show (iN a2) = 1 by omega), if_neg (show ¬ ((A.1.1 9 (A.1.1 21 (iN a1))) = 2) by omega), if_pos (show (iN a2) = 3 by omega), if_neg (show ¬ ((A.1.1 9 (A.1.1 21 (iN a1))) = 5) by omega), if_neg (show ¬ ((iN a2) = 4) by omega), if_neg (show ¬ ((iN a2) = 0) by omega), if_neg (show ¬ ((iN a2) = (A.1.1 9 (A.1.1 21 (iN a1)))) by omega)]) hR9 hA9)
                    · refine hr_iload4 (q := 101) X dX5_says_99 rfl ?_
                      refine hr_bipush (v := (nI 6)) (q := 103) X dX5_says_101 rfl rfl ?_
                      refine hr_icmpN_ne (q := 106) (tgt := 110) X dX5_says_103 rfl (by decide) (by omega) (by omega) (fun c103 => ?_) (fun c103 => ?_)
                      · refine hr_iconst (v := (nI 0)) (q := 111) X dX5_says_110 rfl rfl ?_
                        refine hr_istore5 (q := 113) X dX5_says_111 rfl rfl (Nat.le_of_ble_eq_true rfl) ?_
                        refine hr_iload2 (q := 114) X dX5_says_113 rfl ?_
                        refine hr_ifN_eq (q := 117) (tgt := 135) X dX5_says_114 rfl (by decide) (by omega) (fun c114 => ?_) (fun c114 => ?_)
                        · refine hr_iload2 (q := 136) X dX5_says_135 rfl ?_
                          by_cases e136_0 : (iN a2) = 0
                          · refine hr_tableIn (off := 40) (tgt := 176) X dX5_says_136 (by rw [(congrArg nI e136_0)]; decide) (by rw [(congrArg nI e136_0)]; decide) (by rw [(congrArg nI e136_0)]; rfl) (by decide) ?_
                            refine hr_aload0 (q := 177) X dX5_says_176 rfl ?_
                            refine hr_getR (v := am 14) (q := 180) X dX5_says_177 rfl fr_q1396_5 rfl hR.om (hR.f rfl) ?_
                            refine hr_iload3 (q := 181) X dX5_says_180 rfl ?_
                            refine hr_ialdN (v := (nI (A.1.1 14 (A.1.1 21 (iN a1))))) (q := 182) X dX5_says_181 rfl (hR.ka (n := 7) rfl rfl rfl) (Or.inl rfl) (by omega) (by decide) ((hR.ar rfl _).trans (hA.p (by decide) (by decide) (by omega))) ?_
                            have b181 := hW.w.b14 (show A.1.1 21 (iN a1) < 7 by omega)
                            exact hr_iret X hr dX5_says_182 (tw_end (by rw [sq_says, if_pos c5, if_neg c9, if_pos c15, if_neg (show ¬ ((A.1.1 18 (iN a1)) = 1) by omega), if_neg (show ¬ ((A.1.1 18 (iN a1)) = 0) by omega), if_pos (show (iN a2) = 1 by omega), if_neg (show ¬ ((A.1.1 9 (A.1.1 21 (iN a1))) = 2) by omega), if_pos (show (iN a2) = 3 by omega), if_neg (show ¬ ((A.1.1 9 (A.1.1 21 (iN a1))) = 5) by omega), if_pos (show (iN a2) = 4 by omega), if_neg (show ¬ ((A.1.1 9 (A.1.1 21 (iN a1))) = 6) by omega), if_pos (show (iN a2) = 0 by omega), if_pos e136_0]) hR hA)
                          by_cases e136_1 : (iN a2) = 1
                          · refine hr_tableIn (off := 47) (tgt := 183) X dX5_says_136 (by rw [(congrArg nI e136_1)]; decide) (by rw [(congrArg nI e136_1)]; decide) (by rw [(congrArg nI e136_1)]; rfl) (by decide) ?_
                            refine hr_aload0 (q := 184) X dX5_says_183 rfl ?_
                            refine hr_iload3 (q := 185) X dX5_says_184 rfl ?_
                            refine hr_callP (q := 188) (hc_V (n := 1) (ci := 5) (As := [.int (nI (A.1.1 21 (iN a1)))]) X dX5_says_185 rfl (tk_shows X.tr hR hA.t hw (x := A.1.1 21 (iN a1)) (by omega)) q1555 cv_X5_shows ⟨Nat.le_of_ble_eq_true rfl, Nat.le_of_ble_eq_true rfl⟩ rfl (Nat.le_of_ble_eq_true rfl) hR.om rfl rfl) rfl ?_
                            have := sp_shows_lt (t := A.1) hw (x := (A.1.1 21 (iN a1))) (by omega)
                            exact hr_iret X hr dX5_says_188 (tw_end (by rw [sq_says, if_pos c5, if_neg c9, if_pos c15, if_neg (show ¬ ((A.1.1 18 (iN a1)) = 1) by omega), if_neg (show ¬ ((A.1.1 18 (iN a1)) = 0) by omega), if_pos (show (iN a2) = 1 by omega), if_neg (show ¬ ((A.1.1 9 (A.1.1 21 (iN a1))) = 2) by omega), if_pos (show (iN a2) = 3 by omega), if_neg (show ¬ ((A.1.1 9 (A.1.1 21 (iN a1))) = 5) by omega), if_pos (show (iN a2) = 4 by omega), if_neg (show ¬ ((A.1.1 9 (A.1.1 21 (iN a1))) = 6) by omega), if_pos (show (iN a2) = 0 by omega), if_neg e136_0, if_pos e136_1]) hR hA)
                          by_cases e136_2 : (iN a2) = 2
                          · refine hr_tableIn (off := 47) (tgt := 183) X dX5_says_136 (by rw [(congrArg nI e136_2)]; decide) (by rw [(congrArg nI e136_2)]; decide) (by rw [(congrArg nI e136_2)]; rfl) (by decide) ?_
                            refine hr_aload0 (q := 184) X dX5_says_183 rfl ?_
                            refine hr_iload3 (q := 185) X dX5_says_184 rfl ?_
                            refine hr_callP (q := 188) (hc_V (n := 1) (ci := 5) (As := [.int (nI (A.1.1 21 (iN a1)))]) X dX5_says_185 rfl (tk_shows X.tr hR hA.t hw (x := A.1.1 21 (iN a1)) (by omega)) q1555 cv_X5_shows ⟨Nat.le_of_ble_eq_true rfl, Nat.le_of_ble_eq_true rfl⟩ rfl (Nat.le_of_ble_eq_true rfl) hR.om rfl rfl) rfl ?_
                            have := sp_shows_lt (t := A.1) hw (x := (A.1.1 21 (iN a1))) (by omega)
                            exact hr_iret X hr dX5_says_188 (tw_end (by rw [sq_says, if_pos c5, if_neg c9, if_pos c15, if_neg (show ¬ ((A.1.1 18 (iN a1)) = 1) by omega), if_neg (show ¬ ((A.1.1 18 (iN a1)) = 0) by omega), if_pos (show (iN a2) = 1 by omega), if_neg (show ¬ ((A.1.1 9 (A.1.1 21 (iN a1))) = 2) by omega), if_pos (show (iN a2) = 3 by omega), if_neg (show ¬ ((A.1.1 9 (A.1.1 21 (iN a1))) = 5) by omega), if_pos (show (iN a2) = 4 by omega), if_neg (show ¬ ((A.1.1 9 (A.1.1 21 (iN a1))) = 6) by omega), if_pos (show (iN a2) = 0 by omega), if_neg e136_0, if_neg e136_1, if_pos e136_2]) hR hA)
                          by_cases e136_3 : (iN a2) = 3
                          · refine hr_tableIn (off := 53) (tgt := 189) X dX5_says_136 (by rw [(congrArg nI e136_3)]; decide) (by rw [(congrArg nI e136_3)]; decide) (by rw [(congrArg nI e136_3)]; rfl) (by decide) ?_
                            refine hr_aload0 (q := 190) X dX5_says_189 rfl ?_
                            refine hr_getR (v := am 13) (q := 193) X dX5_says_190 rfl fr_q1395_5 rfl hR.om (hR.f rfl) ?_
                            refine hr_iload3 (q := 194) X dX5_says_193 rfl ?_
                            refine hr_ialdN (v := (nI (A.1.1 13 (A.1.1 21 (iN a1))))) (q := 195) X dX5_says_194 rfl (hR.ka (n := 7) rfl rfl rfl) (Or.inl rfl) (by omega) (by decide) ((hR.ar rfl _).trans (hA.p (by decide) (by decide) (by omega))) ?_
                            have b194 := hW.w.b13 (show A.1.1 21 (iN a1) < 7 by omega)
                            exact hr_iret X hr dX5_says_195 (tw_end (by rw [sq_says, if_pos c5, if_neg c9, if_pos c15, if_neg (show ¬ ((A.1.1 18 (iN a1)) = 1) by omega), if_neg (show ¬ ((A.1.1 18 (iN a1)) = 0) by omega), if_pos (show (iN a2) = 1 by omega), if_neg (show ¬ ((A.1.1 9 (A.1.1 21 (iN a1))) = 2) by omega), if_pos (show (iN a2) = 3 by omega), if_neg (show ¬ ((A.1.1 9 (A.1.1 21 (iN a1))) = 5) by omega), if_pos (show (iN a2) = 4 by omega), if_neg (show ¬ ((A.1.1 9 (A.1.1 21 (iN a1))) = 6) by omega), if_pos (show (iN a2) = 0 by omega), if_neg e136_0, if_neg e136_1, if_neg e136_2, if_pos e136_3]) hR hA)
                          by_cases e136_4 : (iN a2) = 4
                          · refine hr_tableIn (off := 60) (tgt := 196) X dX5_says_136 (by rw [(congrArg nI e136_4)]; decide) (by rw [(congrArg nI e136_4)]; decide) (by rw [(congrArg nI e136_4)]; rfl) (by decide) ?_
                            refine hr_aload0 (q := 197) X dX5_says_196 rfl ?_
                            refine hr_getR (v := am 12) (q := 200) X dX5_says_197 rfl fr_q1394_5 rfl hR.om (hR.f rfl) ?_
                            refine hr_iload3 (q := 201) X dX5_says_200 rfl ?_
                            refine hr_ialdN (v := (nI (A.1.1 12 (A.1.1 21 (iN a1))))) (q := 202) X dX5_says_201 rfl (hR.ka (n := 7) rfl rfl rfl) (Or.inl rfl) (by omega) (by decide) ((hR.ar rfl _).trans (hA.p (by decide) (by decide) (by omega))) ?_
                            have b201 := hW.w.b12 (show A.1.1 21 (iN a1) < 7 by omega)
                            exact hr_iret X hr dX5_says_202 (tw_end (by rw [sq_says, if_pos c5, if_neg c9, if_pos c15, if_neg (show ¬ ((A.1.1 18 (iN a1)) = 1) by omega), if_neg (show ¬ ((A.1.1 18 (iN a1)) = 0) by omega), if_pos (show (iN a2) = 1 by omega), if_neg (show ¬ ((A.1.1 9 (A.1.1 21 (iN a1))) = 2) by omega), if_pos (show (iN a2) = 3 by omega), if_neg (show ¬ ((A.1.1 9 (A.1.1 21 (iN a1))) = 5) by omega), if_pos (show (iN a2) = 4 by omega), if_neg (show ¬ ((A.1.1 9 (A.1.1 21 (iN a1))) = 6) by omega), if_pos (show (iN a2) = 0 by omega), if_neg e136_0, if_neg e136_1, if_neg e136_2, if_neg e136_3, if_pos e136_4]) hR hA)
                          by_cases e136_5 : (iN a2) = 5
                          · refine hr_tableIn (off := 53) (tgt := 189) X dX5_says_136 (by rw [(congrArg nI e136_5)]; decide) (by rw [(congrArg nI e136_5)]; decide) (by rw [(congrArg nI e136_5)]; rfl) (by decide) ?_
                            refine hr_aload0 (q := 190) X dX5_says_189 rfl ?_
                            refine hr_getR (v := am 13) (q := 193) X dX5_says_190 rfl fr_q1395_5 rfl hR.om (hR.f rfl) ?_
                            refine hr_iload3 (q := 194) X dX5_says_193 rfl ?_
                            refine hr_ialdN (v := (nI (A.1.1 13 (A.1.1 21 (iN a1))))) (q := 195) X dX5_says_194 rfl (hR.ka (n := 7) rfl rfl rfl) (Or.inl rfl) (by omega) (by decide) ((hR.ar rfl _).trans (hA.p (by decide) (by decide) (by omega))) ?_
                            have b194 := hW.w.b13 (show A.1.1 21 (iN a1) < 7 by omega)
                            exact hr_iret X hr dX5_says_195 (tw_end (by rw [sq_says, if_pos c5, if_neg c9, if_pos c15, if_neg (show ¬ ((A.1.1 18 (iN a1)) = 1) by omega), if_neg (show ¬ ((A.1.1 18 (iN a1)) = 0) by omega), if_pos (show (iN a2) = 1 by omega), if_neg (show ¬ ((A.1.1 9 (A.1.1 21 (iN a1))) = 2) by omega), if_pos (show (iN a2) = 3 by omega), if_neg (show ¬ ((A.1.1 9 (A.1.1 21 (iN a1))) = 5) by omega), if_pos (show (iN a2) = 4 by omega), if_neg (show ¬ ((A.1.1 9 (A.1.1 21 (iN a1))) = 6) by omega), if_pos (show (iN a2) = 0 by omega), if_neg e136_0, if_neg e136_1, if_neg e136_2, if_neg e136_3, if_neg e136_4, if_pos e136_5]) hR hA)
                          refine hr_tableOut (tgt := 196) X dX5_says_136 (sp_out (n := 6) (by decide) (fun i hi => by match i, hi with | 0, _ => exact (fun z => e136_0 ((nI_eq (by omega) (by omega)).mp z)) | 1, _ => exact (fun z => e136_1 ((nI_eq (by omega) (by omega)).mp z)) | 2, _ => exact (fun z => e136_2 ((nI_eq (by omega) (by omega)).mp z)) | 3, _ => exact (fun z => e136_3 ((nI_eq (by omega) (by omega)).mp z)) | 4, _ => exact (fun z => e136_4 ((nI_eq (by omega) (by omega)).mp z)) | 5, _ => exact (fun z => e136_5 ((nI_eq (by omega) (by omega)).mp z)) | (k + 6), hi => omega)) (by decide) ?_
                          refine hr_aload0 (q := 197) X dX5_says_196 rfl ?_
                          refine hr_getR (v := am 12) (q := 200) X dX5_says_197 rfl fr_q1394_5 rfl hR.om (hR.f rfl) ?_
                          refine hr_iload3 (q := 201) X dX5_says_200 rfl ?_
                          refine hr_ialdN (v := (nI (A.1.1 12 (A.1.1 21 (iN a1))))) (q := 202) X dX5_says_201 rfl (hR.ka (n := 7) rfl rfl rfl) (Or.inl rfl) (by omega) (by decide) ((hR.ar rfl _).trans (hA.p (by decide) (by decide) (by omega))) ?_
                          have b201 := hW.w.b12 (show A.1.1 21 (iN a1) < 7 by omega)
                          exact hr_iret X hr dX5_says_202 (tw_end (by rw [sq_says, if_pos c5, if_neg c9, if_pos c15, if_neg (show ¬ ((A.1.1 18 (iN a1)) = 1) by omega), if_neg (show ¬ ((A.1.1 18 (iN a1)) = 0) by omega), if_pos (show (iN a2) = 1 by omega), if_neg (show ¬ ((A.1.1 9 (A.1.1 21 (iN a1))) = 2) by omega), if_pos (show (iN a2) = 3 by omega), if_neg (show ¬ ((A.1.1 9 (A.1.1 21 (iN a1))) = 5) by omega), if_pos (show (iN a2) = 4 by omega), if_neg (show ¬ ((A.1.1 9 (A.1.1 21 (iN a1))) = 6) by omega), if_pos (show (iN a2) = 0 by omega), if_neg e136_0, if_neg e136_1, if_neg e136_2, if_neg e136_3, if_neg e136_4, if_neg e136_5]) hR hA)
                        · refine hr_iload2 (q := 118) X dX5_says_117 rfl ?_
                          refine hr_iload4 (q := 120) X dX5_says_118 rfl ?_
                          refine hr_icmpN_eq (q := 123) (tgt := 135) X dX5_says_120 rfl (by decide) (by omega) (by omega) (fun c120 => ?_) (fun c120 => ?_)
                          · refine hr_iload2 (q := 136) X dX5_says_135 rfl ?_
                            by_cases e136_0 : (iN a2) = 0
                            · refine hr_tableIn (off := 40) (tgt := 176) X dX5_says_136 (by rw [(congrArg nI e136_0)]; decide) (by rw [(congrArg nI e136_0)]; decide) (by rw [(congrArg nI e136_0)]; rfl) (by decide) ?_
                              refine hr_aload0 (q := 177) X dX5_says_176 rfl ?_
                              refine hr_getR (v := am 14) (q := 180) X dX5_says_177 rfl fr_q1396_5 rfl hR.om (hR.f rfl) ?_
                              refine hr_iload3 (q := 181) X dX5_says_180 rfl ?_
                              refine hr_ialdN (v := (nI (A.1.1 14 (A.1.1 21 (iN a1))))) (q := 182) X dX5_says_181 rfl (hR.ka (n := 7) rfl rfl rfl) (Or.inl rfl) (by omega) (by decide) ((hR.ar rfl _).trans (hA.p (by decide) (by decide) (by omega))) ?_
                              have b181 := hW.w.b14 (show A.1.1 21 (iN a1) < 7 by omega)
                              exact hr_iret X hr dX5_says_182 (tw_end (by rw [sq_says, if_pos c5, if_neg c9, if_pos c15, if_neg (show ¬ ((A.1.1 18 (iN a1)) = 1) by omega), if_neg (show ¬ ((A.1.1 18 (iN a1)) = 0) by omega), if_pos (show (iN a2) = 1 by omega), if_neg (show ¬ ((A.1.1 9 (A.1.1 21 (iN a1))) = 2) by omega), if_pos (show (iN a2) = 3 by omega), if_neg (show ¬ ((A.1.1 9 (A.1.1 21 (iN a1))) = 5) by omega), if_pos (show (iN a2) = 4 by omega), if_neg (show ¬ ((A.1.1 9 (A.1.1 21 (iN a1))) = 6) by omega), if_neg (show ¬ ((iN a2) = 0) by omega), if_pos (show (iN a2) = (A.1.1 9 (A.1.1 21 (iN a1))) by omega), if_pos e136_0]) hR hA)
                            by_cases e136_1 : (iN a2) = 1
                            · refine hr_tableIn (off := 47) (tgt := 183) X dX5_says_136 (by rw [(congrArg nI e136_1)]; decide) (by rw [(congrArg nI e136_1)]; decide) (by rw [(congrArg nI e136_1)]; rfl) (by decide) ?_
                              refine hr_aload0 (q := 184) X dX5_says_183 rfl ?_
                              refine hr_iload3 (q := 185) X dX5_says_184 rfl ?_
                              refine hr_callP (q := 188) (hc_V (n := 1) (ci := 5) (As := [.int (nI (A.1.1 21 (iN a1)))]) X dX5_says_185 rfl (tk_shows X.tr hR hA.t hw (x := A.1.1 21 (iN a1)) (by omega)) q1555 cv_X5_shows ⟨Nat.le_of_ble_eq_true rfl, Nat.le_of_ble_eq_true rfl⟩ rfl (Nat.le_of_ble_eq_true rfl) hR.om rfl rfl) rfl ?_
                              have := sp_shows_lt (t := A.1) hw (x := (A.1.1 21 (iN a1))) (by omega)
                              exact hr_iret X hr dX5_says_188 (tw_end (by rw [sq_says, if_pos c5, if_neg c9, if_pos c15, if_neg (show ¬ ((A.1.1 18 (iN a1)) = 1) by omega), if_neg (show ¬ ((A.1.1 18 (iN a1)) = 0) by omega), if_pos (show (iN a2) = 1 by omega), if_neg (show ¬ ((A.1.1 9 (A.1.1 21 (iN a1))) = 2) by omega), if_pos (show (iN a2) = 3 by omega), if_neg (show ¬ ((A.1.1 9 (A.1.1 21 (iN a1))) = 5) by omega), if_pos (show (iN a2) = 4 by omega), if_neg (show ¬ ((A.1.1 9 (A.1.1 21 (iN a1))) = 6) by omega), if_neg (show ¬ ((iN a2) = 0) by omega), if_pos (show (iN a2) = (A.1.1 9 (A.1.1 21 (iN a1))) by omega), if_neg e136_0, if_pos e136_1]) hR hA)
                            by_cases e136_2 : (iN a2) = 2
                            · refine hr_tableIn (off := 47) (tgt := 183) X dX5_says_136 (by rw [(congrArg nI e136_2)]; decide) (by rw [(congrArg nI e136_2)]; decide) (by rw [(congrArg nI e136_2)]; rfl) (by decide) ?_
                              refine hr_aload0 (q := 184) X dX5_says_183 rfl ?_
                              refine hr_iload3 (q := 185) X dX5_says_184 rfl ?_
                              refine hr_callP (q := 188) (hc_V (n := 1) (ci := 5) (As := [.int (nI (A.1.1 21 (iN a1)))]) X dX5_says_185 rfl (tk_shows X.tr hR hA.t hw (x := A.1.1 21 (iN a1)) (by omega)) q1555 cv_X5_shows ⟨Nat.le_of_ble_eq_true rfl, Nat.le_of_ble_eq_true rfl⟩ rfl (Nat.le_of_ble_eq_true rfl) hR.om rfl rfl) rfl ?_
                              have := sp_shows_lt (t := A.1) hw (x := (A.1.1 21 (iN a1))) (by omega)
                              exact hr_iret X hr dX5_says_188 (tw_end (by rw [sq_says, if_pos c5, if_neg c9, if_pos c15, if_neg (show ¬ ((A.1.1 18 (iN a1)) = 1) by omega), if_neg (show ¬ ((A.1.1 18 (iN a1)) = 0) by omega), if_pos (show (iN a2) = 1 by omega), if_neg (show ¬ ((A.1.1 9 (A.1.1 21 (iN a1))) = 2) by omega), if_pos (show (iN a2) = 3 by omega), if_neg (show ¬ ((A.1.1 9 (A.1.1 21 (iN a1))) = 5) by omega), if_pos (show (iN a2) = 4 by omega), if_neg (show ¬ ((A.1.1 9 (A.1.1 21 (iN a1))) = 6) by omega), if_neg (show ¬ ((iN a2) = 0) by omega), if_pos (show (iN a2) = (A.1.1 9 (A.1.1 21 (iN a1))) by omega), if_neg e136_0, if_neg e136_1, if_pos e136_2]) hR hA)
                            by_cases e136_3 : (iN a2) = 3
                            · refine hr_tableIn (off := 53) (tgt := 189) X dX5_says_136 (by rw [(congrArg nI e136_3)]; decide) (by rw [(congrArg nI e136_3)]; decide) (by rw [(congrArg nI e136_3)]; rfl) (by decide) ?_
                              refine hr_aload0 (q := 190) X dX5_says_189 rfl ?_
                              refine hr_getR (v := am 13) (q := 193) X dX5_says_190 rfl fr_q1395_5 rfl hR.om (hR.f rfl) ?_
                              refine hr_iload3 (q := 194) X dX5_says_193 rfl ?_
                              refine hr_ialdN (v := (nI (A.1.1 13 (A.1.1 21 (iN a1))))) (q := 195) X dX5_says_194 rfl (hR.ka (n := 7) rfl rfl rfl) (Or.inl rfl) (by omega) (by decide) ((hR.ar rfl _).trans (hA.p (by decide) (by decide) (by omega))) ?_
                              have b194 := hW.w.b13 (show A.1.1 21 (iN a1) < 7 by omega)
                              exact hr_iret X hr dX5_says_195 (tw_end (by rw [sq_says, if_pos c5, if_neg c9, if_pos c15, if_neg (show ¬ ((A.1.1 18 (iN a1)) = 1) by omega), if_neg (show ¬ ((A.1.1 18 (iN a1)) = 0) by omega), if_pos (show (iN a2) = 1 by omega), if_neg (show ¬ ((A.1.1 9 (A.1.1 21 (iN a1))) = 2) by omega), if_pos (show (iN a2) = 3 by omega), if_neg (show ¬ ((A.1.1 9 (A.1.1 21 (iN a1))) = 5) by omega), if_pos (show (iN a2) = 4 by omega), if_neg (show ¬ ((A.1.1 9 (A.1.1 21 (iN a1))) = 6) by omega), if_neg (show ¬ ((iN a2) = 0) by omega), if_pos (show (iN a2) = (A.1.1 9 (A.1.1 21 (iN a1))) by omega), if_neg e136_0, if_neg e136_1, if_neg e136_2, if_pos e136_3]) hR hA)
                            by_cases e136_4 : (iN a2) = 4
                            · refine hr_tableIn (off := 60) (tgt := 196) X dX5_says_136 (by rw [(congrArg nI e136_4)]; decide) (by rw [(congrArg nI e136_4)]; decide) (by rw [(congrArg nI e136_4)]; rfl) (by decide) ?_
                              refine hr_aload0 (q := 197) X dX5_says_196 rfl ?_
                              refine hr_getR (v := am 12) (q := 200) X dX5_says_197 rfl fr_q1394_5 rfl hR.om (hR.f rfl) ?_
                              refine hr_iload3 (q := 201) X dX5_says_200 rfl ?_
                              refine hr_ialdN (v := (nI (A.1.1 12 (A.1.1 21 (iN a1))))) (q := 202) X dX5_says_201 rfl (hR.ka (n := 7) rfl rfl rfl) (Or.inl rfl) (by omega) (by decide) ((hR.ar rfl _).trans (hA.p (by decide) (by decide) (by omega))) ?_
                              have b201 := hW.w.b12 (show A.1.1 21 (iN a1) < 7 by omega)
                              exact hr_iret X hr dX5_says_202 (tw_end (by rw [sq_says, if_pos c5, if_neg c9, if_pos c15, if_neg (show ¬ ((A.1.1 18 (iN a1)) = 1) by omega), if_neg (show ¬ ((A.1.1 18 (iN a1)) = 0) by omega), if_pos (show (iN a2) = 1 by omega), if_neg (show ¬ ((A.1.1 9 (A.1.1 21 (iN a1))) = 2) by omega), if_pos (show (iN a2) = 3 by omega), if_neg (show ¬ ((A.1.1 9 (A.1.1 21 (iN a1))) = 5) by omega), if_pos (show (iN a2) = 4 by omega), if_neg (show ¬ ((A.1.1 9 (A.1.1 21 (iN a1))) = 6) by omega), if_neg (show ¬ ((iN a2) = 0) by omega), if_pos (show (iN a2) = (A.1.1 9 (A.1.1 21 (iN a1))) by omega), if_neg e136_0, if_neg e136_1, if_neg e136_2, if_neg e136_3, if_pos e136_4]) hR hA)
                            by_cases e136_5 : (iN a2) = 5
                            · refine hr_tableIn (off := 53) (tgt := 189) X dX5_says_136 (by rw [(congrArg nI e136_5)]; decide) (by rw [(congrArg nI e136_5)]; decide) (by rw [(congrArg nI e136_5)]; rfl) (by decide) ?_
                              refine hr_aload0 (q := 190) X dX5_says_189 rfl ?_
                              refine hr_getR (v := am 13) (q := 193) X dX5_says_190 rfl fr_q1395_5 rfl hR.om (hR.f rfl) ?_
                              refine hr_iload3 (q := 194) X dX5_says_193 rfl ?_
                              refine hr_ialdN (v := (nI (A.1.1 13 (A.1.1 21 (iN a1))))) (q := 195) X dX5_says_194 rfl (hR.ka (n := 7) rfl rfl rfl) (Or.inl rfl) (by omega) (by decide) ((hR.ar rfl _).trans (hA.p (by decide) (by decide) (by omega))) ?_
                              have b194 := hW.w.b13 (show A.1.1 21 (iN a1) < 7 by omega)
                              exact hr_iret X hr dX5_says_195 (tw_end (by rw [sq_says, if_pos c5, if_neg c9, if_pos c15, if_neg (show ¬ ((A.1.1 18 (iN a1)) = 1) by omega), if_neg (show ¬ ((A.1.1 18 (iN a1)) = 0) by omega), if_pos (show (iN a2) = 1 by omega), if_neg (show ¬ ((A.1.1 9 (A.1.1 21 (iN a1))) = 2) by omega), if_pos (show (iN a2) = 3 by omega), if_neg (show ¬ ((A.1.1 9 (A.1.1 21 (iN a1))) = 5) by omega), if_pos (show (iN a2) = 4 by omega), if_neg (show ¬ ((A.1.1 9 (A.1.1 21 (iN a1))) = 6) by omega), if_neg (show ¬ ((iN a2) = 0) by omega), if_pos (show (iN a2) = (A.1.1 9 (A.1.1 21 (iN a1))) by omega), if_neg e136_0, if_neg e136_1, if_neg e136_2, if_neg e136_3, if_neg e136_4, if_pos e136_5]) hR hA)
                            refine hr_tableOut (tgt := 196) X dX5_says_136 (sp_out (n := 6) (by decide) (fun i hi => by match i, hi with | 0, _ => exact (fun z => e136_0 ((nI_eq (by omega) (by omega)).mp z)) | 1, _ => exact (fun z => e136_1 ((nI_eq (by omega) (by omega)).mp z)) | 2, _ => exact (fun z => e136_2 ((nI_eq (by omega) (by omega)).mp z)) | 3, _ => exact (fun z => e136_3 ((nI_eq (by omega) (by omega)).mp z)) | 4, _ => exact (fun z => e136_4 ((nI_eq (by omega) (by omega)).mp z)) | 5, _ => exact (fun z => e136_5 ((nI_eq (by omega) (by omega)).mp z)) | (k + 6), hi => omega)) (by decide) ?_
                            refine hr_aload0 (q := 197) X dX5_says_196 rfl ?_
                            refine hr_getR (v := am 12) (q := 200) X dX5_says_197 rfl fr_q1394_5 rfl hR.om (hR.f rfl) ?_
                            refine hr_iload3 (q := 201) X dX5_says_200 rfl ?_
                            refine hr_ialdN (v := (nI (A.1.1 12 (A.1.1 21 (iN a1))))) (q := 202) X dX5_says_201 rfl (hR.ka (n := 7) rfl rfl rfl) (Or.inl rfl) (by omega) (by decide) ((hR.ar rfl _).trans (hA.p (by decide) (by decide) (by omega))) ?_
                            have b201 := hW.w.b12 (show A.1.1 21 (iN a1) < 7 by omega)
                            exact hr_iret X hr dX5_says_202 (tw_end (by rw [sq_says, if_pos c5, if_neg c9, if_pos c15, if_neg (show ¬ ((A.1.1 18 (iN a1)) = 1) by omega), if_neg (show ¬ ((A.1.1 18 (iN a1)) = 0) by omega), if_pos (show (iN a2) = 1 by omega), if_neg (show ¬ ((A.1.1 9 (A.1.1 21 (iN a1))) = 2) by omega), if_pos (show (iN a2) = 3 by omega), if_neg (show ¬ ((A.1.1 9 (A.1.1 21 (iN a1))) = 5) by omega), if_pos (show (iN a2) = 4 by omega), if_neg (show ¬ ((A.1.1 9 (A.1.1 21 (iN a1))) = 6) by omega), if_neg (show ¬ ((iN a2) = 0) by omega), if_pos (show (iN a2) = (A.1.1 9 (A.1.1 21 (iN a1))) by omega), if_neg e136_0, if_neg e136_1, if_neg e136_2, if_neg e136_3, if_neg e136_4, if_neg e136_5]) hR hA)
                          · refine hr_iload5 (q := 125) X dX5_says_123 rfl ?_
                            refine hr_if_ne (q := 128) (tgt := 135) X dX5_says_125 rfl (by decide) (fun z => absurd z (by decide)) (fun _ => ?_)
                            refine hr_aload0 (q := 129) X dX5_says_128 rfl ?_
                            refine hr_bipush (v := (-2)) (q := 131) X dX5_says_129 rfl rfl ?_
                            refine hr_callT (q := 134) (hc_V (n := 1) (ci := 5) (As := [.int (-2)]) X dX5_says_131 rfl (tk_no X.tr hR hA (b := (-2)) (by decide)) q1523 cv_X5_no ⟨Nat.le_of_ble_eq_true rfl, Nat.le_of_ble_eq_true rfl⟩ rfl (Nat.le_of_ble_eq_true rfl) hR.om rfl rfl) rfl (fun G10 u10 hR10 hA10 => ?_)
                            exact hr_iret X hr dX5_says_134 (tw_end (by rw [sq_says, if_pos c5, if_neg c9, if_pos c15, if_neg (show ¬ ((A.1.1 18 (iN a1)) = 1) by omega), if_neg (show ¬ ((A.1.1 18 (iN a1)) = 0) by omega), if_pos (show (iN a2) = 1 by omega), if_neg (show ¬ ((A.1.1 9 (A.1.1 21 (iN a1))) = 2) by omega), if_pos (show (iN a2) = 3 by omega), if_neg (show ¬ ((A.1.1 9 (A.1.1 21 (iN a1))) = 5) by omega), if_pos (show (iN a2) = 4 by omega), if_neg (show ¬ ((A.1.1 9 (A.1.1 21 (iN a1))) = 6) by omega), if_neg (show ¬ ((iN a2) = 0) by omega), if_neg (show ¬ ((iN a2) = (A.1.1 9 (A.1.1 21 (iN a1)))) by omega)]) hR10 hA10)
                      · refine hr_iconst (v := (nI 1)) (q := 107) X dX5_says_106 rfl rfl ?_
                        refine hr_goto (tgt := 111) X dX5_says_107 (by decide) ?_
                        refine hr_istore5 (q := 113) X dX5_says_111 rfl rfl (Nat.le_of_ble_eq_true rfl) ?_
                        refine hr_iload2 (q := 114) X dX5_says_113 rfl ?_
                        refine hr_ifN_eq (q := 117) (tgt := 135) X dX5_says_114 rfl (by decide) (by omega) (fun c114 => ?_) (fun c114 => ?_)
                        · refine hr_iload2 (q := 136) X dX5_says_135 rfl ?_
                          by_cases e136_0 : (iN a2) = 0
                          · refine hr_tableIn (off := 40) (tgt := 176) X dX5_says_136 (by rw [(congrArg nI e136_0)]; decide) (by rw [(congrArg nI e136_0)]; decide) (by rw [(congrArg nI e136_0)]; rfl) (by decide) ?_
                            refine hr_aload0 (q := 177) X dX5_says_176 rfl ?_
                            refine hr_getR (v := am 14) (q := 180) X dX5_says_177 rfl fr_q1396_5 rfl hR.om (hR.f rfl) ?_
                            refine hr_iload3 (q := 181) X dX5_says_180 rfl ?_
                            refine hr_ialdN (v := (nI (A.1.1 14 (A.1.1 21 (iN a1))))) (q := 182) X dX5_says_181 rfl (hR.ka (n := 7) rfl rfl rfl) (Or.inl rfl) (by omega) (by decide) ((hR.ar rfl _).trans (hA.p (by decide) (by decide) (by omega))) ?_
                            have b181 := hW.w.b14 (show A.1.1 21 (iN a1) < 7 by omega)
                            exact hr_iret X hr dX5_says_182 (tw_end (by rw [sq_says, if_pos c5, if_neg c9, if_pos c15, if_neg (show ¬ ((A.1.1 18 (iN a1)) = 1) by omega), if_neg (show ¬ ((A.1.1 18 (iN a1)) = 0) by omega), if_pos (show (iN a2) = 1 by omega), if_neg (show ¬ ((A.1.1 9 (A.1.1 21 (iN a1))) = 2) by omega), if_pos (show (iN a2) = 3 by omega), if_neg (show ¬ ((A.1.1 9 (A.1.1 21 (iN a1))) = 5) by omega), if_pos (show (iN a2) = 4 by omega), if_pos (show (A.1.1 9 (A.1.1 21 (iN a1))) = 6 by omega), if_pos (show (iN a2) = 0 by omega), if_pos e136_0]) hR hA)
                          by_cases e136_1 : (iN a2) = 1
                          · refine hr_tableIn (off := 47) (tgt := 183) X dX5_says_136 (by rw [(congrArg nI e136_1)]; decide) (by rw [(congrArg nI e136_1)]; decide) (by rw [(congrArg nI e136_1)]; rfl) (by decide) ?_
                            refine hr_aload0 (q := 184) X dX5_says_183 rfl ?_
                            refine hr_iload3 (q := 185) X dX5_says_184 rfl ?_
                            refine hr_callP (q := 188) (hc_V (n := 1) (ci := 5) (As := [.int (nI (A.1.1 21 (iN a1)))]) X dX5_says_185 rfl (tk_shows X.tr hR hA.t hw (x := A.1.1 21 (iN a1)) (by omega)) q1555 cv_X5_shows ⟨Nat.le_of_ble_eq_true rfl, Nat.le_of_ble_eq_true rfl⟩ rfl (Nat.le_of_ble_eq_true rfl) hR.om rfl rfl) rfl ?_
                            have := sp_shows_lt (t := A.1) hw (x := (A.1.1 21 (iN a1))) (by omega)
                            exact hr_iret X hr dX5_says_188 (tw_end (by rw [sq_says, if_pos c5, if_neg c9, if_pos c15, if_neg (show ¬ ((A.1.1 18 (iN a1)) = 1) by omega), if_neg (show ¬ ((A.1.1 18 (iN a1)) = 0) by omega), if_pos (show (iN a2) = 1 by omega), if_neg (show ¬ ((A.1.1 9 (A.1.1 21 (iN a1))) = 2) by omega), if_pos (show (iN a2) = 3 by omega), if_neg (show ¬ ((A.1.1 9 (A.1.1 21 (iN a1))) = 5) by omega), if_pos (show (iN a2) = 4 by omega), if_pos (show (A.1.1 9 (A.1.1 21 (iN a1))) = 6 by omega), if_pos (show (iN a2) = 0 by omega), if_neg e136_0, if_pos e136_1]) hR hA)
                          by_cases e136_2 : (iN a2) = 2
                          · refine hr_tableIn (off := 47) (tgt := 183) X dX5_says_136 (by rw [(congrArg nI e136_2)]; decide) (by rw [(congrArg nI e136_2)]; decide) (by rw [(congrArg nI e136_2)]; rfl) (by decide) ?_
                            refine hr_aload0 (q := 184) X dX5_says_183 rfl ?_
                            refine hr_iload3 (q := 185) X dX5_says_184 rfl ?_
                            refine hr_callP (q := 188) (hc_V (n := 1) (ci := 5) (As := [.int (nI (A.1.1 21 (iN a1)))]) X dX5_says_185 rfl (tk_shows X.tr hR hA.t hw (x := A.1.1 21 (iN a1)) (by omega)) q1555 cv_X5_shows ⟨Nat.le_of_ble_eq_true rfl, Nat.le_of_ble_eq_true rfl⟩ rfl (Nat.le_of_ble_eq_true rfl) hR.om rfl rfl) rfl ?_
                            have := sp_shows_lt (t := A.1) hw (x := (A.1.1 21 (iN a1))) (by omega)
                            exact hr_iret X hr dX5_says_188 (tw_end (by rw [sq_says, if_pos c5, if_neg c9, if_pos c15, if_neg (show ¬ ((A.1.1 18 (iN a1)) = 1) by omega), if_neg (show ¬ ((A.1.1 18 (iN a1)) = 0) by omega), if_pos (show (iN a2) = 1 by omega), if_neg (show ¬ ((A.1.1 9 (A.1.1 21 (iN a1))) = 2) by omega), if_pos (show (iN a2) = 3 by omega), if_neg (show ¬ ((A.1.1 9 (A.1.1 21 (iN a1))) = 5) by omega), if_pos (show (iN a2) = 4 by omega), if_pos (show (A.1.1 9 (A.1.1 21 (iN a1))) = 6 by omega), if_pos (show (iN a2) = 0 by omega), if_neg e136_0, if_neg e136_1, if_pos e136_2]) hR hA)
                          by_cases e136_3 : (iN a2) = 3
                          · refine hr_tableIn (off := 53) (tgt := 189) X dX5_says_136 (by rw [(congrArg nI e136_3)]; decide) (by rw [(congrArg nI e136_3)]; decide) (by rw [(congrArg nI e136_3)]; rfl) (by decide) ?_
                            refine hr_aload0 (q := 190) X dX5_says_189 rfl ?_
                            refine hr_getR (v := am 13) (q := 193) X dX5_says_190 rfl fr_q1395_5 rfl hR.om (hR.f rfl) ?_
                            refine hr_iload3 (q := 194) X dX5_says_193 rfl ?_
                            refine hr_ialdN (v := (nI (A.1.1 13 (A.1.1 21 (iN a1))))) (q := 195) X dX5_says_194 rfl (hR.ka (n := 7) rfl rfl rfl) (Or.inl rfl) (by omega) (by decide) ((hR.ar rfl _).trans (hA.p (by decide) (by decide) (by omega))) ?_
                            have b194 := hW.w.b13 (show A.1.1 21 (iN a1) < 7 by omega)
                            exact hr_iret X hr dX5_says_195 (tw_end (by rw [sq_says, if_pos c5, if_neg c9, if_pos c15, if_neg (show ¬ ((A.1.1 18 (iN a1)) = 1) by omega), if_neg (show ¬ ((A.1.1 18 (iN a1)) = 0) by omega), if_pos (show (iN a2) = 1 by omega), if_neg (show ¬ ((A.1.1 9 (A.1.1 21 (iN a1))) = 2) by omega), if_pos (show (iN a2) = 3 by omega), if_neg (show ¬ ((A.1.1 9 (A.1.1 21 (iN a1))) = 5) by omega), if_pos (show (iN a2) = 4 by omega), if_pos (show (A.1.1 9 (A.1.1 21 (iN a1))) = 6 by omega), if_pos (show (iN a2) = 0 by omega), if_neg e136_0, if_neg e136_1, if_neg e136_2, if_pos e136_3]) hR hA)
                          by_cases e136_4 : (iN a2) = 4
                          · refine hr_tableIn (off := 60) (tgt := 196) X dX5_says_136 (by rw [(congrArg nI e136_4)]; decide) (by rw [(congrArg nI e136_4)]; decide) (by rw [(congrArg nI e136_4)]; rfl) (by decide) ?_
                            refine hr_aload0 (q := 197) X dX5_says_196 rfl ?_
                            refine hr_getR (v := am 12) (q := 200) X dX5_says_197 rfl fr_q1394_5 rfl hR.om (hR.f rfl) ?_
                            refine hr_iload3 (q := 201) X dX5_says_200 rfl ?_
                            refine hr_ialdN (v := (nI (A.1.1 12 (A.1.1 21 (iN a1))))) (q := 202) X dX5_says_201 rfl (hR.ka (n := 7) rfl rfl rfl) (Or.inl rfl) (by omega) (by decide) ((hR.ar rfl _).trans (hA.p (by decide) (by decide) (by omega))) ?_
                            have b201 := hW.w.b12 (show A.1.1 21 (iN a1) < 7 by omega)
                            exact hr_iret X hr dX5_says_202 (tw_end (by rw [sq_says, if_pos c5, if_neg c9, if_pos c15, if_neg (show ¬ ((A.1.1 18 (iN a1)) = 1) by omega), if_neg (show ¬ ((A.1.1 18 (iN a1)) = 0) by omega), if_pos (show (iN a2) = 1 by omega), if_neg (show ¬ ((A.1.1 9 (A.1.1 21 (iN a1))) = 2) by omega), if_pos (show (iN a2) = 3 by omega), if_neg (show ¬ ((A.1.1 9 (A.1.1 21 (iN a1))) = 5) by omega), if_pos (show (iN a2) = 4 by omega), if_pos (show (A.1.1 9 (A.1.1 21 (iN a1))) = 6 by omega), if_pos (show (iN a2) = 0 by omega), if_neg e136_0, if_neg e136_1, if_neg e136_2, if_neg e136_3, if_pos e136_4]) hR hA)
                          by_cases e136_5 : (iN a2) = 5
                          · refine hr_tableIn (off := 53) (tgt := 189) X dX5_says_136 (by rw [(congrArg nI e136_5)]; decide) (by rw [(congrArg nI e136_5)]; decide) (by rw [(congrArg nI e136_5)]; rfl) (by decide) ?_
                            refine hr_aload0 (q := 190) X dX5_says_189 rfl ?_
                            refine hr_getR (v := am 13) (q := 193) X dX5_says_190 rfl fr_q1395_5 rfl hR.om (hR.f rfl) ?_
                            refine hr_iload3 (q := 194) X dX5_says_193 rfl ?_
                            refine hr_ialdN (v := (nI (A.1.1 13 (A.1.1 21 (iN a1))))) (q := 195) X dX5_says_194 rfl (hR.ka (n := 7) rfl rfl rfl) (Or.inl rfl) (by omega) (by decide) ((hR.ar rfl _).trans (hA.p (by decide) (by decide) (by omega))) ?_
                            have b194 := hW.w.b13 (show A.1.1 21 (iN a1) < 7 by omega)
                            exact hr_iret X hr dX5_says_195 (tw_end (by rw [sq_says, if_pos c5, if_neg c9, if_pos c15, if_neg (show ¬ ((A.1.1 18 (iN a1)) = 1) by omega), if_neg (show ¬ ((A.1.1 18 (iN a1)) = 0) by omega), if_pos (show (iN a2) = 1 by omega), if_neg (show ¬ ((A.1.1 9 (A.1.1 21 (iN a1))) = 2) by omega), if_pos (show (iN a2) = 3 by omega), if_neg (show ¬ ((A.1.1 9 (A.1.1 21 (iN a1))) = 5) by omega), if_pos (show (iN a2) = 4 by omega), if_pos (show (A.1.1 9 (A.1.1 21 (iN a1))) = 6 by omega), if_pos (show (iN a2) = 0 by omega), if_neg e136_0, if_neg e136_1, if_neg e136_2, if_neg e136_3, if_neg e136_4, if_pos e136_5]) hR hA)
                          refine hr_tableOut (tgt := 196) X dX5_says_136 (sp_out (n := 6) (by decide) (fun i hi => by match i, hi with | 0, _ => exact (fun z => e136_0 ((nI_eq (by omega) (by omega)).mp z)) | 1, _ => exact (fun z => e136_1 ((nI_eq (by omega) (by omega)).mp z)) | 2, _ => exact (fun z => e136_2 ((nI_eq (by omega) (by omega)).mp z)) | 3, _ => exact (fun z => e136_3 ((nI_eq (by omega) (by omega)).mp z)) | 4, _ => exact (fun z => e136_4 ((nI_eq (by omega) (by omega)).mp z)) | 5, _ => exact (fun z => e136_5 ((nI_eq (by omega) (by omega)).mp z)) | (k + 6), hi => omega)) (by decide) ?_
                          refine hr_aload0 (q := 197) X dX5_says_196 rfl ?_
                          refine hr_getR (v := am 12) (q := 200) X dX5_says_197 rfl fr_q1394_5 rfl hR.om (hR.f rfl) ?_
                          refine hr_iload3 (q := 201) X dX5_says_200 rfl ?_
                          refine hr_ialdN (v := (nI (A.1.1 12 (A.1.1 21 (iN a1))))) (q := 202) X dX5_says_201 rfl (hR.ka (n := 7) rfl rfl rfl) (Or.inl rfl) (by omega) (by decide) ((hR.ar rfl _).trans (hA.p (by decide) (by decide) (by omega))) ?_
                          have b201 := hW.w.b12 (show A.1.1 21 (iN a1) < 7 by omega)
                          exact hr_iret X hr dX5_says_202 (tw_end (by rw [sq_says, if_pos c5, if_neg c9, if_pos c15, if_neg (show ¬ ((A.1.1 18 (iN a1)) = 1) by omega), if_neg (show ¬ ((A.1.1 18 (iN a1)) = 0) by omega), if_pos (show (iN a2) = 1 by omega), if_neg (show ¬ ((A.1.1 9 (A.1.1 21 (iN a1))) = 2) by omega), if_pos (show (iN a2) = 3 by omega), if_neg (show ¬ ((A.1.1 9 (A.1.1 21 (iN a1))) = 5) by omega), if_pos (show (iN a2) = 4 by omega), if_pos (show (A.1.1 9 (A.1.1 21 (iN a1))) = 6 by omega), if_pos (show (iN a2) = 0 by omega), if_neg e136_0, if_neg e136_1, if_neg e136_2, if_neg e136_3, if_neg e136_4, if_neg e136_5]) hR hA)
                        · refine hr_iload2 (q := 118) X dX5_says_117 rfl ?_
                          refine hr_iload4 (q := 120) X dX5_says_118 rfl ?_
                          refine hr_icmpN_eq (q := 123) (tgt := 135) X dX5_says_120 rfl (by decide) (by omega) (by omega) (fun c120 => ?_) (fun c120 => ?_)
                          · refine hr_iload2 (q := 136) X dX5_says_135 rfl ?_
                            by_cases e136_0 : (iN a2) = 0
                            · refine hr_tableIn (off := 40) (tgt := 176) X dX5_says_136 (by rw [(congrArg nI e136_0)]; decide) (by rw [(congrArg nI e136_0)]; decide) (by rw [(congrArg nI e136_0)]; rfl) (by decide) ?_
                              refine hr_aload0 (q := 177) X dX5_says_176 rfl ?_
                              refine hr_getR (v := am 14) (q := 180) X dX5_says_177 rfl fr_q1396_5 rfl hR.om (hR.f rfl) ?_
                              refine hr_iload3 (q := 181) X dX5_says_180 rfl ?_
                              refine hr_ialdN (v := (nI (A.1.1 14 (A.1.1 21 (iN a1))))) (q := 182) X dX5_says_181 rfl (hR.ka (n := 7) rfl rfl rfl) (Or.inl rfl) (by omega) (by decide) ((hR.ar rfl _).trans (hA.p (by decide) (by decide) (by omega))) ?_
                              have b181 := hW.w.b14 (show A.1.1 21 (iN a1) < 7 by omega)
                              exact hr_iret X hr dX5_says_182 (tw_end (by rw [sq_says, if_pos c5, if_neg c9, if_pos c15, if_neg (show ¬ ((A.1.1 18 (iN a1)) = 1) by omega), if_neg (show ¬ ((A.1.1 18 (iN a1)) = 0) by omega), if_pos (show (iN a2) = 1 by omega), if_neg (show ¬ ((A.1.1 9 (A.1.1 21 (iN a1))) = 2) by omega), if_pos (show (iN a2) = 3 by omega), if_neg (show ¬ ((A.1.1 9 (A.1.1 21 (iN a1))) = 5) by omega), if_pos (show (iN a2) = 4 by omega), if_pos (show (A.1.1 9 (A.1.1 21 (iN a1))) = 6 by omega), if_neg (show ¬ ((iN a2) = 0) by omega), if_pos (show (iN a2) = (A.1.1 9 (A.1.1 21 (iN a1))) by omega), if_pos e136_0]) hR hA)
                            by_cases e136_1 : (iN a2) = 1
                            · refine hr_tableIn (off := 47) (tgt := 183) X dX5_says_136 (by rw [(congrArg nI e136_1)]; decide) (by rw [(congrArg nI e136_1)]; decide) (by rw [(congrArg nI e136_1)]; rfl) (by decide) ?_
                              refine hr_aload0 (q := 184) X dX5_says_183 rfl ?_
                              refine hr_iload3 (q := 185) X dX5_says_184 rfl ?_
                              refine hr_callP (q := 188) (hc_V (n := 1) (ci := 5) (As := [.int (nI (A.1.1 21 (iN a1)))]) X dX5_says_185 rfl (tk_shows X.tr hR hA.t hw (x := A.1.1 21 (iN a1)) (by omega)) q1555 cv_X5_shows ⟨Nat.le_of_ble_eq_true rfl, Nat.le_of_ble_eq_true rfl⟩ rfl (Nat.le_of_ble_eq_true rfl) hR.om rfl rfl) rfl ?_
                              have := sp_shows_lt (t := A.1) hw (x := (A.1.1 21 (iN a1))) (by omega)
                              exact hr_iret X hr dX5_says_188 (tw_end (by rw [sq_says, if_pos c5, if_neg c9, if_pos c15, if_neg (show ¬ ((A.1.1 18 (iN a1)) = 1) by omega), if_neg (show ¬ ((A.1.1 18 (iN a1)) = 0) by omega), if_pos (show (iN a2) = 1 by omega), if_neg (show ¬ ((A.1.1 9 (A.1.1 21 (iN a1))) = 2) by omega), if_pos (show (iN a2) = 3 by omega), if_neg (show ¬ ((A.1.1 9 (A.1.1 21 (iN a1))) = 5) by omega), if_pos (show (iN a2) = 4 by omega), if_pos (show (A.1.1 9 (A.1.1 21 (iN a1))) = 6 by omega), if_neg (show ¬ ((iN a2) = 0) by omega), if_pos (show (iN a2) = (A.1.1 9 (A.1.1 21 (iN a1))) by omega), if_neg e136_0, if_pos e136_1]) hR hA)
                            by_cases e136_2 : (iN a2) = 2
                            · refine hr_tableIn (off := 47) (tgt := 183) X dX5_says_136 (by rw [(congrArg nI e136_2)]; decide) (by rw [(congrArg nI e136_2)]; decide) (by rw [(congrArg nI e136_2)]; rfl) (by decide) ?_
                              refine hr_aload0 (q := 184) X dX5_says_183 rfl ?_
                              refine hr_iload3 (q := 185) X dX5_says_184 rfl ?_
                              refine hr_callP (q := 188) (hc_V (n := 1) (ci := 5) (As := [.int (nI (A.1.1 21 (iN a1)))]) X dX5_says_185 rfl (tk_shows X.tr hR hA.t hw (x := A.1.1 21 (iN a1)) (by omega)) q1555 cv_X5_shows ⟨Nat.le_of_ble_eq_true rfl, Nat.le_of_ble_eq_true rfl⟩ rfl (Nat.le_of_ble_eq_true rfl) hR.om rfl rfl) rfl ?_
                              have := sp_shows_lt (t := A.1) hw (x := (A.1.1 21 (iN a1))) (by omega)
                              exact hr_iret X hr dX5_says_188 (tw_end (by rw [sq_says, if_pos c5, if_neg c9, if_pos c15, if_neg (show ¬ ((A.1.1 18 (iN a1)) = 1) by omega), if_neg (show ¬ ((A.1.1 18 (iN a1)) = 0) by omega), if_pos (show (iN a2) = 1 by omega), if_neg (show ¬ ((A.1.1 9 (A.1.1 21 (iN a1))) = 2) by omega), if_pos (show (iN a2) = 3 by omega), if_neg (show ¬ ((A.1.1 9 (A.1.1 21 (iN a1))) = 5) by omega), if_pos (show (iN a2) = 4 by omega), if_pos (show (A.1.1 9 (A.1.1 21 (iN a1))) = 6 by omega), if_neg (show ¬ ((iN a2) = 0) by omega), if_pos (show (iN a2) = (A.1.1 9 (A.1.1 21 (iN a1))) by omega), if_neg e136_0, if_neg e136_1, if_pos e136_2]) hR hA)
                            by_cases e136_3 : (iN a2) = 3
                            · refine hr_tableIn (off := 53) (tgt := 189) X dX5_says_136 (by rw [(congrArg nI e136_3)]; decide) (by rw [(congrArg nI e136_3)]; decide) (by rw [(congrArg nI e136_3)]; rfl) (by decide) ?_
                              refine hr_aload0 (q := 190) X dX5_says_189 rfl ?_
                              refine hr_getR (v := am 13) (q := 193) X dX5_says_190 rfl fr_q1395_5 rfl hR.om (hR.f rfl) ?_
                              refine hr_iload3 (q := 194) X dX5_says_193 rfl ?_
                              refine hr_ialdN (v := (nI (A.1.1 13 (A.1.1 21 (iN a1))))) (q := 195) X dX5_says_194 rfl (hR.ka (n := 7) rfl rfl rfl) (Or.inl rfl) (by omega) (by decide) ((hR.ar rfl _).trans (hA.p (by decide) (by decide) (by omega))) ?_
                              have b194 := hW.w.b13 (show A.1.1 21 (iN a1) < 7 by omega)
                              exact hr_iret X hr dX5_says_195 (tw_end (by rw [sq_says, if_pos c5, if_neg c9, if_pos c15, if_neg (show ¬ ((A.1.1 18 (iN a1)) = 1) by omega), if_neg (show ¬ ((A.1.1 18 (iN a1)) = 0) by omega), if_pos (show (iN a2) = 1 by omega), if_neg (show ¬ ((A.1.1 9 (A.1.1 21 (iN a1))) = 2) by omega), if_pos (show (iN a2) = 3 by omega), if_neg (show ¬ ((A.1.1 9 (A.1.1 21 (iN a1))) = 5) by omega), if_pos (show (iN a2) = 4 by omega), if_pos (show (A.1.1 9 (A.1.1 21 (iN a1))) = 6 by omega), if_neg (show ¬ ((iN a2) = 0) by omega), if_pos (show (iN a2) = (A.1.1 9 (A.1.1 21 (iN a1))) by omega), if_neg e136_0, if_neg e136_1, if_neg e136_2, if_pos e136_3]) hR hA)
                            by_cases e136_4 : (iN a2) = 4
                            · refine hr_tableIn (off := 60) (tgt := 196) X dX5_says_136 (by rw [(congrArg nI e136_4)]; decide) (by rw [(congrArg nI e136_4)]; decide) (by rw [(congrArg nI e136_4)]; rfl) (by decide) ?_
                              refine hr_aload0 (q := 197) X dX5_says_196 rfl ?_
                              refine hr_getR (v := am 12) (q := 200) X dX5_says_197 rfl fr_q1394_5 rfl hR.om (hR.f rfl) ?_
                              refine hr_iload3 (q := 201) X dX5_says_200 rfl ?_
                              refine hr_ialdN (v := (nI (A.1.1 12 (A.1.1 21 (iN a1))))) (q := 202) X dX5_says_201 rfl (hR.ka (n := 7) rfl rfl rfl) (Or.inl rfl) (by omega) (by decide) ((hR.ar rfl _).trans (hA.p (by decide) (by decide) (by omega))) ?_
                              have b201 := hW.w.b12 (show A.1.1 21 (iN a1) < 7 by omega)
                              exact hr_iret X hr dX5_says_202 (tw_end (by rw [sq_says, if_pos c5, if_neg c9, if_pos c15, if_neg (show ¬ ((A.1.1 18 (iN a1)) = 1) by omega), if_neg (show ¬ ((A.1.1 18 (iN a1)) = 0) by omega), if_pos (show (iN a2) = 1 by omega), if_neg (show ¬ ((A.1.1 9 (A.1.1 21 (iN a1))) = 2) by omega), if_pos (show (iN a2) = 3 by omega), if_neg (show ¬ ((A.1.1 9 (A.1.1 21 (iN a1))) = 5) by omega), if_pos (show (iN a2) = 4 by omega), if_pos (show (A.1.1 9 (A.1.1 21 (iN a1))) = 6 by omega), if_neg (show ¬ ((iN a2) = 0) by omega), if_pos (show (iN a2) = (A.1.1 9 (A.1.1 21 (iN a1))) by omega), if_neg e136_0, if_neg e136_1, if_neg e136_2, if_neg e136_3, if_pos e136_4]) hR hA)
                            by_cases e136_5 : (iN a2) = 5
                            · refine hr_tableIn (off := 53) (tgt := 189) X dX5_says_136 (by rw [(congrArg nI e136_5)]; decide) (by rw [(congrArg nI e136_5)]; decide) (by rw [(congrArg nI e136_5)]; rfl) (by decide) ?_
                              refine hr_aload0 (q := 190) X dX5_says_189 rfl ?_
                              refine hr_getR (v := am 13) (q := 193) X dX5_says_190 rfl fr_q1395_5 rfl hR.om (hR.f rfl) ?_
                              refine hr_iload3 (q := 194) X dX5_says_193 rfl ?_
                              refine hr_ialdN (v := (nI (A.1.1 13 (A.1.1 21 (iN a1))))) (q := 195) X dX5_says_194 rfl (hR.ka (n := 7) rfl rfl rfl) (Or.inl rfl) (by omega) (by decide) ((hR.ar rfl _).trans (hA.p (by decide) (by decide) (by omega))) ?_
                              have b194 := hW.w.b13 (show A.1.1 21 (iN a1) < 7 by omega)
                              exact hr_iret X hr dX5_says_195 (tw_end (by rw [sq_says, if_pos c5, if_neg c9, if_pos c15, if_neg (show ¬ ((A.1.1 18 (iN a1)) = 1) by omega), if_neg (show ¬ ((A.1.1 18 (iN a1)) = 0) by omega), if_pos (show (iN a2) = 1 by omega), if_neg (show ¬ ((A.1.1 9 (A.1.1 21 (iN a1))) = 2) by omega), if_pos (show (iN a2) = 3 by omega), if_neg (show ¬ ((A.1.1 9 (A.1.1 21 (iN a1))) = 5) by omega), if_pos (show (iN a2) = 4 by omega), if_pos (show (A.1.1 9 (A.1.1 21 (iN a1))) = 6 by omega), if_neg (show ¬ ((iN a2) = 0) by omega), if_pos (show (iN a2) = (A.1.1 9 (A.1.1 21 (iN a1))) by omega), if_neg e136_0, if_neg e136_1, if_neg e136_2, if_neg e136_3, if_neg e136_4, if_pos e136_5]) hR hA)
                            refine hr_tableOut (tgt := 196) X dX5_says_136 (sp_out (n := 6) (by decide) (fun i hi => by match i, hi with | 0, _ => exact (fun z => e136_0 ((nI_eq (by omega) (by omega)).mp z)) | 1, _ => exact (fun z => e136_1 ((nI_eq (by omega) (by omega)).mp z)) | 2, _ => exact (fun z => e136_2 ((nI_eq (by omega) (by omega)).mp z)) | 3, _ => exact (fun z => e136_3 ((nI_eq (by omega) (by omega)).mp z)) | 4, _ => exact (fun z => e136_4 ((nI_eq (by omega) (by omega)).mp z)) | 5, _ => exact (fun z => e136_5 ((nI_eq (by omega) (by omega)).mp z)) | (k + 6), hi => omega)) (by decide) ?_
                            refine hr_aload0 (q := 197) X dX5_says_196 rfl ?_
                            refine hr_getR (v := am 12) (q := 200) X dX5_says_197 rfl fr_q1394_5 rfl hR.om (hR.f rfl) ?_
                            refine hr_iload3 (q := 201) X dX5_says_200 rfl ?_
                            refine hr_ialdN (v := (nI (A.1.1 12 (A.1.1 21 (iN a1))))) (q := 202) X dX5_says_201 rfl (hR.ka (n := 7) rfl rfl rfl) (Or.inl rfl) (by omega) (by decide) ((hR.ar rfl _).trans (hA.p (by decide) (by decide) (by omega))) ?_
                            have b201 := hW.w.b12 (show A.1.1 21 (iN a1) < 7 by omega)
                            exact hr_iret X hr dX5_says_202 (tw_end (by rw [sq_says, if_pos c5, if_neg c9, if_pos c15, if_neg (show ¬ ((A.1.1 18 (iN a1)) = 1) by omega), if_neg (show ¬ ((A.1.1 18 (iN a1)) = 0) by omega), if_pos (show (iN a2) = 1 by omega), if_neg (show ¬ ((A.1.1 9 (A.1.1 21 (iN a1))) = 2) by omega), if_pos (show (iN a2) = 3 by omega), if_neg (show ¬ ((A.1.1 9 (A.1.1 21 (iN a1))) = 5) by omega), if_pos (show (iN a2) = 4 by omega), if_pos (show (A.1.1 9 (A.1.1 21 (iN a1))) = 6 by omega), if_neg (show ¬ ((iN a2) = 0) by omega), if_pos (show (iN a2) = (A.1.1 9 (A.1.1 21 (iN a1))) by omega), if_neg e136_0, if_neg e136_1, if_neg e136_2, if_neg e136_3, if_neg e136_4, if_neg e136_5]) hR hA)
                          · refine hr_iload5 (q := 125) X dX5_says_123 rfl ?_
                            refine hr_if_ne (q := 128) (tgt := 135) X dX5_says_125 rfl (by decide) (fun _ => ?_) (fun z => absurd z (by decide))
                            refine hr_iload2 (q := 136) X dX5_says_135 rfl ?_
                            by_cases e136_0 : (iN a2) = 0
                            · refine hr_tableIn (off := 40) (tgt := 176) X dX5_says_136 (by rw [(congrArg nI e136_0)]; decide) (by rw [(congrArg nI e136_0)]; decide) (by rw [(congrArg nI e136_0)]; rfl) (by decide) ?_
                              refine hr_aload0 (q := 177) X dX5_says_176 rfl ?_
                              refine hr_getR (v := am 14) (q := 180) X dX5_says_177 rfl fr_q1396_5 rfl hR.om (hR.f rfl) ?_
                              refine hr_iload3 (q := 181) X dX5_says_180 rfl ?_
                              refine hr_ialdN (v := (nI (A.1.1 14 (A.1.1 21 (iN a1))))) (q := 182) X dX5_says_181 rfl (hR.ka (n := 7) rfl rfl rfl) (Or.inl rfl) (by omega) (by decide) ((hR.ar rfl _).trans (hA.p (by decide) (by decide) (by omega))) ?_
                              have b181 := hW.w.b14 (show A.1.1 21 (iN a1) < 7 by omega)
                              exact hr_iret X hr dX5_says_182 (tw_end (by rw [sq_says, if_pos c5, if_neg c9, if_pos c15, if_neg (show ¬ ((A.1.1 18 (iN a1)) = 1) by omega), if_neg (show ¬ ((A.1.1 18 (iN a1)) = 0) by omega), if_pos (show (iN a2) = 1 by omega), if_neg (show ¬ ((A.1.1 9 (A.1.1 21 (iN a1))) = 2) by omega), if_pos (show (iN a2) = 3 by omega), if_neg (show ¬ ((A.1.1 9 (A.1.1 21 (iN a1))) = 5) by omega), if_pos (show (iN a2) = 4 by omega), if_pos (show (A.1.1 9 (A.1.1 21 (iN a1))) = 6 by omega), if_neg (show ¬ ((iN a2) = 0) by omega), if_neg (show ¬ ((iN a2) = (A.1.1 9 (A.1.1 21 (iN a1)))) by omega), if_pos e136_0]) hR hA)
                            by_cases e136_1 : (iN a2) = 1
                            · refine hr_tableIn (off := 47) (tgt := 183) X dX5_says_136 (by rw [(congrArg nI e136_1)]; decide) (by rw [(congrArg nI e136_1)]; decide) (by rw [(congrArg nI e136_1)]; rfl) (by decide) ?_
                              refine hr_aload0 (q := 184) X dX5_says_183 rfl ?_
                              refine hr_iload3 (q := 185) X dX5_says_184 rfl ?_
                              refine hr_callP (q := 188) (hc_V (n := 1) (ci := 5) (As := [.int (nI (A.1.1 21 (iN a1)))]) X dX5_says_185 rfl (tk_shows X.tr hR hA.t hw (x := A.1.1 21 (iN a1)) (by omega)) q1555 cv_X5_shows ⟨Nat.le_of_ble_eq_true rfl, Nat.le_of_ble_eq_true rfl⟩ rfl (Nat.le_of_ble_eq_true rfl) hR.om rfl rfl) rfl ?_
                              have := sp_shows_lt (t := A.1) hw (x := (A.1.1 21 (iN a1))) (by omega)
                              exact hr_iret X hr dX5_says_188 (tw_end (by rw [sq_says, if_pos c5, if_neg c9, if_pos c15, if_neg (show ¬ ((A.1.1 18 (iN a1)) = 1) by omega), if_neg (show ¬ ((A.1.1 18 (iN a1)) = 0) by omega), if_pos (show (iN a2) = 1 by omega), if_neg (show ¬ ((A.1.1 9 (A.1.1 21 (iN a1))) = 2) by omega), if_pos (show (iN a2) = 3 by omega), if_neg (show ¬ ((A.1.1 9 (A.1.1 21 (iN a1))) = 5) by omega), if_pos (show (iN a2) = 4 by omega), if_pos (show (A.1.1 9 (A.1.1 21 (iN a1))) = 6 by omega), if_neg (show ¬ ((iN a2) = 0) by omega), if_neg (show ¬ ((iN a2) = (A.1.1 9 (A.1.1 21 (iN a1)))) by omega), if_neg e136_0, if_pos e136_1]) hR hA)
                            by_cases e136_2 : (iN a2) = 2
                            · refine hr_tableIn (off := 47) (tgt := 183) X dX5_says_136 (by rw [(congrArg nI e136_2)]; decide) (by rw [(congrArg nI e136_2)]; decide) (by rw [(congrArg nI e136_2)]; rfl) (by decide) ?_
                              refine hr_aload0 (q := 184) X dX5_says_183 rfl ?_
                              refine hr_iload3 (q := 185) X dX5_says_184 rfl ?_
                              refine hr_callP (q := 188) (hc_V (n := 1) (ci := 5) (As := [.int (nI (A.1.1 21 (iN a1)))]) X dX5_says_185 rfl (tk_shows X.tr hR hA.t hw (x := A.1.1 21 (iN a1)) (by omega)) q1555 cv_X5_shows ⟨Nat.le_of_ble_eq_true rfl, Nat.le_of_ble_eq_true rfl⟩ rfl (Nat.le_of_ble_eq_true rfl) hR.om rfl rfl) rfl ?_
                              have := sp_shows_lt (t := A.1) hw (x := (A.1.1 21 (iN a1))) (by omega)
                              exact hr_iret X hr dX5_says_188 (tw_end (by rw [sq_says, if_pos c5, if_neg c9, if_pos c15, if_neg (show ¬ ((A.1.1 18 (iN a1)) = 1) by omega), if_neg (show ¬ ((A.1.1 18 (iN a1)) = 0) by omega), if_pos (show (iN a2) = 1 by omega), if_neg (show ¬ ((A.1.1 9 (A.1.1 21 (iN a1))) = 2) by omega), if_pos (show (iN a2) = 3 by omega), if_neg (show ¬ ((A.1.1 9 (A.1.1 21 (iN a1))) = 5) by omega), if_pos (show (iN a2) = 4 by omega), if_pos (show (A.1.1 9 (A.1.1 21 (iN a1))) = 6 by omega), if_neg (show ¬ ((iN a2) = 0) by omega), if_neg (show ¬ ((iN a2) = (A.1.1 9 (A.1.1 21 (iN a1)))) by omega), if_neg e136_0, if_neg e136_1, if_pos e136_2]) hR hA)
                            by_cases e136_3 : (iN a2) = 3
                            · refine hr_tableIn (off := 53) (tgt := 189) X dX5_says_136 (by rw [(congrArg nI e136_3)]; decide) (by rw [(congrArg nI e136_3)]; decide) (by rw [(congrArg nI e136_3)]; rfl) (by decide) ?_
                              refine hr_aload0 (q := 190) X dX5_says_189 rfl ?_
                              refine hr_getR (v := am 13) (q := 193) X dX5_says_190 rfl fr_q1395_5 rfl hR.om (hR.f rfl) ?_
                              refine hr_iload3 (q := 194) X dX5_says_193 rfl ?_
                              refine hr_ialdN (v := (nI (A.1.1 13 (A.1.1 21 (iN a1))))) (q := 195) X dX5_says_194 rfl (hR.ka (n := 7) rfl rfl rfl) (Or.inl rfl) (by omega) (by decide) ((hR.ar rfl _).trans (hA.p (by decide) (by decide) (by omega))) ?_
                              have b194 := hW.w.b13 (show A.1.1 21 (iN a1) < 7 by omega)
                              exact hr_iret X hr dX5_says_195 (tw_end (by rw [sq_says, if_pos c5, if_neg c9, if_pos c15, if_neg (show ¬ ((A.1.1 18 (iN a1)) = 1) by omega), if_neg (show ¬ ((A.1.1 18 (iN a1)) = 0) by omega), if_pos (show (iN a2) = 1 by omega), if_neg (show ¬ ((A.1.1 9 (A.1.1 21 (iN a1))) = 2) by omega), if_pos (show (iN a2) = 3 by omega), if_neg (show ¬ ((A.1.1 9 (A.1.1 21 (iN a1))) = 5) by omega), if_pos (show (iN a2) = 4 by omega), if_pos (show (A.1.1 9 (A.1.1 21 (iN a1))) = 6 by omega), if_neg (show ¬ ((iN a2) = 0) by omega), if_neg (show ¬ ((iN a2) = (A.1.1 9 (A.1.1 21 (iN a1)))) by omega), if_neg e136_0, if_neg e136_1, if_neg e136_2, if_pos e136_3]) hR hA)
                            by_cases e136_4 : (iN a2) = 4
                            · refine hr_tableIn (off := 60) (tgt := 196) X dX5_says_136 (by rw [(congrArg nI e136_4)]; decide) (by rw [(congrArg nI e136_4)]; decide) (by rw [(congrArg nI e136_4)]; rfl) (by decide) ?_
                              refine hr_aload0 (q := 197) X dX5_says_196 rfl ?_
                              refine hr_getR (v := am 12) (q := 200) X dX5_says_197 rfl fr_q1394_5 rfl hR.om (hR.f rfl) ?_
                              refine hr_iload3 (q := 201) X dX5_says_200 rfl ?_
                              refine hr_ialdN (v := (nI (A.1.1 12 (A.1.1 21 (iN a1))))) (q := 202) X dX5_says_201 rfl (hR.ka (n := 7) rfl rfl rfl) (Or.inl rfl) (by omega) (by decide) ((hR.ar rfl _).trans (hA.p (by decide) (by decide) (by omega))) ?_
                              have b201 := hW.w.b12 (show A.1.1 21 (iN a1) < 7 by omega)
                              exact hr_iret X hr dX5_says_202 (tw_end (by rw [sq_says, if_pos c5, if_neg c9, if_pos c15, if_neg (show ¬ ((A.1.1 18 (iN a1)) = 1) by omega), if_neg (show ¬ ((A.1.1 18 (iN a1)) = 0) by omega), if_pos (show (iN a2) = 1 by omega), if_neg (show ¬ ((A.1.1 9 (A.1.1 21 (iN a1))) = 2) by omega), if_pos (show (iN a2) = 3 by omega), if_neg (show ¬ ((A.1.1 9 (A.1.1 21 (iN a1))) = 5) by omega), if_pos (show (iN a2) = 4 by omega), if_pos (show (A.1.1 9 (A.1.1 21 (iN a1))) = 6 by omega), if_neg (show ¬ ((iN a2) = 0) by omega), if_neg (show ¬ ((iN a2) = (A.1.1 9 (A.1.1 21 (iN a1)))) by omega), if_neg e136_0, if_neg e136_1, if_neg e136_2, if_neg e136_3, if_pos e136_4]) hR hA)
                            by_cases e136_5 : (iN a2) = 5
                            · refine hr_tableIn (off := 53) (tgt := 189) X dX5_says_136 (by rw [(congrArg nI e136_5)]; decide) (by rw [(congrArg nI e136_5)]; decide) (by rw [(congrArg nI e136_5)]; rfl) (by decide) ?_
                              refine hr_aload0 (q := 190) X dX5_says_189 rfl ?_
                              refine hr_getR (v := am 13) (q := 193) X dX5_says_190 rfl fr_q1395_5 rfl hR.om (hR.f rfl) ?_
                              refine hr_iload3 (q := 194) X dX5_says_193 rfl ?_
                              refine hr_ialdN (v := (nI (A.1.1 13 (A.1.1 21 (iN a1))))) (q := 195) X dX5_says_194 rfl (hR.ka (n := 7) rfl rfl rfl) (Or.inl rfl) (by omega) (by decide) ((hR.ar rfl _).trans (hA.p (by decide) (by decide) (by omega))) ?_
                              have b194 := hW.w.b13 (show A.1.1 21 (iN a1) < 7 by omega)
                              exact hr_iret X hr dX5_says_195 (tw_end (by rw [sq_says, if_pos c5, if_neg c9, if_pos c15, if_neg (show ¬ ((A.1.1 18 (iN a1)) = 1) by omega), if_neg (show ¬ ((A.1.1 18 (iN a1)) = 0) by omega), if_pos (show (iN a2) = 1 by omega), if_neg (show ¬ ((A.1.1 9 (A.1.1 21 (iN a1))) = 2) by omega), if_pos (show (iN a2) = 3 by omega), if_neg (show ¬ ((A.1.1 9 (A.1.1 21 (iN a1))) = 5) by omega), if_pos (show (iN a2) = 4 by omega), if_pos (show (A.1.1 9 (A.1.1 21 (iN a1))) = 6 by omega), if_neg (show ¬ ((iN a2) = 0) by omega), if_neg (show ¬ ((iN a2) = (A.1.1 9 (A.1.1 21 (iN a1)))) by omega), if_neg e136_0, if_neg e136_1, if_neg e136_2, if_neg e136_3, if_neg e136_4, if_pos e136_5]) hR hA)
                            refine hr_tableOut (tgt := 196) X dX5_says_136 (sp_out (n := 6) (by decide) (fun i hi => by match i, hi with | 0, _ => exact (fun z => e136_0 ((nI_eq (by omega) (by omega)).mp z)) | 1, _ => exact (fun z => e136_1 ((nI_eq (by omega) (by omega)).mp z)) | 2, _ => exact (fun z => e136_2 ((nI_eq (by omega) (by omega)).mp z)) | 3, _ => exact (fun z => e136_3 ((nI_eq (by omega) (by omega)).mp z)) | 4, _ => exact (fun z => e136_4 ((nI_eq (by omega) (by omega)).mp z)) | 5, _ => exact (fun z => e136_5 ((nI_eq (by omega) (by omega)).mp z)) | (k + 6), hi => omega)) (by decide) ?_
                            refine hr_aload0 (q := 197) X dX5_says_196 rfl ?_
                            refine hr_getR (v := am 12) (q := 200) X dX5_says_197 rfl fr_q1394_5 rfl hR.om (hR.f rfl) ?_
                            refine hr_iload3 (q := 201) X dX5_says_200 rfl ?_
                            refine hr_ialdN (v := (nI (A.1.1 12 (A.1.1 21 (iN a1))))) (q := 202) X dX5_says_201 rfl (hR.ka (n := 7) rfl rfl rfl) (Or.inl rfl) (by omega) (by decide) ((hR.ar rfl _).trans (hA.p (by decide) (by decide) (by omega))) ?_
                            have b201 := hW.w.b12 (show A.1.1 21 (iN a1) < 7 by omega)
                            exact hr_iret X hr dX5_says_202 (tw_end (by rw [sq_says, if_pos c5, if_neg c9, if_pos c15, if_neg (show ¬ ((A.1.1 18 (iN a1)) = 1) by omega), if_neg (show ¬ ((A.1.1 18 (iN a1)) = 0) by omega), if_pos (show (iN a2) = 1 by omega), if_neg (show ¬ ((A.1.1 9 (A.1.1 21 (iN a1))) = 2) by omega), if_pos (show (iN a2) = 3 by omega), if_neg (show ¬ ((A.1.1 9 (A.1.1 21 (iN a1))) = 5) by omega), if_pos (show (iN a2) = 4 by omega), if_pos (show (A.1.1 9 (A.1.1 21 (iN a1))) = 6 by omega), if_neg (show ¬ ((iN a2) = 0) by omega), if_neg (show ¬ ((iN a2) = (A.1.1 9 (A.1.1 21 (iN a1)))) by omega), if_neg e136_0, if_neg e136_1, if_neg e136_2, if_neg e136_3, if_neg e136_4, if_neg e136_5]) hR hA)
          · refine hr_aload0 (q := 51) X dX5_says_50 rfl ?_
            refine hr_bipush (v := (-3)) (q := 53) X dX5_says_51 rfl rfl ?_
            refine hr_callT (q := 56) (hc_V (n := 1) (ci := 5) (As := [.int (-3)]) X dX5_says_53 rfl (tk_no X.tr hR hA (b := (-3)) (by decide)) q1523 cv_X5_no ⟨Nat.le_of_ble_eq_true rfl, Nat.le_of_ble_eq_true rfl⟩ rfl (Nat.le_of_ble_eq_true rfl) hR.om rfl rfl) rfl (fun G11 u11 hR11 hA11 => ?_)
            exact hr_iret X hr dX5_says_56 (tw_end (by rw [sq_says, if_pos c5, if_neg c9, if_pos c15, if_neg (show ¬ ((A.1.1 18 (iN a1)) = 1) by omega), if_pos (show (A.1.1 18 (iN a1)) = 0 by omega)]) hR11 hA11)
        · refine hr_aload0 (q := 35) X dX5_says_34 rfl ?_
          refine hr_bipush (v := (-2)) (q := 37) X dX5_says_35 rfl rfl ?_
          refine hr_callT (q := 40) (hc_V (n := 1) (ci := 5) (As := [.int (-2)]) X dX5_says_37 rfl (tk_no X.tr hR hA (b := (-2)) (by decide)) q1523 cv_X5_no ⟨Nat.le_of_ble_eq_true rfl, Nat.le_of_ble_eq_true rfl⟩ rfl (Nat.le_of_ble_eq_true rfl) hR.om rfl rfl) rfl (fun G12 u12 hR12 hA12 => ?_)
          exact hr_iret X hr dX5_says_40 (tw_end (by rw [sq_says, if_pos c5, if_neg c9, if_pos c15, if_pos (show (A.1.1 18 (iN a1)) = 1 by omega)]) hR12 hA12)
      · refine hr_aload0 (q := 19) X dX5_says_18 rfl ?_
        refine hr_iconst (v := (-1)) (q := 20) X dX5_says_19 rfl rfl ?_
        refine hr_callT (q := 23) (hc_V (n := 1) (ci := 5) (As := [.int (-1)]) X dX5_says_20 rfl (tk_no X.tr hR hA (b := (-1)) (by decide)) q1523 cv_X5_no ⟨Nat.le_of_ble_eq_true rfl, Nat.le_of_ble_eq_true rfl⟩ rfl (Nat.le_of_ble_eq_true rfl) hR.om rfl rfl) rfl (fun G13 u13 hR13 hA13 => ?_)
        exact hr_iret X hr dX5_says_23 (tw_end (by rw [sq_says, if_pos c5, if_neg c9, if_neg c15]) hR13 hA13)

theorem tk_together {l : Launch} {D : hg_D} {lo : Nat} (htr : l.stackTraces = false) {G : hg_G} {o : Nat} {am : Nat → Nat} {u : tw_S} {A : ab_S} (hR : tw_R G o am u) (hA : tw_A u A) {k N : Nat} {f : Nat → Nat} {z : Nat} (hk : tw_isA k = true) (h0 : tw_t k = 0) (hN : tw_len k = N) (hN2 : N < 2 ^ 31) (hz : z ≤ N) (hf : ∀ j, j < z → u.2.1 k j = nI (f j)) :
    hg_M l D lo yX5_together (ws_ yX5_together cX5_together 5 ((some FieldType.int))) rm_X5_together [.ref o, .ref (am k), .int (nI z)] G (hg_Pv G (.int (nI (sp_sum f z)))) := by
  refine hg_M.of htr (by decide) [some (.ref o), some (.ref (am k)), some (.int (nI z)), none, none] rfl (Nat.le_of_ble_eq_true rfl) ?_
  intro p e s m args below meth c X hr hnm htab
  have X : hg_X p l s m args meth c D lo "TaxOnLooksModel" cX5_together 5 := X
  refine hr_iconst (v := (nI 0)) (q := 1) X dX5_together_0 rfl rfl ?_
  refine hr_istore3 (q := 2) X dX5_together_1 rfl rfl (Nat.le_of_ble_eq_true rfl) ?_
  refine hr_iconst (v := (nI 0)) (q := 3) X dX5_together_2 rfl rfl ?_
  refine hr_istore4 (q := 5) X dX5_together_3 rfl rfl (Nat.le_of_ble_eq_true rfl) ?_
  have loop5 : ∀ (kr nr n : Nat) (i S : Nat), (i ≤ z) → (z + 1 ≤ i + n) → (S = sp_sum f i) → hg_W p l e rm_X5_together s m args below meth c (hg_Q below D lo args s rm_X5_together G (hg_Pv G (.int (nI (sp_sum f z))))) D lo G.1 5 kr nr G 5 [some (.ref o), some (.ref (am k)), some (.int (nI z)), some (.int (nI S)), some (.int (nI i))] [] := by
    intro kr nr n
    induction n with
    | zero =>
      intro i S h5_0 h5_1 h5_2
      omega
    | succ n ih =>
      intro i S h5_0 h5_1 h5_2
      refine hr_iload4 (q := 7) X dX5_together_5 rfl ?_
      refine hr_iload2 (q := 8) X dX5_together_7 rfl ?_
      refine hr_icmpN_ge (q := 11) (tgt := 24) X dX5_together_8 rfl (by decide) (by omega) (by omega) (fun c8 => ?_) (fun c8 => ?_)
      · refine hr_iload3 (q := 25) X dX5_together_24 rfl ?_
        exact hr_iret X hr dX5_together_25 ⟨hz_i (congrArg nI (by rw [h5_2, show i = z by omega])), rfl⟩
      · refine hr_iload3 (q := 12) X dX5_together_11 rfl ?_
        refine hr_aload1 (q := 13) X dX5_together_12 rfl ?_
        refine hr_iload4 (q := 15) X dX5_together_13 rfl ?_
        refine hr_ialdN (v := nI (f i)) (q := 16) X dX5_together_15 rfl (hR.ka hk h0 hN) (Or.inl rfl) (by omega) hN2 ((hR.ar hk _).trans (hf i (by omega))) ?_
        refine hr_iadd (v := (nI (S + (f i)))) (q := 17) X dX5_together_16 rfl (nI_add _ _) ?_
        refine hr_istore3 (q := 18) X dX5_together_17 rfl rfl (Nat.le_of_ble_eq_true rfl) ?_
        refine hr_iinc4 (v := (nI (i + 1))) (q := 21) X dX5_together_18 rfl (nI_add _ _) rfl (Nat.le_of_ble_eq_true rfl) ?_
        refine hr_goto (tgt := 5) X dX5_together_21 (by decide) ?_
        exact ih (i + 1) (S + (f i)) (by omega) (by omega) (by rw [h5_2]; rfl)
  exact loop5 _ _ (z + 1) 0 0 (by omega) (by omega) rfl

def sq_status (a1 : Int32) (A : ab_S) : Int32 × ab_S :=
  if a1 < (nI 11) then if a1 = nI 0 then ((nI (A.1.1 0 0)), A)
    else if a1 = nI 1 then ((nI (sp_sum (A.1.1 16) 36)), A)
    else if a1 = nI 2 then ((nI (sp_sum (A.1.1 17) 36)), A)
    else if a1 = nI 3 then ((nI (A.1.1 1 0)), A)
    else if a1 = nI 4 then ((nI (A.1.1 2 0)), A)
    else if a1 = nI 5 then ((nI (A.1.1 3 0)), A)
    else if a1 = nI 6 then ((A.1.2 4), A)
    else if a1 = nI 7 then ((A.1.2 5), A)
    else if a1 = nI 8 then ((nI (sp_sum (A.1.1 13) (A.1.1 0 0))), A)
    else if a1 = nI 9 then ((A.1.2 6), A)
    else if a1 = nI 10 then ((A.1.2 42), A)
    else ((-1), A)
  else if (nI 17) < a1 then if a1 = nI 0 then ((nI (A.1.1 0 0)), A)
    else if a1 = nI 1 then ((nI (sp_sum (A.1.1 16) 36)), A)
    else if a1 = nI 2 then ((nI (sp_sum (A.1.1 17) 36)), A)
    else if a1 = nI 3 then ((nI (A.1.1 1 0)), A)
    else if a1 = nI 4 then ((nI (A.1.1 2 0)), A)
    else if a1 = nI 5 then ((nI (A.1.1 3 0)), A)
    else if a1 = nI 6 then ((A.1.2 4), A)
    else if a1 = nI 7 then ((A.1.2 5), A)
    else if a1 = nI 8 then ((nI (sp_sum (A.1.1 13) (A.1.1 0 0))), A)
    else if a1 = nI 9 then ((A.1.2 6), A)
    else if a1 = nI 10 then ((A.1.2 42), A)
    else ((-1), A)
  else ((A.2.2.1 8 ((iN a1) - 10)), A)
theorem tk_status {l : Launch} {D : hg_D} {lo : Nat} (htr : l.stackTraces = false) {G : hg_G} {o : Nat} {am : Nat → Nat} {u : tw_S} {A : ab_S} (hR : tw_R G o am u) (hA : tw_A u A) {a1 : Int32} (hW : ab_wf A) :
    hg_M l D lo yX5_status (ws_ yX5_status cX5_status 2 ((some FieldType.int))) rm_X5_status [.ref o, .int a1] G (tw_Po o am (sq_status a1 A)) := by
  have hw := hW.w; have w0 := hw.b0; have w1 := hw.b1; have w2 := hw.b2; have w3 := hw.b3; have w36 := hW.b36; have w43 := hW.b43
  refine hg_M.of htr (by decide) [some (.ref o), some (.int a1)] rfl (Nat.le_of_ble_eq_true rfl) ?_
  intro p e s m args below meth c X hr hnm htab
  have X : hg_X p l s m args meth c D lo "TaxOnLooksModel" cX5_status 2 := X
  refine hr_iload1 (q := 1) X dX5_status_0 rfl ?_
  refine hr_bipush (v := (nI 11)) (q := 3) X dX5_status_1 rfl rfl ?_
  refine hr_icmp_lt (q := 6) (tgt := 22) X dX5_status_3 rfl (by decide) (fun c3 => ?_) (fun c3 => ?_)
  · refine hr_iload1 (q := 23) X dX5_status_22 rfl ?_
    by_cases e23_0 : a1 = nI 0
    · refine hr_tableIn (off := 57) (tgt := 80) X dX5_status_23 (by rw [e23_0]; decide) (by rw [e23_0]; decide) (by rw [e23_0]; rfl) (by decide) ?_
      refine hr_aload0 (q := 81) X dX5_status_80 rfl ?_
      refine hr_getI (v := (nI (A.1.1 0 0))) (q := 84) X dX5_status_81 rfl fr_q1382_5 rfl hR.om ((hR.sc 0).trans (hA.sc (by decide))) ?_
      exact hr_iret X hr dX5_status_84 (tw_end (by rw [sq_status, if_pos c3, if_pos e23_0]) hR hA)
    by_cases e23_1 : a1 = nI 1
    · refine hr_tableIn (off := 62) (tgt := 85) X dX5_status_23 (by rw [e23_1]; decide) (by rw [e23_1]; decide) (by rw [e23_1]; rfl) (by decide) ?_
      refine hr_aload0 (q := 86) X dX5_status_85 rfl ?_
      refine hr_aload0 (q := 87) X dX5_status_86 rfl ?_
      refine hr_getR (v := am 16) (q := 90) X dX5_status_87 rfl fr_q1398_5 rfl hR.om (hR.f rfl) ?_
      refine hr_bipush (v := (nI 36)) (q := 92) X dX5_status_90 rfl rfl ?_
      refine hr_callP (q := 95) (hc_V (n := 2) (ci := 5) (As := [.ref (am 16), .int (nI 36)]) X dX5_status_92 rfl (tk_together X.tr hR hA (k := 16) (N := 36) (f := A.1.1 16) (z := 36) rfl rfl rfl (by decide) (by omega) (fun j hj => hA.c (by decide) (by decide) hj)) q1857 cv_X5_together ⟨Nat.le_of_ble_eq_true rfl, Nat.le_of_ble_eq_true rfl⟩ rfl (Nat.le_of_ble_eq_true rfl) hR.om rfl rfl) rfl ?_
      exact hr_iret X hr dX5_status_95 (tw_end (by rw [sq_status, if_pos c3, if_neg e23_0, if_pos e23_1]) hR hA)
    by_cases e23_2 : a1 = nI 2
    · refine hr_tableIn (off := 73) (tgt := 96) X dX5_status_23 (by rw [e23_2]; decide) (by rw [e23_2]; decide) (by rw [e23_2]; rfl) (by decide) ?_
      refine hr_aload0 (q := 97) X dX5_status_96 rfl ?_
      refine hr_aload0 (q := 98) X dX5_status_97 rfl ?_
      refine hr_getR (v := am 17) (q := 101) X dX5_status_98 rfl fr_q1399_5 rfl hR.om (hR.f rfl) ?_
      refine hr_bipush (v := (nI 36)) (q := 103) X dX5_status_101 rfl rfl ?_
      refine hr_callP (q := 106) (hc_V (n := 2) (ci := 5) (As := [.ref (am 17), .int (nI 36)]) X dX5_status_103 rfl (tk_together X.tr hR hA (k := 17) (N := 36) (f := A.1.1 17) (z := 36) rfl rfl rfl (by decide) (by omega) (fun j hj => hA.c (by decide) (by decide) hj)) q1857 cv_X5_together ⟨Nat.le_of_ble_eq_true rfl, Nat.le_of_ble_eq_true rfl⟩ rfl (Nat.le_of_ble_eq_true rfl) hR.om rfl rfl) rfl ?_
      exact hr_iret X hr dX5_status_106 (tw_end (by rw [sq_status, if_pos c3, if_neg e23_0, if_neg e23_1, if_pos e23_2]) hR hA)
    by_cases e23_3 : a1 = nI 3
    · refine hr_tableIn (off := 84) (tgt := 107) X dX5_status_23 (by rw [e23_3]; decide) (by rw [e23_3]; decide) (by rw [e23_3]; rfl) (by decide) ?_
      refine hr_aload0 (q := 108) X dX5_status_107 rfl ?_
      refine hr_getI (v := (nI (A.1.1 1 0))) (q := 111) X dX5_status_108 rfl fr_q1383_5 rfl hR.om ((hR.sc 1).trans (hA.sc (by decide))) ?_
      exact hr_iret X hr dX5_status_111 (tw_end (by rw [sq_status, if_pos c3, if_neg e23_0, if_neg e23_1, if_neg e23_2, if_pos e23_3]) hR hA)
    by_cases e23_4 : a1 = nI 4
    · refine hr_tableIn (off := 89) (tgt := 112) X dX5_status_23 (by rw [e23_4]; decide) (by rw [e23_4]; decide) (by rw [e23_4]; rfl) (by decide) ?_
      refine hr_aload0 (q := 113) X dX5_status_112 rfl ?_
      refine hr_getI (v := (nI (A.1.1 2 0))) (q := 116) X dX5_status_113 rfl fr_q1384_5 rfl hR.om ((hR.sc 2).trans (hA.sc (by decide))) ?_
      exact hr_iret X hr dX5_status_116 (tw_end (by rw [sq_status, if_pos c3, if_neg e23_0, if_neg e23_1, if_neg e23_2, if_neg e23_3, if_pos e23_4]) hR hA)
    by_cases e23_5 : a1 = nI 5
    · refine hr_tableIn (off := 94) (tgt := 117) X dX5_status_23 (by rw [e23_5]; decide) (by rw [e23_5]; decide) (by rw [e23_5]; rfl) (by decide) ?_
      refine hr_aload0 (q := 118) X dX5_status_117 rfl ?_
      refine hr_getI (v := (nI (A.1.1 3 0))) (q := 121) X dX5_status_118 rfl fr_q1385_5 rfl hR.om ((hR.sc 3).trans (hA.sc (by decide))) ?_
      exact hr_iret X hr dX5_status_121 (tw_end (by rw [sq_status, if_pos c3, if_neg e23_0, if_neg e23_1, if_neg e23_2, if_neg e23_3, if_neg e23_4, if_pos e23_5]) hR hA)
    by_cases e23_6 : a1 = nI 6
    · refine hr_tableIn (off := 99) (tgt := 122) X dX5_status_23 (by rw [e23_6]; decide) (by rw [e23_6]; decide) (by rw [e23_6]; rfl) (by decide) ?_
      refine hr_aload0 (q := 123) X dX5_status_122 rfl ?_
      refine hr_getI (v := (A.1.2 4)) (q := 126) X dX5_status_123 rfl fr_q1386_5 rfl hR.om ((hR.sc 4).trans (hA.f4)) ?_
      exact hr_iret X hr dX5_status_126 (tw_end (by rw [sq_status, if_pos c3, if_neg e23_0, if_neg e23_1, if_neg e23_2, if_neg e23_3, if_neg e23_4, if_neg e23_5, if_pos e23_6]) hR hA)
    by_cases e23_7 : a1 = nI 7
    · refine hr_tableIn (off := 104) (tgt := 127) X dX5_status_23 (by rw [e23_7]; decide) (by rw [e23_7]; decide) (by rw [e23_7]; rfl) (by decide) ?_
      refine hr_aload0 (q := 128) X dX5_status_127 rfl ?_
      refine hr_getI (v := (A.1.2 5)) (q := 131) X dX5_status_128 rfl fr_q1387_5 rfl hR.om ((hR.sc 5).trans (hA.f5)) ?_
      exact hr_iret X hr dX5_status_131 (tw_end (by rw [sq_status, if_pos c3, if_neg e23_0, if_neg e23_1, if_neg e23_2, if_neg e23_3, if_neg e23_4, if_neg e23_5, if_neg e23_6, if_pos e23_7]) hR hA)
    by_cases e23_8 : a1 = nI 8
    · refine hr_tableIn (off := 109) (tgt := 132) X dX5_status_23 (by rw [e23_8]; decide) (by rw [e23_8]; decide) (by rw [e23_8]; rfl) (by decide) ?_
      refine hr_aload0 (q := 133) X dX5_status_132 rfl ?_
      refine hr_aload0 (q := 134) X dX5_status_133 rfl ?_
      refine hr_getR (v := am 13) (q := 137) X dX5_status_134 rfl fr_q1395_5 rfl hR.om (hR.f rfl) ?_
      refine hr_aload0 (q := 138) X dX5_status_137 rfl ?_
      refine hr_getI (v := (nI (A.1.1 0 0))) (q := 141) X dX5_status_138 rfl fr_q1382_5 rfl hR.om ((hR.sc 0).trans (hA.sc (by decide))) ?_
      refine hr_callP (q := 144) (hc_V (n := 2) (ci := 5) (As := [.ref (am 13), .int (nI (A.1.1 0 0))]) X dX5_status_141 rfl (tk_together X.tr hR hA (k := 13) (N := 7) (f := A.1.1 13) (z := A.1.1 0 0) rfl rfl rfl (by decide) (by omega) (fun j hj => hA.p (by decide) (by decide) (by omega))) q1857 cv_X5_together ⟨Nat.le_of_ble_eq_true rfl, Nat.le_of_ble_eq_true rfl⟩ rfl (Nat.le_of_ble_eq_true rfl) hR.om rfl rfl) rfl ?_
      exact hr_iret X hr dX5_status_144 (tw_end (by rw [sq_status, if_pos c3, if_neg e23_0, if_neg e23_1, if_neg e23_2, if_neg e23_3, if_neg e23_4, if_neg e23_5, if_neg e23_6, if_neg e23_7, if_pos e23_8]) hR hA)
    by_cases e23_9 : a1 = nI 9
    · refine hr_tableIn (off := 122) (tgt := 145) X dX5_status_23 (by rw [e23_9]; decide) (by rw [e23_9]; decide) (by rw [e23_9]; rfl) (by decide) ?_
      refine hr_aload0 (q := 146) X dX5_status_145 rfl ?_
      refine hr_getI (v := (A.1.2 6)) (q := 149) X dX5_status_146 rfl fr_q1388_5 rfl hR.om ((hR.sc 6).trans (hA.f6)) ?_
      exact hr_iret X hr dX5_status_149 (tw_end (by rw [sq_status, if_pos c3, if_neg e23_0, if_neg e23_1, if_neg e23_2, if_neg e23_3, if_neg e23_4, if_neg e23_5, if_neg e23_6, if_neg e23_7, if_neg e23_8, if_pos e23_9]) hR hA)
    by_cases e23_10 : a1 = nI 10
    · refine hr_tableIn (off := 127) (tgt := 150) X dX5_status_23 (by rw [e23_10]; decide) (by rw [e23_10]; decide) (by rw [e23_10]; rfl) (by decide) ?_
      refine hr_aload0 (q := 151) X dX5_status_150 rfl ?_
      refine hr_getI (v := (A.1.2 42)) (q := 154) X dX5_status_151 rfl fr_q1424_5 rfl hR.om ((hR.sc 42).trans (hA.f42)) ?_
      exact hr_iret X hr dX5_status_154 (tw_end (by rw [sq_status, if_pos c3, if_neg e23_0, if_neg e23_1, if_neg e23_2, if_neg e23_3, if_neg e23_4, if_neg e23_5, if_neg e23_6, if_neg e23_7, if_neg e23_8, if_neg e23_9, if_pos e23_10]) hR hA)
    refine hr_tableOut (tgt := 155) X dX5_status_23 (sp_out (n := 11) (by decide) (fun i hi => by match i, hi with | 0, _ => exact e23_0 | 1, _ => exact e23_1 | 2, _ => exact e23_2 | 3, _ => exact e23_3 | 4, _ => exact e23_4 | 5, _ => exact e23_5 | 6, _ => exact e23_6 | 7, _ => exact e23_7 | 8, _ => exact e23_8 | 9, _ => exact e23_9 | 10, _ => exact e23_10 | (k + 11), hi => omega)) (by decide) ?_
    refine hr_iconst (v := (-1)) (q := 156) X dX5_status_155 rfl rfl ?_
    exact hr_iret X hr dX5_status_156 (tw_end (by rw [sq_status, if_pos c3, if_neg e23_0, if_neg e23_1, if_neg e23_2, if_neg e23_3, if_neg e23_4, if_neg e23_5, if_neg e23_6, if_neg e23_7, if_neg e23_8, if_neg e23_9, if_neg e23_10]) hR hA)
  · refine hr_iload1 (q := 7) X dX5_status_6 rfl ?_
    refine hr_bipush (v := (nI 17)) (q := 9) X dX5_status_7 rfl rfl ?_
    refine hr_icmp_gt (q := 12) (tgt := 22) X dX5_status_9 rfl (by decide) (fun c9 => ?_) (fun c9 => ?_)
    · refine hr_iload1 (q := 23) X dX5_status_22 rfl ?_
      by_cases e23_0 : a1 = nI 0
      · refine hr_tableIn (off := 57) (tgt := 80) X dX5_status_23 (by rw [e23_0]; decide) (by rw [e23_0]; decide) (by rw [e23_0]; rfl) (by decide) ?_
        refine hr_aload0 (q := 81) X dX5_status_80 rfl ?_
        refine hr_getI (v := (nI (A.1.1 0 0))) (q := 84) X dX5_status_81 rfl fr_q1382_5 rfl hR.om ((hR.sc 0).trans (hA.sc (by decide))) ?_
        exact hr_iret X hr dX5_status_84 (tw_end (by rw [sq_status, if_neg c3, if_pos c9, if_pos e23_0]) hR hA)
      by_cases e23_1 : a1 = nI 1
      · refine hr_tableIn (off := 62) (tgt := 85) X dX5_status_23 (by rw [e23_1]; decide) (by rw [e23_1]; decide) (by rw [e23_1]; rfl) (by decide) ?_
        refine hr_aload0 (q := 86) X dX5_status_85 rfl ?_
        refine hr_aload0 (q := 87) X dX5_status_86 rfl ?_
        refine hr_getR (v := am 16) (q := 90) X dX5_status_87 rfl fr_q1398_5 rfl hR.om (hR.f rfl) ?_
        refine hr_bipush (v := (nI 36)) (q := 92) X dX5_status_90 rfl rfl ?_
        refine hr_callP (q := 95) (hc_V (n := 2) (ci := 5) (As := [.ref (am 16), .int (nI 36)]) X dX5_status_92 rfl (tk_together X.tr hR hA (k := 16) (N := 36) (f := A.1.1 16) (z := 36) rfl rfl rfl (by decide) (by omega) (fun j hj => hA.c (by decide) (by decide) hj)) q1857 cv_X5_together ⟨Nat.le_of_ble_eq_true rfl, Nat.le_of_ble_eq_true rfl⟩ rfl (Nat.le_of_ble_eq_true rfl) hR.om rfl rfl) rfl ?_
        exact hr_iret X hr dX5_status_95 (tw_end (by rw [sq_status, if_neg c3, if_pos c9, if_neg e23_0, if_pos e23_1]) hR hA)
      by_cases e23_2 : a1 = nI 2
      · refine hr_tableIn (off := 73) (tgt := 96) X dX5_status_23 (by rw [e23_2]; decide) (by rw [e23_2]; decide) (by rw [e23_2]; rfl) (by decide) ?_
        refine hr_aload0 (q := 97) X dX5_status_96 rfl ?_
        refine hr_aload0 (q := 98) X dX5_status_97 rfl ?_
        refine hr_getR (v := am 17) (q := 101) X dX5_status_98 rfl fr_q1399_5 rfl hR.om (hR.f rfl) ?_
        refine hr_bipush (v := (nI 36)) (q := 103) X dX5_status_101 rfl rfl ?_
        refine hr_callP (q := 106) (hc_V (n := 2) (ci := 5) (As := [.ref (am 17), .int (nI 36)]) X dX5_status_103 rfl (tk_together X.tr hR hA (k := 17) (N := 36) (f := A.1.1 17) (z := 36) rfl rfl rfl (by decide) (by omega) (fun j hj => hA.c (by decide) (by decide) hj)) q1857 cv_X5_together ⟨Nat.le_of_ble_eq_true rfl, Nat.le_of_ble_eq_true rfl⟩ rfl (Nat.le_of_ble_eq_true rfl) hR.om rfl rfl) rfl ?_
        exact hr_iret X hr dX5_status_106 (tw_end (by rw [sq_status, if_neg c3, if_pos c9, if_neg e23_0, if_neg e23_1, if_pos e23_2]) hR hA)
      by_cases e23_3 : a1 = nI 3
      · refine hr_tableIn (off := 84) (tgt := 107) X dX5_status_23 (by rw [e23_3]; decide) (by rw [e23_3]; decide) (by rw [e23_3]; rfl) (by decide) ?_
        refine hr_aload0 (q := 108) X dX5_status_107 rfl ?_
        refine hr_getI (v := (nI (A.1.1 1 0))) (q := 111) X dX5_status_108 rfl fr_q1383_5 rfl hR.om ((hR.sc 1).trans (hA.sc (by decide))) ?_
        exact hr_iret X hr dX5_status_111 (tw_end (by rw [sq_status, if_neg c3, if_pos c9, if_neg e23_0, if_neg e23_1, if_neg e23_2, if_pos e23_3]) hR hA)
      by_cases e23_4 : a1 = nI 4
      · refine hr_tableIn (off := 89) (tgt := 112) X dX5_status_23 (by rw [e23_4]; decide) (by rw [e23_4]; decide) (by rw [e23_4]; rfl) (by decide) ?_
        refine hr_aload0 (q := 113) X dX5_status_112 rfl ?_
        refine hr_getI (v := (nI (A.1.1 2 0))) (q := 116) X dX5_status_113 rfl fr_q1384_5 rfl hR.om ((hR.sc 2).trans (hA.sc (by decide))) ?_
        exact hr_iret X hr dX5_status_116 (tw_end (by rw [sq_status, if_neg c3, if_pos c9, if_neg e23_0, if_neg e23_1, if_neg e23_2, if_neg e23_3, if_pos e23_4]) hR hA)
      by_cases e23_5 : a1 = nI 5
      · refine hr_tableIn (off := 94) (tgt := 117) X dX5_status_23 (by rw [e23_5]; decide) (by rw [e23_5]; decide) (by rw [e23_5]; rfl) (by decide) ?_
        refine hr_aload0 (q := 118) X dX5_status_117 rfl ?_
        refine hr_getI (v := (nI (A.1.1 3 0))) (q := 121) X dX5_status_118 rfl fr_q1385_5 rfl hR.om ((hR.sc 3).trans (hA.sc (by decide))) ?_
        exact hr_iret X hr dX5_status_121 (tw_end (by rw [sq_status, if_neg c3, if_pos c9, if_neg e23_0, if_neg e23_1, if_neg e23_2, if_neg e23_3, if_neg e23_4, if_pos e23_5]) hR hA)
      by_cases e23_6 : a1 = nI 6
      · refine hr_tableIn (off := 99) (tgt := 122) X dX5_status_23 (by rw [e23_6]; decide) (by rw [e23_6]; decide) (by rw [e23_6]; rfl) (by decide) ?_
        refine hr_aload0 (q := 123) X dX5_status_122 rfl ?_
        refine hr_getI (v := (A.1.2 4)) (q := 126) X dX5_status_123 rfl fr_q1386_5 rfl hR.om ((hR.sc 4).trans (hA.f4)) ?_
        exact hr_iret X hr dX5_status_126 (tw_end (by rw [sq_status, if_neg c3, if_pos c9, if_neg e23_0, if_neg e23_1, if_neg e23_2, if_neg e23_3, if_neg e23_4, if_neg e23_5, if_pos e23_6]) hR hA)
      by_cases e23_7 : a1 = nI 7
      · refine hr_tableIn (off := 104) (tgt := 127) X dX5_status_23 (by rw [e23_7]; decide) (by rw [e23_7]; decide) (by rw [e23_7]; rfl) (by decide) ?_
        refine hr_aload0 (q := 128) X dX5_status_127 rfl ?_
        refine hr_getI (v := (A.1.2 5)) (q := 131) X dX5_status_128 rfl fr_q1387_5 rfl hR.om ((hR.sc 5).trans (hA.f5)) ?_
        exact hr_iret X hr dX5_status_131 (tw_end (by rw [sq_status, if_neg c3, if_pos c9, if_neg e23_0, if_neg e23_1, if_neg e23_2, if_neg e23_3, if_neg e23_4, if_neg e23_5, if_neg e23_6, if_pos e23_7]) hR hA)
      by_cases e23_8 : a1 = nI 8
      · refine hr_tableIn (off := 109) (tgt := 132) X dX5_status_23 (by rw [e23_8]; decide) (by rw [e23_8]; decide) (by rw [e23_8]; rfl) (by decide) ?_
        refine hr_aload0 (q := 133) X dX5_status_132 rfl ?_
        refine hr_aload0 (q := 134) X dX5_status_133 rfl ?_
        refine hr_getR (v := am 13) (q := 137) X dX5_status_134 rfl fr_q1395_5 rfl hR.om (hR.f rfl) ?_
        refine hr_aload0 (q := 138) X dX5_status_137 rfl ?_
        refine hr_getI (v := (nI (A.1.1 0 0))) (q := 141) X dX5_status_138 rfl fr_q1382_5 rfl hR.om ((hR.sc 0).trans (hA.sc (by decide))) ?_
        refine hr_callP (q := 144) (hc_V (n := 2) (ci := 5) (As := [.ref (am 13), .int (nI (A.1.1 0 0))]) X dX5_status_141 rfl (tk_together X.tr hR hA (k := 13) (N := 7) (f := A.1.1 13) (z := A.1.1 0 0) rfl rfl rfl (by decide) (by omega) (fun j hj => hA.p (by decide) (by decide) (by omega))) q1857 cv_X5_together ⟨Nat.le_of_ble_eq_true rfl, Nat.le_of_ble_eq_true rfl⟩ rfl (Nat.le_of_ble_eq_true rfl) hR.om rfl rfl) rfl ?_
        exact hr_iret X hr dX5_status_144 (tw_end (by rw [sq_status, if_neg c3, if_pos c9, if_neg e23_0, if_neg e23_1, if_neg e23_2, if_neg e23_3, if_neg e23_4, if_neg e23_5, if_neg e23_6, if_neg e23_7, if_pos e23_8]) hR hA)
      by_cases e23_9 : a1 = nI 9
      · refine hr_tableIn (off := 122) (tgt := 145) X dX5_status_23 (by rw [e23_9]; decide) (by rw [e23_9]; decide) (by rw [e23_9]; rfl) (by decide) ?_
        refine hr_aload0 (q := 146) X dX5_status_145 rfl ?_
        refine hr_getI (v := (A.1.2 6)) (q := 149) X dX5_status_146 rfl fr_q1388_5 rfl hR.om ((hR.sc 6).trans (hA.f6)) ?_
        exact hr_iret X hr dX5_status_149 (tw_end (by rw [sq_status, if_neg c3, if_pos c9, if_neg e23_0, if_neg e23_1, if_neg e23_2, if_neg e23_3, if_neg e23_4, if_neg e23_5, if_neg e23_6, if_neg e23_7, if_neg e23_8, if_pos e23_9]) hR hA)
      by_cases e23_10 : a1 = nI 10
      · refine hr_tableIn (off := 127) (tgt := 150) X dX5_status_23 (by rw [e23_10]; decide) (by rw [e23_10]; decide) (by rw [e23_10]; rfl) (by decide) ?_
        refine hr_aload0 (q := 151) X dX5_status_150 rfl ?_
        refine hr_getI (v := (A.1.2 42)) (q := 154) X dX5_status_151 rfl fr_q1424_5 rfl hR.om ((hR.sc 42).trans (hA.f42)) ?_
        exact hr_iret X hr dX5_status_154 (tw_end (by rw [sq_status, if_neg c3, if_pos c9, if_neg e23_0, if_neg e23_1, if_neg e23_2, if_neg e23_3, if_neg e23_4, if_neg e23_5, if_neg e23_6, if_neg e23_7, if_neg e23_8, if_neg e23_9, if_pos e23_10]) hR hA)
      refine hr_tableOut (tgt := 155) X dX5_status_23 (sp_out (n := 11) (by decide) (fun i hi => by match i, hi with | 0, _ => exact e23_0 | 1, _ => exact e23_1 | 2, _ => exact e23_2 | 3, _ => exact e23_3 | 4, _ => exact e23_4 | 5, _ => exact e23_5 | 6, _ => exact e23_6 | 7, _ => exact e23_7 | 8, _ => exact e23_8 | 9, _ => exact e23_9 | 10, _ => exact e23_10 | (k + 11), hi => omega)) (by decide) ?_
      refine hr_iconst (v := (-1)) (q := 156) X dX5_status_155 rfl rfl ?_
      exact hr_iret X hr dX5_status_156 (tw_end (by rw [sq_status, if_neg c3, if_pos c9, if_neg e23_0, if_neg e23_1, if_neg e23_2, if_neg e23_3, if_neg e23_4, if_neg e23_5, if_neg e23_6, if_neg e23_7, if_neg e23_8, if_neg e23_9, if_neg e23_10]) hR hA)
    · have n12_1 := sp_btw (by decide) (by decide) c3 (Int32.not_lt.mp c9)
      refine hr_L (L' := [some (.ref o), some (.int (nI (iN a1)))]) (by rw [← n12_1.1]) ?_
      refine hr_aload0 (q := 13) X dX5_status_12 rfl ?_
      refine hr_getR (v := am 8) (q := 16) X dX5_status_13 rfl fr_q1390_5 rfl hR.om (hR.f rfl) ?_
      refine hr_iload1 (q := 17) X dX5_status_16 rfl ?_
      refine hr_bipush (v := (nI 10)) (q := 19) X dX5_status_17 rfl rfl ?_
      refine hr_isub (v := (nI ((iN a1) - 10))) (q := 20) X dX5_status_19 rfl (pk_sub (by omega)) ?_
      refine hr_ialdN (v := (A.2.2.1 8 ((iN a1) - 10))) (q := 21) X dX5_status_20 rfl (hR.ka (n := 8) rfl rfl rfl) (Or.inl rfl) (by omega) (by decide) ((hR.ar rfl _).trans (hA.r (by decide) _)) ?_
      exact hr_iret X hr dX5_status_21 (tw_end (by rw [sq_status, if_neg c3, if_neg c9]) hR hA)

def sq_all (a1 : Int32) (A : ab_S) : Int32 × ab_S :=
  if a1 < 0 then (((sq_no (-5) A).1), (sq_no (-5) A).2)
  else if a1 ≤ (nI 3) then ((nI (sp_all A.1 (iN a1))), A)
  else (((sq_no (-5) A).1), (sq_no (-5) A).2)
theorem tk_all {l : Launch} {D : hg_D} {lo : Nat} (htr : l.stackTraces = false) {G : hg_G} {o : Nat} {am : Nat → Nat} {u : tw_S} {A : ab_S} (hR : tw_R G o am u) (hA : tw_A u A) {a1 : Int32} (hW : ab_wf A) :
    hg_M l D lo yX5_all (ws_ yX5_all cX5_all 5 ((some FieldType.int))) rm_X5_all [.ref o, .int a1] G (tw_Po o am (sq_all a1 A)) := by
  have hw := hW.w; have w0 := hw.b0; have w1 := hw.b1; have w2 := hw.b2; have w3 := hw.b3; have w36 := hW.b36; have w43 := hW.b43
  refine hg_M.of htr (by decide) [some (.ref o), some (.int a1), none, none, none] rfl (Nat.le_of_ble_eq_true rfl) ?_
  intro p e s m args below meth c X hr hnm htab
  have X : hg_X p l s m args meth c D lo "TaxOnLooksModel" cX5_all 5 := X
  refine hr_iload1 (q := 1) X dX5_all_0 rfl ?_
  refine hr_if_lt (q := 4) (tgt := 9) X dX5_all_1 rfl (by decide) (fun c1 => ?_) (fun c1 => ?_)
  · refine hr_aload0 (q := 10) X dX5_all_9 rfl ?_
    refine hr_bipush (v := (-5)) (q := 12) X dX5_all_10 rfl rfl ?_
    refine hr_callT (q := 15) (hc_V (n := 1) (ci := 5) (As := [.int (-5)]) X dX5_all_12 rfl (tk_no X.tr hR hA (b := (-5)) (by decide)) q1523 cv_X5_no ⟨Nat.le_of_ble_eq_true rfl, Nat.le_of_ble_eq_true rfl⟩ rfl (Nat.le_of_ble_eq_true rfl) hR.om rfl rfl) rfl (fun G1 u1 hR1 hA1 => ?_)
    exact hr_iret X hr dX5_all_15 (tw_end (by rw [sq_all, if_pos c1]) hR1 hA1)
  · refine hr_iload1 (q := 5) X dX5_all_4 rfl ?_
    refine hr_iconst (v := (nI 3)) (q := 6) X dX5_all_5 rfl rfl ?_
    refine hr_icmp_le (q := 9) (tgt := 16) X dX5_all_6 rfl (by decide) (fun c6 => ?_) (fun c6 => ?_)
    · have n16_1 := sp_leN (by decide) c1 c6
      refine hr_L (L' := [some (.ref o), some (.int (nI (iN a1))), none, none, none]) (by rw [← n16_1.1]) ?_
      refine hr_iconst (v := (nI 0)) (q := 17) X dX5_all_16 rfl rfl ?_
      refine hr_istore2 (q := 18) X dX5_all_17 rfl rfl (Nat.le_of_ble_eq_true rfl) ?_
      refine hr_iconst (v := (nI 0)) (q := 19) X dX5_all_18 rfl rfl ?_
      refine hr_istore3 (q := 20) X dX5_all_19 rfl rfl (Nat.le_of_ble_eq_true rfl) ?_
      have loop20 : ∀ (kr nr n : Nat) (i S : Nat), (i ≤ A.1.1 0 0) → (A.1.1 0 0 + 1 ≤ i + n) → (S = sp_sum (fun x => if iN a1 = 0 then sp_owes A.1 x else if iN a1 = 1 then sp_wouldPay A.1 x else if iN a1 = 2 then (if A.1.1 13 x < sp_owes A.1 x then 2 ^ x else 0) else (if sp_owes A.1 x = 0 then 1 else 0)) i) → hg_W p l e rm_X5_all s m args below meth c (hg_Q below D lo args s rm_X5_all G (tw_Po o am (sq_all a1 A))) D lo G.1 5 kr nr G 20 [some (.ref o), some (.int (nI (iN a1))), some (.int (nI S)), some (.int (nI i)), none] [] := by
        intro kr nr n
        induction n with
        | zero =>
          intro i S h20_0 h20_1 h20_2
          omega
        | succ n ih =>
          intro i S h20_0 h20_1 h20_2
          refine hr_iload3 (q := 21) X dX5_all_20 rfl ?_
          refine hr_aload0 (q := 22) X dX5_all_21 rfl ?_
          refine hr_getI (v := (nI (A.1.1 0 0))) (q := 25) X dX5_all_22 rfl fr_q1382_5 rfl hR.om ((hR.sc 0).trans (hA.sc (by decide))) ?_
          refine hr_icmpN_ge (q := 28) (tgt := 111) X dX5_all_25 rfl (by decide) (by omega) (by omega) (fun c25 => ?_) (fun c25 => ?_)
          · have z2 : i = A.1.1 0 0 := by omega
            subst z2
            have z3 : S = sp_all A.1 (iN a1) := h20_2
            subst z3
            refine hr_iload2 (q := 112) X dX5_all_111 rfl ?_
            exact hr_iret X hr dX5_all_112 (tw_end (by rw [sq_all, if_neg c1, if_pos c6]) hR hA)
          · refine hr_aload0 (q := 29) X dX5_all_28 rfl ?_
            refine hr_iload3 (q := 30) X dX5_all_29 rfl ?_
            refine hr_callP (q := 33) (hc_V (n := 1) (ci := 5) (As := [.int (nI i)]) X dX5_all_30 rfl (tk_owes X.tr hR hA.t hw (x := i) (by omega)) q1691 cv_X5_owes ⟨Nat.le_of_ble_eq_true rfl, Nat.le_of_ble_eq_true rfl⟩ rfl (Nat.le_of_ble_eq_true rfl) hR.om rfl rfl) rfl ?_
            have := sp_owes_lt (t := A.1) hw i
            refine hr_istore4 (q := 35) X dX5_all_33 rfl rfl (Nat.le_of_ble_eq_true rfl) ?_
            refine hr_iload1 (q := 36) X dX5_all_35 rfl ?_
            refine hr_ifN_ne (q := 39) (tgt := 47) X dX5_all_36 rfl (by decide) (by omega) (fun c36 => ?_) (fun c36 => ?_)
            · refine hr_iload1 (q := 48) X dX5_all_47 rfl ?_
              refine hr_iconst (v := (nI 1)) (q := 49) X dX5_all_48 rfl rfl ?_
              refine hr_icmpN_ne (q := 52) (tgt := 63) X dX5_all_49 rfl (by decide) (by omega) (by omega) (fun c49 => ?_) (fun c49 => ?_)
              · refine hr_iload1 (q := 64) X dX5_all_63 rfl ?_
                refine hr_iconst (v := (nI 2)) (q := 65) X dX5_all_64 rfl rfl ?_
                refine hr_icmpN_ne (q := 68) (tgt := 92) X dX5_all_65 rfl (by decide) (by omega) (by omega) (fun c65 => ?_) (fun c65 => ?_)
                · refine hr_iload2 (q := 93) X dX5_all_92 rfl ?_
                  refine hr_iload4 (q := 95) X dX5_all_93 rfl ?_
                  refine hr_ifN_ne (q := 98) (tgt := 102) X dX5_all_95 rfl (by decide) (by omega) (fun c95 => ?_) (fun c95 => ?_)
                  · refine hr_iconst (v := (nI 0)) (q := 103) X dX5_all_102 rfl rfl ?_
                    refine hr_iadd (v := (nI (S + 0))) (q := 104) X dX5_all_103 rfl (nI_add _ _) ?_
                    refine hr_istore2 (q := 105) X dX5_all_104 rfl rfl (Nat.le_of_ble_eq_true rfl) ?_
                    refine hr_iinc3 (v := (nI (i + 1))) (q := 108) X dX5_all_105 rfl (nI_add _ _) rfl (Nat.le_of_ble_eq_true rfl) ?_
                    refine hr_goto (tgt := 20) X dX5_all_108 (by decide) ?_
                    refine hr_fg4 ?_
                    exact ih (i + 1) (S + 0) (by omega) (by omega) (by rw [h20_2, sp_sum]; (repeat' split) <;> omega)
                  · refine hr_iconst (v := (nI 1)) (q := 99) X dX5_all_98 rfl rfl ?_
                    refine hr_goto (tgt := 103) X dX5_all_99 (by decide) ?_
                    refine hr_iadd (v := (nI (S + 1))) (q := 104) X dX5_all_103 rfl (nI_add _ _) ?_
                    refine hr_istore2 (q := 105) X dX5_all_104 rfl rfl (Nat.le_of_ble_eq_true rfl) ?_
                    refine hr_iinc3 (v := (nI (i + 1))) (q := 108) X dX5_all_105 rfl (nI_add _ _) rfl (Nat.le_of_ble_eq_true rfl) ?_
                    refine hr_goto (tgt := 20) X dX5_all_108 (by decide) ?_
                    refine hr_fg4 ?_
                    exact ih (i + 1) (S + 1) (by omega) (by omega) (by rw [h20_2, sp_sum]; (repeat' split) <;> omega)
                · refine hr_iload2 (q := 69) X dX5_all_68 rfl ?_
                  refine hr_iload4 (q := 71) X dX5_all_69 rfl ?_
                  refine hr_aload0 (q := 72) X dX5_all_71 rfl ?_
                  refine hr_getR (v := am 13) (q := 75) X dX5_all_72 rfl fr_q1395_5 rfl hR.om (hR.f rfl) ?_
                  refine hr_iload3 (q := 76) X dX5_all_75 rfl ?_
                  refine hr_ialdN (v := (nI (A.1.1 13 i))) (q := 77) X dX5_all_76 rfl (hR.ka (n := 7) rfl rfl rfl) (Or.inl rfl) (by omega) (by decide) ((hR.ar rfl _).trans (hA.p (by decide) (by decide) (by omega))) ?_
                  have b76 := hW.w.b13 (show i < 7 by omega)
                  refine hr_icmpN_le (q := 80) (tgt := 86) X dX5_all_77 rfl (by decide) (by omega) (by omega) (fun c77 => ?_) (fun c77 => ?_)
                  · refine hr_iconst (v := (nI 0)) (q := 87) X dX5_all_86 rfl rfl ?_
                    refine hr_iadd (v := (nI (S + 0))) (q := 88) X dX5_all_87 rfl (nI_add _ _) ?_
                    refine hr_istore2 (q := 89) X dX5_all_88 rfl rfl (Nat.le_of_ble_eq_true rfl) ?_
                    refine hr_goto (tgt := 105) X dX5_all_89 (by decide) ?_
                    refine hr_iinc3 (v := (nI (i + 1))) (q := 108) X dX5_all_105 rfl (nI_add _ _) rfl (Nat.le_of_ble_eq_true rfl) ?_
                    refine hr_goto (tgt := 20) X dX5_all_108 (by decide) ?_
                    refine hr_fg4 ?_
                    exact ih (i + 1) (S + 0) (by omega) (by omega) (by rw [h20_2, sp_sum]; (repeat' split) <;> omega)
                  · refine hr_iconst (v := (nI 1)) (q := 81) X dX5_all_80 rfl rfl ?_
                    refine hr_iload3 (q := 82) X dX5_all_81 rfl ?_
                    refine hr_ishl (v := (nI (2 ^ i))) (q := 83) X dX5_all_82 rfl (sp_shl (by omega)) ?_
                    refine hr_goto (tgt := 87) X dX5_all_83 (by decide) ?_
                    refine hr_iadd (v := (nI (S + (2 ^ i)))) (q := 88) X dX5_all_87 rfl (nI_add _ _) ?_
                    refine hr_istore2 (q := 89) X dX5_all_88 rfl rfl (Nat.le_of_ble_eq_true rfl) ?_
                    refine hr_goto (tgt := 105) X dX5_all_89 (by decide) ?_
                    refine hr_iinc3 (v := (nI (i + 1))) (q := 108) X dX5_all_105 rfl (nI_add _ _) rfl (Nat.le_of_ble_eq_true rfl) ?_
                    refine hr_goto (tgt := 20) X dX5_all_108 (by decide) ?_
                    refine hr_fg4 ?_
                    exact ih (i + 1) (S + (2 ^ i)) (by omega) (by omega) (by rw [h20_2, sp_sum]; (repeat' split) <;> omega)
              · refine hr_iload2 (q := 53) X dX5_all_52 rfl ?_
                refine hr_aload0 (q := 54) X dX5_all_53 rfl ?_
                refine hr_iload3 (q := 55) X dX5_all_54 rfl ?_
                refine hr_callP (q := 58) (hc_V (n := 1) (ci := 5) (As := [.int (nI i)]) X dX5_all_55 rfl (tk_wouldPay X.tr hR hA.t hw (x := i) (by omega)) q1703 cv_X5_wouldPay ⟨Nat.le_of_ble_eq_true rfl, Nat.le_of_ble_eq_true rfl⟩ rfl (Nat.le_of_ble_eq_true rfl) hR.om rfl rfl) rfl ?_
                refine hr_iadd (v := (nI (S + (sp_wouldPay A.1 i)))) (q := 59) X dX5_all_58 rfl (nI_add _ _) ?_
                refine hr_istore2 (q := 60) X dX5_all_59 rfl rfl (Nat.le_of_ble_eq_true rfl) ?_
                refine hr_goto (tgt := 105) X dX5_all_60 (by decide) ?_
                refine hr_iinc3 (v := (nI (i + 1))) (q := 108) X dX5_all_105 rfl (nI_add _ _) rfl (Nat.le_of_ble_eq_true rfl) ?_
                refine hr_goto (tgt := 20) X dX5_all_108 (by decide) ?_
                refine hr_fg4 ?_
                exact ih (i + 1) (S + (sp_wouldPay A.1 i)) (by omega) (by omega) (by rw [h20_2, sp_sum]; (repeat' split) <;> omega)
            · refine hr_iload2 (q := 40) X dX5_all_39 rfl ?_
              refine hr_iload4 (q := 42) X dX5_all_40 rfl ?_
              refine hr_iadd (v := (nI (S + (sp_owes A.1 i)))) (q := 43) X dX5_all_42 rfl (nI_add _ _) ?_
              refine hr_istore2 (q := 44) X dX5_all_43 rfl rfl (Nat.le_of_ble_eq_true rfl) ?_
              refine hr_goto (tgt := 105) X dX5_all_44 (by decide) ?_
              refine hr_iinc3 (v := (nI (i + 1))) (q := 108) X dX5_all_105 rfl (nI_add _ _) rfl (Nat.le_of_ble_eq_true rfl) ?_
              refine hr_goto (tgt := 20) X dX5_all_108 (by decide) ?_
              refine hr_fg4 ?_
              exact ih (i + 1) (S + (sp_owes A.1 i)) (by omega) (by omega) (by rw [h20_2, sp_sum]; (repeat' split) <;> omega)
      exact loop20 _ _ (A.1.1 0 0 + 1) 0 0 (by omega) (by omega) rfl
    · refine hr_aload0 (q := 10) X dX5_all_9 rfl ?_
      refine hr_bipush (v := (-5)) (q := 12) X dX5_all_10 rfl rfl ?_
      refine hr_callT (q := 15) (hc_V (n := 1) (ci := 5) (As := [.int (-5)]) X dX5_all_12 rfl (tk_no X.tr hR hA (b := (-5)) (by decide)) q1523 cv_X5_no ⟨Nat.le_of_ble_eq_true rfl, Nat.le_of_ble_eq_true rfl⟩ rfl (Nat.le_of_ble_eq_true rfl) hR.om rfl rfl) rfl (fun G4 u4 hR4 hA4 => ?_)
      exact hr_iret X hr dX5_all_15 (tw_end (by rw [sq_all, if_neg c1, if_neg c6]) hR4 hA4)

theorem tk_allEntered {l : Launch} {D : hg_D} {lo : Nat} (htr : l.stackTraces = false) {G : hg_G} {o : Nat} {am : Nat → Nat} {u : tw_S} (hR : tw_R G o am u) {t : sp_S} (hT : tw_T u t) (hw : sp_wf t) :
    hg_M l D lo yX5_allEntered (ws_ yX5_allEntered cX5_allEntered 3 ((some FieldType.int))) rm_X5_allEntered [.ref o] G (hg_Pv G (.int (nI (sp_entAll t)))) := by
  refine hg_M.of htr (by decide) [some (.ref o), none, none] rfl (Nat.le_of_ble_eq_true rfl) ?_
  intro p e s m args below meth c X hr hnm htab
  have X : hg_X p l s m args meth c D lo "TaxOnLooksModel" cX5_allEntered 3 := X
  have w0 := hw.b0; have w1 := hw.b1; have w2 := hw.b2; have w3 := hw.b3
  have w36 := hw.b36
  refine hr_iconst (v := (nI 0)) (q := 1) X dX5_allEntered_0 rfl rfl ?_
  refine hr_istore1 (q := 2) X dX5_allEntered_1 rfl rfl (Nat.le_of_ble_eq_true rfl) ?_
  refine hr_iconst (v := (nI 0)) (q := 3) X dX5_allEntered_2 rfl rfl ?_
  refine hr_istore2 (q := 4) X dX5_allEntered_3 rfl rfl (Nat.le_of_ble_eq_true rfl) ?_
  have loop4 : ∀ (kr nr n : Nat) (i S : Nat), (i ≤ t.1 0 0) → (t.1 0 0 + 1 ≤ i + n) → (S = sp_sum (sp_entered t) i) → hg_W p l e rm_X5_allEntered s m args below meth c (hg_Q below D lo args s rm_X5_allEntered G (hg_Pv G (.int (nI (sp_entAll t))))) D lo G.1 3 kr nr G 4 [some (.ref o), some (.int (nI S)), some (.int (nI i))] [] := by
    intro kr nr n
    induction n with
    | zero =>
      intro i S h4_0 h4_1 h4_2
      omega
    | succ n ih =>
      intro i S h4_0 h4_1 h4_2
      refine hr_iload2 (q := 5) X dX5_allEntered_4 rfl ?_
      refine hr_aload0 (q := 6) X dX5_allEntered_5 rfl ?_
      refine hr_getI (v := (nI (t.1 0 0))) (q := 9) X dX5_allEntered_6 rfl fr_q1382_5 rfl hR.om ((hR.sc 0).trans (hT.sc (by decide))) ?_
      refine hr_icmpN_ge (q := 12) (tgt := 43) X dX5_allEntered_9 rfl (by decide) (by omega) (by omega) (fun c9 => ?_) (fun c9 => ?_)
      · refine hr_iload1 (q := 44) X dX5_allEntered_43 rfl ?_
        exact hr_iret X hr dX5_allEntered_44 ⟨hz_i (congrArg nI (by rw [h4_2, show i = t.1 0 0 by omega]; rfl)), rfl⟩
      · refine hr_aload0 (q := 13) X dX5_allEntered_12 rfl ?_
        refine hr_aload0 (q := 14) X dX5_allEntered_13 rfl ?_
        refine hr_getR (v := am 14) (q := 17) X dX5_allEntered_14 rfl fr_q1396_5 rfl hR.om (hR.f rfl) ?_
        refine hr_iload2 (q := 18) X dX5_allEntered_17 rfl ?_
        refine hr_ialdN (v := (nI (t.1 14 i))) (q := 19) X dX5_allEntered_18 rfl (hR.ka (n := 7) rfl rfl rfl) (Or.inl rfl) (by omega) (by decide) ((hR.ar rfl _).trans (hT.p (by decide) (by decide) (by omega))) ?_
        have b18 := hw.b14 (show i < 7 by omega)
        refine hr_callP (q := 22) (hc_V (n := 1) (ci := 5) (As := [.int (nI (t.1 14 i))]) X dX5_allEntered_19 rfl (tk_isLit X.tr hR hT hw (z := t.1 14 i) (by omega)) q1695 cv_X5_isLit ⟨Nat.le_of_ble_eq_true rfl, Nat.le_of_ble_eq_true rfl⟩ rfl (Nat.le_of_ble_eq_true rfl) hR.om rfl rfl) rfl ?_
        refine hr_ifB_eq (q := 25) (tgt := 37) X dX5_allEntered_22 rfl (by decide) (fun c22 => ?_) (fun c22 => ?_)
        · refine hr_iinc2 (v := (nI (i + 1))) (q := 40) X dX5_allEntered_37 rfl (nI_add _ _) rfl (Nat.le_of_ble_eq_true rfl) ?_
          refine hr_goto (tgt := 4) X dX5_allEntered_40 (by decide) ?_
          exact ih (i + 1) S (by omega) (by omega) (by rw [h4_2, sp_sum, sp_entered, if_neg (by rw [c22]; decide), Nat.add_zero])
        · refine hr_iload1 (q := 26) X dX5_allEntered_25 rfl ?_
          refine hr_aload0 (q := 27) X dX5_allEntered_26 rfl ?_
          refine hr_aload0 (q := 28) X dX5_allEntered_27 rfl ?_
          refine hr_iload2 (q := 29) X dX5_allEntered_28 rfl ?_
          refine hr_callP (q := 32) (hc_V (n := 1) (ci := 5) (As := [.int (nI i)]) X dX5_allEntered_29 rfl (tk_lookers X.tr hR hT hw (x := i) (by omega)) q1675 cv_X5_lookers ⟨Nat.le_of_ble_eq_true rfl, Nat.le_of_ble_eq_true rfl⟩ rfl (Nat.le_of_ble_eq_true rfl) hR.om rfl rfl) rfl ?_
          have := sp_lookers_lt hw i
          refine hr_callP (q := 35) (hc_V (n := 1) (ci := 5) (As := [.int (nI (sp_lookers t i))]) X dX5_allEntered_32 rfl (tk_many X.tr hR (x := sp_lookers t i) (by omega)) q1699 cv_X5_many ⟨Nat.le_of_ble_eq_true rfl, Nat.le_of_ble_eq_true rfl⟩ rfl (Nat.le_of_ble_eq_true rfl) hR.om rfl rfl) rfl ?_
          have := sp_cnt_le (sp_lookers t i) 7
          refine hr_iadd (v := (nI (S + (sp_cnt (sp_lookers t i) 7)))) (q := 36) X dX5_allEntered_35 rfl (nI_add _ _) ?_
          refine hr_istore1 (q := 37) X dX5_allEntered_36 rfl rfl (Nat.le_of_ble_eq_true rfl) ?_
          refine hr_iinc2 (v := (nI (i + 1))) (q := 40) X dX5_allEntered_37 rfl (nI_add _ _) rfl (Nat.le_of_ble_eq_true rfl) ?_
          refine hr_goto (tgt := 4) X dX5_allEntered_40 (by decide) ?_
          exact ih (i + 1) (S + (sp_cnt (sp_lookers t i) 7)) (by omega) (by omega) (by rw [h4_2, sp_sum, sp_entered, if_pos c22])
  exact loop4 _ _ (t.1 0 0 + 1) 0 0 (by omega) (by omega) rfl

def sp_balc (t : sp_S) : Nat := sp_bst (fun _ => true) (fun a b => decide ((fun z => sp_entAll (sp_set t 17 z 1)) b < (fun z => sp_entAll (sp_set t 17 z 1)) a)) 36

def sq_balconies (a1 : Int32) (A : ab_S) : Int32 × ab_S :=
  if a1 < 0 then (((sq_no (-5) A).1), (sq_no (-5) A).2)
  else if a1 ≤ (nI 1) then if a1 = 0 then ((oI (sp_balc A.1)), A)
    else ((sp_mst (fun z => sp_entAll (sp_set A.1 17 z 1)) (sp_balc A.1)), A)
  else (((sq_no (-5) A).1), (sq_no (-5) A).2)
theorem tk_balconies {l : Launch} {D : hg_D} {lo : Nat} (htr : l.stackTraces = false) {G : hg_G} {o : Nat} {am : Nat → Nat} {u : tw_S} {A : ab_S} (hR : tw_R G o am u) (hA : tw_A u A) {a1 : Int32} (hW : ab_wf A) :
    hg_M l D lo yX5_balconies (ws_ yX5_balconies cX5_balconies 7 ((some FieldType.int))) rm_X5_balconies [.ref o, .int a1] G (tw_Po o am (sq_balconies a1 A)) := by
  have hw := hW.w; have w0 := hw.b0; have w1 := hw.b1; have w2 := hw.b2; have w3 := hw.b3; have w36 := hW.b36; have w43 := hW.b43
  refine hg_M.of htr (by decide) [some (.ref o), some (.int a1), none, none, none, none, none] rfl (Nat.le_of_ble_eq_true rfl) ?_
  intro p e s m args below meth c X hr hnm htab
  have X : hg_X p l s m args meth c D lo "TaxOnLooksModel" cX5_balconies 7 := X
  refine hr_iload1 (q := 1) X dX5_balconies_0 rfl ?_
  refine hr_if_lt (q := 4) (tgt := 9) X dX5_balconies_1 rfl (by decide) (fun c1 => ?_) (fun c1 => ?_)
  · refine hr_aload0 (q := 10) X dX5_balconies_9 rfl ?_
    refine hr_bipush (v := (-5)) (q := 12) X dX5_balconies_10 rfl rfl ?_
    refine hr_callT (q := 15) (hc_V (n := 1) (ci := 5) (As := [.int (-5)]) X dX5_balconies_12 rfl (tk_no X.tr hR hA (b := (-5)) (by decide)) q1523 cv_X5_no ⟨Nat.le_of_ble_eq_true rfl, Nat.le_of_ble_eq_true rfl⟩ rfl (Nat.le_of_ble_eq_true rfl) hR.om rfl rfl) rfl (fun G1 u1 hR1 hA1 => ?_)
    exact hr_iret X hr dX5_balconies_15 (tw_end (by rw [sq_balconies, if_pos c1]) hR1 hA1)
  · refine hr_iload1 (q := 5) X dX5_balconies_4 rfl ?_
    refine hr_iconst (v := (nI 1)) (q := 6) X dX5_balconies_5 rfl rfl ?_
    refine hr_icmp_le (q := 9) (tgt := 16) X dX5_balconies_6 rfl (by decide) (fun c6 => ?_) (fun c6 => ?_)
    · refine hr_iconst (v := (-1)) (q := 17) X dX5_balconies_16 rfl rfl ?_
      refine hr_istore2 (q := 18) X dX5_balconies_17 rfl rfl (Nat.le_of_ble_eq_true rfl) ?_
      refine hr_iconst (v := (-1)) (q := 19) X dX5_balconies_18 rfl rfl ?_
      refine hr_istore3 (q := 20) X dX5_balconies_19 rfl rfl (Nat.le_of_ble_eq_true rfl) ?_
      refine hr_iconst (v := (nI 0)) (q := 21) X dX5_balconies_20 rfl rfl ?_
      refine hr_istore4 (q := 23) X dX5_balconies_21 rfl rfl (Nat.le_of_ble_eq_true rfl) ?_
      have loop23 : ∀ (kr nr n : Nat) (G23 : hg_G) (u23 : tw_S) (i B : Nat), tw_R G23 o am u23 → tw_A u23 (A) → (i ≤ 36) → (37 ≤ i + n) → (B = sp_bst (fun _ => true) (fun a b => decide ((fun z => sp_entAll (sp_set A.1 17 z 1)) b < (fun z => sp_entAll (sp_set A.1 17 z 1)) a)) i) → hg_W p l e rm_X5_balconies s m args below meth c (hg_Q below D lo args s rm_X5_balconies G (tw_Po o am (sq_balconies a1 A))) D lo G.1 7 kr nr G23 23 [some (.ref o), some (.int a1), some (.int (oI B)), some (.int (sp_mst (fun z => sp_entAll (sp_set A.1 17 z 1)) B)), some (.int (nI i)), none, none] [] := by
        intro kr nr n
        induction n with
        | zero =>
          intro G23 u23 i B hR23 hA23 h23_0 h23_1 h23_2
          omega
        | succ n ih23 =>
          intro G23 u23 i B hR23 hA23 h23_0 h23_1 h23_2
          refine hr_iload4 (q := 25) X dX5_balconies_23 rfl ?_
          refine hr_bipush (v := (nI 36)) (q := 27) X dX5_balconies_25 rfl rfl ?_
          refine hr_icmpN_ge (q := 30) (tgt := 83) X dX5_balconies_27 rfl (by decide) (by omega) (by omega) (fun c27 => ?_) (fun c27 => ?_)
          · have z2 : i = 36 := by omega
            subst z2
            have hEq : B = sp_balc A.1 := h23_2
            refine hr_iload1 (q := 84) X dX5_balconies_83 rfl ?_
            refine hr_if_ne (q := 87) (tgt := 91) X dX5_balconies_84 rfl (by decide) (fun c84 => ?_) (fun c84 => ?_)
            · refine hr_iload3 (q := 92) X dX5_balconies_91 rfl ?_
              exact hr_iret X hr dX5_balconies_92 (tw_end (by rw [sq_balconies, if_neg c1, if_pos c6, if_neg c84, ← hEq]) hR23 hA23)
            · refine hr_iload2 (q := 88) X dX5_balconies_87 rfl ?_
              refine hr_goto (tgt := 92) X dX5_balconies_88 (by decide) ?_
              exact hr_iret X hr dX5_balconies_92 (tw_end (by rw [sq_balconies, if_neg c1, if_pos c6, if_pos c84, ← hEq]) hR23 hA23)
          · refine hr_aload0 (q := 31) X dX5_balconies_30 rfl ?_
            refine hr_getR (v := am 17) (q := 34) X dX5_balconies_31 rfl fr_q1399_5 rfl hR23.om (hR23.f rfl) ?_
            refine hr_iload4 (q := 36) X dX5_balconies_34 rfl ?_
            refine hr_ialdN (v := (nI (A.1.1 17 i))) (q := 37) X dX5_balconies_36 rfl (hR23.ka (n := 36) rfl rfl rfl) (Or.inl rfl) (by omega) (by decide) ((hR23.ar rfl _).trans (hA23.c (by decide) (by decide) (by omega))) ?_
            have b36 := hW.w.b17 (show i < 36 by omega)
            refine hr_istore5 (q := 39) X dX5_balconies_37 rfl rfl (Nat.le_of_ble_eq_true rfl) ?_
            refine hr_aload0 (q := 40) X dX5_balconies_39 rfl ?_
            refine hr_getR (v := am 17) (q := 43) X dX5_balconies_40 rfl fr_q1399_5 rfl hR23.om (hR23.f rfl) ?_
            refine hr_iload4 (q := 45) X dX5_balconies_43 rfl ?_
            refine hr_iconst (v := (nI 1)) (q := 46) X dX5_balconies_45 rfl rfl ?_
            refine hr_iastN (q := 47) X dX5_balconies_46 rfl (hR23.ka (n := 36) rfl rfl rfl) (by omega) (by decide) ?_
            have hR3 := hR23.setA (k := 17) rfl i (nI 1)
            have hA3 := hA23.nA (k := 17) (j := i) (n := 1) (by decide) rfl
            have hwi := sp_wf_balcony hw (x := i) (n := 1) (by decide)
            refine hr_aload0 (q := 48) X dX5_balconies_47 rfl ?_
            refine hr_callP (v := .int (nI (sp_entAll (sp_set A.1 17 i 1)))) (q := 51) (hc_V (n := 0) (ci := 5) (As := []) X dX5_balconies_48 rfl (tk_allEntered X.tr hR3 hA3.t hwi) q1752 cv_X5_allEntered ⟨Nat.le_of_ble_eq_true rfl, Nat.le_of_ble_eq_true rfl⟩ rfl (Nat.le_of_ble_eq_true rfl) hR3.om rfl rfl) rfl ?_
            have hT := sp_entAll_le (t := sp_set A.1 17 i 1) hwi
            refine hr_istore6 (q := 53) X dX5_balconies_51 rfl rfl (Nat.le_of_ble_eq_true rfl) ?_
            refine hr_aload0 (q := 54) X dX5_balconies_53 rfl ?_
            refine hr_getR (v := am 17) (q := 57) X dX5_balconies_54 rfl fr_q1399_5 rfl hR3.om (hR3.f rfl) ?_
            refine hr_iload4 (q := 59) X dX5_balconies_57 rfl ?_
            refine hr_iload5 (q := 61) X dX5_balconies_59 rfl ?_
            refine hr_iastN (q := 62) X dX5_balconies_61 rfl (hR3.ka (n := 36) rfl rfl rfl) (by omega) (by decide) ?_
            have hR4 := hR3.setA (k := 17) rfl i (nI (A.1.1 17 i))
            have hA4 := hA3.nA (k := 17) (j := i) (n := A.1.1 17 i) (by decide) rfl
            rw [ab_n_back] at hA4
            have hB := sp_bst_lt (fun _ => true) (fun a b => decide ((fun z => sp_entAll (sp_set A.1 17 z 1)) b < (fun z => sp_entAll (sp_set A.1 17 z 1)) a)) i
            rw [← h23_2] at hB
            have hF : B = 99 ∨ (fun z => sp_entAll (sp_set A.1 17 z 1)) B < 2 ^ 31 := hB.imp id (fun z => Nat.lt_of_le_of_lt (sp_entAll_le (sp_wf_balcony hw (by decide))) (by decide))
            refine hr_iload6 (q := 64) X dX5_balconies_62 rfl ?_
            refine hr_iload3 (q := 65) X dX5_balconies_64 rfl ?_
            refine hr_icmp_gt (q := 68) (tgt := 71) X dX5_balconies_65 rfl (by decide) (fun c65 => ?_) (fun c65 => ?_)
            · refine hr_iload4 (q := 73) X dX5_balconies_71 rfl ?_
              refine hr_st1 (v' := .int (oI i)) (congrArg Value.int (oI_of (by omega)).symm) ?_
              refine hr_istore2 (q := 74) X dX5_balconies_73 rfl rfl (Nat.le_of_ble_eq_true rfl) ?_
              refine hr_iload6 (q := 76) X dX5_balconies_74 rfl ?_
              refine hr_st1 (v' := .int (sp_mst (fun z => sp_entAll (sp_set A.1 17 z 1)) i)) (congrArg Value.int (sp_mst_n (f := (fun z => sp_entAll (sp_set A.1 17 z 1))) (by omega)).symm) ?_
              refine hr_istore3 (q := 77) X dX5_balconies_76 rfl rfl (Nat.le_of_ble_eq_true rfl) ?_
              refine hr_iinc4 (v := (nI (i + 1))) (q := 80) X dX5_balconies_77 rfl (nI_add _ _) rfl (Nat.le_of_ble_eq_true rfl) ?_
              refine hr_goto (tgt := 23) X dX5_balconies_80 (by decide) ?_
              refine hr_fg5 ?_
              refine hr_fg6 ?_
              exact ih23 (hs_I (hs_I G23 (am 17) i (nI 1)) (am 17) i (nI (A.1.1 17 i))) (tw_setA (tw_setA u23 17 i (nI 1)) 17 i (nI (A.1.1 17 i))) (i + 1) i hR4 hA4 (by omega) (by omega) (sp_bst_y h23_2 rfl (((sp_mst_lt (f := (fun z => sp_entAll (sp_set A.1 17 z 1))) (by omega) hF).mp c65).imp id (fun z => decide_eq_true z)))
            · refine hr_goto (tgt := 77) X dX5_balconies_68 (by decide) ?_
              refine hr_iinc4 (v := (nI (i + 1))) (q := 80) X dX5_balconies_77 rfl (nI_add _ _) rfl (Nat.le_of_ble_eq_true rfl) ?_
              refine hr_goto (tgt := 23) X dX5_balconies_80 (by decide) ?_
              refine hr_fg5 ?_
              refine hr_fg6 ?_
              exact ih23 (hs_I (hs_I G23 (am 17) i (nI 1)) (am 17) i (nI (A.1.1 17 i))) (tw_setA (tw_setA u23 17 i (nI 1)) 17 i (nI (A.1.1 17 i))) (i + 1) B hR4 hA4 (by omega) (by omega) (sp_bst_k h23_2 (Or.inr ⟨fun z => c65 ((sp_mst_lt (f := (fun z => sp_entAll (sp_set A.1 17 z 1))) (by omega) hF).mpr (Or.inl z)), decide_eq_false (fun z => c65 ((sp_mst_lt (f := (fun z => sp_entAll (sp_set A.1 17 z 1))) (by omega) hF).mpr (Or.inr z)))⟩))
      exact loop23 _ _ 37 G u 0 99 hR hA (by omega) (by omega) rfl
    · refine hr_aload0 (q := 10) X dX5_balconies_9 rfl ?_
      refine hr_bipush (v := (-5)) (q := 12) X dX5_balconies_10 rfl rfl ?_
      refine hr_callT (q := 15) (hc_V (n := 1) (ci := 5) (As := [.int (-5)]) X dX5_balconies_12 rfl (tk_no X.tr hR hA (b := (-5)) (by decide)) q1523 cv_X5_no ⟨Nat.le_of_ble_eq_true rfl, Nat.le_of_ble_eq_true rfl⟩ rfl (Nat.le_of_ble_eq_true rfl) hR.om rfl rfl) rfl (fun G5 u5 hR5 hA5 => ?_)
      exact hr_iret X hr dX5_balconies_15 (tw_end (by rw [sq_balconies, if_neg c1, if_neg c6]) hR5 hA5)

theorem tk_seers {l : Launch} {D : hg_D} {lo : Nat} (htr : l.stackTraces = false) {G : hg_G} {o : Nat} {am : Nat → Nat} {u : tw_S} (hR : tw_R G o am u) {t : sp_S} (hT : tw_T u t) (hw : sp_wf t) {z : Nat} (hz : z < 36) :
    hg_M l D lo yX5_seers (ws_ yX5_seers cX5_seers 4 ((some FieldType.int))) rm_X5_seers [.ref o, .int (nI z)] G (hg_Pv G (.int (nI (sp_seers t z)))) := by
  refine hg_M.of htr (by decide) [some (.ref o), some (.int (nI z)), none, none] rfl (Nat.le_of_ble_eq_true rfl) ?_
  intro p e s m args below meth c X hr hnm htab
  have X : hg_X p l s m args meth c D lo "TaxOnLooksModel" cX5_seers 4 := X
  have w0 := hw.b0; have w1 := hw.b1; have w2 := hw.b2; have w3 := hw.b3
  have w36 := hw.b36
  refine hr_iconst (v := (nI 0)) (q := 1) X dX5_seers_0 rfl rfl ?_
  refine hr_istore2 (q := 2) X dX5_seers_1 rfl rfl (Nat.le_of_ble_eq_true rfl) ?_
  refine hr_iconst (v := (nI 0)) (q := 3) X dX5_seers_2 rfl rfl ?_
  refine hr_istore3 (q := 4) X dX5_seers_3 rfl rfl (Nat.le_of_ble_eq_true rfl) ?_
  have loop4 : ∀ (kr nr n : Nat) (i S : Nat), (i ≤ t.1 0 0) → (t.1 0 0 + 1 ≤ i + n) → (S = sp_sum (fun x => if (decide (¬ (t.1 9 x = 3 ∨ t.1 9 x = 5)) && sp_sees t (t.1 14 x) z) = true then 1 else 0) i) → hg_W p l e rm_X5_seers s m args below meth c (hg_Q below D lo args s rm_X5_seers G (hg_Pv G (.int (nI (sp_seers t z))))) D lo G.1 4 kr nr G 4 [some (.ref o), some (.int (nI z)), some (.int (nI S)), some (.int (nI i))] [] := by
    intro kr nr n
    induction n with
    | zero =>
      intro i S h4_0 h4_1 h4_2
      omega
    | succ n ih =>
      intro i S h4_0 h4_1 h4_2
      refine hr_iload3 (q := 5) X dX5_seers_4 rfl ?_
      refine hr_aload0 (q := 6) X dX5_seers_5 rfl ?_
      refine hr_getI (v := (nI (t.1 0 0))) (q := 9) X dX5_seers_6 rfl fr_q1382_5 rfl hR.om ((hR.sc 0).trans (hT.sc (by decide))) ?_
      refine hr_icmpN_ge (q := 12) (tgt := 55) X dX5_seers_9 rfl (by decide) (by omega) (by omega) (fun c9 => ?_) (fun c9 => ?_)
      · refine hr_iload2 (q := 56) X dX5_seers_55 rfl ?_
        exact hr_iret X hr dX5_seers_56 ⟨hz_i (congrArg nI (by rw [h4_2, show i = t.1 0 0 by omega]; rfl)), rfl⟩
      · refine hr_aload0 (q := 13) X dX5_seers_12 rfl ?_
        refine hr_getR (v := am 9) (q := 16) X dX5_seers_13 rfl fr_q1391_5 rfl hR.om (hR.f rfl) ?_
        refine hr_iload3 (q := 17) X dX5_seers_16 rfl ?_
        refine hr_ialdN (v := (nI (t.1 9 i))) (q := 18) X dX5_seers_17 rfl (hR.ka (n := 7) rfl rfl rfl) (Or.inl rfl) (by omega) (by decide) ((hR.ar rfl _).trans (hT.p (by decide) (by decide) (by omega))) ?_
        have b17 := hw.b9 (show i < 7 by omega)
        refine hr_iconst (v := (nI 3)) (q := 19) X dX5_seers_18 rfl rfl ?_
        refine hr_icmpN_eq (q := 22) (tgt := 49) X dX5_seers_19 rfl (by decide) (by omega) (by omega) (fun c19 => ?_) (fun c19 => ?_)
        · refine hr_iinc3 (v := (nI (i + 1))) (q := 52) X dX5_seers_49 rfl (nI_add _ _) rfl (Nat.le_of_ble_eq_true rfl) ?_
          refine hr_goto (tgt := 4) X dX5_seers_52 (by decide) ?_
          exact ih (i + 1) S (by omega) (by omega) (sp_sum_f (f := fun x => decide (¬ (t.1 9 x = 3 ∨ t.1 9 x = 5)) && sp_sees t (t.1 14 x) z) h4_2 (by rw [decide_eq_false (by omega), Bool.false_and]))
        · refine hr_aload0 (q := 23) X dX5_seers_22 rfl ?_
          refine hr_getR (v := am 9) (q := 26) X dX5_seers_23 rfl fr_q1391_5 rfl hR.om (hR.f rfl) ?_
          refine hr_iload3 (q := 27) X dX5_seers_26 rfl ?_
          refine hr_ialdN (v := (nI (t.1 9 i))) (q := 28) X dX5_seers_27 rfl (hR.ka (n := 7) rfl rfl rfl) (Or.inl rfl) (by omega) (by decide) ((hR.ar rfl _).trans (hT.p (by decide) (by decide) (by omega))) ?_
          have b27 := hw.b9 (show i < 7 by omega)
          refine hr_iconst (v := (nI 5)) (q := 29) X dX5_seers_28 rfl rfl ?_
          refine hr_icmpN_eq (q := 32) (tgt := 49) X dX5_seers_29 rfl (by decide) (by omega) (by omega) (fun c29 => ?_) (fun c29 => ?_)
          · refine hr_iinc3 (v := (nI (i + 1))) (q := 52) X dX5_seers_49 rfl (nI_add _ _) rfl (Nat.le_of_ble_eq_true rfl) ?_
            refine hr_goto (tgt := 4) X dX5_seers_52 (by decide) ?_
            exact ih (i + 1) S (by omega) (by omega) (sp_sum_f (f := fun x => decide (¬ (t.1 9 x = 3 ∨ t.1 9 x = 5)) && sp_sees t (t.1 14 x) z) h4_2 (by rw [decide_eq_false (by omega), Bool.false_and]))
          · refine hr_aload0 (q := 33) X dX5_seers_32 rfl ?_
            refine hr_aload0 (q := 34) X dX5_seers_33 rfl ?_
            refine hr_getR (v := am 14) (q := 37) X dX5_seers_34 rfl fr_q1396_5 rfl hR.om (hR.f rfl) ?_
            refine hr_iload3 (q := 38) X dX5_seers_37 rfl ?_
            refine hr_ialdN (v := (nI (t.1 14 i))) (q := 39) X dX5_seers_38 rfl (hR.ka (n := 7) rfl rfl rfl) (Or.inl rfl) (by omega) (by decide) ((hR.ar rfl _).trans (hT.p (by decide) (by decide) (by omega))) ?_
            have b38 := hw.b14 (show i < 7 by omega)
            refine hr_iload1 (q := 40) X dX5_seers_39 rfl ?_
            refine hr_callP (q := 43) (hc_V (n := 2) (ci := 5) (As := [.int (nI (t.1 14 i)), .int (nI z)]) X dX5_seers_40 rfl (tk_sees X.tr hR hT hw (a := t.1 14 i) (b := z) (by omega) (by omega)) q1663 cv_X5_sees ⟨Nat.le_of_ble_eq_true rfl, Nat.le_of_ble_eq_true rfl⟩ rfl (Nat.le_of_ble_eq_true rfl) hR.om rfl rfl) rfl ?_
            refine hr_ifB_eq (q := 46) (tgt := 49) X dX5_seers_43 rfl (by decide) (fun c43 => ?_) (fun c43 => ?_)
            · refine hr_iinc3 (v := (nI (i + 1))) (q := 52) X dX5_seers_49 rfl (nI_add _ _) rfl (Nat.le_of_ble_eq_true rfl) ?_
              refine hr_goto (tgt := 4) X dX5_seers_52 (by decide) ?_
              exact ih (i + 1) S (by omega) (by omega) (sp_sum_f (f := fun x => decide (¬ (t.1 9 x = 3 ∨ t.1 9 x = 5)) && sp_sees t (t.1 14 x) z) h4_2 (by rw [c43, Bool.and_false]))
            · refine hr_iinc2 (v := (nI (S + 1))) (q := 49) X dX5_seers_46 rfl (nI_add _ _) rfl (Nat.le_of_ble_eq_true rfl) ?_
              refine hr_iinc3 (v := (nI (i + 1))) (q := 52) X dX5_seers_49 rfl (nI_add _ _) rfl (Nat.le_of_ble_eq_true rfl) ?_
              refine hr_goto (tgt := 4) X dX5_seers_52 (by decide) ?_
              exact ih (i + 1) (S + 1) (by omega) (by omega) (sp_sum_t (f := fun x => decide (¬ (t.1 9 x = 3 ∨ t.1 9 x = 5)) && sp_sees t (t.1 14 x) z) h4_2 (by rw [c43, decide_eq_true (by omega)]; rfl))
  exact loop4 _ _ (t.1 0 0 + 1) 0 0 (by omega) (by omega) rfl

theorem sp_seers_le {t : sp_S} (hw : sp_wf t) (c : Nat) : sp_seers t c ≤ 7 := by
  have h1 := hw.b0
  have h2 := sp_sum_b (f := fun x => decide (¬ (t.1 9 x = 3 ∨ t.1 9 x = 5)) && sp_sees t (t.1 14 x) c) (t.1 0 0)
  exact Nat.le_trans h2 h1

theorem sp_bst_1 (lt : Nat → Nat → Bool) : sp_bst (fun _ => true) lt (0 + 1) = 0 := by rw [sp_bst, if_pos ⟨rfl, Or.inl rfl⟩]

theorem sp_bst_z {lt : Nat → Nat → Bool} {i B : Nat} (hB : B = sp_bst (fun _ => true) lt (i - 1 + 1)) (h : i = 0) : B = 0 := by
  subst h
  rw [hB]
  exact sp_bst_1 lt

theorem sp_bst_y2 {lt : Nat → Nat → Bool} {i B : Nat} (hB : B = sp_bst (fun _ => true) lt (i - 1 + 1)) (h : lt i B = true) (h0 : lt 0 0 = false) : i = sp_bst (fun _ => true) lt (i + 1 - 1 + 1) := by
  by_cases e : i = 0
  · have := sp_bst_z hB e
    subst e this
    rw [h0] at h
    cases h
  · rw [show i - 1 + 1 = i by omega] at hB
    rw [show i + 1 - 1 + 1 = i + 1 by omega]
    exact sp_bst_y hB rfl (Or.inr h)

theorem sp_bst_k2 {lt : Nat → Nat → Bool} {i B : Nat} (hi : i < 99) (hB : B = sp_bst (fun _ => true) lt (i - 1 + 1)) (h : lt i B = false) : B = sp_bst (fun _ => true) lt (i + 1 - 1 + 1) := by
  by_cases e : i = 0
  · subst e
    exact hB
  · have h3 := sp_bst_all (lt := lt) (i := i - 1 + 1) (by omega) (by omega)
    rw [← hB] at h3
    rw [show i - 1 + 1 = i by omega] at hB
    rw [show i + 1 - 1 + 1 = i + 1 by omega]
    exact sp_bst_k hB (Or.inr ⟨by omega, h⟩)

def sp_crowd (t : sp_S) : Nat := sp_bst (fun _ => true) (fun a b => decide (sp_seers t b < sp_seers t a)) 36
def sp_lits (t : sp_S) : Nat := sp_sum (fun c => if sp_lit t c = true then 1 else 0) 36

def sq_crowd (a1 : Int32) (A : ab_S) : Int32 × ab_S :=
  if a1 < 0 then (((sq_no (-5) A).1), (sq_no (-5) A).2)
  else if a1 ≤ (nI 1) then if a1 = 0 then ((nI (sp_crowd A.1)), A)
    else ((nI (sp_lits A.1)), A)
  else (((sq_no (-5) A).1), (sq_no (-5) A).2)
theorem tk_crowd {l : Launch} {D : hg_D} {lo : Nat} (htr : l.stackTraces = false) {G : hg_G} {o : Nat} {am : Nat → Nat} {u : tw_S} {A : ab_S} (hR : tw_R G o am u) (hA : tw_A u A) {a1 : Int32} (hW : ab_wf A) :
    hg_M l D lo yX5_crowd (ws_ yX5_crowd cX5_crowd 5 ((some FieldType.int))) rm_X5_crowd [.ref o, .int a1] G (tw_Po o am (sq_crowd a1 A)) := by
  have hw := hW.w; have w0 := hw.b0; have w1 := hw.b1; have w2 := hw.b2; have w3 := hw.b3; have w36 := hW.b36; have w43 := hW.b43
  refine hg_M.of htr (by decide) [some (.ref o), some (.int a1), none, none, none] rfl (Nat.le_of_ble_eq_true rfl) ?_
  intro p e s m args below meth c X hr hnm htab
  have X : hg_X p l s m args meth c D lo "TaxOnLooksModel" cX5_crowd 5 := X
  refine hr_iload1 (q := 1) X dX5_crowd_0 rfl ?_
  refine hr_if_lt (q := 4) (tgt := 9) X dX5_crowd_1 rfl (by decide) (fun c1 => ?_) (fun c1 => ?_)
  · refine hr_aload0 (q := 10) X dX5_crowd_9 rfl ?_
    refine hr_bipush (v := (-5)) (q := 12) X dX5_crowd_10 rfl rfl ?_
    refine hr_callT (q := 15) (hc_V (n := 1) (ci := 5) (As := [.int (-5)]) X dX5_crowd_12 rfl (tk_no X.tr hR hA (b := (-5)) (by decide)) q1523 cv_X5_no ⟨Nat.le_of_ble_eq_true rfl, Nat.le_of_ble_eq_true rfl⟩ rfl (Nat.le_of_ble_eq_true rfl) hR.om rfl rfl) rfl (fun G1 u1 hR1 hA1 => ?_)
    exact hr_iret X hr dX5_crowd_15 (tw_end (by rw [sq_crowd, if_pos c1]) hR1 hA1)
  · refine hr_iload1 (q := 5) X dX5_crowd_4 rfl ?_
    refine hr_iconst (v := (nI 1)) (q := 6) X dX5_crowd_5 rfl rfl ?_
    refine hr_icmp_le (q := 9) (tgt := 16) X dX5_crowd_6 rfl (by decide) (fun c6 => ?_) (fun c6 => ?_)
    · refine hr_iconst (v := (nI 0)) (q := 17) X dX5_crowd_16 rfl rfl ?_
      refine hr_istore2 (q := 18) X dX5_crowd_17 rfl rfl (Nat.le_of_ble_eq_true rfl) ?_
      refine hr_iconst (v := (nI 0)) (q := 19) X dX5_crowd_18 rfl rfl ?_
      refine hr_istore3 (q := 20) X dX5_crowd_19 rfl rfl (Nat.le_of_ble_eq_true rfl) ?_
      refine hr_iconst (v := (nI 0)) (q := 21) X dX5_crowd_20 rfl rfl ?_
      refine hr_istore4 (q := 23) X dX5_crowd_21 rfl rfl (Nat.le_of_ble_eq_true rfl) ?_
      have loop23 : ∀ (kr nr n : Nat) (i B S : Nat), (i ≤ 36) → (37 ≤ i + n) → (B = sp_bst (fun _ => true) (fun a b => decide (sp_seers A.1 b < sp_seers A.1 a)) (i - 1 + 1)) → (S = sp_sum (fun c => if sp_lit A.1 c = true then 1 else 0) i) → hg_W p l e rm_X5_crowd s m args below meth c (hg_Q below D lo args s rm_X5_crowd G (tw_Po o am (sq_crowd a1 A))) D lo G.1 5 kr nr G 23 [some (.ref o), some (.int a1), some (.int (nI B)), some (.int (nI S)), some (.int (nI i))] [] := by
        intro kr nr n
        induction n with
        | zero =>
          intro i B S h23_0 h23_1 h23_2 h23_3
          omega
        | succ n ih =>
          intro i B S h23_0 h23_1 h23_2 h23_3
          refine hr_iload4 (q := 25) X dX5_crowd_23 rfl ?_
          refine hr_bipush (v := (nI 36)) (q := 27) X dX5_crowd_25 rfl rfl ?_
          refine hr_icmpN_ge (q := 30) (tgt := 65) X dX5_crowd_27 rfl (by decide) (by omega) (by omega) (fun c27 => ?_) (fun c27 => ?_)
          · have z2 : i = 36 := by omega
            subst z2
            have hEq : B = sp_crowd A.1 := h23_2
            have hEs : S = sp_lits A.1 := h23_3
            refine hr_iload1 (q := 66) X dX5_crowd_65 rfl ?_
            refine hr_if_ne (q := 69) (tgt := 73) X dX5_crowd_66 rfl (by decide) (fun c66 => ?_) (fun c66 => ?_)
            · refine hr_iload3 (q := 74) X dX5_crowd_73 rfl ?_
              exact hr_iret X hr dX5_crowd_74 (tw_end (by rw [sq_crowd, if_neg c1, if_pos c6, if_neg c66, ← hEs]) hR hA)
            · refine hr_iload2 (q := 70) X dX5_crowd_69 rfl ?_
              refine hr_goto (tgt := 74) X dX5_crowd_70 (by decide) ?_
              exact hr_iret X hr dX5_crowd_74 (tw_end (by rw [sq_crowd, if_neg c1, if_pos c6, if_pos c66, ← hEq]) hR hA)
          · have hB := sp_bst_all (lt := (fun a b => decide (sp_seers A.1 b < sp_seers A.1 a))) (i := i - 1 + 1) (by omega) (by omega)
            rw [← h23_2] at hB
            refine hr_aload0 (q := 31) X dX5_crowd_30 rfl ?_
            refine hr_iload4 (q := 33) X dX5_crowd_31 rfl ?_
            refine hr_callP (q := 36) (hc_V (n := 1) (ci := 5) (As := [.int (nI i)]) X dX5_crowd_33 rfl (tk_seers X.tr hR hA.t hw (z := i) (by omega)) q1776 cv_X5_seers ⟨Nat.le_of_ble_eq_true rfl, Nat.le_of_ble_eq_true rfl⟩ rfl (Nat.le_of_ble_eq_true rfl) hR.om rfl rfl) rfl ?_
            have := sp_seers_le hw i
            refine hr_aload0 (q := 37) X dX5_crowd_36 rfl ?_
            refine hr_iload2 (q := 38) X dX5_crowd_37 rfl ?_
            refine hr_callP (q := 41) (hc_V (n := 1) (ci := 5) (As := [.int (nI B)]) X dX5_crowd_38 rfl (tk_seers X.tr hR hA.t hw (z := B) (by omega)) q1776 cv_X5_seers ⟨Nat.le_of_ble_eq_true rfl, Nat.le_of_ble_eq_true rfl⟩ rfl (Nat.le_of_ble_eq_true rfl) hR.om rfl rfl) rfl ?_
            have := sp_seers_le hw B
            refine hr_icmpN_le (q := 44) (tgt := 47) X dX5_crowd_41 rfl (by decide) (by omega) (by omega) (fun c41 => ?_) (fun c41 => ?_)
            · refine hr_aload0 (q := 48) X dX5_crowd_47 rfl ?_
              refine hr_iload4 (q := 50) X dX5_crowd_48 rfl ?_
              refine hr_callP (q := 53) (hc_V (n := 1) (ci := 5) (As := [.int (nI i)]) X dX5_crowd_50 rfl (tk_isLit X.tr hR hA.t hw (z := i) (by omega)) q1695 cv_X5_isLit ⟨Nat.le_of_ble_eq_true rfl, Nat.le_of_ble_eq_true rfl⟩ rfl (Nat.le_of_ble_eq_true rfl) hR.om rfl rfl) rfl ?_
              refine hr_ifB_eq (q := 56) (tgt := 59) X dX5_crowd_53 rfl (by decide) (fun c53 => ?_) (fun c53 => ?_)
              · refine hr_iinc4 (v := (nI (i + 1))) (q := 62) X dX5_crowd_59 rfl (nI_add _ _) rfl (Nat.le_of_ble_eq_true rfl) ?_
                refine hr_goto (tgt := 23) X dX5_crowd_62 (by decide) ?_
                exact ih (i + 1) B S (by omega) (by omega) (sp_bst_k2 (by omega) h23_2 (decide_eq_false (by omega))) (sp_sum_f h23_3 c53)
              · refine hr_iinc3 (v := (nI (S + 1))) (q := 59) X dX5_crowd_56 rfl (nI_add _ _) rfl (Nat.le_of_ble_eq_true rfl) ?_
                refine hr_iinc4 (v := (nI (i + 1))) (q := 62) X dX5_crowd_59 rfl (nI_add _ _) rfl (Nat.le_of_ble_eq_true rfl) ?_
                refine hr_goto (tgt := 23) X dX5_crowd_62 (by decide) ?_
                exact ih (i + 1) B (S + 1) (by omega) (by omega) (sp_bst_k2 (by omega) h23_2 (decide_eq_false (by omega))) (sp_sum_t h23_3 c53)
            · refine hr_iload4 (q := 46) X dX5_crowd_44 rfl ?_
              refine hr_istore2 (q := 47) X dX5_crowd_46 rfl rfl (Nat.le_of_ble_eq_true rfl) ?_
              refine hr_aload0 (q := 48) X dX5_crowd_47 rfl ?_
              refine hr_iload4 (q := 50) X dX5_crowd_48 rfl ?_
              refine hr_callP (q := 53) (hc_V (n := 1) (ci := 5) (As := [.int (nI i)]) X dX5_crowd_50 rfl (tk_isLit X.tr hR hA.t hw (z := i) (by omega)) q1695 cv_X5_isLit ⟨Nat.le_of_ble_eq_true rfl, Nat.le_of_ble_eq_true rfl⟩ rfl (Nat.le_of_ble_eq_true rfl) hR.om rfl rfl) rfl ?_
              refine hr_ifB_eq (q := 56) (tgt := 59) X dX5_crowd_53 rfl (by decide) (fun c53 => ?_) (fun c53 => ?_)
              · refine hr_iinc4 (v := (nI (i + 1))) (q := 62) X dX5_crowd_59 rfl (nI_add _ _) rfl (Nat.le_of_ble_eq_true rfl) ?_
                refine hr_goto (tgt := 23) X dX5_crowd_62 (by decide) ?_
                exact ih (i + 1) i S (by omega) (by omega) (sp_bst_y2 h23_2 (decide_eq_true c41) (decide_eq_false (Nat.lt_irrefl _))) (sp_sum_f h23_3 c53)
              · refine hr_iinc3 (v := (nI (S + 1))) (q := 59) X dX5_crowd_56 rfl (nI_add _ _) rfl (Nat.le_of_ble_eq_true rfl) ?_
                refine hr_iinc4 (v := (nI (i + 1))) (q := 62) X dX5_crowd_59 rfl (nI_add _ _) rfl (Nat.le_of_ble_eq_true rfl) ?_
                refine hr_goto (tgt := 23) X dX5_crowd_62 (by decide) ?_
                exact ih (i + 1) i (S + 1) (by omega) (by omega) (sp_bst_y2 h23_2 (decide_eq_true c41) (decide_eq_false (Nat.lt_irrefl _))) (sp_sum_t h23_3 c53)
      exact loop23 _ _ 37 0 0 0 (by omega) (by omega) (sp_bst_1 _).symm rfl
    · refine hr_aload0 (q := 10) X dX5_crowd_9 rfl ?_
      refine hr_bipush (v := (-5)) (q := 12) X dX5_crowd_10 rfl rfl ?_
      refine hr_callT (q := 15) (hc_V (n := 1) (ci := 5) (As := [.int (-5)]) X dX5_crowd_12 rfl (tk_no X.tr hR hA (b := (-5)) (by decide)) q1523 cv_X5_no ⟨Nat.le_of_ble_eq_true rfl, Nat.le_of_ble_eq_true rfl⟩ rfl (Nat.le_of_ble_eq_true rfl) hR.om rfl rfl) rfl (fun G3 u3 hR3 hA3 => ?_)
      exact hr_iret X hr dX5_crowd_15 (tw_end (by rw [sq_crowd, if_neg c1, if_neg c6]) hR3 hA3)

