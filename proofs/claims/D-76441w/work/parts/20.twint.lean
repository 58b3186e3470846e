theorem tk_body {l : Launch} {D : hg_D} {lo : Nat} (htr : l.stackTraces = false) {G : hg_G} {o : Nat} {am : Nat → Nat} {u : tw_S} {A : ab_S} (hR : tw_R G o am u) (hA : tw_A u A) {b r : Nat} (hrn : A.1.2 42 = nI r) (hr2 : r < 100) :
    hg_M l D lo yX5_body (ws_ yX5_body cX5_body 2 (none)) rm_X5_body [.ref o, .int (nI b)] G (tw_Pz o am (sq_body b r A)) := by
  refine hg_M.of htr (by decide) [some (.ref o), some (.int (nI b))] rfl (Nat.le_of_ble_eq_true rfl) ?_
  intro p e s m args below meth c X hr hnm htab
  have X : hg_X p l s m args meth c D lo "TaxOnLooksModel" cX5_body 2 := X
  refine hr_aload0 (q := 1) X dX5_body_0 rfl ?_
  refine hr_getI (v := (nI r)) (q := 4) X dX5_body_1 rfl fr_q1424_5 rfl hR.om ((hR.sc 42).trans (hA.f42.trans hrn)) ?_
  refine hr_bipush (v := (nI 20)) (q := 6) X dX5_body_4 rfl rfl ?_
  refine hr_icmpN_ge (q := 9) (tgt := 19) X dX5_body_6 rfl (by decide) (by omega) (by omega) (fun c6 => ?_) (fun c6 => ?_)
  · refine hr_aload0 (q := 20) X dX5_body_19 rfl ?_
    refine hr_dup (q := 21) X dX5_body_20 rfl rfl ?_
    refine hr_getI (v := (nI r)) (q := 24) X dX5_body_21 rfl fr_q1424_5 rfl hR.om ((hR.sc 42).trans (hA.f42.trans hrn)) ?_
    refine hr_iconst (v := (nI 1)) (q := 25) X dX5_body_24 rfl rfl ?_
    refine hr_iadd (v := (nI (r + 1))) (q := 26) X dX5_body_25 rfl (nI_add _ _) ?_
    refine hr_putI (q := 29) X dX5_body_26 rfl fw_q1424_5 (fun h => nomatch h) rfl rfl rfl hR.om ?_
    have hR1 := hR.setS 42 (nI (r + 1))
    have hA1 := hA.iS (k := 42) (by decide) (nI (r + 1))
    exact hr_vret X hr dX5_body_29 (tw_endz (by rw [sq_body, if_neg (by omega)]) hR1 hA1)
  · refine hr_aload0 (q := 10) X dX5_body_9 rfl ?_
    refine hr_getR (v := am 41) (q := 13) X dX5_body_10 rfl fr_q1423_5 rfl hR.om (hR.f rfl) ?_
    refine hr_aload0 (q := 14) X dX5_body_13 rfl ?_
    refine hr_getI (v := (nI r)) (q := 17) X dX5_body_14 rfl fr_q1424_5 rfl hR.om ((hR.sc 42).trans (hA.f42.trans hrn)) ?_
    refine hr_iload1 (q := 18) X dX5_body_17 rfl ?_
    refine hr_iastN (q := 19) X dX5_body_18 rfl (hR.ka (n := 20) rfl rfl rfl) (by omega) (by decide) ?_
    have hR2 := hR.setA (k := 41) rfl r (nI b)
    have hA2 := hA.rA (k := 41) (j := r) (by decide) (nI b)
    refine hr_aload0 (q := 20) X dX5_body_19 rfl ?_
    refine hr_dup (q := 21) X dX5_body_20 rfl rfl ?_
    refine hr_getI (v := (nI r)) (q := 24) X dX5_body_21 rfl fr_q1424_5 rfl hR2.om ((hR2.sc 42).trans (hA2.f42.trans hrn)) ?_
    refine hr_iconst (v := (nI 1)) (q := 25) X dX5_body_24 rfl rfl ?_
    refine hr_iadd (v := (nI (r + 1))) (q := 26) X dX5_body_25 rfl (nI_add _ _) ?_
    refine hr_putI (q := 29) X dX5_body_26 rfl fw_q1424_5 (fun h => nomatch h) rfl rfl rfl hR2.om ?_
    have hR3 := hR2.setS 42 (nI (r + 1))
    have hA3 := hA2.iS (k := 42) (by decide) (nI (r + 1))
    exact hr_vret X hr dX5_body_29 (tw_endz (by rw [sq_body, if_pos (by omega)]) hR3 hA3)

def sq_looking (k1 : Nat) (a2 : Int32) (r : Nat) (A : ab_S) : Int32 × ab_S :=
  if (A.1.1 9 k1) = 1 then (((a2 + (nI k1)) + (nI (A.1.1 10 k1))), sq_body 10 (r + 1) (sq_body 20 r A))
  else if (A.1.1 9 k1) = 2 then ((((a2 + (nI 1)) + (nI k1)) + (nI (A.1.1 10 k1))), sq_body 10 (r + 1 + 1) (sq_body 20 (r + 1) (sq_body 40 r A)))
  else if (A.1.1 9 k1) = 4 then (((a2 + (nI k1)) - (nI k1)), sq_body 10 (r + 1) (sq_body 51 r A))
  else if (A.1.1 9 k1) = 6 then ((((a2 + (nI k1)) - (nI k1)) * (nI 2)), sq_body 10 (r + 1 + 1) (sq_body 51 (r + 1) (sq_body 70 r A)))
  else ((a2 + (nI k1)), sq_body 10 r A)
theorem tk_looking {l : Launch} {D : hg_D} {lo : Nat} (htr : l.stackTraces = false) {G : hg_G} {o : Nat} {am : Nat → Nat} {u : tw_S} {A : ab_S} (hR : tw_R G o am u) (hA : tw_A u A) {k1 : Nat} {a2 : Int32} {r : Nat} (hW : ab_wf A) (h1 : k1 < A.1.1 0 0) (hrn : A.1.2 42 = nI r) (hr2 : r < 90) :
    hg_M l D lo yX5_looking (ws_ yX5_looking cX5_looking 8 ((some FieldType.int))) rm_X5_looking [.ref o, .int (nI k1), .int a2] G (tw_Po o am (sq_looking k1 a2 r A)) := by
  have hw := hW.w; have w0 := hw.b0; have w1 := hw.b1; have w2 := hw.b2; have w3 := hw.b3; have w36 := hW.b36; have w43 := hW.b43
  refine hg_M.of htr (by decide) [some (.ref o), some (.int (nI k1)), some (.int a2), none, none, none, none, none] rfl (Nat.le_of_ble_eq_true rfl) ?_
  intro p e s m args below meth c X hr hnm htab
  have X : hg_X p l s m args meth c D lo "TaxOnLooksModel" cX5_looking 8 := X
  refine hr_aload0 (q := 1) X dX5_looking_0 rfl ?_
  refine hr_getR (v := am 9) (q := 4) X dX5_looking_1 rfl fr_q1391_5 rfl hR.om (hR.f rfl) ?_
  refine hr_iload1 (q := 5) X dX5_looking_4 rfl ?_
  refine hr_ialdN (v := (nI (A.1.1 9 k1))) (q := 6) X dX5_looking_5 rfl (hR.ka (n := 7) rfl rfl rfl) (Or.inl rfl) (by omega) (by decide) ((hR.ar rfl _).trans (hA.p (by decide) (by decide) (by omega))) ?_
  have b5 := hW.w.b9 (show k1 < 7 by omega)
  refine hr_istore3 (q := 7) X dX5_looking_6 rfl rfl (Nat.le_of_ble_eq_true rfl) ?_
  refine hr_iload2 (q := 8) X dX5_looking_7 rfl ?_
  refine hr_istore4 (q := 10) X dX5_looking_8 rfl rfl (Nat.le_of_ble_eq_true rfl) ?_
  refine hr_iload3 (q := 11) X dX5_looking_10 rfl ?_
  refine hr_iconst (v := (nI 1)) (q := 12) X dX5_looking_11 rfl rfl ?_
  refine hr_icmpN_eq (q := 15) (tgt := 20) X dX5_looking_12 rfl (by decide) (by omega) (by omega) (fun c12 => ?_) (fun c12 => ?_)
  · refine hr_iconst (v := (nI 1)) (q := 21) X dX5_looking_20 rfl rfl ?_
    refine hr_goto (tgt := 25) X dX5_looking_21 (by decide) ?_
    refine hr_istore5 (q := 27) X dX5_looking_25 rfl rfl (Nat.le_of_ble_eq_true rfl) ?_
    refine hr_iload3 (q := 28) X dX5_looking_27 rfl ?_
    refine hr_iconst (v := (nI 4)) (q := 29) X dX5_looking_28 rfl rfl ?_
    refine hr_icmpN_eq (q := 32) (tgt := 38) X dX5_looking_29 rfl (by decide) (by omega) (by omega) (fun c29 => ?_) (fun c29 => ?_)
    · exact False.elim (by omega)
    · refine hr_iload3 (q := 33) X dX5_looking_32 rfl ?_
      refine hr_bipush (v := (nI 6)) (q := 35) X dX5_looking_33 rfl rfl ?_
      refine hr_icmpN_ne (q := 38) (tgt := 42) X dX5_looking_35 rfl (by decide) (by omega) (by omega) (fun c35 => ?_) (fun c35 => ?_)
      · refine hr_iconst (v := (nI 0)) (q := 43) X dX5_looking_42 rfl rfl ?_
        refine hr_istore6 (q := 45) X dX5_looking_43 rfl rfl (Nat.le_of_ble_eq_true rfl) ?_
        refine hr_iload3 (q := 46) X dX5_looking_45 rfl ?_
        refine hr_bipush (v := (nI 6)) (q := 48) X dX5_looking_46 rfl rfl ?_
        refine hr_icmpN_ne (q := 51) (tgt := 57) X dX5_looking_48 rfl (by decide) (by omega) (by omega) (fun c48 => ?_) (fun c48 => ?_)
        · refine hr_iload3 (q := 58) X dX5_looking_57 rfl ?_
          refine hr_iconst (v := (nI 2)) (q := 59) X dX5_looking_58 rfl rfl ?_
          refine hr_icmpN_ne (q := 62) (tgt := 73) X dX5_looking_59 rfl (by decide) (by omega) (by omega) (fun c59 => ?_) (fun c59 => ?_)
          · refine hr_iload5 (q := 75) X dX5_looking_73 rfl ?_
            refine hr_if_eq (q := 78) (tgt := 84) X dX5_looking_75 rfl (by decide) (fun z => absurd z (by decide)) (fun _ => ?_)
            refine hr_aload0 (q := 79) X dX5_looking_78 rfl ?_
            refine hr_bipush (v := (nI 20)) (q := 81) X dX5_looking_79 rfl rfl ?_
            refine hr_callZ (q := 84) (hc_V (n := 1) (ci := 5) (As := [.int (nI 20)]) X dX5_looking_81 rfl (tk_body X.tr hR hA (b := 20) (r := r) hrn (by omega)) q1829 cv_X5_body ⟨Nat.le_of_ble_eq_true rfl, Nat.le_of_ble_eq_true rfl⟩ rfl (Nat.le_of_ble_eq_true rfl) hR.om rfl rfl) rfl (fun G1 u1 hR1 hA1 => ?_)
            refine hr_iload6 (q := 86) X dX5_looking_84 rfl ?_
            refine hr_if_eq (q := 89) (tgt := 95) X dX5_looking_86 rfl (by decide) (fun _ => ?_) (fun z => absurd z (by decide))
            refine hr_aload0 (q := 96) X dX5_looking_95 rfl ?_
            refine hr_bipush (v := (nI 10)) (q := 98) X dX5_looking_96 rfl rfl ?_
            refine hr_callZ (q := 101) (hc_V (n := 1) (ci := 5) (As := [.int (nI 10)]) X dX5_looking_98 rfl (tk_body X.tr hR1 hA1 (b := 10) (r := r + 1) rfl (by omega)) q1829 cv_X5_body ⟨Nat.le_of_ble_eq_true rfl, Nat.le_of_ble_eq_true rfl⟩ rfl (Nat.le_of_ble_eq_true rfl) hR1.om rfl rfl) rfl (fun G2 u2 hR2 hA2 => ?_)
            refine hr_iload4 (q := 103) X dX5_looking_101 rfl ?_
            refine hr_iload1 (q := 104) X dX5_looking_103 rfl ?_
            refine hr_iadd (v := (a2 + (nI k1))) (q := 105) X dX5_looking_104 rfl rfl ?_
            refine hr_istore7 (q := 107) X dX5_looking_105 rfl rfl (Nat.le_of_ble_eq_true rfl) ?_
            refine hr_iload5 (q := 109) X dX5_looking_107 rfl ?_
            refine hr_if_eq (q := 112) (tgt := 123) X dX5_looking_109 rfl (by decide) (fun z => absurd z (by decide)) (fun _ => ?_)
            refine hr_iload7 (q := 114) X dX5_looking_112 rfl ?_
            refine hr_aload0 (q := 115) X dX5_looking_114 rfl ?_
            refine hr_getR (v := am 10) (q := 118) X dX5_looking_115 rfl fr_q1392_5 rfl hR2.om (hR2.f rfl) ?_
            refine hr_iload1 (q := 119) X dX5_looking_118 rfl ?_
            refine hr_ialdN (v := (nI (A.1.1 10 k1))) (q := 120) X dX5_looking_119 rfl (hR2.ka (n := 7) rfl rfl rfl) (Or.inl rfl) (by omega) (by decide) ((hR2.ar rfl _).trans ((hA2.p (by decide) (by decide) (by omega)).trans (congrArg nI (by simp only [sq_body_t])))) ?_
            refine hr_iadd (v := ((a2 + (nI k1)) + (nI (A.1.1 10 k1)))) (q := 121) X dX5_looking_120 rfl rfl ?_
            refine hr_istore7 (q := 123) X dX5_looking_121 rfl rfl (Nat.le_of_ble_eq_true rfl) ?_
            refine hr_iload6 (q := 125) X dX5_looking_123 rfl ?_
            refine hr_if_eq (q := 128) (tgt := 134) X dX5_looking_125 rfl (by decide) (fun _ => ?_) (fun z => absurd z (by decide))
            refine hr_iload3 (q := 135) X dX5_looking_134 rfl ?_
            refine hr_bipush (v := (nI 6)) (q := 137) X dX5_looking_135 rfl rfl ?_
            refine hr_icmpN_ne (q := 140) (tgt := 147) X dX5_looking_137 rfl (by decide) (by omega) (by omega) (fun c137 => ?_) (fun c137 => ?_)
            · refine hr_iload7 (q := 149) X dX5_looking_147 rfl ?_
              exact hr_iret X hr dX5_looking_149 (tw_end (by rw [sq_looking, if_pos (show (A.1.1 9 k1) = 1 by omega)]) hR2 hA2)
            · exact False.elim (by omega)
          · exact False.elim (by omega)
        · exact False.elim (by omega)
      · exact False.elim (by omega)
  · refine hr_iload3 (q := 16) X dX5_looking_15 rfl ?_
    refine hr_iconst (v := (nI 2)) (q := 17) X dX5_looking_16 rfl rfl ?_
    refine hr_icmpN_ne (q := 20) (tgt := 24) X dX5_looking_17 rfl (by decide) (by omega) (by omega) (fun c17 => ?_) (fun c17 => ?_)
    · refine hr_iconst (v := (nI 0)) (q := 25) X dX5_looking_24 rfl rfl ?_
      refine hr_istore5 (q := 27) X dX5_looking_25 rfl rfl (Nat.le_of_ble_eq_true rfl) ?_
      refine hr_iload3 (q := 28) X dX5_looking_27 rfl ?_
      refine hr_iconst (v := (nI 4)) (q := 29) X dX5_looking_28 rfl rfl ?_
      refine hr_icmpN_eq (q := 32) (tgt := 38) X dX5_looking_29 rfl (by decide) (by omega) (by omega) (fun c29 => ?_) (fun c29 => ?_)
      · refine hr_iconst (v := (nI 1)) (q := 39) X dX5_looking_38 rfl rfl ?_
        refine hr_goto (tgt := 43) X dX5_looking_39 (by decide) ?_
        refine hr_istore6 (q := 45) X dX5_looking_43 rfl rfl (Nat.le_of_ble_eq_true rfl) ?_
        refine hr_iload3 (q := 46) X dX5_looking_45 rfl ?_
        refine hr_bipush (v := (nI 6)) (q := 48) X dX5_looking_46 rfl rfl ?_
        refine hr_icmpN_ne (q := 51) (tgt := 57) X dX5_looking_48 rfl (by decide) (by omega) (by omega) (fun c48 => ?_) (fun c48 => ?_)
        · refine hr_iload3 (q := 58) X dX5_looking_57 rfl ?_
          refine hr_iconst (v := (nI 2)) (q := 59) X dX5_looking_58 rfl rfl ?_
          refine hr_icmpN_ne (q := 62) (tgt := 73) X dX5_looking_59 rfl (by decide) (by omega) (by omega) (fun c59 => ?_) (fun c59 => ?_)
          · refine hr_iload5 (q := 75) X dX5_looking_73 rfl ?_
            refine hr_if_eq (q := 78) (tgt := 84) X dX5_looking_75 rfl (by decide) (fun _ => ?_) (fun z => absurd z (by decide))
            refine hr_iload6 (q := 86) X dX5_looking_84 rfl ?_
            refine hr_if_eq (q := 89) (tgt := 95) X dX5_looking_86 rfl (by decide) (fun z => absurd z (by decide)) (fun _ => ?_)
            refine hr_aload0 (q := 90) X dX5_looking_89 rfl ?_
            refine hr_bipush (v := (nI 51)) (q := 92) X dX5_looking_90 rfl rfl ?_
            refine hr_callZ (q := 95) (hc_V (n := 1) (ci := 5) (As := [.int (nI 51)]) X dX5_looking_92 rfl (tk_body X.tr hR hA (b := 51) (r := r) hrn (by omega)) q1829 cv_X5_body ⟨Nat.le_of_ble_eq_true rfl, Nat.le_of_ble_eq_true rfl⟩ rfl (Nat.le_of_ble_eq_true rfl) hR.om rfl rfl) rfl (fun G3 u3 hR3 hA3 => ?_)
            refine hr_aload0 (q := 96) X dX5_looking_95 rfl ?_
            refine hr_bipush (v := (nI 10)) (q := 98) X dX5_looking_96 rfl rfl ?_
            refine hr_callZ (q := 101) (hc_V (n := 1) (ci := 5) (As := [.int (nI 10)]) X dX5_looking_98 rfl (tk_body X.tr hR3 hA3 (b := 10) (r := r + 1) rfl (by omega)) q1829 cv_X5_body ⟨Nat.le_of_ble_eq_true rfl, Nat.le_of_ble_eq_true rfl⟩ rfl (Nat.le_of_ble_eq_true rfl) hR3.om rfl rfl) rfl (fun G4 u4 hR4 hA4 => ?_)
            refine hr_iload4 (q := 103) X dX5_looking_101 rfl ?_
            refine hr_iload1 (q := 104) X dX5_looking_103 rfl ?_
            refine hr_iadd (v := (a2 + (nI k1))) (q := 105) X dX5_looking_104 rfl rfl ?_
            refine hr_istore7 (q := 107) X dX5_looking_105 rfl rfl (Nat.le_of_ble_eq_true rfl) ?_
            refine hr_iload5 (q := 109) X dX5_looking_107 rfl ?_
            refine hr_if_eq (q := 112) (tgt := 123) X dX5_looking_109 rfl (by decide) (fun _ => ?_) (fun z => absurd z (by decide))
            refine hr_iload6 (q := 125) X dX5_looking_123 rfl ?_
            refine hr_if_eq (q := 128) (tgt := 134) X dX5_looking_125 rfl (by decide) (fun z => absurd z (by decide)) (fun _ => ?_)
            refine hr_iload7 (q := 130) X dX5_looking_128 rfl ?_
            refine hr_iload1 (q := 131) X dX5_looking_130 rfl ?_
            refine hr_isub (v := ((a2 + (nI k1)) - (nI k1))) (q := 132) X dX5_looking_131 rfl rfl ?_
            refine hr_istore7 (q := 134) X dX5_looking_132 rfl rfl (Nat.le_of_ble_eq_true rfl) ?_
            refine hr_iload3 (q := 135) X dX5_looking_134 rfl ?_
            refine hr_bipush (v := (nI 6)) (q := 137) X dX5_looking_135 rfl rfl ?_
            refine hr_icmpN_ne (q := 140) (tgt := 147) X dX5_looking_137 rfl (by decide) (by omega) (by omega) (fun c137 => ?_) (fun c137 => ?_)
            · refine hr_iload7 (q := 149) X dX5_looking_147 rfl ?_
              exact hr_iret X hr dX5_looking_149 (tw_end (by rw [sq_looking, if_neg (show ¬ ((A.1.1 9 k1) = 1) by omega), if_neg (show ¬ ((A.1.1 9 k1) = 2) by omega), if_pos (show (A.1.1 9 k1) = 4 by omega)]) hR4 hA4)
            · exact False.elim (by omega)
          · exact False.elim (by omega)
        · exact False.elim (by omega)
      · refine hr_iload3 (q := 33) X dX5_looking_32 rfl ?_
        refine hr_bipush (v := (nI 6)) (q := 35) X dX5_looking_33 rfl rfl ?_
        refine hr_icmpN_ne (q := 38) (tgt := 42) X dX5_looking_35 rfl (by decide) (by omega) (by omega) (fun c35 => ?_) (fun c35 => ?_)
        · refine hr_iconst (v := (nI 0)) (q := 43) X dX5_looking_42 rfl rfl ?_
          refine hr_istore6 (q := 45) X dX5_looking_43 rfl rfl (Nat.le_of_ble_eq_true rfl) ?_
          refine hr_iload3 (q := 46) X dX5_looking_45 rfl ?_
          refine hr_bipush (v := (nI 6)) (q := 48) X dX5_looking_46 rfl rfl ?_
          refine hr_icmpN_ne (q := 51) (tgt := 57) X dX5_looking_48 rfl (by decide) (by omega) (by omega) (fun c48 => ?_) (fun c48 => ?_)
          · refine hr_iload3 (q := 58) X dX5_looking_57 rfl ?_
            refine hr_iconst (v := (nI 2)) (q := 59) X dX5_looking_58 rfl rfl ?_
            refine hr_icmpN_ne (q := 62) (tgt := 73) X dX5_looking_59 rfl (by decide) (by omega) (by omega) (fun c59 => ?_) (fun c59 => ?_)
            · refine hr_iload5 (q := 75) X dX5_looking_73 rfl ?_
              refine hr_if_eq (q := 78) (tgt := 84) X dX5_looking_75 rfl (by decide) (fun _ => ?_) (fun z => absurd z (by decide))
              refine hr_iload6 (q := 86) X dX5_looking_84 rfl ?_
              refine hr_if_eq (q := 89) (tgt := 95) X dX5_looking_86 rfl (by decide) (fun _ => ?_) (fun z => absurd z (by decide))
              refine hr_aload0 (q := 96) X dX5_looking_95 rfl ?_
              refine hr_bipush (v := (nI 10)) (q := 98) X dX5_looking_96 rfl rfl ?_
              refine hr_callZ (q := 101) (hc_V (n := 1) (ci := 5) (As := [.int (nI 10)]) X dX5_looking_98 rfl (tk_body X.tr hR hA (b := 10) (r := r) hrn (by omega)) q1829 cv_X5_body ⟨Nat.le_of_ble_eq_true rfl, Nat.le_of_ble_eq_true rfl⟩ rfl (Nat.le_of_ble_eq_true rfl) hR.om rfl rfl) rfl (fun G5 u5 hR5 hA5 => ?_)
              refine hr_iload4 (q := 103) X dX5_looking_101 rfl ?_
              refine hr_iload1 (q := 104) X dX5_looking_103 rfl ?_
              refine hr_iadd (v := (a2 + (nI k1))) (q := 105) X dX5_looking_104 rfl rfl ?_
              refine hr_istore7 (q := 107) X dX5_looking_105 rfl rfl (Nat.le_of_ble_eq_true rfl) ?_
              refine hr_iload5 (q := 109) X dX5_looking_107 rfl ?_
              refine hr_if_eq (q := 112) (tgt := 123) X dX5_looking_109 rfl (by decide) (fun _ => ?_) (fun z => absurd z (by decide))
              refine hr_iload6 (q := 125) X dX5_looking_123 rfl ?_
              refine hr_if_eq (q := 128) (tgt := 134) X dX5_looking_125 rfl (by decide) (fun _ => ?_) (fun z => absurd z (by decide))
              refine hr_iload3 (q := 135) X dX5_looking_134 rfl ?_
              refine hr_bipush (v := (nI 6)) (q := 137) X dX5_looking_135 rfl rfl ?_
              refine hr_icmpN_ne (q := 140) (tgt := 147) X dX5_looking_137 rfl (by decide) (by omega) (by omega) (fun c137 => ?_) (fun c137 => ?_)
              · refine hr_iload7 (q := 149) X dX5_looking_147 rfl ?_
                exact hr_iret X hr dX5_looking_149 (tw_end (by rw [sq_looking, if_neg (show ¬ ((A.1.1 9 k1) = 1) by omega), if_neg (show ¬ ((A.1.1 9 k1) = 2) by omega), if_neg (show ¬ ((A.1.1 9 k1) = 4) by omega), if_neg (show ¬ ((A.1.1 9 k1) = 6) by omega)]) hR5 hA5)
              · exact False.elim (by omega)
            · exact False.elim (by omega)
          · exact False.elim (by omega)
        · refine hr_iconst (v := (nI 1)) (q := 39) X dX5_looking_38 rfl rfl ?_
          refine hr_goto (tgt := 43) X dX5_looking_39 (by decide) ?_
          refine hr_istore6 (q := 45) X dX5_looking_43 rfl rfl (Nat.le_of_ble_eq_true rfl) ?_
          refine hr_iload3 (q := 46) X dX5_looking_45 rfl ?_
          refine hr_bipush (v := (nI 6)) (q := 48) X dX5_looking_46 rfl rfl ?_
          refine hr_icmpN_ne (q := 51) (tgt := 57) X dX5_looking_48 rfl (by decide) (by omega) (by omega) (fun c48 => ?_) (fun c48 => ?_)
          · exact False.elim (by omega)
          · refine hr_aload0 (q := 52) X dX5_looking_51 rfl ?_
            refine hr_bipush (v := (nI 70)) (q := 54) X dX5_looking_52 rfl rfl ?_
            refine hr_callZ (q := 57) (hc_V (n := 1) (ci := 5) (As := [.int (nI 70)]) X dX5_looking_54 rfl (tk_body X.tr hR hA (b := 70) (r := r) hrn (by omega)) q1829 cv_X5_body ⟨Nat.le_of_ble_eq_true rfl, Nat.le_of_ble_eq_true rfl⟩ rfl (Nat.le_of_ble_eq_true rfl) hR.om rfl rfl) rfl (fun G6 u6 hR6 hA6 => ?_)
            refine hr_iload3 (q := 58) X dX5_looking_57 rfl ?_
            refine hr_iconst (v := (nI 2)) (q := 59) X dX5_looking_58 rfl rfl ?_
            refine hr_icmpN_ne (q := 62) (tgt := 73) X dX5_looking_59 rfl (by decide) (by omega) (by omega) (fun c59 => ?_) (fun c59 => ?_)
            · refine hr_iload5 (q := 75) X dX5_looking_73 rfl ?_
              refine hr_if_eq (q := 78) (tgt := 84) X dX5_looking_75 rfl (by decide) (fun _ => ?_) (fun z => absurd z (by decide))
              refine hr_iload6 (q := 86) X dX5_looking_84 rfl ?_
              refine hr_if_eq (q := 89) (tgt := 95) X dX5_looking_86 rfl (by decide) (fun z => absurd z (by decide)) (fun _ => ?_)
              refine hr_aload0 (q := 90) X dX5_looking_89 rfl ?_
              refine hr_bipush (v := (nI 51)) (q := 92) X dX5_looking_90 rfl rfl ?_
              refine hr_callZ (q := 95) (hc_V (n := 1) (ci := 5) (As := [.int (nI 51)]) X dX5_looking_92 rfl (tk_body X.tr hR6 hA6 (b := 51) (r := r + 1) rfl (by omega)) q1829 cv_X5_body ⟨Nat.le_of_ble_eq_true rfl, Nat.le_of_ble_eq_true rfl⟩ rfl (Nat.le_of_ble_eq_true rfl) hR6.om rfl rfl) rfl (fun G7 u7 hR7 hA7 => ?_)
              refine hr_aload0 (q := 96) X dX5_looking_95 rfl ?_
              refine hr_bipush (v := (nI 10)) (q := 98) X dX5_looking_96 rfl rfl ?_
              refine hr_callZ (q := 101) (hc_V (n := 1) (ci := 5) (As := [.int (nI 10)]) X dX5_looking_98 rfl (tk_body X.tr hR7 hA7 (b := 10) (r := r + 1 + 1) rfl (by omega)) q1829 cv_X5_body ⟨Nat.le_of_ble_eq_true rfl, Nat.le_of_ble_eq_true rfl⟩ rfl (Nat.le_of_ble_eq_true rfl) hR7.om rfl rfl) rfl (fun G8 u8 hR8 hA8 => ?_)
              refine hr_iload4 (q := 103) X dX5_looking_101 rfl ?_
              refine hr_iload1 (q := 104) X dX5_looking_103 rfl ?_
              refine hr_iadd (v := (a2 + (nI k1))) (q := 105) X dX5_looking_104 rfl rfl ?_
              refine hr_istore7 (q := 107) X dX5_looking_105 rfl rfl (Nat.le_of_ble_eq_true rfl) ?_
              refine hr_iload5 (q := 109) X dX5_looking_107 rfl ?_
              refine hr_if_eq (q := 112) (tgt := 123) X dX5_looking_109 rfl (by decide) (fun _ => ?_) (fun z => absurd z (by decide))
              refine hr_iload6 (q := 125) X dX5_looking_123 rfl ?_
              refine hr_if_eq (q := 128) (tgt := 134) X dX5_looking_125 rfl (by decide) (fun z => absurd z (by decide)) (fun _ => ?_)
              refine hr_iload7 (q := 130) X dX5_looking_128 rfl ?_
              refine hr_iload1 (q := 131) X dX5_looking_130 rfl ?_
              refine hr_isub (v := ((a2 + (nI k1)) - (nI k1))) (q := 132) X dX5_looking_131 rfl rfl ?_
              refine hr_istore7 (q := 134) X dX5_looking_132 rfl rfl (Nat.le_of_ble_eq_true rfl) ?_
              refine hr_iload3 (q := 135) X dX5_looking_134 rfl ?_
              refine hr_bipush (v := (nI 6)) (q := 137) X dX5_looking_135 rfl rfl ?_
              refine hr_icmpN_ne (q := 140) (tgt := 147) X dX5_looking_137 rfl (by decide) (by omega) (by omega) (fun c137 => ?_) (fun c137 => ?_)
              · exact False.elim (by omega)
              · refine hr_iload7 (q := 142) X dX5_looking_140 rfl ?_
                refine hr_iconst (v := (nI 2)) (q := 143) X dX5_looking_142 rfl rfl ?_
                refine hr_imul (v := (((a2 + (nI k1)) - (nI k1)) * (nI 2))) (q := 144) X dX5_looking_143 rfl rfl ?_
                refine hr_goto (tgt := 149) X dX5_looking_144 (by decide) ?_
                exact hr_iret X hr dX5_looking_149 (tw_end (by rw [sq_looking, if_neg (show ¬ ((A.1.1 9 k1) = 1) by omega), if_neg (show ¬ ((A.1.1 9 k1) = 2) by omega), if_neg (show ¬ ((A.1.1 9 k1) = 4) by omega), if_pos (show (A.1.1 9 k1) = 6 by omega)]) hR8 hA8)
            · exact False.elim (by omega)
    · refine hr_iconst (v := (nI 1)) (q := 21) X dX5_looking_20 rfl rfl ?_
      refine hr_goto (tgt := 25) X dX5_looking_21 (by decide) ?_
      refine hr_istore5 (q := 27) X dX5_looking_25 rfl rfl (Nat.le_of_ble_eq_true rfl) ?_
      refine hr_iload3 (q := 28) X dX5_looking_27 rfl ?_
      refine hr_iconst (v := (nI 4)) (q := 29) X dX5_looking_28 rfl rfl ?_
      refine hr_icmpN_eq (q := 32) (tgt := 38) X dX5_looking_29 rfl (by decide) (by omega) (by omega) (fun c29 => ?_) (fun c29 => ?_)
      · exact False.elim (by omega)
      · refine hr_iload3 (q := 33) X dX5_looking_32 rfl ?_
        refine hr_bipush (v := (nI 6)) (q := 35) X dX5_looking_33 rfl rfl ?_
        refine hr_icmpN_ne (q := 38) (tgt := 42) X dX5_looking_35 rfl (by decide) (by omega) (by omega) (fun c35 => ?_) (fun c35 => ?_)
        · refine hr_iconst (v := (nI 0)) (q := 43) X dX5_looking_42 rfl rfl ?_
          refine hr_istore6 (q := 45) X dX5_looking_43 rfl rfl (Nat.le_of_ble_eq_true rfl) ?_
          refine hr_iload3 (q := 46) X dX5_looking_45 rfl ?_
          refine hr_bipush (v := (nI 6)) (q := 48) X dX5_looking_46 rfl rfl ?_
          refine hr_icmpN_ne (q := 51) (tgt := 57) X dX5_looking_48 rfl (by decide) (by omega) (by omega) (fun c48 => ?_) (fun c48 => ?_)
          · refine hr_iload3 (q := 58) X dX5_looking_57 rfl ?_
            refine hr_iconst (v := (nI 2)) (q := 59) X dX5_looking_58 rfl rfl ?_
            refine hr_icmpN_ne (q := 62) (tgt := 73) X dX5_looking_59 rfl (by decide) (by omega) (by omega) (fun c59 => ?_) (fun c59 => ?_)
            · exact False.elim (by omega)
            · refine hr_aload0 (q := 63) X dX5_looking_62 rfl ?_
              refine hr_bipush (v := (nI 40)) (q := 65) X dX5_looking_63 rfl rfl ?_
              refine hr_callZ (q := 68) (hc_V (n := 1) (ci := 5) (As := [.int (nI 40)]) X dX5_looking_65 rfl (tk_body X.tr hR hA (b := 40) (r := r) hrn (by omega)) q1829 cv_X5_body ⟨Nat.le_of_ble_eq_true rfl, Nat.le_of_ble_eq_true rfl⟩ rfl (Nat.le_of_ble_eq_true rfl) hR.om rfl rfl) rfl (fun G9 u9 hR9 hA9 => ?_)
              refine hr_iload2 (q := 69) X dX5_looking_68 rfl ?_
              refine hr_iconst (v := (nI 1)) (q := 70) X dX5_looking_69 rfl rfl ?_
              refine hr_iadd (v := (a2 + (nI 1))) (q := 71) X dX5_looking_70 rfl rfl ?_
              refine hr_istore4 (q := 73) X dX5_looking_71 rfl rfl (Nat.le_of_ble_eq_true rfl) ?_
              refine hr_iload5 (q := 75) X dX5_looking_73 rfl ?_
              refine hr_if_eq (q := 78) (tgt := 84) X dX5_looking_75 rfl (by decide) (fun z => absurd z (by decide)) (fun _ => ?_)
              refine hr_aload0 (q := 79) X dX5_looking_78 rfl ?_
              refine hr_bipush (v := (nI 20)) (q := 81) X dX5_looking_79 rfl rfl ?_
              refine hr_callZ (q := 84) (hc_V (n := 1) (ci := 5) (As := [.int (nI 20)]) X dX5_looking_81 rfl (tk_body X.tr hR9 hA9 (b := 20) (r := r + 1) rfl (by omega)) q1829 cv_X5_body ⟨Nat.le_of_ble_eq_true rfl, Nat.le_of_ble_eq_true rfl⟩ rfl (Nat.le_of_ble_eq_true rfl) hR9.om rfl rfl) rfl (fun G10 u10 hR10 hA10 => ?_)
              refine hr_iload6 (q := 86) X dX5_looking_84 rfl ?_
              refine hr_if_eq (q := 89) (tgt := 95) X dX5_looking_86 rfl (by decide) (fun _ => ?_) (fun z => absurd z (by decide))
              refine hr_aload0 (q := 96) X dX5_looking_95 rfl ?_
              refine hr_bipush (v := (nI 10)) (q := 98) X dX5_looking_96 rfl rfl ?_
              refine hr_callZ (q := 101) (hc_V (n := 1) (ci := 5) (As := [.int (nI 10)]) X dX5_looking_98 rfl (tk_body X.tr hR10 hA10 (b := 10) (r := r + 1 + 1) rfl (by omega)) q1829 cv_X5_body ⟨Nat.le_of_ble_eq_true rfl, Nat.le_of_ble_eq_true rfl⟩ rfl (Nat.le_of_ble_eq_true rfl) hR10.om rfl rfl) rfl (fun G11 u11 hR11 hA11 => ?_)
              refine hr_iload4 (q := 103) X dX5_looking_101 rfl ?_
              refine hr_iload1 (q := 104) X dX5_looking_103 rfl ?_
              refine hr_iadd (v := ((a2 + (nI 1)) + (nI k1))) (q := 105) X dX5_looking_104 rfl rfl ?_
              refine hr_istore7 (q := 107) X dX5_looking_105 rfl rfl (Nat.le_of_ble_eq_true rfl) ?_
              refine hr_iload5 (q := 109) X dX5_looking_107 rfl ?_
              refine hr_if_eq (q := 112) (tgt := 123) X dX5_looking_109 rfl (by decide) (fun z => absurd z (by decide)) (fun _ => ?_)
              refine hr_iload7 (q := 114) X dX5_looking_112 rfl ?_
              refine hr_aload0 (q := 115) X dX5_looking_114 rfl ?_
              refine hr_getR (v := am 10) (q := 118) X dX5_looking_115 rfl fr_q1392_5 rfl hR11.om (hR11.f rfl) ?_
              refine hr_iload1 (q := 119) X dX5_looking_118 rfl ?_
              refine hr_ialdN (v := (nI (A.1.1 10 k1))) (q := 120) X dX5_looking_119 rfl (hR11.ka (n := 7) rfl rfl rfl) (Or.inl rfl) (by omega) (by decide) ((hR11.ar rfl _).trans ((hA11.p (by decide) (by decide) (by omega)).trans (congrArg nI (by simp only [sq_body_t])))) ?_
              refine hr_iadd (v := (((a2 + (nI 1)) + (nI k1)) + (nI (A.1.1 10 k1)))) (q := 121) X dX5_looking_120 rfl rfl ?_
              refine hr_istore7 (q := 123) X dX5_looking_121 rfl rfl (Nat.le_of_ble_eq_true rfl) ?_
              refine hr_iload6 (q := 125) X dX5_looking_123 rfl ?_
              refine hr_if_eq (q := 128) (tgt := 134) X dX5_looking_125 rfl (by decide) (fun _ => ?_) (fun z => absurd z (by decide))
              refine hr_iload3 (q := 135) X dX5_looking_134 rfl ?_
              refine hr_bipush (v := (nI 6)) (q := 137) X dX5_looking_135 rfl rfl ?_
              refine hr_icmpN_ne (q := 140) (tgt := 147) X dX5_looking_137 rfl (by decide) (by omega) (by omega) (fun c137 => ?_) (fun c137 => ?_)
              · refine hr_iload7 (q := 149) X dX5_looking_147 rfl ?_
                exact hr_iret X hr dX5_looking_149 (tw_end (by rw [sq_looking, if_neg (show ¬ ((A.1.1 9 k1) = 1) by omega), if_pos (show (A.1.1 9 k1) = 2 by omega)]) hR11 hA11)
              · exact False.elim (by omega)
          · exact False.elim (by omega)
        · exact False.elim (by omega)

theorem sq_looking_t (k1 : Nat) (a2 : Int32) (r : Nat) (A : ab_S) : (sq_looking k1 a2 r A).2.1.1 = A.1.1 ∧ (sq_looking k1 a2 r A).2.2.1 = A.2.1 := by
  unfold sq_looking
  (repeat' split) <;> exact ⟨by simp only [sq_body_t], by simp only [sq_body_k]⟩
theorem sq_looking_r (k1 : Nat) (a2 : Int32) (r : Nat) (A : ab_S) : ∃ j, j ≤ 4 ∧ (sq_looking k1 a2 r A).2.1.2 42 = nI (r + j) := by
  unfold sq_looking
  (repeat' split) <;> first | exact ⟨1, by decide, rfl⟩ | exact ⟨2, by decide, rfl⟩ | exact ⟨3, by decide, rfl⟩ | exact ⟨4, by decide, rfl⟩
theorem sq_looking_n {k1 : Nat} {a2 : Int32} {r : Nat} {A : ab_S} (hr : r < 1000) : (sq_looking k1 a2 r A).2.1.2 42 = nI (iN ((sq_looking k1 a2 r A).2.1.2 42)) ∧ iN ((sq_looking k1 a2 r A).2.1.2 42) ≤ r + 4 := by
  obtain ⟨j, hj, e⟩ := sq_looking_r k1 a2 r A
  rw [e, iN_nI (by omega)]
  exact ⟨rfl, by omega⟩

def sq_walking (k1 : Nat) (a2 : Int32) (r : Nat) (A : ab_S) : Int32 × ab_S :=
  if (A.1.1 9 k1) = 6 then ((((sq_looking k1 (a2 - (nI (A.1.1 10 k1))) (r + 1 + 1) (sq_body 11 (r + 1) (sq_body 71 r A))).1) * (nI 2)), (sq_looking k1 (a2 - (nI (A.1.1 10 k1))) (r + 1 + 1) (sq_body 11 (r + 1) (sq_body 71 r A))).2)
  else if (A.1.1 9 k1) = 3 then (((((sq_looking k1 a2 (r + 1 + 1) (sq_body 11 (r + 1) (sq_body 30 r A))).1) * (nI 2)) * (nI 3)), (sq_looking k1 a2 (r + 1 + 1) (sq_body 11 (r + 1) (sq_body 30 r A))).2)
  else if (A.1.1 9 k1) = 5 then (((((sq_looking k1 a2 (r + 1 + 1) (sq_body 11 (r + 1) (sq_body 30 r A))).1) * (nI 2)) * (nI 3)), (sq_looking k1 a2 (r + 1 + 1) (sq_body 11 (r + 1) (sq_body 30 r A))).2)
  else ((((sq_looking k1 a2 (r + 1) (sq_body 11 r A)).1) * (nI 2)), (sq_looking k1 a2 (r + 1) (sq_body 11 r A)).2)
theorem tk_walking {l : Launch} {D : hg_D} {lo : Nat} (htr : l.stackTraces = false) {G : hg_G} {o : Nat} {am : Nat → Nat} {u : tw_S} {A : ab_S} (hR : tw_R G o am u) (hA : tw_A u A) {k1 : Nat} {a2 : Int32} {r : Nat} (hW : ab_wf A) (h1 : k1 < A.1.1 0 0) (hrn : A.1.2 42 = nI r) (hr2 : r < 80) :
    hg_M l D lo yX5_walking (ws_ yX5_walking cX5_walking 7 ((some FieldType.int))) rm_X5_walking [.ref o, .int (nI k1), .int a2] G (tw_Po o am (sq_walking k1 a2 r A)) := by
  have hw := hW.w; have w0 := hw.b0; have w1 := hw.b1; have w2 := hw.b2; have w3 := hw.b3; have w36 := hW.b36; have w43 := hW.b43
  refine hg_M.of htr (by decide) [some (.ref o), some (.int (nI k1)), some (.int a2), none, none, none, none] rfl (Nat.le_of_ble_eq_true rfl) ?_
  intro p e s m args below meth c X hr hnm htab
  have X : hg_X p l s m args meth c D lo "TaxOnLooksModel" cX5_walking 7 := X
  refine hr_aload0 (q := 1) X dX5_walking_0 rfl ?_
  refine hr_getR (v := am 9) (q := 4) X dX5_walking_1 rfl fr_q1391_5 rfl hR.om (hR.f rfl) ?_
  refine hr_iload1 (q := 5) X dX5_walking_4 rfl ?_
  refine hr_ialdN (v := (nI (A.1.1 9 k1))) (q := 6) X dX5_walking_5 rfl (hR.ka (n := 7) rfl rfl rfl) (Or.inl rfl) (by omega) (by decide) ((hR.ar rfl _).trans (hA.p (by decide) (by decide) (by omega))) ?_
  have b5 := hW.w.b9 (show k1 < 7 by omega)
  refine hr_istore3 (q := 7) X dX5_walking_6 rfl rfl (Nat.le_of_ble_eq_true rfl) ?_
  refine hr_iload2 (q := 8) X dX5_walking_7 rfl ?_
  refine hr_istore4 (q := 10) X dX5_walking_8 rfl rfl (Nat.le_of_ble_eq_true rfl) ?_
  refine hr_iload3 (q := 11) X dX5_walking_10 rfl ?_
  refine hr_bipush (v := (nI 6)) (q := 13) X dX5_walking_11 rfl rfl ?_
  refine hr_icmpN_ne (q := 16) (tgt := 32) X dX5_walking_13 rfl (by decide) (by omega) (by omega) (fun c13 => ?_) (fun c13 => ?_)
  · refine hr_iload3 (q := 33) X dX5_walking_32 rfl ?_
    refine hr_iconst (v := (nI 3)) (q := 34) X dX5_walking_33 rfl rfl ?_
    refine hr_icmpN_eq (q := 37) (tgt := 42) X dX5_walking_34 rfl (by decide) (by omega) (by omega) (fun c34 => ?_) (fun c34 => ?_)
    · refine hr_iconst (v := (nI 1)) (q := 43) X dX5_walking_42 rfl rfl ?_
      refine hr_goto (tgt := 47) X dX5_walking_43 (by decide) ?_
      refine hr_istore5 (q := 49) X dX5_walking_47 rfl rfl (Nat.le_of_ble_eq_true rfl) ?_
      refine hr_iload5 (q := 51) X dX5_walking_49 rfl ?_
      refine hr_if_eq (q := 54) (tgt := 60) X dX5_walking_51 rfl (by decide) (fun z => absurd z (by decide)) (fun _ => ?_)
      refine hr_aload0 (q := 55) X dX5_walking_54 rfl ?_
      refine hr_bipush (v := (nI 30)) (q := 57) X dX5_walking_55 rfl rfl ?_
      refine hr_callZ (q := 60) (hc_V (n := 1) (ci := 5) (As := [.int (nI 30)]) X dX5_walking_57 rfl (tk_body X.tr hR hA (b := 30) (r := r) hrn (by omega)) q1829 cv_X5_body ⟨Nat.le_of_ble_eq_true rfl, Nat.le_of_ble_eq_true rfl⟩ rfl (Nat.le_of_ble_eq_true rfl) hR.om rfl rfl) rfl (fun G1 u1 hR1 hA1 => ?_)
      refine hr_aload0 (q := 61) X dX5_walking_60 rfl ?_
      refine hr_bipush (v := (nI 11)) (q := 63) X dX5_walking_61 rfl rfl ?_
      refine hr_callZ (q := 66) (hc_V (n := 1) (ci := 5) (As := [.int (nI 11)]) X dX5_walking_63 rfl (tk_body X.tr hR1 hA1 (b := 11) (r := r + 1) rfl (by omega)) q1829 cv_X5_body ⟨Nat.le_of_ble_eq_true rfl, Nat.le_of_ble_eq_true rfl⟩ rfl (Nat.le_of_ble_eq_true rfl) hR1.om rfl rfl) rfl (fun G2 u2 hR2 hA2 => ?_)
      refine hr_aload0 (q := 67) X dX5_walking_66 rfl ?_
      refine hr_iload1 (q := 68) X dX5_walking_67 rfl ?_
      refine hr_iload4 (q := 70) X dX5_walking_68 rfl ?_
      refine hr_callT (q := 73) (hc_V (n := 2) (ci := 5) (As := [.int (nI k1), .int a2]) X dX5_walking_70 rfl (tk_looking X.tr hR2 hA2 ((hW.body 30 r).body 11 (r + 1)) (by rw [show (sq_body 11 (r + 1) (sq_body 30 r A)).1.1 = A.1.1 by simp only [sq_body_t]]; exact h1) (k1 := k1) (a2 := a2) (r := r + 1 + 1) rfl (by omega)) q1825 cv_X5_looking ⟨Nat.le_of_ble_eq_true rfl, Nat.le_of_ble_eq_true rfl⟩ rfl (Nat.le_of_ble_eq_true rfl) hR2.om rfl rfl) rfl (fun G3 u3 hR3 hA3 => ?_)
      have hn4 := sq_looking_n (k1 := k1) (a2 := a2) (r := r + 1 + 1) (A := sq_body 11 (r + 1) (sq_body 30 r A)) (by omega)
      refine hr_iconst (v := (nI 2)) (q := 74) X dX5_walking_73 rfl rfl ?_
      refine hr_imul (v := (((sq_looking k1 a2 (r + 1 + 1) (sq_body 11 (r + 1) (sq_body 30 r A))).1) * (nI 2))) (q := 75) X dX5_walking_74 rfl rfl ?_
      refine hr_istore6 (q := 77) X dX5_walking_75 rfl rfl (Nat.le_of_ble_eq_true rfl) ?_
      refine hr_iload5 (q := 79) X dX5_walking_77 rfl ?_
      refine hr_if_eq (q := 82) (tgt := 89) X dX5_walking_79 rfl (by decide) (fun z => absurd z (by decide)) (fun _ => ?_)
      refine hr_iload6 (q := 84) X dX5_walking_82 rfl ?_
      refine hr_iconst (v := (nI 3)) (q := 85) X dX5_walking_84 rfl rfl ?_
      refine hr_imul (v := ((((sq_looking k1 a2 (r + 1 + 1) (sq_body 11 (r + 1) (sq_body 30 r A))).1) * (nI 2)) * (nI 3))) (q := 86) X dX5_walking_85 rfl rfl ?_
      refine hr_goto (tgt := 91) X dX5_walking_86 (by decide) ?_
      exact hr_iret X hr dX5_walking_91 (tw_end (by rw [sq_walking, if_neg (show ¬ ((A.1.1 9 k1) = 6) by omega), if_pos (show (A.1.1 9 k1) = 3 by omega)]) hR3 hA3)
    · refine hr_iload3 (q := 38) X dX5_walking_37 rfl ?_
      refine hr_iconst (v := (nI 5)) (q := 39) X dX5_walking_38 rfl rfl ?_
      refine hr_icmpN_ne (q := 42) (tgt := 46) X dX5_walking_39 rfl (by decide) (by omega) (by omega) (fun c39 => ?_) (fun c39 => ?_)
      · refine hr_iconst (v := (nI 0)) (q := 47) X dX5_walking_46 rfl rfl ?_
        refine hr_istore5 (q := 49) X dX5_walking_47 rfl rfl (Nat.le_of_ble_eq_true rfl) ?_
        refine hr_iload5 (q := 51) X dX5_walking_49 rfl ?_
        refine hr_if_eq (q := 54) (tgt := 60) X dX5_walking_51 rfl (by decide) (fun _ => ?_) (fun z => absurd z (by decide))
        refine hr_aload0 (q := 61) X dX5_walking_60 rfl ?_
        refine hr_bipush (v := (nI 11)) (q := 63) X dX5_walking_61 rfl rfl ?_
        refine hr_callZ (q := 66) (hc_V (n := 1) (ci := 5) (As := [.int (nI 11)]) X dX5_walking_63 rfl (tk_body X.tr hR hA (b := 11) (r := r) hrn (by omega)) q1829 cv_X5_body ⟨Nat.le_of_ble_eq_true rfl, Nat.le_of_ble_eq_true rfl⟩ rfl (Nat.le_of_ble_eq_true rfl) hR.om rfl rfl) rfl (fun G5 u5 hR5 hA5 => ?_)
        refine hr_aload0 (q := 67) X dX5_walking_66 rfl ?_
        refine hr_iload1 (q := 68) X dX5_walking_67 rfl ?_
        refine hr_iload4 (q := 70) X dX5_walking_68 rfl ?_
        refine hr_callT (q := 73) (hc_V (n := 2) (ci := 5) (As := [.int (nI k1), .int a2]) X dX5_walking_70 rfl (tk_looking X.tr hR5 hA5 (hW.body 11 r) (by rw [show (sq_body 11 r A).1.1 = A.1.1 by simp only [sq_body_t]]; exact h1) (k1 := k1) (a2 := a2) (r := r + 1) rfl (by omega)) q1825 cv_X5_looking ⟨Nat.le_of_ble_eq_true rfl, Nat.le_of_ble_eq_true rfl⟩ rfl (Nat.le_of_ble_eq_true rfl) hR5.om rfl rfl) rfl (fun G6 u6 hR6 hA6 => ?_)
        have hn7 := sq_looking_n (k1 := k1) (a2 := a2) (r := r + 1) (A := sq_body 11 r A) (by omega)
        refine hr_iconst (v := (nI 2)) (q := 74) X dX5_walking_73 rfl rfl ?_
        refine hr_imul (v := (((sq_looking k1 a2 (r + 1) (sq_body 11 r A)).1) * (nI 2))) (q := 75) X dX5_walking_74 rfl rfl ?_
        refine hr_istore6 (q := 77) X dX5_walking_75 rfl rfl (Nat.le_of_ble_eq_true rfl) ?_
        refine hr_iload5 (q := 79) X dX5_walking_77 rfl ?_
        refine hr_if_eq (q := 82) (tgt := 89) X dX5_walking_79 rfl (by decide) (fun _ => ?_) (fun z => absurd z (by decide))
        refine hr_iload6 (q := 91) X dX5_walking_89 rfl ?_
        exact hr_iret X hr dX5_walking_91 (tw_end (by rw [sq_walking, if_neg (show ¬ ((A.1.1 9 k1) = 6) by omega), if_neg (show ¬ ((A.1.1 9 k1) = 3) by omega), if_neg (show ¬ ((A.1.1 9 k1) = 5) by omega)]) hR6 hA6)
      · refine hr_iconst (v := (nI 1)) (q := 43) X dX5_walking_42 rfl rfl ?_
        refine hr_goto (tgt := 47) X dX5_walking_43 (by decide) ?_
        refine hr_istore5 (q := 49) X dX5_walking_47 rfl rfl (Nat.le_of_ble_eq_true rfl) ?_
        refine hr_iload5 (q := 51) X dX5_walking_49 rfl ?_
        refine hr_if_eq (q := 54) (tgt := 60) X dX5_walking_51 rfl (by decide) (fun z => absurd z (by decide)) (fun _ => ?_)
        refine hr_aload0 (q := 55) X dX5_walking_54 rfl ?_
        refine hr_bipush (v := (nI 30)) (q := 57) X dX5_walking_55 rfl rfl ?_
        refine hr_callZ (q := 60) (hc_V (n := 1) (ci := 5) (As := [.int (nI 30)]) X dX5_walking_57 rfl (tk_body X.tr hR hA (b := 30) (r := r) hrn (by omega)) q1829 cv_X5_body ⟨Nat.le_of_ble_eq_true rfl, Nat.le_of_ble_eq_true rfl⟩ rfl (Nat.le_of_ble_eq_true rfl) hR.om rfl rfl) rfl (fun G8 u8 hR8 hA8 => ?_)
        refine hr_aload0 (q := 61) X dX5_walking_60 rfl ?_
        refine hr_bipush (v := (nI 11)) (q := 63) X dX5_walking_61 rfl rfl ?_
        refine hr_callZ (q := 66) (hc_V (n := 1) (ci := 5) (As := [.int (nI 11)]) X dX5_walking_63 rfl (tk_body X.tr hR8 hA8 (b := 11) (r := r + 1) rfl (by omega)) q1829 cv_X5_body ⟨Nat.le_of_ble_eq_true rfl, Nat.le_of_ble_eq_true rfl⟩ rfl (Nat.le_of_ble_eq_true rfl) hR8.om rfl rfl) rfl (fun G9 u9 hR9 hA9 => ?_)
        refine hr_aload0 (q := 67) X dX5_walking_66 rfl ?_
        refine hr_iload1 (q := 68) X dX5_walking_67 rfl ?_
        refine hr_iload4 (q := 70) X dX5_walking_68 rfl ?_
        refine hr_callT (q := 73) (hc_V (n := 2) (ci := 5) (As := [.int (nI k1), .int a2]) X dX5_walking_70 rfl (tk_looking X.tr hR9 hA9 ((hW.body 30 r).body 11 (r + 1)) (by rw [show (sq_body 11 (r + 1) (sq_body 30 r A)).1.1 = A.1.1 by simp only [sq_body_t]]; exact h1) (k1 := k1) (a2 := a2) (r := r + 1 + 1) rfl (by omega)) q1825 cv_X5_looking ⟨Nat.le_of_ble_eq_true rfl, Nat.le_of_ble_eq_true rfl⟩ rfl (Nat.le_of_ble_eq_true rfl) hR9.om rfl rfl) rfl (fun G10 u10 hR10 hA10 => ?_)
        have hn11 := sq_looking_n (k1 := k1) (a2 := a2) (r := r + 1 + 1) (A := sq_body 11 (r + 1) (sq_body 30 r A)) (by omega)
        refine hr_iconst (v := (nI 2)) (q := 74) X dX5_walking_73 rfl rfl ?_
        refine hr_imul (v := (((sq_looking k1 a2 (r + 1 + 1) (sq_body 11 (r + 1) (sq_body 30 r A))).1) * (nI 2))) (q := 75) X dX5_walking_74 rfl rfl ?_
        refine hr_istore6 (q := 77) X dX5_walking_75 rfl rfl (Nat.le_of_ble_eq_true rfl) ?_
        refine hr_iload5 (q := 79) X dX5_walking_77 rfl ?_
        refine hr_if_eq (q := 82) (tgt := 89) X dX5_walking_79 rfl (by decide) (fun z => absurd z (by decide)) (fun _ => ?_)
        refine hr_iload6 (q := 84) X dX5_walking_82 rfl ?_
        refine hr_iconst (v := (nI 3)) (q := 85) X dX5_walking_84 rfl rfl ?_
        refine hr_imul (v := ((((sq_looking k1 a2 (r + 1 + 1) (sq_body 11 (r + 1) (sq_body 30 r A))).1) * (nI 2)) * (nI 3))) (q := 86) X dX5_walking_85 rfl rfl ?_
        refine hr_goto (tgt := 91) X dX5_walking_86 (by decide) ?_
        exact hr_iret X hr dX5_walking_91 (tw_end (by rw [sq_walking, if_neg (show ¬ ((A.1.1 9 k1) = 6) by omega), if_neg (show ¬ ((A.1.1 9 k1) = 3) by omega), if_pos (show (A.1.1 9 k1) = 5 by omega)]) hR10 hA10)
  · refine hr_aload0 (q := 17) X dX5_walking_16 rfl ?_
    refine hr_bipush (v := (nI 71)) (q := 19) X dX5_walking_17 rfl rfl ?_
    refine hr_callZ (q := 22) (hc_V (n := 1) (ci := 5) (As := [.int (nI 71)]) X dX5_walking_19 rfl (tk_body X.tr hR hA (b := 71) (r := r) hrn (by omega)) q1829 cv_X5_body ⟨Nat.le_of_ble_eq_true rfl, Nat.le_of_ble_eq_true rfl⟩ rfl (Nat.le_of_ble_eq_true rfl) hR.om rfl rfl) rfl (fun G12 u12 hR12 hA12 => ?_)
    refine hr_iload2 (q := 23) X dX5_walking_22 rfl ?_
    refine hr_aload0 (q := 24) X dX5_walking_23 rfl ?_
    refine hr_getR (v := am 10) (q := 27) X dX5_walking_24 rfl fr_q1392_5 rfl hR12.om (hR12.f rfl) ?_
    refine hr_iload1 (q := 28) X dX5_walking_27 rfl ?_
    refine hr_ialdN (v := (nI (A.1.1 10 k1))) (q := 29) X dX5_walking_28 rfl (hR12.ka (n := 7) rfl rfl rfl) (Or.inl rfl) (by omega) (by decide) ((hR12.ar rfl _).trans ((hA12.p (by decide) (by decide) (by omega)).trans (congrArg nI (by simp only [sq_body_t])))) ?_
    refine hr_isub (v := (a2 - (nI (A.1.1 10 k1)))) (q := 30) X dX5_walking_29 rfl rfl ?_
    refine hr_istore4 (q := 32) X dX5_walking_30 rfl rfl (Nat.le_of_ble_eq_true rfl) ?_
    refine hr_iload3 (q := 33) X dX5_walking_32 rfl ?_
    refine hr_iconst (v := (nI 3)) (q := 34) X dX5_walking_33 rfl rfl ?_
    refine hr_icmpN_eq (q := 37) (tgt := 42) X dX5_walking_34 rfl (by decide) (by omega) (by omega) (fun c34 => ?_) (fun c34 => ?_)
    · exact False.elim (by omega)
    · refine hr_iload3 (q := 38) X dX5_walking_37 rfl ?_
      refine hr_iconst (v := (nI 5)) (q := 39) X dX5_walking_38 rfl rfl ?_
      refine hr_icmpN_ne (q := 42) (tgt := 46) X dX5_walking_39 rfl (by decide) (by omega) (by omega) (fun c39 => ?_) (fun c39 => ?_)
      · refine hr_iconst (v := (nI 0)) (q := 47) X dX5_walking_46 rfl rfl ?_
        refine hr_istore5 (q := 49) X dX5_walking_47 rfl rfl (Nat.le_of_ble_eq_true rfl) ?_
        refine hr_iload5 (q := 51) X dX5_walking_49 rfl ?_
        refine hr_if_eq (q := 54) (tgt := 60) X dX5_walking_51 rfl (by decide) (fun _ => ?_) (fun z => absurd z (by decide))
        refine hr_aload0 (q := 61) X dX5_walking_60 rfl ?_
        refine hr_bipush (v := (nI 11)) (q := 63) X dX5_walking_61 rfl rfl ?_
        refine hr_callZ (q := 66) (hc_V (n := 1) (ci := 5) (As := [.int (nI 11)]) X dX5_walking_63 rfl (tk_body X.tr hR12 hA12 (b := 11) (r := r + 1) rfl (by omega)) q1829 cv_X5_body ⟨Nat.le_of_ble_eq_true rfl, Nat.le_of_ble_eq_true rfl⟩ rfl (Nat.le_of_ble_eq_true rfl) hR12.om rfl rfl) rfl (fun G13 u13 hR13 hA13 => ?_)
        refine hr_aload0 (q := 67) X dX5_walking_66 rfl ?_
        refine hr_iload1 (q := 68) X dX5_walking_67 rfl ?_
        refine hr_iload4 (q := 70) X dX5_walking_68 rfl ?_
        refine hr_callT (q := 73) (hc_V (n := 2) (ci := 5) (As := [.int (nI k1), .int (a2 - (nI (A.1.1 10 k1)))]) X dX5_walking_70 rfl (tk_looking X.tr hR13 hA13 ((hW.body 71 r).body 11 (r + 1)) (by rw [show (sq_body 11 (r + 1) (sq_body 71 r A)).1.1 = A.1.1 by simp only [sq_body_t]]; exact h1) (k1 := k1) (a2 := (a2 - (nI (A.1.1 10 k1)))) (r := r + 1 + 1) rfl (by omega)) q1825 cv_X5_looking ⟨Nat.le_of_ble_eq_true rfl, Nat.le_of_ble_eq_true rfl⟩ rfl (Nat.le_of_ble_eq_true rfl) hR13.om rfl rfl) rfl (fun G14 u14 hR14 hA14 => ?_)
        have hn15 := sq_looking_n (k1 := k1) (a2 := (a2 - (nI (A.1.1 10 k1)))) (r := r + 1 + 1) (A := sq_body 11 (r + 1) (sq_body 71 r A)) (by omega)
        refine hr_iconst (v := (nI 2)) (q := 74) X dX5_walking_73 rfl rfl ?_
        refine hr_imul (v := (((sq_looking k1 (a2 - (nI (A.1.1 10 k1))) (r + 1 + 1) (sq_body 11 (r + 1) (sq_body 71 r A))).1) * (nI 2))) (q := 75) X dX5_walking_74 rfl rfl ?_
        refine hr_istore6 (q := 77) X dX5_walking_75 rfl rfl (Nat.le_of_ble_eq_true rfl) ?_
        refine hr_iload5 (q := 79) X dX5_walking_77 rfl ?_
        refine hr_if_eq (q := 82) (tgt := 89) X dX5_walking_79 rfl (by decide) (fun _ => ?_) (fun z => absurd z (by decide))
        refine hr_iload6 (q := 91) X dX5_walking_89 rfl ?_
        exact hr_iret X hr dX5_walking_91 (tw_end (by rw [sq_walking, if_pos (show (A.1.1 9 k1) = 6 by omega)]) hR14 hA14)
      · exact False.elim (by omega)

theorem sq_walking_t (k1 : Nat) (a2 : Int32) (r : Nat) (A : ab_S) : (sq_walking k1 a2 r A).2.1.1 = A.1.1 ∧ (sq_walking k1 a2 r A).2.2.1 = A.2.1 := by
  unfold sq_walking
  (repeat' split) <;> exact ⟨by simp only [sq_body_t, (sq_looking_t _ _ _ _).1], by simp only [sq_body_k, (sq_looking_t _ _ _ _).2]⟩
theorem sq_walking_r (k1 : Nat) (a2 : Int32) (r : Nat) (A : ab_S) : ∃ j, j ≤ 8 ∧ (sq_walking k1 a2 r A).2.1.2 42 = nI (r + j) := by
  unfold sq_walking
  (repeat' split)
  all_goals first
    | (obtain ⟨j, hj, e⟩ := sq_looking_r k1 a2 (r + 1) (sq_body 11 r A); exact ⟨1 + j, by omega, e.trans (congrArg nI (by omega))⟩)
    | (obtain ⟨j, hj, e⟩ := sq_looking_r k1 a2 (r + 1 + 1) (sq_body 11 (r + 1) (sq_body 30 r A)); exact ⟨2 + j, by omega, e.trans (congrArg nI (by omega))⟩)
    | (obtain ⟨j, hj, e⟩ := sq_looking_r k1 _ (r + 1 + 1) (sq_body 11 (r + 1) (sq_body 71 r A)); exact ⟨2 + j, by omega, e.trans (congrArg nI (by omega))⟩)
    | (obtain ⟨j, hj, e⟩ := sq_looking_r k1 _ (r + 1 + 1 + 1) (sq_body 11 (r + 1 + 1) (sq_body 30 (r + 1) (sq_body 71 r A))); exact ⟨3 + j, by omega, e.trans (congrArg nI (by omega))⟩)
theorem sq_walking_n {k1 : Nat} {a2 : Int32} {r : Nat} {A : ab_S} (hr : r < 1000) : (sq_walking k1 a2 r A).2.1.2 42 = nI (iN ((sq_walking k1 a2 r A).2.1.2 42)) ∧ iN ((sq_walking k1 a2 r A).2.1.2 42) ≤ r + 8 := by
  obtain ⟨j, hj, e⟩ := sq_walking_r k1 a2 r A
  rw [e, iN_nI (by omega)]
  exact ⟨rfl, by omega⟩

def sq_paying (k1 : Nat) (a2 : Int32) (r : Nat) (A : ab_S) : Int32 × ab_S :=
  if (A.1.1 9 k1) = 4 then ((-(((sq_walking k1 a2 (r + 1 + 1) (sq_body 12 (r + 1) (sq_body 50 r A))).1) ^^^ ((sq_looking k1 (a2 - (nI (A.1.1 10 k1))) (iN (((sq_walking k1 a2 (r + 1 + 1) (sq_body 12 (r + 1) (sq_body 50 r A))).2).1.2 42)) ((sq_walking k1 a2 (r + 1 + 1) (sq_body 12 (r + 1) (sq_body 50 r A))).2)).1))), (sq_looking k1 (a2 - (nI (A.1.1 10 k1))) (iN (((sq_walking k1 a2 (r + 1 + 1) (sq_body 12 (r + 1) (sq_body 50 r A))).2).1.2 42)) ((sq_walking k1 a2 (r + 1 + 1) (sq_body 12 (r + 1) (sq_body 50 r A))).2)).2)
  else if (A.1.1 9 k1) = 6 then ((-(((sq_walking k1 a2 (r + 1 + 1) (sq_body 12 (r + 1) (sq_body 50 r A))).1) ^^^ ((sq_looking k1 (a2 - (nI (A.1.1 10 k1))) (iN (((sq_walking k1 a2 (r + 1 + 1) (sq_body 12 (r + 1) (sq_body 50 r A))).2).1.2 42)) ((sq_walking k1 a2 (r + 1 + 1) (sq_body 12 (r + 1) (sq_body 50 r A))).2)).1))), (sq_looking k1 (a2 - (nI (A.1.1 10 k1))) (iN (((sq_walking k1 a2 (r + 1 + 1) (sq_body 12 (r + 1) (sq_body 50 r A))).2).1.2 42)) ((sq_walking k1 a2 (r + 1 + 1) (sq_body 12 (r + 1) (sq_body 50 r A))).2)).2)
  else if (A.1.1 9 k1) = 5 then (((((sq_walking k1 a2 (r + 1 + 1) (sq_body 12 (r + 1) (sq_body 60 r A))).1) ^^^ ((sq_looking k1 (a2 - (nI (A.1.1 10 k1))) (iN (((sq_walking k1 a2 (r + 1 + 1) (sq_body 12 (r + 1) (sq_body 60 r A))).2).1.2 42)) ((sq_walking k1 a2 (r + 1 + 1) (sq_body 12 (r + 1) (sq_body 60 r A))).2)).1)) ^^^ (nI 5)), (sq_looking k1 (a2 - (nI (A.1.1 10 k1))) (iN (((sq_walking k1 a2 (r + 1 + 1) (sq_body 12 (r + 1) (sq_body 60 r A))).2).1.2 42)) ((sq_walking k1 a2 (r + 1 + 1) (sq_body 12 (r + 1) (sq_body 60 r A))).2)).2)
  else ((((sq_walking k1 a2 (r + 1) (sq_body 12 r A)).1) ^^^ ((sq_looking k1 (a2 - (nI (A.1.1 10 k1))) (iN (((sq_walking k1 a2 (r + 1) (sq_body 12 r A)).2).1.2 42)) ((sq_walking k1 a2 (r + 1) (sq_body 12 r A)).2)).1)), (sq_looking k1 (a2 - (nI (A.1.1 10 k1))) (iN (((sq_walking k1 a2 (r + 1) (sq_body 12 r A)).2).1.2 42)) ((sq_walking k1 a2 (r + 1) (sq_body 12 r A)).2)).2)
theorem tk_paying {l : Launch} {D : hg_D} {lo : Nat} (htr : l.stackTraces = false) {G : hg_G} {o : Nat} {am : Nat → Nat} {u : tw_S} {A : ab_S} (hR : tw_R G o am u) (hA : tw_A u A) {k1 : Nat} {a2 : Int32} {r : Nat} (hW : ab_wf A) (h1 : k1 < A.1.1 0 0) (hrn : A.1.2 42 = nI r) (hr2 : r < 60) :
    hg_M l D lo yX5_paying (ws_ yX5_paying cX5_paying 6 ((some FieldType.int))) rm_X5_paying [.ref o, .int (nI k1), .int a2] G (tw_Po o am (sq_paying k1 a2 r A)) := by
  have hw := hW.w; have w0 := hw.b0; have w1 := hw.b1; have w2 := hw.b2; have w3 := hw.b3; have w36 := hW.b36; have w43 := hW.b43
  refine hg_M.of htr (by decide) [some (.ref o), some (.int (nI k1)), some (.int a2), none, none, none] rfl (Nat.le_of_ble_eq_true rfl) ?_
  intro p e s m args below meth c X hr hnm htab
  have X : hg_X p l s m args meth c D lo "TaxOnLooksModel" cX5_paying 6 := X
  refine hr_aload0 (q := 1) X dX5_paying_0 rfl ?_
  refine hr_getR (v := am 9) (q := 4) X dX5_paying_1 rfl fr_q1391_5 rfl hR.om (hR.f rfl) ?_
  refine hr_iload1 (q := 5) X dX5_paying_4 rfl ?_
  refine hr_ialdN (v := (nI (A.1.1 9 k1))) (q := 6) X dX5_paying_5 rfl (hR.ka (n := 7) rfl rfl rfl) (Or.inl rfl) (by omega) (by decide) ((hR.ar rfl _).trans (hA.p (by decide) (by decide) (by omega))) ?_
  have b5 := hW.w.b9 (show k1 < 7 by omega)
  refine hr_istore3 (q := 7) X dX5_paying_6 rfl rfl (Nat.le_of_ble_eq_true rfl) ?_
  refine hr_iload3 (q := 8) X dX5_paying_7 rfl ?_
  refine hr_iconst (v := (nI 4)) (q := 9) X dX5_paying_8 rfl rfl ?_
  refine hr_icmpN_eq (q := 12) (tgt := 18) X dX5_paying_9 rfl (by decide) (by omega) (by omega) (fun c9 => ?_) (fun c9 => ?_)
  · refine hr_iconst (v := (nI 1)) (q := 19) X dX5_paying_18 rfl rfl ?_
    refine hr_goto (tgt := 23) X dX5_paying_19 (by decide) ?_
    refine hr_istore4 (q := 25) X dX5_paying_23 rfl rfl (Nat.le_of_ble_eq_true rfl) ?_
    refine hr_iload3 (q := 26) X dX5_paying_25 rfl ?_
    refine hr_iconst (v := (nI 5)) (q := 27) X dX5_paying_26 rfl rfl ?_
    refine hr_icmpN_ne (q := 30) (tgt := 36) X dX5_paying_27 rfl (by decide) (by omega) (by omega) (fun c27 => ?_) (fun c27 => ?_)
    · refine hr_iload4 (q := 38) X dX5_paying_36 rfl ?_
      refine hr_if_eq (q := 41) (tgt := 47) X dX5_paying_38 rfl (by decide) (fun z => absurd z (by decide)) (fun _ => ?_)
      refine hr_aload0 (q := 42) X dX5_paying_41 rfl ?_
      refine hr_bipush (v := (nI 50)) (q := 44) X dX5_paying_42 rfl rfl ?_
      refine hr_callZ (q := 47) (hc_V (n := 1) (ci := 5) (As := [.int (nI 50)]) X dX5_paying_44 rfl (tk_body X.tr hR hA (b := 50) (r := r) hrn (by omega)) q1829 cv_X5_body ⟨Nat.le_of_ble_eq_true rfl, Nat.le_of_ble_eq_true rfl⟩ rfl (Nat.le_of_ble_eq_true rfl) hR.om rfl rfl) rfl (fun G1 u1 hR1 hA1 => ?_)
      refine hr_aload0 (q := 48) X dX5_paying_47 rfl ?_
      refine hr_bipush (v := (nI 12)) (q := 50) X dX5_paying_48 rfl rfl ?_
      refine hr_callZ (q := 53) (hc_V (n := 1) (ci := 5) (As := [.int (nI 12)]) X dX5_paying_50 rfl (tk_body X.tr hR1 hA1 (b := 12) (r := r + 1) rfl (by omega)) q1829 cv_X5_body ⟨Nat.le_of_ble_eq_true rfl, Nat.le_of_ble_eq_true rfl⟩ rfl (Nat.le_of_ble_eq_true rfl) hR1.om rfl rfl) rfl (fun G2 u2 hR2 hA2 => ?_)
      refine hr_aload0 (q := 54) X dX5_paying_53 rfl ?_
      refine hr_iload1 (q := 55) X dX5_paying_54 rfl ?_
      refine hr_iload2 (q := 56) X dX5_paying_55 rfl ?_
      refine hr_callT (q := 59) (hc_V (n := 2) (ci := 5) (As := [.int (nI k1), .int a2]) X dX5_paying_56 rfl (tk_walking X.tr hR2 hA2 ((hW.body 50 r).body 12 (r + 1)) (by rw [show (sq_body 12 (r + 1) (sq_body 50 r A)).1.1 = A.1.1 by simp only [sq_body_t, (sq_walking_t _ _ _ _).1]]; exact h1) (k1 := k1) (a2 := a2) (r := r + 1 + 1) rfl (by omega)) q1833 cv_X5_walking ⟨Nat.le_of_ble_eq_true rfl, Nat.le_of_ble_eq_true rfl⟩ rfl (Nat.le_of_ble_eq_true rfl) hR2.om rfl rfl) rfl (fun G3 u3 hR3 hA3 => ?_)
      have hn4 := sq_walking_n (k1 := k1) (a2 := a2) (r := r + 1 + 1) (A := sq_body 12 (r + 1) (sq_body 50 r A)) (by omega)
      refine hr_istore5 (q := 61) X dX5_paying_59 rfl rfl (Nat.le_of_ble_eq_true rfl) ?_
      refine hr_iload5 (q := 63) X dX5_paying_61 rfl ?_
      refine hr_aload0 (q := 64) X dX5_paying_63 rfl ?_
      refine hr_iload1 (q := 65) X dX5_paying_64 rfl ?_
      refine hr_iload2 (q := 66) X dX5_paying_65 rfl ?_
      refine hr_aload0 (q := 67) X dX5_paying_66 rfl ?_
      refine hr_getR (v := am 10) (q := 70) X dX5_paying_67 rfl fr_q1392_5 rfl hR3.om (hR3.f rfl) ?_
      refine hr_iload1 (q := 71) X dX5_paying_70 rfl ?_
      refine hr_ialdN (v := (nI (A.1.1 10 k1))) (q := 72) X dX5_paying_71 rfl (hR3.ka (n := 7) rfl rfl rfl) (Or.inl rfl) (by omega) (by decide) ((hR3.ar rfl _).trans ((hA3.p (by decide) (by decide) (by omega)).trans (congrArg nI (by simp only [sq_body_t, (sq_walking_t _ _ _ _).1])))) ?_
      refine hr_isub (v := (a2 - (nI (A.1.1 10 k1)))) (q := 73) X dX5_paying_72 rfl rfl ?_
      refine hr_callT (q := 76) (hc_V (n := 2) (ci := 5) (As := [.int (nI k1), .int (a2 - (nI (A.1.1 10 k1)))]) X dX5_paying_73 rfl (tk_looking X.tr hR3 hA3 (((hW.body 50 r).body 12 (r + 1)).same (sq_walking_t _ _ _ _).1 (sq_walking_t _ _ _ _).2) (by rw [show ((sq_walking k1 a2 (r + 1 + 1) (sq_body 12 (r + 1) (sq_body 50 r A))).2).1.1 = A.1.1 by simp only [sq_body_t, (sq_walking_t _ _ _ _).1]]; exact h1) (k1 := k1) (a2 := (a2 - (nI (A.1.1 10 k1)))) (r := iN (((sq_walking k1 a2 (r + 1 + 1) (sq_body 12 (r + 1) (sq_body 50 r A))).2).1.2 42)) hn4.1 (by omega)) q1825 cv_X5_looking ⟨Nat.le_of_ble_eq_true rfl, Nat.le_of_ble_eq_true rfl⟩ rfl (Nat.le_of_ble_eq_true rfl) hR3.om rfl rfl) rfl (fun G5 u5 hR5 hA5 => ?_)
      have hn6 := sq_looking_n (k1 := k1) (a2 := (a2 - (nI (A.1.1 10 k1)))) (r := iN (((sq_walking k1 a2 (r + 1 + 1) (sq_body 12 (r + 1) (sq_body 50 r A))).2).1.2 42)) (A := (sq_walking k1 a2 (r + 1 + 1) (sq_body 12 (r + 1) (sq_body 50 r A))).2) (by omega)
      refine hr_ixor (v := (((sq_walking k1 a2 (r + 1 + 1) (sq_body 12 (r + 1) (sq_body 50 r A))).1) ^^^ ((sq_looking k1 (a2 - (nI (A.1.1 10 k1))) (iN (((sq_walking k1 a2 (r + 1 + 1) (sq_body 12 (r + 1) (sq_body 50 r A))).2).1.2 42)) ((sq_walking k1 a2 (r + 1 + 1) (sq_body 12 (r + 1) (sq_body 50 r A))).2)).1))) (q := 77) X dX5_paying_76 rfl rfl ?_
      refine hr_istore5 (q := 79) X dX5_paying_77 rfl rfl (Nat.le_of_ble_eq_true rfl) ?_
      refine hr_iload4 (q := 81) X dX5_paying_79 rfl ?_
      refine hr_if_eq (q := 84) (tgt := 90) X dX5_paying_81 rfl (by decide) (fun z => absurd z (by decide)) (fun _ => ?_)
      refine hr_iload5 (q := 86) X dX5_paying_84 rfl ?_
      refine hr_ineg (v := (-(((sq_walking k1 a2 (r + 1 + 1) (sq_body 12 (r + 1) (sq_body 50 r A))).1) ^^^ ((sq_looking k1 (a2 - (nI (A.1.1 10 k1))) (iN (((sq_walking k1 a2 (r + 1 + 1) (sq_body 12 (r + 1) (sq_body 50 r A))).2).1.2 42)) ((sq_walking k1 a2 (r + 1 + 1) (sq_body 12 (r + 1) (sq_body 50 r A))).2)).1)))) (q := 87) X dX5_paying_86 rfl rfl ?_
      refine hr_goto (tgt := 104) X dX5_paying_87 (by decide) ?_
      exact hr_iret X hr dX5_paying_104 (tw_end (by rw [sq_paying, if_pos (show (A.1.1 9 k1) = 4 by omega)]) hR5 hA5)
    · exact False.elim (by omega)
  · refine hr_iload3 (q := 13) X dX5_paying_12 rfl ?_
    refine hr_bipush (v := (nI 6)) (q := 15) X dX5_paying_13 rfl rfl ?_
    refine hr_icmpN_ne (q := 18) (tgt := 22) X dX5_paying_15 rfl (by decide) (by omega) (by omega) (fun c15 => ?_) (fun c15 => ?_)
    · refine hr_iconst (v := (nI 0)) (q := 23) X dX5_paying_22 rfl rfl ?_
      refine hr_istore4 (q := 25) X dX5_paying_23 rfl rfl (Nat.le_of_ble_eq_true rfl) ?_
      refine hr_iload3 (q := 26) X dX5_paying_25 rfl ?_
      refine hr_iconst (v := (nI 5)) (q := 27) X dX5_paying_26 rfl rfl ?_
      refine hr_icmpN_ne (q := 30) (tgt := 36) X dX5_paying_27 rfl (by decide) (by omega) (by omega) (fun c27 => ?_) (fun c27 => ?_)
      · refine hr_iload4 (q := 38) X dX5_paying_36 rfl ?_
        refine hr_if_eq (q := 41) (tgt := 47) X dX5_paying_38 rfl (by decide) (fun _ => ?_) (fun z => absurd z (by decide))
        refine hr_aload0 (q := 48) X dX5_paying_47 rfl ?_
        refine hr_bipush (v := (nI 12)) (q := 50) X dX5_paying_48 rfl rfl ?_
        refine hr_callZ (q := 53) (hc_V (n := 1) (ci := 5) (As := [.int (nI 12)]) X dX5_paying_50 rfl (tk_body X.tr hR hA (b := 12) (r := r) hrn (by omega)) q1829 cv_X5_body ⟨Nat.le_of_ble_eq_true rfl, Nat.le_of_ble_eq_true rfl⟩ rfl (Nat.le_of_ble_eq_true rfl) hR.om rfl rfl) rfl (fun G7 u7 hR7 hA7 => ?_)
        refine hr_aload0 (q := 54) X dX5_paying_53 rfl ?_
        refine hr_iload1 (q := 55) X dX5_paying_54 rfl ?_
        refine hr_iload2 (q := 56) X dX5_paying_55 rfl ?_
        refine hr_callT (q := 59) (hc_V (n := 2) (ci := 5) (As := [.int (nI k1), .int a2]) X dX5_paying_56 rfl (tk_walking X.tr hR7 hA7 (hW.body 12 r) (by rw [show (sq_body 12 r A).1.1 = A.1.1 by simp only [sq_body_t, (sq_walking_t _ _ _ _).1]]; exact h1) (k1 := k1) (a2 := a2) (r := r + 1) rfl (by omega)) q1833 cv_X5_walking ⟨Nat.le_of_ble_eq_true rfl, Nat.le_of_ble_eq_true rfl⟩ rfl (Nat.le_of_ble_eq_true rfl) hR7.om rfl rfl) rfl (fun G8 u8 hR8 hA8 => ?_)
        have hn9 := sq_walking_n (k1 := k1) (a2 := a2) (r := r + 1) (A := sq_body 12 r A) (by omega)
        refine hr_istore5 (q := 61) X dX5_paying_59 rfl rfl (Nat.le_of_ble_eq_true rfl) ?_
        refine hr_iload5 (q := 63) X dX5_paying_61 rfl ?_
        refine hr_aload0 (q := 64) X dX5_paying_63 rfl ?_
        refine hr_iload1 (q := 65) X dX5_paying_64 rfl ?_
        refine hr_iload2 (q := 66) X dX5_paying_65 rfl ?_
        refine hr_aload0 (q := 67) X dX5_paying_66 rfl ?_
        refine hr_getR (v := am 10) (q := 70) X dX5_paying_67 rfl fr_q1392_5 rfl hR8.om (hR8.f rfl) ?_
        refine hr_iload1 (q := 71) X dX5_paying_70 rfl ?_
        refine hr_ialdN (v := (nI (A.1.1 10 k1))) (q := 72) X dX5_paying_71 rfl (hR8.ka (n := 7) rfl rfl rfl) (Or.inl rfl) (by omega) (by decide) ((hR8.ar rfl _).trans ((hA8.p (by decide) (by decide) (by omega)).trans (congrArg nI (by simp only [sq_body_t, (sq_walking_t _ _ _ _).1])))) ?_
        refine hr_isub (v := (a2 - (nI (A.1.1 10 k1)))) (q := 73) X dX5_paying_72 rfl rfl ?_
        refine hr_callT (q := 76) (hc_V (n := 2) (ci := 5) (As := [.int (nI k1), .int (a2 - (nI (A.1.1 10 k1)))]) X dX5_paying_73 rfl (tk_looking X.tr hR8 hA8 ((hW.body 12 r).same (sq_walking_t _ _ _ _).1 (sq_walking_t _ _ _ _).2) (by rw [show ((sq_walking k1 a2 (r + 1) (sq_body 12 r A)).2).1.1 = A.1.1 by simp only [sq_body_t, (sq_walking_t _ _ _ _).1]]; exact h1) (k1 := k1) (a2 := (a2 - (nI (A.1.1 10 k1)))) (r := iN (((sq_walking k1 a2 (r + 1) (sq_body 12 r A)).2).1.2 42)) hn9.1 (by omega)) q1825 cv_X5_looking ⟨Nat.le_of_ble_eq_true rfl, Nat.le_of_ble_eq_true rfl⟩ rfl (Nat.le_of_ble_eq_true rfl) hR8.om rfl rfl) rfl (fun G10 u10 hR10 hA10 => ?_)
        have hn11 := sq_looking_n (k1 := k1) (a2 := (a2 - (nI (A.1.1 10 k1)))) (r := iN (((sq_walking k1 a2 (r + 1) (sq_body 12 r A)).2).1.2 42)) (A := (sq_walking k1 a2 (r + 1) (sq_body 12 r A)).2) (by omega)
        refine hr_ixor (v := (((sq_walking k1 a2 (r + 1) (sq_body 12 r A)).1) ^^^ ((sq_looking k1 (a2 - (nI (A.1.1 10 k1))) (iN (((sq_walking k1 a2 (r + 1) (sq_body 12 r A)).2).1.2 42)) ((sq_walking k1 a2 (r + 1) (sq_body 12 r A)).2)).1))) (q := 77) X dX5_paying_76 rfl rfl ?_
        refine hr_istore5 (q := 79) X dX5_paying_77 rfl rfl (Nat.le_of_ble_eq_true rfl) ?_
        refine hr_iload4 (q := 81) X dX5_paying_79 rfl ?_
        refine hr_if_eq (q := 84) (tgt := 90) X dX5_paying_81 rfl (by decide) (fun _ => ?_) (fun z => absurd z (by decide))
        refine hr_iload3 (q := 91) X dX5_paying_90 rfl ?_
        refine hr_iconst (v := (nI 5)) (q := 92) X dX5_paying_91 rfl rfl ?_
        refine hr_icmpN_ne (q := 95) (tgt := 102) X dX5_paying_92 rfl (by decide) (by omega) (by omega) (fun c92 => ?_) (fun c92 => ?_)
        · refine hr_iload5 (q := 104) X dX5_paying_102 rfl ?_
          exact hr_iret X hr dX5_paying_104 (tw_end (by rw [sq_paying, if_neg (show ¬ ((A.1.1 9 k1) = 4) by omega), if_neg (show ¬ ((A.1.1 9 k1) = 6) by omega), if_neg (show ¬ ((A.1.1 9 k1) = 5) by omega)]) hR10 hA10)
        · exact False.elim (by omega)
      · refine hr_aload0 (q := 31) X dX5_paying_30 rfl ?_
        refine hr_bipush (v := (nI 60)) (q := 33) X dX5_paying_31 rfl rfl ?_
        refine hr_callZ (q := 36) (hc_V (n := 1) (ci := 5) (As := [.int (nI 60)]) X dX5_paying_33 rfl (tk_body X.tr hR hA (b := 60) (r := r) hrn (by omega)) q1829 cv_X5_body ⟨Nat.le_of_ble_eq_true rfl, Nat.le_of_ble_eq_true rfl⟩ rfl (Nat.le_of_ble_eq_true rfl) hR.om rfl rfl) rfl (fun G12 u12 hR12 hA12 => ?_)
        refine hr_iload4 (q := 38) X dX5_paying_36 rfl ?_
        refine hr_if_eq (q := 41) (tgt := 47) X dX5_paying_38 rfl (by decide) (fun _ => ?_) (fun z => absurd z (by decide))
        refine hr_aload0 (q := 48) X dX5_paying_47 rfl ?_
        refine hr_bipush (v := (nI 12)) (q := 50) X dX5_paying_48 rfl rfl ?_
        refine hr_callZ (q := 53) (hc_V (n := 1) (ci := 5) (As := [.int (nI 12)]) X dX5_paying_50 rfl (tk_body X.tr hR12 hA12 (b := 12) (r := r + 1) rfl (by omega)) q1829 cv_X5_body ⟨Nat.le_of_ble_eq_true rfl, Nat.le_of_ble_eq_true rfl⟩ rfl (Nat.le_of_ble_eq_true rfl) hR12.om rfl rfl) rfl (fun G13 u13 hR13 hA13 => ?_)
        refine hr_aload0 (q := 54) X dX5_paying_53 rfl ?_
        refine hr_iload1 (q := 55) X dX5_paying_54 rfl ?_
        refine hr_iload2 (q := 56) X dX5_paying_55 rfl ?_
        refine hr_callT (q := 59) (hc_V (n := 2) (ci := 5) (As := [.int (nI k1), .int a2]) X dX5_paying_56 rfl (tk_walking X.tr hR13 hA13 ((hW.body 60 r).body 12 (r + 1)) (by rw [show (sq_body 12 (r + 1) (sq_body 60 r A)).1.1 = A.1.1 by simp only [sq_body_t, (sq_walking_t _ _ _ _).1]]; exact h1) (k1 := k1) (a2 := a2) (r := r + 1 + 1) rfl (by omega)) q1833 cv_X5_walking ⟨Nat.le_of_ble_eq_true rfl, Nat.le_of_ble_eq_true rfl⟩ rfl (Nat.le_of_ble_eq_true rfl) hR13.om rfl rfl) rfl (fun G14 u14 hR14 hA14 => ?_)
        have hn15 := sq_walking_n (k1 := k1) (a2 := a2) (r := r + 1 + 1) (A := sq_body 12 (r + 1) (sq_body 60 r A)) (by omega)
        refine hr_istore5 (q := 61) X dX5_paying_59 rfl rfl (Nat.le_of_ble_eq_true rfl) ?_
        refine hr_iload5 (q := 63) X dX5_paying_61 rfl ?_
        refine hr_aload0 (q := 64) X dX5_paying_63 rfl ?_
        refine hr_iload1 (q := 65) X dX5_paying_64 rfl ?_
        refine hr_iload2 (q := 66) X dX5_paying_65 rfl ?_
        refine hr_aload0 (q := 67) X dX5_paying_66 rfl ?_
        refine hr_getR (v := am 10) (q := 70) X dX5_paying_67 rfl fr_q1392_5 rfl hR14.om (hR14.f rfl) ?_
        refine hr_iload1 (q := 71) X dX5_paying_70 rfl ?_
        refine hr_ialdN (v := (nI (A.1.1 10 k1))) (q := 72) X dX5_paying_71 rfl (hR14.ka (n := 7) rfl rfl rfl) (Or.inl rfl) (by omega) (by decide) ((hR14.ar rfl _).trans ((hA14.p (by decide) (by decide) (by omega)).trans (congrArg nI (by simp only [sq_body_t, (sq_walking_t _ _ _ _).1])))) ?_
        refine hr_isub (v := (a2 - (nI (A.1.1 10 k1)))) (q := 73) X dX5_paying_72 rfl rfl ?_
        refine hr_callT (q := 76) (hc_V (n := 2) (ci := 5) (As := [.int (nI k1), .int (a2 - (nI (A.1.1 10 k1)))]) X dX5_paying_73 rfl (tk_looking X.tr hR14 hA14 (((hW.body 60 r).body 12 (r + 1)).same (sq_walking_t _ _ _ _).1 (sq_walking_t _ _ _ _).2) (by rw [show ((sq_walking k1 a2 (r + 1 + 1) (sq_body 12 (r + 1) (sq_body 60 r A))).2).1.1 = A.1.1 by simp only [sq_body_t, (sq_walking_t _ _ _ _).1]]; exact h1) (k1 := k1) (a2 := (a2 - (nI (A.1.1 10 k1)))) (r := iN (((sq_walking k1 a2 (r + 1 + 1) (sq_body 12 (r + 1) (sq_body 60 r A))).2).1.2 42)) hn15.1 (by omega)) q1825 cv_X5_looking ⟨Nat.le_of_ble_eq_true rfl, Nat.le_of_ble_eq_true rfl⟩ rfl (Nat.le_of_ble_eq_true rfl) hR14.om rfl rfl) rfl (fun G16 u16 hR16 hA16 => ?_)
        have hn17 := sq_looking_n (k1 := k1) (a2 := (a2 - (nI (A.1.1 10 k1)))) (r := iN (((sq_walking k1 a2 (r + 1 + 1) (sq_body 12 (r + 1) (sq_body 60 r A))).2).1.2 42)) (A := (sq_walking k1 a2 (r + 1 + 1) (sq_body 12 (r + 1) (sq_body 60 r A))).2) (by omega)
        refine hr_ixor (v := (((sq_walking k1 a2 (r + 1 + 1) (sq_body 12 (r + 1) (sq_body 60 r A))).1) ^^^ ((sq_looking k1 (a2 - (nI (A.1.1 10 k1))) (iN (((sq_walking k1 a2 (r + 1 + 1) (sq_body 12 (r + 1) (sq_body 60 r A))).2).1.2 42)) ((sq_walking k1 a2 (r + 1 + 1) (sq_body 12 (r + 1) (sq_body 60 r A))).2)).1))) (q := 77) X dX5_paying_76 rfl rfl ?_
        refine hr_istore5 (q := 79) X dX5_paying_77 rfl rfl (Nat.le_of_ble_eq_true rfl) ?_
        refine hr_iload4 (q := 81) X dX5_paying_79 rfl ?_
        refine hr_if_eq (q := 84) (tgt := 90) X dX5_paying_81 rfl (by decide) (fun _ => ?_) (fun z => absurd z (by decide))
        refine hr_iload3 (q := 91) X dX5_paying_90 rfl ?_
        refine hr_iconst (v := (nI 5)) (q := 92) X dX5_paying_91 rfl rfl ?_
        refine hr_icmpN_ne (q := 95) (tgt := 102) X dX5_paying_92 rfl (by decide) (by omega) (by omega) (fun c92 => ?_) (fun c92 => ?_)
        · exact False.elim (by omega)
        · refine hr_iload5 (q := 97) X dX5_paying_95 rfl ?_
          refine hr_iconst (v := (nI 5)) (q := 98) X dX5_paying_97 rfl rfl ?_
          refine hr_ixor (v := ((((sq_walking k1 a2 (r + 1 + 1) (sq_body 12 (r + 1) (sq_body 60 r A))).1) ^^^ ((sq_looking k1 (a2 - (nI (A.1.1 10 k1))) (iN (((sq_walking k1 a2 (r + 1 + 1) (sq_body 12 (r + 1) (sq_body 60 r A))).2).1.2 42)) ((sq_walking k1 a2 (r + 1 + 1) (sq_body 12 (r + 1) (sq_body 60 r A))).2)).1)) ^^^ (nI 5))) (q := 99) X dX5_paying_98 rfl rfl ?_
          refine hr_goto (tgt := 104) X dX5_paying_99 (by decide) ?_
          exact hr_iret X hr dX5_paying_104 (tw_end (by rw [sq_paying, if_neg (show ¬ ((A.1.1 9 k1) = 4) by omega), if_neg (show ¬ ((A.1.1 9 k1) = 6) by omega), if_pos (show (A.1.1 9 k1) = 5 by omega)]) hR16 hA16)
    · refine hr_iconst (v := (nI 1)) (q := 19) X dX5_paying_18 rfl rfl ?_
      refine hr_goto (tgt := 23) X dX5_paying_19 (by decide) ?_
      refine hr_istore4 (q := 25) X dX5_paying_23 rfl rfl (Nat.le_of_ble_eq_true rfl) ?_
      refine hr_iload3 (q := 26) X dX5_paying_25 rfl ?_
      refine hr_iconst (v := (nI 5)) (q := 27) X dX5_paying_26 rfl rfl ?_
      refine hr_icmpN_ne (q := 30) (tgt := 36) X dX5_paying_27 rfl (by decide) (by omega) (by omega) (fun c27 => ?_) (fun c27 => ?_)
      · refine hr_iload4 (q := 38) X dX5_paying_36 rfl ?_
        refine hr_if_eq (q := 41) (tgt := 47) X dX5_paying_38 rfl (by decide) (fun z => absurd z (by decide)) (fun _ => ?_)
        refine hr_aload0 (q := 42) X dX5_paying_41 rfl ?_
        refine hr_bipush (v := (nI 50)) (q := 44) X dX5_paying_42 rfl rfl ?_
        refine hr_callZ (q := 47) (hc_V (n := 1) (ci := 5) (As := [.int (nI 50)]) X dX5_paying_44 rfl (tk_body X.tr hR hA (b := 50) (r := r) hrn (by omega)) q1829 cv_X5_body ⟨Nat.le_of_ble_eq_true rfl, Nat.le_of_ble_eq_true rfl⟩ rfl (Nat.le_of_ble_eq_true rfl) hR.om rfl rfl) rfl (fun G18 u18 hR18 hA18 => ?_)
        refine hr_aload0 (q := 48) X dX5_paying_47 rfl ?_
        refine hr_bipush (v := (nI 12)) (q := 50) X dX5_paying_48 rfl rfl ?_
        refine hr_callZ (q := 53) (hc_V (n := 1) (ci := 5) (As := [.int (nI 12)]) X dX5_paying_50 rfl (tk_body X.tr hR18 hA18 (b := 12) (r := r + 1) rfl (by omega)) q1829 cv_X5_body ⟨Nat.le_of_ble_eq_true rfl, Nat.le_of_ble_eq_true rfl⟩ rfl (Nat.le_of_ble_eq_true rfl) hR18.om rfl rfl) rfl (fun G19 u19 hR19 hA19 => ?_)
        refine hr_aload0 (q := 54) X dX5_paying_53 rfl ?_
        refine hr_iload1 (q := 55) X dX5_paying_54 rfl ?_
        refine hr_iload2 (q := 56) X dX5_paying_55 rfl ?_
        refine hr_callT (q := 59) (hc_V (n := 2) (ci := 5) (As := [.int (nI k1), .int a2]) X dX5_paying_56 rfl (tk_walking X.tr hR19 hA19 ((hW.body 50 r).body 12 (r + 1)) (by rw [show (sq_body 12 (r + 1) (sq_body 50 r A)).1.1 = A.1.1 by simp only [sq_body_t, (sq_walking_t _ _ _ _).1]]; exact h1) (k1 := k1) (a2 := a2) (r := r + 1 + 1) rfl (by omega)) q1833 cv_X5_walking ⟨Nat.le_of_ble_eq_true rfl, Nat.le_of_ble_eq_true rfl⟩ rfl (Nat.le_of_ble_eq_true rfl) hR19.om rfl rfl) rfl (fun G20 u20 hR20 hA20 => ?_)
        have hn21 := sq_walking_n (k1 := k1) (a2 := a2) (r := r + 1 + 1) (A := sq_body 12 (r + 1) (sq_body 50 r A)) (by omega)
        refine hr_istore5 (q := 61) X dX5_paying_59 rfl rfl (Nat.le_of_ble_eq_true rfl) ?_
        refine hr_iload5 (q := 63) X dX5_paying_61 rfl ?_
        refine hr_aload0 (q := 64) X dX5_paying_63 rfl ?_
        refine hr_iload1 (q := 65) X dX5_paying_64 rfl ?_
        refine hr_iload2 (q := 66) X dX5_paying_65 rfl ?_
        refine hr_aload0 (q := 67) X dX5_paying_66 rfl ?_
        refine hr_getR (v := am 10) (q := 70) X dX5_paying_67 rfl fr_q1392_5 rfl hR20.om (hR20.f rfl) ?_
        refine hr_iload1 (q := 71) X dX5_paying_70 rfl ?_
        refine hr_ialdN (v := (nI (A.1.1 10 k1))) (q := 72) X dX5_paying_71 rfl (hR20.ka (n := 7) rfl rfl rfl) (Or.inl rfl) (by omega) (by decide) ((hR20.ar rfl _).trans ((hA20.p (by decide) (by decide) (by omega)).trans (congrArg nI (by simp only [sq_body_t, (sq_walking_t _ _ _ _).1])))) ?_
        refine hr_isub (v := (a2 - (nI (A.1.1 10 k1)))) (q := 73) X dX5_paying_72 rfl rfl ?_
        refine hr_callT (q := 76) (hc_V (n := 2) (ci := 5) (As := [.int (nI k1), .int (a2 - (nI (A.1.1 10 k1)))]) X dX5_paying_73 rfl (tk_looking X.tr hR20 hA20 (((hW.body 50 r).body 12 (r + 1)).same (sq_walking_t _ _ _ _).1 (sq_walking_t _ _ _ _).2) (by rw [show ((sq_walking k1 a2 (r + 1 + 1) (sq_body 12 (r + 1) (sq_body 50 r A))).2).1.1 = A.1.1 by simp only [sq_body_t, (sq_walking_t _ _ _ _).1]]; exact h1) (k1 := k1) (a2 := (a2 - (nI (A.1.1 10 k1)))) (r := iN (((sq_walking k1 a2 (r + 1 + 1) (sq_body 12 (r + 1) (sq_body 50 r A))).2).1.2 42)) hn21.1 (by omega)) q1825 cv_X5_looking ⟨Nat.le_of_ble_eq_true rfl, Nat.le_of_ble_eq_true rfl⟩ rfl (Nat.le_of_ble_eq_true rfl) hR20.om rfl rfl) rfl (fun G22 u22 hR22 hA22 => ?_)
        have hn23 := sq_looking_n (k1 := k1) (a2 := (a2 - (nI (A.1.1 10 k1)))) (r := iN (((sq_walking k1 a2 (r + 1 + 1) (sq_body 12 (r + 1) (sq_body 50 r A))).2).1.2 42)) (A := (sq_walking k1 a2 (r + 1 + 1) (sq_body 12 (r + 1) (sq_body 50 r A))).2) (by omega)
        refine hr_ixor (v := (((sq_walking k1 a2 (r + 1 + 1) (sq_body 12 (r + 1) (sq_body 50 r A))).1) ^^^ ((sq_looking k1 (a2 - (nI (A.1.1 10 k1))) (iN (((sq_walking k1 a2 (r + 1 + 1) (sq_body 12 (r + 1) (sq_body 50 r A))).2).1.2 42)) ((sq_walking k1 a2 (r + 1 + 1) (sq_body 12 (r + 1) (sq_body 50 r A))).2)).1))) (q := 77) X dX5_paying_76 rfl rfl ?_
        refine hr_istore5 (q := 79) X dX5_paying_77 rfl rfl (Nat.le_of_ble_eq_true rfl) ?_
        refine hr_iload4 (q := 81) X dX5_paying_79 rfl ?_
        refine hr_if_eq (q := 84) (tgt := 90) X dX5_paying_81 rfl (by decide) (fun z => absurd z (by decide)) (fun _ => ?_)
        refine hr_iload5 (q := 86) X dX5_paying_84 rfl ?_
        refine hr_ineg (v := (-(((sq_walking k1 a2 (r + 1 + 1) (sq_body 12 (r + 1) (sq_body 50 r A))).1) ^^^ ((sq_looking k1 (a2 - (nI (A.1.1 10 k1))) (iN (((sq_walking k1 a2 (r + 1 + 1) (sq_body 12 (r + 1) (sq_body 50 r A))).2).1.2 42)) ((sq_walking k1 a2 (r + 1 + 1) (sq_body 12 (r + 1) (sq_body 50 r A))).2)).1)))) (q := 87) X dX5_paying_86 rfl rfl ?_
        refine hr_goto (tgt := 104) X dX5_paying_87 (by decide) ?_
        exact hr_iret X hr dX5_paying_104 (tw_end (by rw [sq_paying, if_neg (show ¬ ((A.1.1 9 k1) = 4) by omega), if_pos (show (A.1.1 9 k1) = 6 by omega)]) hR22 hA22)
      · exact False.elim (by omega)

