def sq_hours (a1 : Int32) (A : ab_S) : Int32 × ab_S :=
  if sp_fr a1 (nI 1) (nI 40) = true then (((sq_nHours A (iN a1)).1.2 5), sq_nHours A (iN a1))
  else (((sq_no (-6) A).1), (sq_no (-6) A).2)
theorem tk_hours {l : Launch} {D : hg_D} {lo : Nat} (htr : l.stackTraces = false) {G : hg_G} {o : Nat} {am : Nat → Nat} {u : tw_S} {A : ab_S} (hR : tw_R G o am u) (hA : tw_A u A) {a1 : Int32} (hW : ab_wf A) :
    hg_M l D lo yX5_hours (ws_ yX5_hours cX5_hours 6 ((some FieldType.int))) rm_X5_hours [.ref o, .int a1] G (tw_Po o am (sq_hours a1 A)) := by
  have hw := hW.w; have w0 := hw.b0; have w1 := hw.b1; have w2 := hw.b2; have w3 := hw.b3; have w36 := hW.b36; have w43 := hW.b43
  refine hg_M.of htr (by decide) [some (.ref o), some (.int a1), none, none, none, none] rfl (Nat.le_of_ble_eq_true rfl) ?_
  intro p e s m args below meth c X hr hnm htab
  have X : hg_X p l s m args meth c D lo "TaxOnLooksModel" cX5_hours 6 := X
  refine hr_aload0 (q := 1) X dX5_hours_0 rfl ?_
  refine hr_iload1 (q := 2) X dX5_hours_1 rfl ?_
  refine hr_iconst (v := (nI 1)) (q := 3) X dX5_hours_2 rfl rfl ?_
  refine hr_bipush (v := (nI 40)) (q := 5) X dX5_hours_3 rfl rfl ?_
  refine hr_callP (q := 8) (hc_V (n := 3) (ci := 5) (As := [.int a1, .int (nI 1), .int (nI 40)]) X dX5_hours_5 rfl (tk_isFrom X.tr hR a1 (nI 1) (nI 40)) q1563 cv_X5_isFrom ⟨Nat.le_of_ble_eq_true rfl, Nat.le_of_ble_eq_true rfl⟩ rfl (Nat.le_of_ble_eq_true rfl) hR.om rfl rfl) rfl ?_
  refine hr_ifB_ne (q := 11) (tgt := 18) X dX5_hours_8 rfl (by decide) (fun c8 => ?_) (fun c8 => ?_)
  · have n18_1 := sp_frN (by decide) (by decide) c8
    refine hr_L (L' := [some (.ref o), some (.int (nI (iN a1))), none, none, none, none]) (by rw [← n18_1.1]) ?_
    refine hr_iconst (v := (nI 0)) (q := 19) X dX5_hours_18 rfl rfl ?_
    refine hr_istore2 (q := 20) X dX5_hours_19 rfl rfl (Nat.le_of_ble_eq_true rfl) ?_
    have loop20 : ∀ (kr nr n : Nat) (G20 : hg_G) (u20 : tw_S) (k : Nat), tw_R G20 o am u20 → tw_A u20 (sq_nHours A k) → (k ≤ iN a1) → (iN a1 + 1 ≤ k + n) → hg_W p l e rm_X5_hours s m args below meth c (hg_Q below D lo args s rm_X5_hours G (tw_Po o am (sq_hours a1 A))) D lo G.1 6 kr nr G20 20 [some (.ref o), some (.int (nI (iN a1))), some (.int (nI k)), none, none, none] [] := by
      intro kr nr n
      induction n with
      | zero =>
        intro G20 u20 k hR20 hA20 h20_0 h20_1
        omega
      | succ n ih20 =>
        intro G20 u20 k hR20 hA20 h20_0 h20_1
        refine hr_iload2 (q := 21) X dX5_hours_20 rfl ?_
        refine hr_iload1 (q := 22) X dX5_hours_21 rfl ?_
        refine hr_icmpN_ge (q := 25) (tgt := 168) X dX5_hours_22 rfl (by decide) (by omega) (by omega) (fun c22 => ?_) (fun c22 => ?_)
        · have hk : k = iN a1 := by omega
          rw [hk] at hA20
          refine hr_aload0 (q := 169) X dX5_hours_168 rfl ?_
          refine hr_getI (v := ((sq_nHours A (iN a1)).1.2 5)) (q := 172) X dX5_hours_169 rfl fr_q1387_5 rfl hR20.om ((hR20.sc 5).trans (hA20.f5)) ?_
          exact hr_iret X hr dX5_hours_172 (tw_end (by rw [sq_hours, if_pos c8]) hR20 hA20)
        · have hWk := (hW.nHours k).1; have hPk := (hW.nHours k).2
          refine hr_aload0 (q := 26) X dX5_hours_25 rfl ?_
          refine hr_aload0 (q := 27) X dX5_hours_26 rfl ?_
          refine hr_iconst (v := (nI 4)) (q := 28) X dX5_hours_27 rfl rfl ?_
          refine hr_callT (q := 31) (hc_V (n := 1) (ci := 5) (As := [.int (nI 4)]) X dX5_hours_28 rfl (tk_draw X.tr hR20 hA20 (k := 4) (by decide) (by decide)) q1812 cv_X5_draw ⟨Nat.le_of_ble_eq_true rfl, Nat.le_of_ble_eq_true rfl⟩ rfl (Nat.le_of_ble_eq_true rfl) hR20.om rfl rfl) rfl (fun G1 u1 hR1 hA1 => ?_)
          refine hr_if_ne (q := 34) (tgt := 38) X dX5_hours_31 rfl (by decide) (fun c31 => ?_) (fun c31 => ?_)
          · refine hr_iconst (v := (nI 0)) (q := 39) X dX5_hours_38 rfl rfl ?_
            refine hr_putI (q := 42) X dX5_hours_39 rfl fw_q1385_5 (fun h => nomatch h) rfl rfl rfl hR1.om ?_
            have hR2 := hR1.setS 3 (nI 0)
            have hA2 := hA1.nS (k := 3) (n := 0) (by decide) rfl
            have hA := hA2
            rw [show ab_n (ab_i (sq_nHours A k) 6 (sq_next ((sq_nHours A k).1.2 6))) 3 0 0 = sq_rain (sq_nHours A k) by rw [sq_rain, if_neg c31]] at hA
            refine hr_iconst (v := (nI 0)) (q := 43) X dX5_hours_42 rfl rfl ?_
            refine hr_istore3 (q := 44) X dX5_hours_43 rfl rfl (Nat.le_of_ble_eq_true rfl) ?_
            have loop44 : ∀ (n : Nat) (G44 : hg_G) (u44 : tw_S) (i : Nat), tw_R G44 o am u44 → tw_A u44 (sq_moves (sq_rain (sq_nHours A k)) i) → (i ≤ A.1.1 0 0) → (A.1.1 0 0 + 1 ≤ i + n) → (i ≤ 7) → hg_W p l e rm_X5_hours s m args below meth c (hg_Q below D lo args s rm_X5_hours G (tw_Po o am (sq_hours a1 A))) D lo G.1 6 kr nr G44 44 [some (.ref o), some (.int (nI (iN a1))), some (.int (nI k)), some (.int (nI i)), none, none] [] := by
              intro n
              induction n with
              | zero =>
                intro G44 u44 i hR44 hA44 h44_0 h44_1 h44_2
                omega
              | succ n ih44 =>
                intro G44 u44 i hR44 hA44 h44_0 h44_1 h44_2
                refine hr_iload3 (q := 45) X dX5_hours_44 rfl ?_
                have hq := hWk.rain.moves i (by omega)
                have hWm := hq.1; have hPm : (sq_moves (sq_rain (sq_nHours A k)) i).1.1 0 0 = A.1.1 0 0 := hq.2.trans hPk
                have wm0 := hWm.w.b0
                refine hr_aload0 (q := 46) X dX5_hours_45 rfl ?_
                refine hr_getI (v := (nI ((sq_moves (sq_rain (sq_nHours A k)) i).1.1 0 0))) (q := 49) X dX5_hours_46 rfl fr_q1382_5 rfl hR44.om ((hR44.sc 0).trans (hA44.sc (by decide))) ?_
                refine hr_icmpN_ge (q := 52) (tgt := 113) X dX5_hours_49 rfl (by decide) (by omega) (by omega) (fun c49 => ?_) (fun c49 => ?_)
                · have hi : i = A.1.1 0 0 := by omega
                  subst hi
                  refine hr_aload0 (q := 114) X dX5_hours_113 rfl ?_
                  refine hr_iconst (v := (nI 0)) (q := 115) X dX5_hours_114 rfl rfl ?_
                  refine hr_putI (q := 118) X dX5_hours_115 rfl fw_q1422_5 (fun h => nomatch h) rfl rfl rfl hR44.om ?_
                  have hR3 := hR44.setS 40 (nI 0)
                  have hA3 := hA44.scS (k := 40) rfl (nI 0)
                  refine hr_iconst (v := (nI 0)) (q := 119) X dX5_hours_118 rfl rfl ?_
                  refine hr_istore3 (q := 120) X dX5_hours_119 rfl rfl (Nat.le_of_ble_eq_true rfl) ?_
                  have loop120 : ∀ (n : Nat) (G120 : hg_G) (u120 : tw_S) (i : Nat), tw_R G120 o am u120 → tw_A u120 ((sq_pays (sq_moves (sq_rain (sq_nHours A k)) (A.1.1 0 0)) i).1) → (i ≤ A.1.1 0 0) → (A.1.1 0 0 + 1 ≤ i + n) → (u120.1 40 = nI (sq_pays (sq_moves (sq_rain (sq_nHours A k)) (A.1.1 0 0)) i).2) → (i ≤ 7) → hg_W p l e rm_X5_hours s m args below meth c (hg_Q below D lo args s rm_X5_hours G (tw_Po o am (sq_hours a1 A))) D lo G.1 6 kr nr G120 120 [some (.ref o), some (.int (nI (iN a1))), some (.int (nI k)), some (.int (nI i)), none, none] [] := by
                    intro n
                    induction n with
                    | zero =>
                      intro G120 u120 i hR120 hA120 h120_0 h120_1 h120_2 h120_3
                      omega
                    | succ n ih120 =>
                      intro G120 u120 i hR120 hA120 h120_0 h120_1 h120_2 h120_3
                      refine hr_iload3 (q := 121) X dX5_hours_120 rfl ?_
                      have hq := ((hWk.rain.moves (A.1.1 0 0) (by omega)).1).pays i (by omega)
                      have hWz := hq.1; have hPz : (sq_pays (sq_moves (sq_rain (sq_nHours A k)) (A.1.1 0 0)) i).1.1.1 0 0 = A.1.1 0 0 := hq.2.trans (((hWk.rain.moves (A.1.1 0 0) (by omega)).2).trans hPk)
                      have wz0 := hWz.w.b0
                      refine hr_aload0 (q := 122) X dX5_hours_121 rfl ?_
                      refine hr_getI (v := (nI (((sq_pays (sq_moves (sq_rain (sq_nHours A k)) (A.1.1 0 0)) i).1).1.1 0 0))) (q := 125) X dX5_hours_122 rfl fr_q1382_5 rfl hR120.om ((hR120.sc 0).trans (hA120.sc (by decide))) ?_
                      refine hr_icmpN_ge (q := 128) (tgt := 139) X dX5_hours_125 rfl (by decide) (by omega) (by omega) (fun c125 => ?_) (fun c125 => ?_)
                      · have hi2 : i = A.1.1 0 0 := by omega
                        subst hi2
                        refine hr_aload0 (q := 140) X dX5_hours_139 rfl ?_
                        refine hr_dup (q := 141) X dX5_hours_140 rfl rfl ?_
                        refine hr_getI (v := (((sq_pays (sq_moves (sq_rain (sq_nHours A k)) (A.1.1 0 0)) (A.1.1 0 0)).1).1.2 5)) (q := 144) X dX5_hours_141 rfl fr_q1387_5 rfl hR120.om ((hR120.sc 5).trans (hA120.f5)) ?_
                        refine hr_aload0 (q := 145) X dX5_hours_144 rfl ?_
                        refine hr_getI (v := (nI (sq_pays (sq_moves (sq_rain (sq_nHours A k)) (A.1.1 0 0)) (A.1.1 0 0)).2)) (q := 148) X dX5_hours_145 rfl fr_q1422_5 rfl hR120.om ((hR120.sc 40).trans h120_2) ?_
                        refine hr_iadd (v := ((((sq_pays (sq_moves (sq_rain (sq_nHours A k)) (A.1.1 0 0)) (A.1.1 0 0)).1).1.2 5) + (nI (sq_pays (sq_moves (sq_rain (sq_nHours A k)) (A.1.1 0 0)) (A.1.1 0 0)).2))) (q := 149) X dX5_hours_148 rfl rfl ?_
                        refine hr_putI (q := 152) X dX5_hours_149 rfl fw_q1387_5 (fun h => nomatch h) rfl rfl rfl hR120.om ?_
                        have hR4 := hR120.setS 5 ((((sq_pays (sq_moves (sq_rain (sq_nHours A k)) (A.1.1 0 0)) (A.1.1 0 0)).1).1.2 5) + (nI (sq_pays (sq_moves (sq_rain (sq_nHours A k)) (A.1.1 0 0)) (A.1.1 0 0)).2))
                        have hA4 := hA120.iS (k := 5) (by decide) ((((sq_pays (sq_moves (sq_rain (sq_nHours A k)) (A.1.1 0 0)) (A.1.1 0 0)).1).1.2 5) + (nI (sq_pays (sq_moves (sq_rain (sq_nHours A k)) (A.1.1 0 0)) (A.1.1 0 0)).2))
                        refine hr_aload0 (q := 153) X dX5_hours_152 rfl ?_
                        refine hr_dup (q := 154) X dX5_hours_153 rfl rfl ?_
                        refine hr_getI (v := (((sq_pays (sq_moves (sq_rain (sq_nHours A k)) (A.1.1 0 0)) (A.1.1 0 0)).1).1.2 4)) (q := 157) X dX5_hours_154 rfl fr_q1386_5 rfl hR4.om ((hR4.sc 4).trans (hA4.f4)) ?_
                        refine hr_iconst (v := (nI 1)) (q := 158) X dX5_hours_157 rfl rfl ?_
                        refine hr_iadd (v := ((((sq_pays (sq_moves (sq_rain (sq_nHours A k)) (A.1.1 0 0)) (A.1.1 0 0)).1).1.2 4) + (nI 1))) (q := 159) X dX5_hours_158 rfl rfl ?_
                        refine hr_putI (q := 162) X dX5_hours_159 rfl fw_q1386_5 (fun h => nomatch h) rfl rfl rfl hR4.om ?_
                        have hR5 := hR4.setS 4 ((((sq_pays (sq_moves (sq_rain (sq_nHours A k)) (A.1.1 0 0)) (A.1.1 0 0)).1).1.2 4) + (nI 1))
                        have hA5 := hA4.iS (k := 4) (by decide) ((((sq_pays (sq_moves (sq_rain (sq_nHours A k)) (A.1.1 0 0)) (A.1.1 0 0)).1).1.2 4) + (nI 1))
                        have h120_2 : ab_i (ab_i ((sq_pays (sq_moves (sq_rain (sq_nHours A k)) (A.1.1 0 0)) (A.1.1 0 0)).1) 5 ((((sq_pays (sq_moves (sq_rain (sq_nHours A k)) (A.1.1 0 0)) (A.1.1 0 0)).1).1.2 5) + (nI (sq_pays (sq_moves (sq_rain (sq_nHours A k)) (A.1.1 0 0)) (A.1.1 0 0)).2))) 4 ((((sq_pays (sq_moves (sq_rain (sq_nHours A k)) (A.1.1 0 0)) (A.1.1 0 0)).1).1.2 4) + (nI 1)) = sq_nHours A (k + 1) := by rw [sq_nHours, sq_hour, hPk]
                        refine hr_iinc2 (v := (nI (k + 1))) (q := 165) X dX5_hours_162 rfl (nI_add _ _) rfl (Nat.le_of_ble_eq_true rfl) ?_
                        refine hr_goto (tgt := 20) X dX5_hours_165 (by decide) ?_
                        refine hr_fg3 ?_
                        exact ih20 (hs_I (hs_I G120 o 5 ((((sq_pays (sq_moves (sq_rain (sq_nHours A k)) (A.1.1 0 0)) (A.1.1 0 0)).1).1.2 5) + (nI (sq_pays (sq_moves (sq_rain (sq_nHours A k)) (A.1.1 0 0)) (A.1.1 0 0)).2))) o 4 ((((sq_pays (sq_moves (sq_rain (sq_nHours A k)) (A.1.1 0 0)) (A.1.1 0 0)).1).1.2 4) + (nI 1))) (tw_setS (tw_setS u120 5 ((((sq_pays (sq_moves (sq_rain (sq_nHours A k)) (A.1.1 0 0)) (A.1.1 0 0)).1).1.2 5) + (nI (sq_pays (sq_moves (sq_rain (sq_nHours A k)) (A.1.1 0 0)) (A.1.1 0 0)).2))) 4 ((((sq_pays (sq_moves (sq_rain (sq_nHours A k)) (A.1.1 0 0)) (A.1.1 0 0)).1).1.2 4) + (nI 1))) (k + 1) hR5 (by have h := hA5; rw [h120_2] at h; exact h) (by omega) (by omega)
                      · refine hr_aload0 (q := 129) X dX5_hours_128 rfl ?_
                        refine hr_iload3 (q := 130) X dX5_hours_129 rfl ?_
                        refine hr_call0 (q := 133) (hc_V (n := 1) (ci := 5) (As := [.int (nI i)]) X dX5_hours_130 rfl (tk_pays X.tr hR120 hA120 hWz (x := i) (by omega)) q1792 cv_X5_pays ⟨Nat.le_of_ble_eq_true rfl, Nat.le_of_ble_eq_true rfl⟩ rfl (Nat.le_of_ble_eq_true rfl) hR120.om rfl rfl) rfl (fun qx E G' hp => by cases hp.1) (fun r Gp hp _ => ?_)
                        obtain ⟨hv1, up, hRp, hAp, hp4, -⟩ := hp
                        cases hv1
                        have hpd : up.1 40 = nI (sq_pays (sq_moves (sq_rain (sq_nHours A k)) (A.1.1 0 0)) (i + 1)).2 := by rw [hp4, h120_2, nI_add]; rfl
                        refine hr_iinc3 (v := (nI (i + 1))) (q := 136) X dX5_hours_133 rfl (nI_add _ _) rfl (Nat.le_of_ble_eq_true rfl) ?_
                        refine hr_goto (tgt := 120) X dX5_hours_136 (by decide) ?_
                        exact ih120 Gp up (i + 1) hRp hAp (by omega) (by omega) hpd (by omega)
                  exact loop120 (A.1.1 0 0 + 1) (hs_I G44 o 40 (nI 0)) (tw_setS u44 40 (nI 0)) 0 hR3 hA3 (by omega) (by omega) rfl (by omega)
                · refine hr_aload0 (q := 53) X dX5_hours_52 rfl ?_
                  refine hr_iconst (v := (nI 5)) (q := 54) X dX5_hours_53 rfl rfl ?_
                  refine hr_callT (q := 57) (hc_V (n := 1) (ci := 5) (As := [.int (nI 5)]) X dX5_hours_54 rfl (tk_draw X.tr hR44 hA44 (k := 5) (by decide) (by decide)) q1812 cv_X5_draw ⟨Nat.le_of_ble_eq_true rfl, Nat.le_of_ble_eq_true rfl⟩ rfl (Nat.le_of_ble_eq_true rfl) hR44.om rfl rfl) rfl (fun G6 u6 hR6 hA6 => ?_)
                  have hdn := sq_drawn_n (n := 5) (by decide) (by decide) (sq_next ((sq_moves (sq_rain (sq_nHours A k)) i).1.2 6))
                  refine hr_st1 (v' := .int (nI (iN (sq_drawn 5 (sq_next ((sq_moves (sq_rain (sq_nHours A k)) i).1.2 6)))))) (congrArg Value.int hdn.1) ?_
                  refine hr_istore4 (q := 59) X dX5_hours_57 rfl rfl (Nat.le_of_ble_eq_true rfl) ?_
                  refine hr_iload4 (q := 61) X dX5_hours_59 rfl ?_
                  refine hr_iconst (v := (nI 4)) (q := 62) X dX5_hours_61 rfl rfl ?_
                  refine hr_icmpN_ne (q := 65) (tgt := 69) X dX5_hours_62 rfl (by decide) (by omega) (by omega) (fun c62 => ?_) (fun c62 => ?_)
                  · refine hr_aload0 (q := 70) X dX5_hours_69 rfl ?_
                    refine hr_aload0 (q := 71) X dX5_hours_70 rfl ?_
                    refine hr_getR (v := am 14) (q := 74) X dX5_hours_71 rfl fr_q1396_5 rfl hR6.om (hR6.f rfl) ?_
                    refine hr_iload3 (q := 75) X dX5_hours_74 rfl ?_
                    refine hr_ialdN (v := (nI ((sq_moves (sq_rain (sq_nHours A k)) i).1.1 14 i))) (q := 76) X dX5_hours_75 rfl (hR6.ka (n := 7) rfl rfl rfl) (Or.inl rfl) (by omega) (by decide) ((hR6.ar rfl _).trans (hA6.p (by decide) (by decide) (by omega))) ?_
                    have b75 := hWm.w.b14 (show i < 7 by omega)
                    refine hr_iload4 (q := 78) X dX5_hours_76 rfl ?_
                    refine hr_callP (v := .int (oI (sp_beside ((sq_moves (sq_rain (sq_nHours A k)) i).1.1 14 i) (iN (sq_drawn 5 (sq_next ((sq_moves (sq_rain (sq_nHours A k)) i).1.2 6))))))) (q := 81) (hc_V (n := 2) (ci := 5) (As := [.int (nI ((sq_moves (sq_rain (sq_nHours A k)) i).1.1 14 i)), .int (nI (iN (sq_drawn 5 (sq_next ((sq_moves (sq_rain (sq_nHours A k)) i).1.2 6)))))]) X dX5_hours_78 rfl (tk_beside X.tr hR6 (z := (sq_moves (sq_rain (sq_nHours A k)) i).1.1 14 i) (v := iN (sq_drawn 5 (sq_next ((sq_moves (sq_rain (sq_nHours A k)) i).1.2 6)))) (by omega) (by omega)) q1728 cv_X5_beside ⟨Nat.le_of_ble_eq_true rfl, Nat.le_of_ble_eq_true rfl⟩ rfl (Nat.le_of_ble_eq_true rfl) hR6.om rfl rfl) rfl ?_
                    have hsq : sq_to (sq_moves (sq_rain (sq_nHours A k)) i) i = sp_beside ((sq_moves (sq_rain (sq_nHours A k)) i).1.1 14 i) (iN (sq_drawn 5 (sq_next ((sq_moves (sq_rain (sq_nHours A k)) i).1.2 6)))) := by rw [sq_to, if_neg (by omega)]
                    have hlt := sq_to_lt hWm (p := i) (by omega)
                    rw [← hsq]
                    refine hr_istore5 (q := 83) X dX5_hours_81 rfl rfl (Nat.le_of_ble_eq_true rfl) ?_
                    refine hr_iload5 (q := 85) X dX5_hours_83 rfl ?_
                    refine hr_iconst (v := (-1)) (q := 86) X dX5_hours_85 rfl rfl ?_
                    refine hr_icmpO_eq (q := 89) (tgt := 107) X dX5_hours_86 rfl (by decide) (by omega) (fun c86 => ?_) (fun c86 => ?_)
                    · have hto := c86
                      refine hr_iinc3 (v := (nI (i + 1))) (q := 110) X dX5_hours_107 rfl (nI_add _ _) rfl (Nat.le_of_ble_eq_true rfl) ?_
                      refine hr_goto (tgt := 44) X dX5_hours_110 (by decide) ?_
                      refine hr_fg4 ?_
                      refine hr_fg5 ?_
                      exact ih44 G6 u6 (i + 1) hR6 (by have h := hA6; rw [show ab_i (sq_moves (sq_rain (sq_nHours A k)) i) 6 (sq_next ((sq_moves (sq_rain (sq_nHours A k)) i).1.2 6)) = sq_moves (sq_rain (sq_nHours A k)) (i + 1) by rw [sq_moves, sq_goes, if_pos hto]] at h; exact h) (by omega) (by omega) (by omega)
                    · have hto := c86
                      refine hr_aload0 (q := 90) X dX5_hours_89 rfl ?_
                      refine hr_getR (v := am 16) (q := 93) X dX5_hours_90 rfl fr_q1398_5 rfl hR6.om (hR6.f rfl) ?_
                      refine hr_iload5 (q := 95) X dX5_hours_93 rfl ?_
                      refine hr_st1 (v' := .int (nI (sq_to (sq_moves (sq_rain (sq_nHours A k)) i) i))) (congrArg Value.int (oI_of c86)) ?_
                      refine hr_ialdN (v := (nI ((sq_moves (sq_rain (sq_nHours A k)) i).1.1 16 (sq_to (sq_moves (sq_rain (sq_nHours A k)) i) i)))) (q := 96) X dX5_hours_95 rfl (hR6.ka (n := 36) rfl rfl rfl) (Or.inl rfl) (by omega) (by decide) ((hR6.ar rfl _).trans (hA6.c (by decide) (by decide) (by omega))) ?_
                      have b95 := hWm.w.b16 (show sq_to (sq_moves (sq_rain (sq_nHours A k)) i) i < 36 by omega)
                      refine hr_ifN_ne (q := 99) (tgt := 107) X dX5_hours_96 rfl (by decide) (by omega) (fun c96 => ?_) (fun c96 => ?_)
                      · have hfree : ¬ (sq_moves (sq_rain (sq_nHours A k)) i).1.1 16 (sq_to (sq_moves (sq_rain (sq_nHours A k)) i) i) = 0 := by omega
                        refine hr_iinc3 (v := (nI (i + 1))) (q := 110) X dX5_hours_107 rfl (nI_add _ _) rfl (Nat.le_of_ble_eq_true rfl) ?_
                        refine hr_goto (tgt := 44) X dX5_hours_110 (by decide) ?_
                        refine hr_fg4 ?_
                        refine hr_fg5 ?_
                        exact ih44 G6 u6 (i + 1) hR6 (by have h := hA6; rw [show ab_i (sq_moves (sq_rain (sq_nHours A k)) i) 6 (sq_next ((sq_moves (sq_rain (sq_nHours A k)) i).1.2 6)) = sq_moves (sq_rain (sq_nHours A k)) (i + 1) by rw [sq_moves, sq_goes, if_neg hto, if_neg hfree]] at h; exact h) (by omega) (by omega) (by omega)
                      · have hfree : (sq_moves (sq_rain (sq_nHours A k)) i).1.1 16 (sq_to (sq_moves (sq_rain (sq_nHours A k)) i) i) = 0 := by omega
                        refine hr_aload0 (q := 100) X dX5_hours_99 rfl ?_
                        refine hr_getR (v := am 14) (q := 103) X dX5_hours_100 rfl fr_q1396_5 rfl hR6.om (hR6.f rfl) ?_
                        refine hr_iload3 (q := 104) X dX5_hours_103 rfl ?_
                        refine hr_iload5 (q := 106) X dX5_hours_104 rfl ?_
                        refine hr_st1 (v' := .int (nI (sq_to (sq_moves (sq_rain (sq_nHours A k)) i) i))) (congrArg Value.int (oI_of c86)) ?_
                        refine hr_iastN (q := 107) X dX5_hours_106 rfl (hR6.ka (n := 7) rfl rfl rfl) (by omega) (by decide) ?_
                        have hR7 := hR6.setA (k := 14) rfl i (nI (sq_to (sq_moves (sq_rain (sq_nHours A k)) i) i))
                        have hA7 := hA6.nA (k := 14) (j := i) (n := sq_to (sq_moves (sq_rain (sq_nHours A k)) i) i) (by decide) rfl
                        refine hr_iinc3 (v := (nI (i + 1))) (q := 110) X dX5_hours_107 rfl (nI_add _ _) rfl (Nat.le_of_ble_eq_true rfl) ?_
                        refine hr_goto (tgt := 44) X dX5_hours_110 (by decide) ?_
                        refine hr_fg4 ?_
                        refine hr_fg5 ?_
                        exact ih44 (hs_I G6 (am 14) i (nI (sq_to (sq_moves (sq_rain (sq_nHours A k)) i) i))) (tw_setA u6 14 i (nI (sq_to (sq_moves (sq_rain (sq_nHours A k)) i) i))) (i + 1) hR7 (by have h := hA7; rw [show ab_n (ab_i (sq_moves (sq_rain (sq_nHours A k)) i) 6 (sq_next ((sq_moves (sq_rain (sq_nHours A k)) i).1.2 6))) 14 i (sq_to (sq_moves (sq_rain (sq_nHours A k)) i) i) = sq_moves (sq_rain (sq_nHours A k)) (i + 1) by rw [sq_moves, sq_goes, if_neg hto, if_pos hfree]] at h; exact h) (by omega) (by omega) (by omega)
                  · refine hr_iconst (v := (-1)) (q := 66) X dX5_hours_65 rfl rfl ?_
                    refine hr_goto (tgt := 81) X dX5_hours_66 (by decide) ?_
                    have hto : sq_to (sq_moves (sq_rain (sq_nHours A k)) i) i = 99 := by rw [sq_to, if_pos (by omega)]
                    refine hr_istore5 (q := 83) X dX5_hours_81 rfl rfl (Nat.le_of_ble_eq_true rfl) ?_
                    refine hr_iload5 (q := 85) X dX5_hours_83 rfl ?_
                    refine hr_iconst (v := (-1)) (q := 86) X dX5_hours_85 rfl rfl ?_
                    refine hr_icmp_eq (q := 89) (tgt := 107) X dX5_hours_86 rfl (by decide) (fun c86 => ?_) (fun c86 => ?_)
                    · refine hr_iinc3 (v := (nI (i + 1))) (q := 110) X dX5_hours_107 rfl (nI_add _ _) rfl (Nat.le_of_ble_eq_true rfl) ?_
                      refine hr_goto (tgt := 44) X dX5_hours_110 (by decide) ?_
                      refine hr_fg4 ?_
                      refine hr_fg5 ?_
                      exact ih44 G6 u6 (i + 1) hR6 (by have h := hA6; rw [show ab_i (sq_moves (sq_rain (sq_nHours A k)) i) 6 (sq_next ((sq_moves (sq_rain (sq_nHours A k)) i).1.2 6)) = sq_moves (sq_rain (sq_nHours A k)) (i + 1) by rw [sq_moves, sq_goes, if_pos hto]] at h; exact h) (by omega) (by omega) (by omega)
                    · exact absurd rfl c86
            exact loop44 (A.1.1 0 0 + 1) (hs_I G1 o 3 (nI 0)) (tw_setS u1 3 (nI 0)) 0 hR2 hA (by omega) (by omega) (by omega)
          · refine hr_iconst (v := (nI 1)) (q := 35) X dX5_hours_34 rfl rfl ?_
            refine hr_goto (tgt := 39) X dX5_hours_35 (by decide) ?_
            refine hr_putI (q := 42) X dX5_hours_39 rfl fw_q1385_5 (fun h => nomatch h) rfl rfl rfl hR1.om ?_
            have hR8 := hR1.setS 3 (nI 1)
            have hA8 := hA1.nS (k := 3) (n := 1) (by decide) rfl
            have hA := hA8
            rw [show ab_n (ab_i (sq_nHours A k) 6 (sq_next ((sq_nHours A k).1.2 6))) 3 0 1 = sq_rain (sq_nHours A k) by rw [sq_rain, if_pos c31]] at hA
            refine hr_iconst (v := (nI 0)) (q := 43) X dX5_hours_42 rfl rfl ?_
            refine hr_istore3 (q := 44) X dX5_hours_43 rfl rfl (Nat.le_of_ble_eq_true rfl) ?_
            have loop44 : ∀ (n : Nat) (G44 : hg_G) (u44 : tw_S) (i : Nat), tw_R G44 o am u44 → tw_A u44 (sq_moves (sq_rain (sq_nHours A k)) i) → (i ≤ A.1.1 0 0) → (A.1.1 0 0 + 1 ≤ i + n) → (i ≤ 7) → hg_W p l e rm_X5_hours s m args below meth c (hg_Q below D lo args s rm_X5_hours G (tw_Po o am (sq_hours a1 A))) D lo G.1 6 kr nr G44 44 [some (.ref o), some (.int (nI (iN a1))), some (.int (nI k)), some (.int (nI i)), none, none] [] := by
              intro n
              induction n with
              | zero =>
                intro G44 u44 i hR44 hA44 h44_0 h44_1 h44_2
                omega
              | succ n ih44 =>
                intro G44 u44 i hR44 hA44 h44_0 h44_1 h44_2
                refine hr_iload3 (q := 45) X dX5_hours_44 rfl ?_
                have hq := hWk.rain.moves i (by omega)
                have hWm := hq.1; have hPm : (sq_moves (sq_rain (sq_nHours A k)) i).1.1 0 0 = A.1.1 0 0 := hq.2.trans hPk
                have wm0 := hWm.w.b0
                refine hr_aload0 (q := 46) X dX5_hours_45 rfl ?_
                refine hr_getI (v := (nI ((sq_moves (sq_rain (sq_nHours A k)) i).1.1 0 0))) (q := 49) X dX5_hours_46 rfl fr_q1382_5 rfl hR44.om ((hR44.sc 0).trans (hA44.sc (by decide))) ?_
                refine hr_icmpN_ge (q := 52) (tgt := 113) X dX5_hours_49 rfl (by decide) (by omega) (by omega) (fun c49 => ?_) (fun c49 => ?_)
                · have hi : i = A.1.1 0 0 := by omega
                  subst hi
                  refine hr_aload0 (q := 114) X dX5_hours_113 rfl ?_
                  refine hr_iconst (v := (nI 0)) (q := 115) X dX5_hours_114 rfl rfl ?_
                  refine hr_putI (q := 118) X dX5_hours_115 rfl fw_q1422_5 (fun h => nomatch h) rfl rfl rfl hR44.om ?_
                  have hR9 := hR44.setS 40 (nI 0)
                  have hA9 := hA44.scS (k := 40) rfl (nI 0)
                  refine hr_iconst (v := (nI 0)) (q := 119) X dX5_hours_118 rfl rfl ?_
                  refine hr_istore3 (q := 120) X dX5_hours_119 rfl rfl (Nat.le_of_ble_eq_true rfl) ?_
                  have loop120 : ∀ (n : Nat) (G120 : hg_G) (u120 : tw_S) (i : Nat), tw_R G120 o am u120 → tw_A u120 ((sq_pays (sq_moves (sq_rain (sq_nHours A k)) (A.1.1 0 0)) i).1) → (i ≤ A.1.1 0 0) → (A.1.1 0 0 + 1 ≤ i + n) → (u120.1 40 = nI (sq_pays (sq_moves (sq_rain (sq_nHours A k)) (A.1.1 0 0)) i).2) → (i ≤ 7) → hg_W p l e rm_X5_hours s m args below meth c (hg_Q below D lo args s rm_X5_hours G (tw_Po o am (sq_hours a1 A))) D lo G.1 6 kr nr G120 120 [some (.ref o), some (.int (nI (iN a1))), some (.int (nI k)), some (.int (nI i)), none, none] [] := by
                    intro n
                    induction n with
                    | zero =>
                      intro G120 u120 i hR120 hA120 h120_0 h120_1 h120_2 h120_3
                      omega
                    | succ n ih120 =>
                      intro G120 u120 i hR120 hA120 h120_0 h120_1 h120_2 h120_3
                      refine hr_iload3 (q := 121) X dX5_hours_120 rfl ?_
                      have hq := ((hWk.rain.moves (A.1.1 0 0) (by omega)).1).pays i (by omega)
                      have hWz := hq.1; have hPz : (sq_pays (sq_moves (sq_rain (sq_nHours A k)) (A.1.1 0 0)) i).1.1.1 0 0 = A.1.1 0 0 := hq.2.trans (((hWk.rain.moves (A.1.1 0 0) (by omega)).2).trans hPk)
                      have wz0 := hWz.w.b0
                      refine hr_aload0 (q := 122) X dX5_hours_121 rfl ?_
                      refine hr_getI (v := (nI (((sq_pays (sq_moves (sq_rain (sq_nHours A k)) (A.1.1 0 0)) i).1).1.1 0 0))) (q := 125) X dX5_hours_122 rfl fr_q1382_5 rfl hR120.om ((hR120.sc 0).trans (hA120.sc (by decide))) ?_
                      refine hr_icmpN_ge (q := 128) (tgt := 139) X dX5_hours_125 rfl (by decide) (by omega) (by omega) (fun c125 => ?_) (fun c125 => ?_)
                      · have hi2 : i = A.1.1 0 0 := by omega
                        subst hi2
                        refine hr_aload0 (q := 140) X dX5_hours_139 rfl ?_
                        refine hr_dup (q := 141) X dX5_hours_140 rfl rfl ?_
                        refine hr_getI (v := (((sq_pays (sq_moves (sq_rain (sq_nHours A k)) (A.1.1 0 0)) (A.1.1 0 0)).1).1.2 5)) (q := 144) X dX5_hours_141 rfl fr_q1387_5 rfl hR120.om ((hR120.sc 5).trans (hA120.f5)) ?_
                        refine hr_aload0 (q := 145) X dX5_hours_144 rfl ?_
                        refine hr_getI (v := (nI (sq_pays (sq_moves (sq_rain (sq_nHours A k)) (A.1.1 0 0)) (A.1.1 0 0)).2)) (q := 148) X dX5_hours_145 rfl fr_q1422_5 rfl hR120.om ((hR120.sc 40).trans h120_2) ?_
                        refine hr_iadd (v := ((((sq_pays (sq_moves (sq_rain (sq_nHours A k)) (A.1.1 0 0)) (A.1.1 0 0)).1).1.2 5) + (nI (sq_pays (sq_moves (sq_rain (sq_nHours A k)) (A.1.1 0 0)) (A.1.1 0 0)).2))) (q := 149) X dX5_hours_148 rfl rfl ?_
                        refine hr_putI (q := 152) X dX5_hours_149 rfl fw_q1387_5 (fun h => nomatch h) rfl rfl rfl hR120.om ?_
                        have hR10 := hR120.setS 5 ((((sq_pays (sq_moves (sq_rain (sq_nHours A k)) (A.1.1 0 0)) (A.1.1 0 0)).1).1.2 5) + (nI (sq_pays (sq_moves (sq_rain (sq_nHours A k)) (A.1.1 0 0)) (A.1.1 0 0)).2))
                        have hA10 := hA120.iS (k := 5) (by decide) ((((sq_pays (sq_moves (sq_rain (sq_nHours A k)) (A.1.1 0 0)) (A.1.1 0 0)).1).1.2 5) + (nI (sq_pays (sq_moves (sq_rain (sq_nHours A k)) (A.1.1 0 0)) (A.1.1 0 0)).2))
                        refine hr_aload0 (q := 153) X dX5_hours_152 rfl ?_
                        refine hr_dup (q := 154) X dX5_hours_153 rfl rfl ?_
                        refine hr_getI (v := (((sq_pays (sq_moves (sq_rain (sq_nHours A k)) (A.1.1 0 0)) (A.1.1 0 0)).1).1.2 4)) (q := 157) X dX5_hours_154 rfl fr_q1386_5 rfl hR10.om ((hR10.sc 4).trans (hA10.f4)) ?_
                        refine hr_iconst (v := (nI 1)) (q := 158) X dX5_hours_157 rfl rfl ?_
                        refine hr_iadd (v := ((((sq_pays (sq_moves (sq_rain (sq_nHours A k)) (A.1.1 0 0)) (A.1.1 0 0)).1).1.2 4) + (nI 1))) (q := 159) X dX5_hours_158 rfl rfl ?_
                        refine hr_putI (q := 162) X dX5_hours_159 rfl fw_q1386_5 (fun h => nomatch h) rfl rfl rfl hR10.om ?_
                        have hR11 := hR10.setS 4 ((((sq_pays (sq_moves (sq_rain (sq_nHours A k)) (A.1.1 0 0)) (A.1.1 0 0)).1).1.2 4) + (nI 1))
                        have hA11 := hA10.iS (k := 4) (by decide) ((((sq_pays (sq_moves (sq_rain (sq_nHours A k)) (A.1.1 0 0)) (A.1.1 0 0)).1).1.2 4) + (nI 1))
                        have h120_2 : ab_i (ab_i ((sq_pays (sq_moves (sq_rain (sq_nHours A k)) (A.1.1 0 0)) (A.1.1 0 0)).1) 5 ((((sq_pays (sq_moves (sq_rain (sq_nHours A k)) (A.1.1 0 0)) (A.1.1 0 0)).1).1.2 5) + (nI (sq_pays (sq_moves (sq_rain (sq_nHours A k)) (A.1.1 0 0)) (A.1.1 0 0)).2))) 4 ((((sq_pays (sq_moves (sq_rain (sq_nHours A k)) (A.1.1 0 0)) (A.1.1 0 0)).1).1.2 4) + (nI 1)) = sq_nHours A (k + 1) := by rw [sq_nHours, sq_hour, hPk]
                        refine hr_iinc2 (v := (nI (k + 1))) (q := 165) X dX5_hours_162 rfl (nI_add _ _) rfl (Nat.le_of_ble_eq_true rfl) ?_
                        refine hr_goto (tgt := 20) X dX5_hours_165 (by decide) ?_
                        refine hr_fg3 ?_
                        exact ih20 (hs_I (hs_I G120 o 5 ((((sq_pays (sq_moves (sq_rain (sq_nHours A k)) (A.1.1 0 0)) (A.1.1 0 0)).1).1.2 5) + (nI (sq_pays (sq_moves (sq_rain (sq_nHours A k)) (A.1.1 0 0)) (A.1.1 0 0)).2))) o 4 ((((sq_pays (sq_moves (sq_rain (sq_nHours A k)) (A.1.1 0 0)) (A.1.1 0 0)).1).1.2 4) + (nI 1))) (tw_setS (tw_setS u120 5 ((((sq_pays (sq_moves (sq_rain (sq_nHours A k)) (A.1.1 0 0)) (A.1.1 0 0)).1).1.2 5) + (nI (sq_pays (sq_moves (sq_rain (sq_nHours A k)) (A.1.1 0 0)) (A.1.1 0 0)).2))) 4 ((((sq_pays (sq_moves (sq_rain (sq_nHours A k)) (A.1.1 0 0)) (A.1.1 0 0)).1).1.2 4) + (nI 1))) (k + 1) hR11 (by have h := hA11; rw [h120_2] at h; exact h) (by omega) (by omega)
                      · refine hr_aload0 (q := 129) X dX5_hours_128 rfl ?_
                        refine hr_iload3 (q := 130) X dX5_hours_129 rfl ?_
                        refine hr_call0 (q := 133) (hc_V (n := 1) (ci := 5) (As := [.int (nI i)]) X dX5_hours_130 rfl (tk_pays X.tr hR120 hA120 hWz (x := i) (by omega)) q1792 cv_X5_pays ⟨Nat.le_of_ble_eq_true rfl, Nat.le_of_ble_eq_true rfl⟩ rfl (Nat.le_of_ble_eq_true rfl) hR120.om rfl rfl) rfl (fun qx E G' hp => by cases hp.1) (fun r Gp hp _ => ?_)
                        obtain ⟨hv1, up, hRp, hAp, hp4, -⟩ := hp
                        cases hv1
                        have hpd : up.1 40 = nI (sq_pays (sq_moves (sq_rain (sq_nHours A k)) (A.1.1 0 0)) (i + 1)).2 := by rw [hp4, h120_2, nI_add]; rfl
                        refine hr_iinc3 (v := (nI (i + 1))) (q := 136) X dX5_hours_133 rfl (nI_add _ _) rfl (Nat.le_of_ble_eq_true rfl) ?_
                        refine hr_goto (tgt := 120) X dX5_hours_136 (by decide) ?_
                        exact ih120 Gp up (i + 1) hRp hAp (by omega) (by omega) hpd (by omega)
                  exact loop120 (A.1.1 0 0 + 1) (hs_I G44 o 40 (nI 0)) (tw_setS u44 40 (nI 0)) 0 hR9 hA9 (by omega) (by omega) rfl (by omega)
                · refine hr_aload0 (q := 53) X dX5_hours_52 rfl ?_
                  refine hr_iconst (v := (nI 5)) (q := 54) X dX5_hours_53 rfl rfl ?_
                  refine hr_callT (q := 57) (hc_V (n := 1) (ci := 5) (As := [.int (nI 5)]) X dX5_hours_54 rfl (tk_draw X.tr hR44 hA44 (k := 5) (by decide) (by decide)) q1812 cv_X5_draw ⟨Nat.le_of_ble_eq_true rfl, Nat.le_of_ble_eq_true rfl⟩ rfl (Nat.le_of_ble_eq_true rfl) hR44.om rfl rfl) rfl (fun G12 u12 hR12 hA12 => ?_)
                  have hdn := sq_drawn_n (n := 5) (by decide) (by decide) (sq_next ((sq_moves (sq_rain (sq_nHours A k)) i).1.2 6))
                  refine hr_st1 (v' := .int (nI (iN (sq_drawn 5 (sq_next ((sq_moves (sq_rain (sq_nHours A k)) i).1.2 6)))))) (congrArg Value.int hdn.1) ?_
                  refine hr_istore4 (q := 59) X dX5_hours_57 rfl rfl (Nat.le_of_ble_eq_true rfl) ?_
                  refine hr_iload4 (q := 61) X dX5_hours_59 rfl ?_
                  refine hr_iconst (v := (nI 4)) (q := 62) X dX5_hours_61 rfl rfl ?_
                  refine hr_icmpN_ne (q := 65) (tgt := 69) X dX5_hours_62 rfl (by decide) (by omega) (by omega) (fun c62 => ?_) (fun c62 => ?_)
                  · refine hr_aload0 (q := 70) X dX5_hours_69 rfl ?_
                    refine hr_aload0 (q := 71) X dX5_hours_70 rfl ?_
                    refine hr_getR (v := am 14) (q := 74) X dX5_hours_71 rfl fr_q1396_5 rfl hR12.om (hR12.f rfl) ?_
                    refine hr_iload3 (q := 75) X dX5_hours_74 rfl ?_
                    refine hr_ialdN (v := (nI ((sq_moves (sq_rain (sq_nHours A k)) i).1.1 14 i))) (q := 76) X dX5_hours_75 rfl (hR12.ka (n := 7) rfl rfl rfl) (Or.inl rfl) (by omega) (by decide) ((hR12.ar rfl _).trans (hA12.p (by decide) (by decide) (by omega))) ?_
                    have b75 := hWm.w.b14 (show i < 7 by omega)
                    refine hr_iload4 (q := 78) X dX5_hours_76 rfl ?_
                    refine hr_callP (v := .int (oI (sp_beside ((sq_moves (sq_rain (sq_nHours A k)) i).1.1 14 i) (iN (sq_drawn 5 (sq_next ((sq_moves (sq_rain (sq_nHours A k)) i).1.2 6))))))) (q := 81) (hc_V (n := 2) (ci := 5) (As := [.int (nI ((sq_moves (sq_rain (sq_nHours A k)) i).1.1 14 i)), .int (nI (iN (sq_drawn 5 (sq_next ((sq_moves (sq_rain (sq_nHours A k)) i).1.2 6)))))]) X dX5_hours_78 rfl (tk_beside X.tr hR12 (z := (sq_moves (sq_rain (sq_nHours A k)) i).1.1 14 i) (v := iN (sq_drawn 5 (sq_next ((sq_moves (sq_rain (sq_nHours A k)) i).1.2 6)))) (by omega) (by omega)) q1728 cv_X5_beside ⟨Nat.le_of_ble_eq_true rfl, Nat.le_of_ble_eq_true rfl⟩ rfl (Nat.le_of_ble_eq_true rfl) hR12.om rfl rfl) rfl ?_
                    have hsq : sq_to (sq_moves (sq_rain (sq_nHours A k)) i) i = sp_beside ((sq_moves (sq_rain (sq_nHours A k)) i).1.1 14 i) (iN (sq_drawn 5 (sq_next ((sq_moves (sq_rain (sq_nHours A k)) i).1.2 6)))) := by rw [sq_to, if_neg (by omega)]
                    have hlt := sq_to_lt hWm (p := i) (by omega)
                    rw [← hsq]
                    refine hr_istore5 (q := 83) X dX5_hours_81 rfl rfl (Nat.le_of_ble_eq_true rfl) ?_
                    refine hr_iload5 (q := 85) X dX5_hours_83 rfl ?_
                    refine hr_iconst (v := (-1)) (q := 86) X dX5_hours_85 rfl rfl ?_
                    refine hr_icmpO_eq (q := 89) (tgt := 107) X dX5_hours_86 rfl (by decide) (by omega) (fun c86 => ?_) (fun c86 => ?_)
                    · have hto := c86
                      refine hr_iinc3 (v := (nI (i + 1))) (q := 110) X dX5_hours_107 rfl (nI_add _ _) rfl (Nat.le_of_ble_eq_true rfl) ?_
                      refine hr_goto (tgt := 44) X dX5_hours_110 (by decide) ?_
                      refine hr_fg4 ?_
                      refine hr_fg5 ?_
                      exact ih44 G12 u12 (i + 1) hR12 (by have h := hA12; rw [show ab_i (sq_moves (sq_rain (sq_nHours A k)) i) 6 (sq_next ((sq_moves (sq_rain (sq_nHours A k)) i).1.2 6)) = sq_moves (sq_rain (sq_nHours A k)) (i + 1) by rw [sq_moves, sq_goes, if_pos hto]] at h; exact h) (by omega) (by omega) (by omega)
                    · have hto := c86
                      refine hr_aload0 (q := 90) X dX5_hours_89 rfl ?_
                      refine hr_getR (v := am 16) (q := 93) X dX5_hours_90 rfl fr_q1398_5 rfl hR12.om (hR12.f rfl) ?_
                      refine hr_iload5 (q := 95) X dX5_hours_93 rfl ?_
                      refine hr_st1 (v' := .int (nI (sq_to (sq_moves (sq_rain (sq_nHours A k)) i) i))) (congrArg Value.int (oI_of c86)) ?_
                      refine hr_ialdN (v := (nI ((sq_moves (sq_rain (sq_nHours A k)) i).1.1 16 (sq_to (sq_moves (sq_rain (sq_nHours A k)) i) i)))) (q := 96) X dX5_hours_95 rfl (hR12.ka (n := 36) rfl rfl rfl) (Or.inl rfl) (by omega) (by decide) ((hR12.ar rfl _).trans (hA12.c (by decide) (by decide) (by omega))) ?_
                      have b95 := hWm.w.b16 (show sq_to (sq_moves (sq_rain (sq_nHours A k)) i) i < 36 by omega)
                      refine hr_ifN_ne (q := 99) (tgt := 107) X dX5_hours_96 rfl (by decide) (by omega) (fun c96 => ?_) (fun c96 => ?_)
                      · have hfree : ¬ (sq_moves (sq_rain (sq_nHours A k)) i).1.1 16 (sq_to (sq_moves (sq_rain (sq_nHours A k)) i) i) = 0 := by omega
                        refine hr_iinc3 (v := (nI (i + 1))) (q := 110) X dX5_hours_107 rfl (nI_add _ _) rfl (Nat.le_of_ble_eq_true rfl) ?_
                        refine hr_goto (tgt := 44) X dX5_hours_110 (by decide) ?_
                        refine hr_fg4 ?_
                        refine hr_fg5 ?_
                        exact ih44 G12 u12 (i + 1) hR12 (by have h := hA12; rw [show ab_i (sq_moves (sq_rain (sq_nHours A k)) i) 6 (sq_next ((sq_moves (sq_rain (sq_nHours A k)) i).1.2 6)) = sq_moves (sq_rain (sq_nHours A k)) (i + 1) by rw [sq_moves, sq_goes, if_neg hto, if_neg hfree]] at h; exact h) (by omega) (by omega) (by omega)
                      · have hfree : (sq_moves (sq_rain (sq_nHours A k)) i).1.1 16 (sq_to (sq_moves (sq_rain (sq_nHours A k)) i) i) = 0 := by omega
                        refine hr_aload0 (q := 100) X dX5_hours_99 rfl ?_
                        refine hr_getR (v := am 14) (q := 103) X dX5_hours_100 rfl fr_q1396_5 rfl hR12.om (hR12.f rfl) ?_
                        refine hr_iload3 (q := 104) X dX5_hours_103 rfl ?_
                        refine hr_iload5 (q := 106) X dX5_hours_104 rfl ?_
                        refine hr_st1 (v' := .int (nI (sq_to (sq_moves (sq_rain (sq_nHours A k)) i) i))) (congrArg Value.int (oI_of c86)) ?_
                        refine hr_iastN (q := 107) X dX5_hours_106 rfl (hR12.ka (n := 7) rfl rfl rfl) (by omega) (by decide) ?_
                        have hR13 := hR12.setA (k := 14) rfl i (nI (sq_to (sq_moves (sq_rain (sq_nHours A k)) i) i))
                        have hA13 := hA12.nA (k := 14) (j := i) (n := sq_to (sq_moves (sq_rain (sq_nHours A k)) i) i) (by decide) rfl
                        refine hr_iinc3 (v := (nI (i + 1))) (q := 110) X dX5_hours_107 rfl (nI_add _ _) rfl (Nat.le_of_ble_eq_true rfl) ?_
                        refine hr_goto (tgt := 44) X dX5_hours_110 (by decide) ?_
                        refine hr_fg4 ?_
                        refine hr_fg5 ?_
                        exact ih44 (hs_I G12 (am 14) i (nI (sq_to (sq_moves (sq_rain (sq_nHours A k)) i) i))) (tw_setA u12 14 i (nI (sq_to (sq_moves (sq_rain (sq_nHours A k)) i) i))) (i + 1) hR13 (by have h := hA13; rw [show ab_n (ab_i (sq_moves (sq_rain (sq_nHours A k)) i) 6 (sq_next ((sq_moves (sq_rain (sq_nHours A k)) i).1.2 6))) 14 i (sq_to (sq_moves (sq_rain (sq_nHours A k)) i) i) = sq_moves (sq_rain (sq_nHours A k)) (i + 1) by rw [sq_moves, sq_goes, if_neg hto, if_pos hfree]] at h; exact h) (by omega) (by omega) (by omega)
                  · refine hr_iconst (v := (-1)) (q := 66) X dX5_hours_65 rfl rfl ?_
                    refine hr_goto (tgt := 81) X dX5_hours_66 (by decide) ?_
                    have hto : sq_to (sq_moves (sq_rain (sq_nHours A k)) i) i = 99 := by rw [sq_to, if_pos (by omega)]
                    refine hr_istore5 (q := 83) X dX5_hours_81 rfl rfl (Nat.le_of_ble_eq_true rfl) ?_
                    refine hr_iload5 (q := 85) X dX5_hours_83 rfl ?_
                    refine hr_iconst (v := (-1)) (q := 86) X dX5_hours_85 rfl rfl ?_
                    refine hr_icmp_eq (q := 89) (tgt := 107) X dX5_hours_86 rfl (by decide) (fun c86 => ?_) (fun c86 => ?_)
                    · refine hr_iinc3 (v := (nI (i + 1))) (q := 110) X dX5_hours_107 rfl (nI_add _ _) rfl (Nat.le_of_ble_eq_true rfl) ?_
                      refine hr_goto (tgt := 44) X dX5_hours_110 (by decide) ?_
                      refine hr_fg4 ?_
                      refine hr_fg5 ?_
                      exact ih44 G12 u12 (i + 1) hR12 (by have h := hA12; rw [show ab_i (sq_moves (sq_rain (sq_nHours A k)) i) 6 (sq_next ((sq_moves (sq_rain (sq_nHours A k)) i).1.2 6)) = sq_moves (sq_rain (sq_nHours A k)) (i + 1) by rw [sq_moves, sq_goes, if_pos hto]] at h; exact h) (by omega) (by omega) (by omega)
                    · exact absurd rfl c86
            exact loop44 (A.1.1 0 0 + 1) (hs_I G1 o 3 (nI 1)) (tw_setS u1 3 (nI 1)) 0 hR8 hA (by omega) (by omega) (by omega)
    exact loop20 _ _ (iN a1 + 1) G u 0 hR hA (by omega) (by omega)
  · refine hr_aload0 (q := 12) X dX5_hours_11 rfl ?_
    refine hr_bipush (v := (-6)) (q := 14) X dX5_hours_12 rfl rfl ?_
    refine hr_callT (q := 17) (hc_V (n := 1) (ci := 5) (As := [.int (-6)]) X dX5_hours_14 rfl (tk_no X.tr hR hA (b := (-6)) (by decide)) q1523 cv_X5_no ⟨Nat.le_of_ble_eq_true rfl, Nat.le_of_ble_eq_true rfl⟩ rfl (Nat.le_of_ble_eq_true rfl) hR.om rfl rfl) rfl (fun G14 u14 hR14 hA14 => ?_)
    exact hr_iret X hr dX5_hours_17 (tw_end (by rw [sq_hours, if_neg (by rw [c8]; decide)]) hR14 hA14)

