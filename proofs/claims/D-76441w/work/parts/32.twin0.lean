theorem tk_town {l : Launch} {D : hg_D} {lo : Nat} (htr : l.stackTraces = false) {G : hg_G} {o : Nat} {am : Nat → Nat} {u : tw_S} {A : ab_S} (hR : tw_R G o am u) (hA : tw_A u A) (hW : ab_wf A) {a1 : Int32} :
    hg_M l D lo yX5_town (ws_ yX5_town cX5_town 5 ((some FieldType.int))) rm_X5_town [.ref o, .int a1] G (tw_Po o am (sq_town a1 A)) := by
  have hw := hW.w; have w0 := hw.b0; have w1 := hw.b1; have w2 := hw.b2; have w3 := hw.b3; have w36 := hW.b36; have w43 := hW.b43
  refine hg_M.of htr (by decide) [some (.ref o), some (.int a1), none, none, none] rfl (Nat.le_of_ble_eq_true rfl) ?_
  intro p e s m args below meth c X hr hnm htab
  have X : hg_X p l s m args meth c D lo "TaxOnLooksModel" cX5_town 5 := X
  refine hr_aload0 (q := 1) X dX5_town_0 rfl ?_
  refine hr_iload1 (q := 2) X dX5_town_1 rfl ?_
  refine hr_callP (q := 5) (hc_V (n := 1) (ci := 5) (As := [.int a1]) X dX5_town_2 rfl (tk_wanted X.tr hR hA hW (a1 := a1)) q1615 cv_X5_wanted ⟨Nat.le_of_ble_eq_true rfl, Nat.le_of_ble_eq_true rfl⟩ rfl (Nat.le_of_ble_eq_true rfl) hR.om rfl rfl) rfl ?_
  refine hr_istore2 (q := 6) X dX5_town_5 rfl rfl (Nat.le_of_ble_eq_true rfl) ?_
  refine hr_iload2 (q := 7) X dX5_town_6 rfl ?_
  refine hr_if_eq (q := 10) (tgt := 16) X dX5_town_7 rfl (by decide) (fun c7 => ?_) (fun c7 => ?_)
  · have hq := sq_wanted_0 hW c7
    have n16_1 := sp_inN (by decide) hq.1
    refine hr_L (L' := [some (.ref o), some (.int (nI (iN a1))), some (.int (sq_wanted a1 A)), none, none]) (by rw [← n16_1.1]) ?_
    have hE := hW.b20 (j := iN a1) (by omega)
    have hs : iN a1 < 8 := by omega
    refine hr_aload0 (q := 17) X dX5_town_16 rfl ?_
    refine hr_aload0 (q := 18) X dX5_town_17 rfl ?_
    refine hr_getR (v := am 33) (q := 21) X dX5_town_18 rfl fr_q1415_5 rfl hR.om (hR.f rfl) ?_
    refine hr_iconst (v := (nI 0)) (q := 22) X dX5_town_21 rfl rfl ?_
    refine hr_st1 (v' := .int (bI false)) (congrArg Value.int rfl) ?_
    refine hr_call0 (q := 25) (hc_V (n := 2) (ci := 5) (As := [.ref (am 33), .int (bI false)]) X dX5_town_22 rfl (tk_carriesAll33F X.tr hR) q1619 cv_X5_carriesAll ⟨Nat.le_of_ble_eq_true rfl, Nat.le_of_ble_eq_true rfl⟩ rfl (Nat.le_of_ble_eq_true rfl) hR.om rfl rfl) rfl (fun qx E G' hp => by cases hp.1) (fun r Gc1 hp _ => ?_)
    obtain ⟨hvc1, hRc1⟩ := hp
    cases hvc1
    have hAc := tw_carF_A (q := 33) (by decide) hA
    have hK := tw_carF_K (q := 33) (by decide) hA.t
    refine hr_aload0 (q := 26) X dX5_town_25 rfl ?_
    refine hr_sipush (v := (nI 160)) (q := 29) X dX5_town_26 rfl rfl ?_
    refine hr_iload1 (q := 30) X dX5_town_29 rfl ?_
    refine hr_imul (v := (nI (160 * (iN a1)))) (q := 31) X dX5_town_30 rfl (pk_mul _ _) ?_
    refine hr_putI (q := 34) X dX5_town_31 rfl fw_q1410_5 (fun h => nomatch h) rfl rfl rfl hRc1.om ?_
    have hR2 := hRc1.setS 28 (nI (160 * (iN a1)))
    have hA2 := hAc.scS (k := 28) rfl (nI (160 * (iN a1)))
    refine hr_aload0 (q := 35) X dX5_town_34 rfl ?_
    refine hr_iconst (v := (nI 0)) (q := 36) X dX5_town_35 rfl rfl ?_
    refine hr_putI (q := 39) X dX5_town_36 rfl fw_q1411_5 (fun h => nomatch h) rfl rfl rfl hR2.om ?_
    have hR3 := hR2.setS 29 (nI 0)
    have hA3 := hA2.scS (k := 29) rfl (nI 0)
    refine hr_aload0 (q := 40) X dX5_town_39 rfl ?_
    refine hr_aload0 (q := 41) X dX5_town_40 rfl ?_
    refine hr_getR (v := am 20) (q := 44) X dX5_town_41 rfl fr_q1402_5 rfl hR3.om (hR3.f rfl) ?_
    refine hr_iload1 (q := 45) X dX5_town_44 rfl ?_
    refine hr_ialdN (v := (nI (A.1.1 20 (iN a1)))) (q := 46) X dX5_town_45 rfl (hR3.ka (n := 8) rfl rfl rfl) (Or.inl rfl) (by omega) (by decide) ((hR3.ar rfl _).trans (hA3.s (by decide) (by decide) (by omega))) ?_
    have b45 := hW.b20 (show iN a1 < 8 by omega)
    refine hr_putI (q := 49) X dX5_town_46 rfl fw_q1412_5 (fun h => nomatch h) rfl rfl rfl hR3.om ?_
    have hR4 := hR3.setS 30 (nI (A.1.1 20 (iN a1)))
    have hA4 := hA3.scS (k := 30) rfl (nI (A.1.1 20 (iN a1)))
    refine hr_aload0 (q := 50) X dX5_town_49 rfl ?_
    refine hr_iconst (v := (-1)) (q := 51) X dX5_town_50 rfl rfl ?_
    refine hr_putI (q := 54) X dX5_town_51 rfl fw_q1389_5 (fun h => nomatch h) rfl rfl rfl hR4.om ?_
    have hR5 := hR4.setS 7 (-1)
    have hA5 := hA4.iS (k := 7) (by decide) (-1)
    refine hr_iconst (v := (nI 1)) (q := 55) X dX5_town_54 rfl rfl ?_
    refine hr_istore3 (q := 56) X dX5_town_55 rfl rfl (Nat.le_of_ble_eq_true rfl) ?_
    refine hr_aload0 (q := 57) X dX5_town_56 rfl ?_
    refine hr_call0 (q := 60) (hc_V (n := 0) (ci := 5) (As := []) X dX5_town_57 rfl (tk_item X.tr hR5 hA5 (hW.i 7 (-1)) (sh := (iN a1)) (tE := (A.1.1 20 (iN a1))) (tp := 0) hs hE (by omega) ⟨rfl, rfl, rfl⟩) q1627 cv_X5_item ⟨Nat.le_of_ble_eq_true rfl, Nat.le_of_ble_eq_true rfl⟩ rfl (Nat.le_of_ble_eq_true rfl) hR5.om rfl rfl) rfl (fun qx E G' hp => by cases hp.1) (fun r Gi hp _ => ?_)
    have hp : rd_Po o am _ (iN a1) (A.1.1 20 (iN a1)) (rd_item (rd_f A (iN a1)) (A.1.1 20 (iN a1)) (ab_i A 7 (-1)) 0) (.inl r) Gi := hp
    obtain ⟨hvi, ui, hRi, hAi, hi1, hi2, hi3⟩ := hp
    cases hvi
    have hwf := rd_item_wf (f := (rd_f A (iN a1))) (E := (A.1.1 20 (iN a1))) (p := 0) (B := (ab_i A 7 (-1))) (hW.i 7 (-1)) (by omega)
    refine hr_istore4 (q := 62) X dX5_town_60 rfl rfl (Nat.le_of_ble_eq_true rfl) ?_
    have loop62 : ∀ (kr nr n : Nat) (G62 : hg_G) (u62 : tw_S) (p9 n9 : Nat) (B : ab_S) (g : Bool), tw_R G62 o am u62 → tw_A u62 (B) → (1 ≤ n) → (g = true → (A.1.1 20 (iN a1)) + 2 ≤ p9 + n ∧ p9 ≤ (A.1.1 20 (iN a1)) ∧ rd_C u62 (iN a1) (A.1.1 20 (iN a1)) p9 ∧ rd_cont (rd_f A (iN a1)) (A.1.1 20 (iN a1)) n B p9 n9 = sq_townZ (iN a1) A) → (g = false → sq_townZ (iN a1) A = (false, p9, B) ∧ u62.1 32 = nI p9) → (ab_wf B) → (ab_tw (ab_i A 7 (-1)) B) → (tw_K (u62.2.1 33) (ab_i A 7 (-1)).1) → hg_W p l e rm_X5_town s m args below meth c (hg_Q below D lo args s rm_X5_town G (tw_Po o am (sq_town a1 A))) D lo G.1 5 kr nr G62 62 [some (.ref o), some (.int (nI (iN a1))), none, some (.int (nI n9)), some (.int (bI g))] [] := by
      intro kr nr n
      induction n with
      | zero =>
        intro G62 u62 p9 n9 B g hR62 hA62 h62_0 h62_1 h62_2 h62_3 h62_4 h62_5
        omega
      | succ n ih62 =>
        intro G62 u62 p9 n9 B g hR62 hA62 h62_0 h62_1 h62_2 h62_3 h62_4 h62_5
        refine hr_iload4 (q := 64) X dX5_town_62 rfl ?_
        refine hr_ifB_eq (q := 67) (tgt := 133) X dX5_town_64 rfl (by decide) (fun c64 => ?_) (fun c64 => ?_)
        · refine hr_iload4 (q := 135) X dX5_town_133 rfl ?_
          refine hr_ifB_eq (q := 138) (tgt := 140) X dX5_town_135 rfl (by decide) (fun c135 => ?_) (fun c135 => ?_)
          · refine hr_aload0 (q := 141) X dX5_town_140 rfl ?_
            refine hr_aload0 (q := 142) X dX5_town_141 rfl ?_
            refine hr_getR (v := am 33) (q := 145) X dX5_town_142 rfl fr_q1415_5 rfl hR62.om (hR62.f rfl) ?_
            refine hr_iconst (v := (nI 1)) (q := 146) X dX5_town_145 rfl rfl ?_
            refine hr_st1 (v' := .int (bI true)) (congrArg Value.int rfl) ?_
            refine hr_call0 (q := 149) (hc_V (n := 2) (ci := 5) (As := [.ref (am 33), .int (bI true)]) X dX5_town_146 rfl (tk_carriesAll33B X.tr hR62) q1619 cv_X5_carriesAll ⟨Nat.le_of_ble_eq_true rfl, Nat.le_of_ble_eq_true rfl⟩ rfl (Nat.le_of_ble_eq_true rfl) hR62.om rfl rfl) rfl (fun qx E G' hp => by cases hp.1) (fun r Gc6 hp _ => ?_)
            obtain ⟨hvc6, hRc6⟩ := hp
            cases hvc6
            have hAb := tw_carB_A (q := 33) (t := (ab_i A 7 (-1)).1) (by decide) hA62 h62_5
            rw [sp_back_tw h62_4] at hAb
            refine hr_aload0 (q := 150) X dX5_town_149 rfl ?_
            refine hr_aload0 (q := 151) X dX5_town_150 rfl ?_
            refine hr_getI (v := (nI p9)) (q := 154) X dX5_town_151 rfl fr_q1414_5 rfl hRc6.om ((hRc6.sc 32).trans ((tw_carB_S (by decide)).trans (h62_2 c64).2)) ?_
            refine hr_putI (q := 157) X dX5_town_154 rfl fw_q1389_5 (fun h => nomatch h) rfl rfl rfl hRc6.om ?_
            have hR7 := hRc6.setS 7 (nI p9)
            have hA7 := hAb.iS (k := 7) (by decide) (nI p9)
            refine hr_aload0 (q := 158) X dX5_town_157 rfl ?_
            refine hr_bipush (v := (-6)) (q := 160) X dX5_town_158 rfl rfl ?_
            refine hr_callT (q := 163) (hc_V (n := 1) (ci := 5) (As := [.int (-6)]) X dX5_town_160 rfl (tk_no X.tr hR7 hA7 (b := (-6)) (by decide)) q1523 cv_X5_no ⟨Nat.le_of_ble_eq_true rfl, Nat.le_of_ble_eq_true rfl⟩ rfl (Nat.le_of_ble_eq_true rfl) hR7.om rfl rfl) rfl (fun G8 u8 hR8 hA8 => ?_)
            have hZ := (h62_2 c64).1
            exact hr_iret X hr dX5_town_163 (tw_end (by rw [sq_town, if_pos c7, hZ]; rfl) hR8 hA8)
          · exact absurd (c64.symm.trans c135) (by decide)
        · obtain ⟨k1, k2, k3, k4⟩ := h62_1 c64
          have hF : rd_f B (iN a1) = rd_f A (iN a1) := rd_f_tw (A := (ab_i A 7 (-1))) h62_4 (iN a1)
          refine hr_aload0 (q := 68) X dX5_town_67 rfl ?_
          refine hr_getI (v := (nI p9)) (q := 71) X dX5_town_68 rfl fr_q1411_5 rfl hR62.om ((hR62.sc 29).trans (k3.2.2)) ?_
          refine hr_aload0 (q := 72) X dX5_town_71 rfl ?_
          refine hr_getI (v := (nI (A.1.1 20 (iN a1)))) (q := 75) X dX5_town_72 rfl fr_q1412_5 rfl hR62.om ((hR62.sc 30).trans (k3.2.1)) ?_
          refine hr_icmpN_ge (q := 78) (tgt := 133) X dX5_town_75 rfl (by decide) (by omega) (by omega) (fun c75 => ?_) (fun c75 => ?_)
          · refine hr_iload4 (q := 135) X dX5_town_133 rfl ?_
            refine hr_ifB_eq (q := 138) (tgt := 140) X dX5_town_135 rfl (by decide) (fun c135 => ?_) (fun c135 => ?_)
            · exact absurd (c64.symm.trans c135) (by decide)
            · refine hr_iload3 (q := 139) X dX5_town_138 rfl ?_
              have hZ : sq_townZ (iN a1) A = (true, n9, B) := k4.symm.trans (rd_cont_e (by omega))
              exact hr_iret X hr dX5_town_139 (tw_end (by rw [sq_town, if_pos c7, hZ]; rfl) hR62 hA62)
          · refine hr_aload0 (q := 79) X dX5_town_78 rfl ?_
            refine hr_getR (v := am 22) (q := 82) X dX5_town_79 rfl fr_q1404_5 rfl hR62.om (hR62.f rfl) ?_
            refine hr_aload0 (q := 83) X dX5_town_82 rfl ?_
            refine hr_getI (v := (nI (160 * (iN a1)))) (q := 86) X dX5_town_83 rfl fr_q1410_5 rfl hR62.om ((hR62.sc 28).trans (k3.1)) ?_
            refine hr_aload0 (q := 87) X dX5_town_86 rfl ?_
            refine hr_getI (v := (nI p9)) (q := 90) X dX5_town_87 rfl fr_q1411_5 rfl hR62.om ((hR62.sc 29).trans (k3.2.2)) ?_
            refine hr_iadd (v := (nI (160 * (iN a1) + p9))) (q := 91) X dX5_town_90 rfl (nI_add _ _) ?_
            refine hr_laldN (v := (B.2.2.2 (160 * (iN a1) + p9))) (q := 92) X dX5_town_91 rfl (hR62.ka (n := 1280) rfl rfl rfl) (by omega) (by decide) ((hR62.lg rfl _).trans (hA62.ce _)) ?_
            refine hr_l2i (v := ((rd_f A (iN a1)) p9)) (q := 93) X dX5_town_92 rfl (congrFun hF p9) ?_
            refine hr_bipush (v := (nI 59)) (q := 95) X dX5_town_93 rfl rfl ?_
            refine hr_icmp_eq (q := 98) (tgt := 111) X dX5_town_95 rfl (by decide) (fun c95 => ?_) (fun c95 => ?_)
            · refine hr_aload0 (q := 112) X dX5_town_111 rfl ?_
              refine hr_dup (q := 113) X dX5_town_112 rfl rfl ?_
              refine hr_getI (v := (nI p9)) (q := 116) X dX5_town_113 rfl fr_q1411_5 rfl hR62.om ((hR62.sc 29).trans (k3.2.2)) ?_
              refine hr_iconst (v := (nI 1)) (q := 117) X dX5_town_116 rfl rfl ?_
              refine hr_iadd (v := (nI (p9 + 1))) (q := 118) X dX5_town_117 rfl (nI_add _ _) ?_
              refine hr_putI (q := 121) X dX5_town_118 rfl fw_q1411_5 (fun h => nomatch h) rfl rfl rfl hR62.om ?_
              have hR9 := hR62.setS 29 (nI (p9 + 1))
              have hA9 := hA62.scS (k := 29) rfl (nI (p9 + 1))
              refine hr_iinc3 (v := (nI (n9 + 1))) (q := 124) X dX5_town_121 rfl (nI_add _ _) rfl (Nat.le_of_ble_eq_true rfl) ?_
              refine hr_aload0 (q := 125) X dX5_town_124 rfl ?_
              refine hr_call0 (q := 128) (hc_V (n := 0) (ci := 5) (As := []) X dX5_town_125 rfl (tk_item X.tr hR9 hA9 h62_3 (sh := (iN a1)) (tE := (A.1.1 20 (iN a1))) (tp := p9 + 1) hs hE (by omega) ⟨k3.1, k3.2.1, rfl⟩) q1627 cv_X5_item ⟨Nat.le_of_ble_eq_true rfl, Nat.le_of_ble_eq_true rfl⟩ rfl (Nat.le_of_ble_eq_true rfl) hR9.om rfl rfl) rfl (fun qx E G' hp => by cases hp.1) (fun r Gi hp _ => ?_)
              rw [hF] at hp
              obtain ⟨hvi, ui, hRi, hAi, hi1, hi2, hi3⟩ := hp
              cases hvi
              have hwf := rd_item_wf (f := (rd_f A (iN a1))) (E := (A.1.1 20 (iN a1))) (p := p9 + 1) (B := B) h62_3 (by omega)
              refine hr_istore4 (q := 130) X dX5_town_128 rfl rfl (Nat.le_of_ble_eq_true rfl) ?_
              refine hr_goto (tgt := 62) X dX5_town_130 (by decide) ?_
              exact ih62 Gi ui (rd_item (rd_f A (iN a1)) (A.1.1 20 (iN a1)) B (p9 + 1)).2.1 (n9 + 1) (rd_item (rd_f A (iN a1)) (A.1.1 20 (iN a1)) B (p9 + 1)).2.2 (rd_item (rd_f A (iN a1)) (A.1.1 20 (iN a1)) B (p9 + 1)).1 hRi hAi (by omega) (fun z => ⟨by have := hwf.2.2 z; omega, (hwf.2.2 z).2, hi1 z, by rw [← k4, rd_cont_s (by omega) c95]; exact (rd_items_s z).symm⟩) (fun z => ⟨by rw [← k4, rd_cont_s (by omega) c95]; exact rd_items_n z, hi2 z⟩) hwf.1 (h62_4.tr hwf.2.1) (by rw [hi3]; exact h62_5)
            · refine hr_aload0 (q := 99) X dX5_town_98 rfl ?_
              refine hr_aload0 (q := 100) X dX5_town_99 rfl ?_
              refine hr_getI (v := (nI p9)) (q := 103) X dX5_town_100 rfl fr_q1411_5 rfl hR62.om ((hR62.sc 29).trans (k3.2.2)) ?_
              refine hr_call0 (q := 106) (hc_V (n := 1) (ci := 5) (As := [.int (nI p9)]) X dX5_town_103 rfl (tk_wrong X.tr hR62 hA62 h62_3 (x := (nI p9))) q1635 cv_X5_wrong ⟨Nat.le_of_ble_eq_true rfl, Nat.le_of_ble_eq_true rfl⟩ rfl (Nat.le_of_ble_eq_true rfl) hR62.om rfl rfl) rfl (fun qx E G' hp => by cases hp.1) (fun r Gw10 hp _ => ?_)
              obtain ⟨hvw10, uw10, hRw10, hAw10, hgw10, hfw10⟩ := hp
              cases hvw10
              have frw10 := hfw10.trans (rfl)
              refine hr_istore4 (q := 108) X dX5_town_106 rfl rfl (Nat.le_of_ble_eq_true rfl) ?_
              refine hr_goto (tgt := 62) X dX5_town_108 (by decide) ?_
              exact ih62 Gw10 uw10 (p9) n9 B false hRw10 hAw10 (by omega) (fun z => nomatch z) (fun _ => ⟨k4.symm.trans (rd_cont_w (by omega) c95), hgw10⟩) h62_3 h62_4 (by rw [frw10]; exact h62_5)
    refine hr_fg2 ?_
    exact loop62 _ _ 199 Gi ui (rd_item (rd_f A (iN a1)) (A.1.1 20 (iN a1)) (ab_i A 7 (-1)) 0).2.1 1 (rd_item (rd_f A (iN a1)) (A.1.1 20 (iN a1)) (ab_i A 7 (-1)) 0).2.2 (rd_item (rd_f A (iN a1)) (A.1.1 20 (iN a1)) (ab_i A 7 (-1)) 0).1 hRi hAi (by decide) (fun z => ⟨by omega, (hwf.2.2 z).2, hi1 z, (rd_items_s (k := 199) z).symm⟩) (fun z => ⟨rd_items_n (k := 199) z, hi2 z⟩) hwf.1 hwf.2.1 (by rw [hi3]; exact hK)
  · refine hr_aload0 (q := 11) X dX5_town_10 rfl ?_
    refine hr_iload2 (q := 12) X dX5_town_11 rfl ?_
    refine hr_callT (q := 15) (hc_V (n := 1) (ci := 5) (As := [.int (sq_wanted a1 A)]) X dX5_town_12 rfl (tk_no X.tr hR hA (b := sq_wanted a1 A) sq_wanted_b) q1523 cv_X5_no ⟨Nat.le_of_ble_eq_true rfl, Nat.le_of_ble_eq_true rfl⟩ rfl (Nat.le_of_ble_eq_true rfl) hR.om rfl rfl) rfl (fun G11 u11 hR11 hA11 => ?_)
    exact hr_iret X hr dX5_town_15 (tw_end (by rw [sq_town, if_neg c7]) hR11 hA11)

