def sp_fitset (A : ab_S) (a x : Nat) : Nat := sp_bits (fun l => sp_roll (ab_n A 11 x l) a (A.1.1 0 0)) 21

theorem sp_roll_s {A : ab_S} {a y : Nat} {b : Bool} (h : b = sp_roll A a y) (hb : b = true) : (nI (sp_owes A.1 y) == (A.2.2.2 (160 * a + y)).toInt32) = sp_roll A a (y + 1) := by
  rw [sp_roll, ← h, hb, Bool.true_and]

theorem sp_roll_mono {A : ab_S} {a : Nat} {y : Nat} : ∀ {N}, y ≤ N → sp_roll A a y = false → sp_roll A a N = false
  | 0, h, h2 => by rw [show y = 0 by omega] at h2; exact h2
  | N + 1, h, h2 => by
    by_cases e : y = N + 1
    · rw [← e]; exact h2
    · rw [sp_roll, sp_roll_mono (by omega) h2, Bool.false_and]

theorem sq_wanted_0 {x : Int32} {A : ab_S} (hW : ab_wf A) (h : sq_wanted x A = 0) : sp_in x 8 = true ∧ A.1.1 18 (iN x) = 1 := by
  unfold sq_wanted at h
  split at h
  · rename_i h1
    have h2 := hW.b18 (sp_inN (by decide) h1).2
    split at h
    · exact absurd h (by decide)
    · split at h
      · exact absurd h (by decide)
      · exact ⟨h1, by omega⟩
  · exact absurd h (by decide)
theorem sq_wanted_b {x : Int32} {A : ab_S} : -(sq_wanted x A) = nI (iN (-(sq_wanted x A))) ∧ iN (-(sq_wanted x A)) < 8 := by
  unfold sq_wanted
  split
  · split
    · decide
    · split
      · decide
      · decide
  · decide

def sq_fits (a1 : Int32) (a2 : Int32) (A : ab_S) : Int32 × ab_S :=
  if sp_in a2 (A.1.1 0 0) = true then if (sq_wanted a1 A) = 0 then if (A.1.1 0 0) ≤ (A.1.1 20 (iN a1)) then ((nI (sp_fitset A (iN a1) (iN a2))), A)
      else (((sq_no (-5) A).1), (sq_no (-5) A).2)
    else (((sq_no (sq_wanted a1 A) A).1), (sq_no (sq_wanted a1 A) A).2)
  else (((sq_no (-1) A).1), (sq_no (-1) A).2)
theorem tk_fits {l : Launch} {D : hg_D} {lo : Nat} (htr : l.stackTraces = false) {G : hg_G} {o : Nat} {am : Nat → Nat} {u : tw_S} {A : ab_S} (hR : tw_R G o am u) (hA : tw_A u A) {a1 : Int32} {a2 : Int32} (hW : ab_wf A) :
    hg_M l D lo yX5_fits (ws_ yX5_fits cX5_fits 9 ((some FieldType.int))) rm_X5_fits [.ref o, .int a1, .int a2] G (tw_Po o am (sq_fits a1 a2 A)) := by
  have hw := hW.w; have w0 := hw.b0; have w1 := hw.b1; have w2 := hw.b2; have w3 := hw.b3; have w36 := hW.b36; have w43 := hW.b43
  refine hg_M.of htr (by decide) [some (.ref o), some (.int a1), some (.int a2), none, none, none, none, none, none] rfl (Nat.le_of_ble_eq_true rfl) ?_
  intro p e s m args below meth c X hr hnm htab
  have X : hg_X p l s m args meth c D lo "TaxOnLooksModel" cX5_fits 9 := X
  refine hr_aload0 (q := 1) X dX5_fits_0 rfl ?_
  refine hr_iload2 (q := 2) X dX5_fits_1 rfl ?_
  refine hr_callP (q := 5) (hc_V (n := 1) (ci := 5) (As := [.int a2]) X dX5_fits_2 rfl (tk_isOne X.tr hR hA.t a2) q1543 cv_X5_isOne ⟨Nat.le_of_ble_eq_true rfl, Nat.le_of_ble_eq_true rfl⟩ rfl (Nat.le_of_ble_eq_true rfl) hR.om rfl rfl) rfl ?_
  refine hr_ifB_ne (q := 8) (tgt := 12) X dX5_fits_5 rfl (by decide) (fun c5 => ?_) (fun c5 => ?_)
  · refine hr_aload0 (q := 13) X dX5_fits_12 rfl ?_
    refine hr_iload1 (q := 14) X dX5_fits_13 rfl ?_
    refine hr_callP (q := 17) (hc_V (n := 1) (ci := 5) (As := [.int a1]) X dX5_fits_14 rfl (tk_wanted X.tr hR hA hW (a1 := a1)) q1615 cv_X5_wanted ⟨Nat.le_of_ble_eq_true rfl, Nat.le_of_ble_eq_true rfl⟩ rfl (Nat.le_of_ble_eq_true rfl) hR.om rfl rfl) rfl ?_
    refine hr_istore3 (q := 18) X dX5_fits_17 rfl rfl (Nat.le_of_ble_eq_true rfl) ?_
    refine hr_iload3 (q := 19) X dX5_fits_18 rfl ?_
    refine hr_if_ne (q := 22) (tgt := 38) X dX5_fits_19 rfl (by decide) (fun c19 => ?_) (fun c19 => ?_)
    · refine hr_iload3 (q := 39) X dX5_fits_38 rfl ?_
      refine hr_if_eq (q := 42) (tgt := 48) X dX5_fits_39 rfl (by decide) (fun c39 => ?_) (fun c39 => ?_)
      · exact absurd c39 c19
      · refine hr_aload0 (q := 43) X dX5_fits_42 rfl ?_
        refine hr_iload3 (q := 44) X dX5_fits_43 rfl ?_
        refine hr_callT (q := 47) (hc_V (n := 1) (ci := 5) (As := [.int (sq_wanted a1 A)]) X dX5_fits_44 rfl (tk_no X.tr hR hA (b := sq_wanted a1 A) sq_wanted_b) q1523 cv_X5_no ⟨Nat.le_of_ble_eq_true rfl, Nat.le_of_ble_eq_true rfl⟩ rfl (Nat.le_of_ble_eq_true rfl) hR.om rfl rfl) rfl (fun G1 u1 hR1 hA1 => ?_)
        exact hr_iret X hr dX5_fits_47 (tw_end (by rw [sq_fits, if_pos c5, if_neg c19]) hR1 hA1)
    · have hq := sq_wanted_0 hW c19
      have n22_1 := sp_inN (by decide) hq.1
      refine hr_L (L' := [some (.ref o), some (.int (nI (iN a1))), some (.int a2), some (.int (sq_wanted a1 A)), none, none, none, none, none]) (by rw [← n22_1.1]) ?_
      refine hr_aload0 (q := 23) X dX5_fits_22 rfl ?_
      refine hr_getR (v := am 20) (q := 26) X dX5_fits_23 rfl fr_q1402_5 rfl hR.om (hR.f rfl) ?_
      refine hr_iload1 (q := 27) X dX5_fits_26 rfl ?_
      refine hr_ialdN (v := (nI (A.1.1 20 (iN a1)))) (q := 28) X dX5_fits_27 rfl (hR.ka (n := 8) rfl rfl rfl) (Or.inl rfl) (by omega) (by decide) ((hR.ar rfl _).trans (hA.s (by decide) (by decide) (by omega))) ?_
      have b27 := hW.b20 (show iN a1 < 8 by omega)
      refine hr_aload0 (q := 29) X dX5_fits_28 rfl ?_
      refine hr_getI (v := (nI (A.1.1 0 0))) (q := 32) X dX5_fits_29 rfl fr_q1382_5 rfl hR.om ((hR.sc 0).trans (hA.sc (by decide))) ?_
      refine hr_icmpN_ge (q := 35) (tgt := 38) X dX5_fits_32 rfl (by decide) (by omega) (by omega) (fun c32 => ?_) (fun c32 => ?_)
      · refine hr_iload3 (q := 39) X dX5_fits_38 rfl ?_
        refine hr_if_eq (q := 42) (tgt := 48) X dX5_fits_39 rfl (by decide) (fun c39 => ?_) (fun c39 => ?_)
        · have n48_2 := sp_inN (by omega) c5
          refine hr_L (L' := [some (.ref o), some (.int (nI (iN a1))), some (.int (nI (iN a2))), some (.int (sq_wanted a1 A)), none, none, none, none, none]) (by rw [← n48_2.1]) ?_
          refine hr_aload0 (q := 49) X dX5_fits_48 rfl ?_
          refine hr_getR (v := am 11) (q := 52) X dX5_fits_49 rfl fr_q1393_5 rfl hR.om (hR.f rfl) ?_
          refine hr_iload2 (q := 53) X dX5_fits_52 rfl ?_
          refine hr_ialdN (v := (nI (A.1.1 11 (iN a2)))) (q := 54) X dX5_fits_53 rfl (hR.ka (n := 7) rfl rfl rfl) (Or.inl rfl) (by omega) (by decide) ((hR.ar rfl _).trans (hA.p (by decide) (by decide) (by omega))) ?_
          have b53 := hW.w.b11 (show iN a2 < 7 by omega)
          refine hr_istore4 (q := 56) X dX5_fits_54 rfl rfl (Nat.le_of_ble_eq_true rfl) ?_
          refine hr_iconst (v := (nI 0)) (q := 57) X dX5_fits_56 rfl rfl ?_
          refine hr_istore5 (q := 59) X dX5_fits_57 rfl rfl (Nat.le_of_ble_eq_true rfl) ?_
          refine hr_iconst (v := (nI 0)) (q := 60) X dX5_fits_59 rfl rfl ?_
          refine hr_istore6 (q := 62) X dX5_fits_60 rfl rfl (Nat.le_of_ble_eq_true rfl) ?_
          have loop62 : ∀ (kr nr n : Nat) (G62 : hg_G) (u62 : tw_S) (i S y : Nat), tw_R G62 o am u62 → tw_A u62 (ab_n A 11 (iN a2) y) → (i ≤ 21) → (22 ≤ i + n) → (S = sp_bits (fun l => sp_roll (ab_n A 11 (iN a2) l) (iN a1) (A.1.1 0 0)) i) → hg_W p l e rm_X5_fits s m args below meth c (hg_Q below D lo args s rm_X5_fits G (tw_Po o am (sq_fits a1 a2 A))) D lo G.1 9 kr nr G62 62 [some (.ref o), some (.int (nI (iN a1))), some (.int (nI (iN a2))), some (.int (sq_wanted a1 A)), some (.int (nI (A.1.1 11 (iN a2)))), some (.int (nI S)), some (.int (nI i)), none, none] [] := by
            intro kr nr n
            induction n with
            | zero =>
              intro G62 u62 i S y hR62 hA62 h62_0 h62_1 h62_2
              omega
            | succ n ih62 =>
              intro G62 u62 i S y hR62 hA62 h62_0 h62_1 h62_2
              refine hr_iload6 (q := 64) X dX5_fits_62 rfl ?_
              refine hr_bipush (v := (nI 20)) (q := 66) X dX5_fits_64 rfl rfl ?_
              refine hr_icmpN_gt (q := 69) (tgt := 146) X dX5_fits_66 rfl (by decide) (by omega) (by omega) (fun c66 => ?_) (fun c66 => ?_)
              · have z2 : i = 21 := by omega
                subst z2
                have hEq : S = sp_fitset A (iN a1) (iN a2) := h62_2
                refine hr_aload0 (q := 147) X dX5_fits_146 rfl ?_
                refine hr_getR (v := am 11) (q := 150) X dX5_fits_147 rfl fr_q1393_5 rfl hR62.om (hR62.f rfl) ?_
                refine hr_iload2 (q := 151) X dX5_fits_150 rfl ?_
                refine hr_iload4 (q := 153) X dX5_fits_151 rfl ?_
                refine hr_iastN (q := 154) X dX5_fits_153 rfl (hR62.ka (n := 7) rfl rfl rfl) (by omega) (by decide) ?_
                have hR3 := hR62.setA (k := 11) rfl (iN a2) (nI (A.1.1 11 (iN a2)))
                have hA3 := hA62.nA (k := 11) (j := iN a2) (n := A.1.1 11 (iN a2)) (by decide) rfl
                rw [ab_n_back] at hA3
                refine hr_iload5 (q := 156) X dX5_fits_154 rfl ?_
                exact hr_iret X hr dX5_fits_156 (tw_end (by rw [sq_fits, if_pos c5, if_pos c19, if_pos (show (A.1.1 0 0) ≤ (A.1.1 20 (iN a1)) by omega), ← hEq]) hR3 hA3)
              · refine hr_aload0 (q := 70) X dX5_fits_69 rfl ?_
                refine hr_getR (v := am 11) (q := 73) X dX5_fits_70 rfl fr_q1393_5 rfl hR62.om (hR62.f rfl) ?_
                refine hr_iload2 (q := 74) X dX5_fits_73 rfl ?_
                refine hr_iload6 (q := 76) X dX5_fits_74 rfl ?_
                refine hr_iastN (q := 77) X dX5_fits_76 rfl (hR62.ka (n := 7) rfl rfl rfl) (by omega) (by decide) ?_
                have hR4 := hR62.setA (k := 11) rfl (iN a2) (nI i)
                have hA4 := hA62.nA (k := 11) (j := iN a2) (n := i) (by decide) rfl
                rw [ab_n_n] at hA4
                have hwi := sp_wf_look hw (x := iN a2) (n := i) (by omega)
                refine hr_iconst (v := (nI 1)) (q := 78) X dX5_fits_77 rfl rfl ?_
                refine hr_istore7 (q := 80) X dX5_fits_78 rfl rfl (Nat.le_of_ble_eq_true rfl) ?_
                refine hr_iconst (v := (nI 0)) (q := 81) X dX5_fits_80 rfl rfl ?_
                refine hr_istore8 (q := 83) X dX5_fits_81 rfl rfl (Nat.le_of_ble_eq_true rfl) ?_
                have loop83 : ∀ (n : Nat) (j : Nat) (b : Bool), (j ≤ A.1.1 0 0) → (A.1.1 0 0 + 1 ≤ j + n) → (b = sp_roll (ab_n A 11 (iN a2) i) (iN a1) j) → hg_W p l e rm_X5_fits s m args below meth c (hg_Q below D lo args s rm_X5_fits G (tw_Po o am (sq_fits a1 a2 A))) D lo G.1 9 kr nr (hs_I G62 (am 11) (iN a2) (nI i)) 83 [some (.ref o), some (.int (nI (iN a1))), some (.int (nI (iN a2))), some (.int (sq_wanted a1 A)), some (.int (nI (A.1.1 11 (iN a2)))), some (.int (nI S)), some (.int (nI i)), some (.int (bI b)), some (.int (nI j))] [] := by
                  intro n
                  induction n with
                  | zero =>
                    intro j b h83_0 h83_1 h83_2
                    omega
                  | succ n ih =>
                    intro j b h83_0 h83_1 h83_2
                    refine hr_iload8 (q := 85) X dX5_fits_83 rfl ?_
                    refine hr_aload0 (q := 86) X dX5_fits_85 rfl ?_
                    refine hr_getI (v := (nI (A.1.1 0 0))) (q := 89) X dX5_fits_86 rfl fr_q1382_5 rfl hR4.om ((hR4.sc 0).trans (hA4.sc (by decide))) ?_
                    refine hr_icmpN_ge (q := 92) (tgt := 126) X dX5_fits_89 rfl (by decide) (by omega) (by omega) (fun c89 => ?_) (fun c89 => ?_)
                    · refine hr_iload7 (q := 128) X dX5_fits_126 rfl ?_
                      refine hr_ifB_eq (q := 131) (tgt := 140) X dX5_fits_128 rfl (by decide) (fun c128 => ?_) (fun c128 => ?_)
                      · have hno : sp_roll (ab_n A 11 (iN a2) i) (iN a1) (A.1.1 0 0) = false := by rw [show A.1.1 0 0 = j by omega, ← h83_2]; exact c128
                        refine hr_iinc6 (v := (nI (i + 1))) (q := 143) X dX5_fits_140 rfl (nI_add _ _) rfl (Nat.le_of_ble_eq_true rfl) ?_
                        refine hr_goto (tgt := 62) X dX5_fits_143 (by decide) ?_
                        refine hr_fg7 ?_
                        refine hr_fg8 ?_
                        exact ih62 (hs_I G62 (am 11) (iN a2) (nI i)) (tw_setA u62 11 (iN a2) (nI i)) (i + 1) S i hR4 hA4 (by omega) (by omega) (by rw [h62_2, sp_bits_f (f := (fun l => sp_roll (ab_n A 11 (iN a2) l) (iN a1) (A.1.1 0 0))) hno])
                      · have hyes : sp_roll (ab_n A 11 (iN a2) i) (iN a1) (A.1.1 0 0) = true := by rw [show A.1.1 0 0 = j by omega, ← h83_2]; exact c128
                        refine hr_iload5 (q := 133) X dX5_fits_131 rfl ?_
                        refine hr_iconst (v := (nI 1)) (q := 134) X dX5_fits_133 rfl rfl ?_
                        refine hr_iload6 (q := 136) X dX5_fits_134 rfl ?_
                        refine hr_ishl (v := (nI (2 ^ i))) (q := 137) X dX5_fits_136 rfl (sp_shl (by omega)) ?_
                        refine hr_iadd (v := (nI (S + (2 ^ i)))) (q := 138) X dX5_fits_137 rfl (nI_add _ _) ?_
                        refine hr_istore5 (q := 140) X dX5_fits_138 rfl rfl (Nat.le_of_ble_eq_true rfl) ?_
                        refine hr_iinc6 (v := (nI (i + 1))) (q := 143) X dX5_fits_140 rfl (nI_add _ _) rfl (Nat.le_of_ble_eq_true rfl) ?_
                        refine hr_goto (tgt := 62) X dX5_fits_143 (by decide) ?_
                        refine hr_fg7 ?_
                        refine hr_fg8 ?_
                        exact ih62 (hs_I G62 (am 11) (iN a2) (nI i)) (tw_setA u62 11 (iN a2) (nI i)) (i + 1) (S + (2 ^ i)) i hR4 hA4 (by omega) (by omega) (by rw [h62_2, sp_bits_t (f := (fun l => sp_roll (ab_n A 11 (iN a2) l) (iN a1) (A.1.1 0 0))) hyes])
                    · have hsz := hW.b20 (j := iN a1) (by omega)
                      refine hr_iload7 (q := 94) X dX5_fits_92 rfl ?_
                      refine hr_ifB_eq (q := 97) (tgt := 126) X dX5_fits_94 rfl (by decide) (fun c94 => ?_) (fun c94 => ?_)
                      · refine hr_iload7 (q := 128) X dX5_fits_126 rfl ?_
                        refine hr_ifB_eq (q := 131) (tgt := 140) X dX5_fits_128 rfl (by decide) (fun c128 => ?_) (fun c128 => ?_)
                        · have hno : sp_roll (ab_n A 11 (iN a2) i) (iN a1) (A.1.1 0 0) = false := sp_roll_mono h83_0 (h83_2.symm.trans c128)
                          refine hr_iinc6 (v := (nI (i + 1))) (q := 143) X dX5_fits_140 rfl (nI_add _ _) rfl (Nat.le_of_ble_eq_true rfl) ?_
                          refine hr_goto (tgt := 62) X dX5_fits_143 (by decide) ?_
                          refine hr_fg7 ?_
                          refine hr_fg8 ?_
                          exact ih62 (hs_I G62 (am 11) (iN a2) (nI i)) (tw_setA u62 11 (iN a2) (nI i)) (i + 1) S i hR4 hA4 (by omega) (by omega) (by rw [h62_2, sp_bits_f (f := (fun l => sp_roll (ab_n A 11 (iN a2) l) (iN a1) (A.1.1 0 0))) hno])
                        · exact absurd (c94.symm.trans c128) (by decide)
                      · refine hr_aload0 (q := 98) X dX5_fits_97 rfl ?_
                        refine hr_iload8 (q := 100) X dX5_fits_98 rfl ?_
                        refine hr_callP (v := .int (nI (sp_owes (sp_set A.1 11 (iN a2) i) j))) (q := 103) (hc_V (n := 1) (ci := 5) (As := [.int (nI j)]) X dX5_fits_100 rfl (tk_owes X.tr hR4 hA4.t hwi (x := j) (by omega)) q1691 cv_X5_owes ⟨Nat.le_of_ble_eq_true rfl, Nat.le_of_ble_eq_true rfl⟩ rfl (Nat.le_of_ble_eq_true rfl) hR4.om rfl rfl) rfl ?_
                        refine hr_aload0 (q := 104) X dX5_fits_103 rfl ?_
                        refine hr_iload1 (q := 105) X dX5_fits_104 rfl ?_
                        refine hr_iload8 (q := 107) X dX5_fits_105 rfl ?_
                        refine hr_callP (v := .int ((A.2.2.2 (160 * iN a1 + j)).toInt32)) (q := 110) (hc_V (n := 2) (ci := 5) (As := [.int (nI (iN a1)), .int (nI j)]) X dX5_fits_107 rfl (tk_intAt X.tr hR4 hA4 (a := iN a1) (b := j) (by omega) (by omega)) q1760 cv_X5_intAt ⟨Nat.le_of_ble_eq_true rfl, Nat.le_of_ble_eq_true rfl⟩ rfl (Nat.le_of_ble_eq_true rfl) hR4.om rfl rfl) rfl ?_
                        refine hr_icmp_ne (q := 113) (tgt := 117) X dX5_fits_110 rfl (by decide) (fun c110 => ?_) (fun c110 => ?_)
                        · refine hr_iconst (v := (nI 0)) (q := 118) X dX5_fits_117 rfl rfl ?_
                          refine hr_st1 (v' := .int (bI false)) (congrArg Value.int rfl) ?_
                          refine hr_istore7 (q := 120) X dX5_fits_118 rfl rfl (Nat.le_of_ble_eq_true rfl) ?_
                          refine hr_iinc8 (v := (nI (j + 1))) (q := 123) X dX5_fits_120 rfl (nI_add _ _) rfl (Nat.le_of_ble_eq_true rfl) ?_
                          refine hr_goto (tgt := 83) X dX5_fits_123 (by decide) ?_
                          exact ih (j + 1) false (by omega) (by omega) (by rw [sp_roll, ← h83_2, c94, Bool.true_and]; exact (beq_eq_false_iff_ne.mpr c110).symm)
                        · refine hr_iconst (v := (nI 1)) (q := 114) X dX5_fits_113 rfl rfl ?_
                          refine hr_goto (tgt := 118) X dX5_fits_114 (by decide) ?_
                          refine hr_st1 (v' := .int (bI true)) (congrArg Value.int rfl) ?_
                          refine hr_istore7 (q := 120) X dX5_fits_118 rfl rfl (Nat.le_of_ble_eq_true rfl) ?_
                          refine hr_iinc8 (v := (nI (j + 1))) (q := 123) X dX5_fits_120 rfl (nI_add _ _) rfl (Nat.le_of_ble_eq_true rfl) ?_
                          refine hr_goto (tgt := 83) X dX5_fits_123 (by decide) ?_
                          exact ih (j + 1) true (by omega) (by omega) (by rw [sp_roll, ← h83_2, c94, Bool.true_and]; exact (beq_iff_eq.mpr c110).symm)
                exact loop83 (A.1.1 0 0 + 1) 0 true (by omega) (by omega) rfl
          exact loop62 _ _ 22 G u 0 0 (A.1.1 11 (iN a2)) hR (by rw [ab_n_id]; exact hA) (by omega) (by omega) rfl
        · exact absurd c19 c39
      · refine hr_bipush (v := (-5)) (q := 37) X dX5_fits_35 rfl rfl ?_
        refine hr_istore3 (q := 38) X dX5_fits_37 rfl rfl (Nat.le_of_ble_eq_true rfl) ?_
        refine hr_iload3 (q := 39) X dX5_fits_38 rfl ?_
        refine hr_if_eq (q := 42) (tgt := 48) X dX5_fits_39 rfl (by decide) (fun c39 => ?_) (fun c39 => ?_)
        · exact absurd c39 (by decide)
        · refine hr_aload0 (q := 43) X dX5_fits_42 rfl ?_
          refine hr_iload3 (q := 44) X dX5_fits_43 rfl ?_
          refine hr_callT (q := 47) (hc_V (n := 1) (ci := 5) (As := [.int (-5)]) X dX5_fits_44 rfl (tk_no X.tr hR hA (b := (-5)) (by decide)) q1523 cv_X5_no ⟨Nat.le_of_ble_eq_true rfl, Nat.le_of_ble_eq_true rfl⟩ rfl (Nat.le_of_ble_eq_true rfl) hR.om rfl rfl) rfl (fun G5 u5 hR5 hA5 => ?_)
          exact hr_iret X hr dX5_fits_47 (tw_end (by rw [sq_fits, if_pos c5, if_pos c19, if_neg (show ¬ ((A.1.1 0 0) ≤ (A.1.1 20 (iN a1))) by omega)]) hR5 hA5)
  · refine hr_iconst (v := (-1)) (q := 9) X dX5_fits_8 rfl rfl ?_
    refine hr_goto (tgt := 17) X dX5_fits_9 (by decide) ?_
    refine hr_istore3 (q := 18) X dX5_fits_17 rfl rfl (Nat.le_of_ble_eq_true rfl) ?_
    refine hr_iload3 (q := 19) X dX5_fits_18 rfl ?_
    refine hr_if_ne (q := 22) (tgt := 38) X dX5_fits_19 rfl (by decide) (fun c19 => ?_) (fun c19 => ?_)
    · refine hr_iload3 (q := 39) X dX5_fits_38 rfl ?_
      refine hr_if_eq (q := 42) (tgt := 48) X dX5_fits_39 rfl (by decide) (fun c39 => ?_) (fun c39 => ?_)
      · exact absurd c39 (by decide)
      · refine hr_aload0 (q := 43) X dX5_fits_42 rfl ?_
        refine hr_iload3 (q := 44) X dX5_fits_43 rfl ?_
        refine hr_callT (q := 47) (hc_V (n := 1) (ci := 5) (As := [.int (-1)]) X dX5_fits_44 rfl (tk_no X.tr hR hA (b := (-1)) (by decide)) q1523 cv_X5_no ⟨Nat.le_of_ble_eq_true rfl, Nat.le_of_ble_eq_true rfl⟩ rfl (Nat.le_of_ble_eq_true rfl) hR.om rfl rfl) rfl (fun G6 u6 hR6 hA6 => ?_)
        exact hr_iret X hr dX5_fits_47 (tw_end (by rw [sq_fits, if_neg (by rw [c5]; decide)]) hR6 hA6)
    · exact absurd c19 (by decide)

def sp_wo (t : sp_S) (n : Nat) : Nat := sp_bst (fun _ => true) (fun a b => decide (sp_duties (sp_set t 36 0 a) < sp_duties (sp_set t 36 0 b))) n

theorem tk_without {l : Launch} {D : hg_D} {lo : Nat} (htr : l.stackTraces = false) {G : hg_G} {o : Nat} {am : Nat → Nat} {u : tw_S} {A : ab_S} (hR : tw_R G o am u) (hA : tw_A u A) (hW : ab_wf A) :
    hg_M l D lo yX5_without (ws_ yX5_without cX5_without 5 ((some FieldType.int))) rm_X5_without [.ref o] G (tw_Po o am (oI (sp_wo A.1 (A.1.1 0 0)), A)) := by
  have hw := hW.w; have w0 := hw.b0; have w1 := hw.b1; have w2 := hw.b2; have w3 := hw.b3; have w36 := hW.b36; have w43 := hW.b43
  refine hg_M.of htr (by decide) [some (.ref o), none, none, none, none] rfl (Nat.le_of_ble_eq_true rfl) ?_
  intro p e s m args below meth c X hr hnm htab
  have X : hg_X p l s m args meth c D lo "TaxOnLooksModel" cX5_without 5 := X
  refine hr_iconst (v := (-1)) (q := 1) X dX5_without_0 rfl rfl ?_
  refine hr_istore1 (q := 2) X dX5_without_1 rfl rfl (Nat.le_of_ble_eq_true rfl) ?_
  refine hr_iconst (v := (-1)) (q := 3) X dX5_without_2 rfl rfl ?_
  refine hr_istore2 (q := 4) X dX5_without_3 rfl rfl (Nat.le_of_ble_eq_true rfl) ?_
  refine hr_iconst (v := (nI 0)) (q := 5) X dX5_without_4 rfl rfl ?_
  refine hr_istore3 (q := 6) X dX5_without_5 rfl rfl (Nat.le_of_ble_eq_true rfl) ?_
  have loop6 : ∀ (kr nr n : Nat) (G6 : hg_G) (u6 : tw_S) (i B y : Nat), tw_R G6 o am u6 → tw_A u6 (ab_n A 36 0 y) → (i ≤ A.1.1 0 0) → (A.1.1 0 0 + 1 ≤ i + n) → (B = sp_wo A.1 i) → hg_W p l e rm_X5_without s m args below meth c (hg_Q below D lo args s rm_X5_without G (tw_Po o am (oI (sp_wo A.1 (A.1.1 0 0)), A))) D lo G.1 5 kr nr G6 6 [some (.ref o), some (.int (oI B)), some (.int (sp_mst (fun z => sp_duties (sp_set A.1 36 0 z)) B)), some (.int (nI i)), none] [] := by
    intro kr nr n
    induction n with
    | zero =>
      intro G6 u6 i B y hR6 hA6 h6_0 h6_1 h6_2
      omega
    | succ n ih6 =>
      intro G6 u6 i B y hR6 hA6 h6_0 h6_1 h6_2
      refine hr_iload3 (q := 7) X dX5_without_6 rfl ?_
      refine hr_aload0 (q := 8) X dX5_without_7 rfl ?_
      refine hr_getI (v := (nI (A.1.1 0 0))) (q := 11) X dX5_without_8 rfl fr_q1382_5 rfl hR6.om ((hR6.sc 0).trans (hA6.sc (by decide))) ?_
      refine hr_icmpN_ge (q := 14) (tgt := 50) X dX5_without_11 rfl (by decide) (by omega) (by omega) (fun c11 => ?_) (fun c11 => ?_)
      · refine hr_aload0 (q := 51) X dX5_without_50 rfl ?_
        refine hr_iconst (v := (-1)) (q := 52) X dX5_without_51 rfl rfl ?_
        refine hr_putI (q := 55) X dX5_without_52 rfl fw_q1418_5 (fun h => nomatch h) rfl rfl rfl hR6.om ?_
        have hR1 := hR6.setS 36 (-1)
        have hA1 := hA6.oS (n := 99) rfl
        rw [ab_n_n, show ab_n A 36 0 99 = A by rw [← w36, ab_n_id]] at hA1
        have hi : i = A.1.1 0 0 := by omega
        subst hi
        refine hr_iload1 (q := 56) X dX5_without_55 rfl ?_
        exact hr_iret X hr dX5_without_56 (tw_end (by rw [h6_2]) hR1 hA1)
      · refine hr_aload0 (q := 15) X dX5_without_14 rfl ?_
        refine hr_iload3 (q := 16) X dX5_without_15 rfl ?_
        refine hr_putI (q := 19) X dX5_without_16 rfl fw_q1418_5 (fun h => nomatch h) rfl rfl rfl hR6.om ?_
        have hR2 := hR6.setS 36 (nI i)
        have hA2 := hA6.oS (n := i) (oI_of (by omega)).symm
        have hwi := sp_wf_missing hw (n := i) (by omega)
        rw [ab_n_n] at hA2
        have hB := sp_bst_lt (fun _ => true) (fun a b => decide (sp_duties (sp_set A.1 36 0 a) < sp_duties (sp_set A.1 36 0 b))) i
        rw [← (show B = sp_bst _ _ i from h6_2)] at hB
        refine hr_aload0 (q := 20) X dX5_without_19 rfl ?_
        refine hr_callP (v := .int (nI (sp_duties (sp_set A.1 36 0 i)))) (q := 23) (hc_V (n := 0) (ci := 5) (As := []) X dX5_without_20 rfl (tk_allDuties X.tr hR2 hA2.t hwi) q1744 cv_X5_allDuties ⟨Nat.le_of_ble_eq_true rfl, Nat.le_of_ble_eq_true rfl⟩ rfl (Nat.le_of_ble_eq_true rfl) hR2.om rfl rfl) rfl ?_
        have hT := sp_duties_le hwi
        refine hr_istore4 (q := 25) X dX5_without_23 rfl rfl (Nat.le_of_ble_eq_true rfl) ?_
        refine hr_iload1 (q := 26) X dX5_without_25 rfl ?_
        refine hr_iconst (v := (-1)) (q := 27) X dX5_without_26 rfl rfl ?_
        refine hr_icmpO_eq (q := 30) (tgt := 39) X dX5_without_27 rfl (by decide) (by omega) (fun c27 => ?_) (fun c27 => ?_)
        · refine hr_iload3 (q := 40) X dX5_without_39 rfl ?_
          refine hr_st1 (v' := .int (oI i)) (congrArg Value.int (oI_of (by omega)).symm) ?_
          refine hr_istore1 (q := 41) X dX5_without_40 rfl rfl (Nat.le_of_ble_eq_true rfl) ?_
          refine hr_iload4 (q := 43) X dX5_without_41 rfl ?_
          refine hr_st1 (v' := .int (sp_mst (fun z => sp_duties (sp_set A.1 36 0 z)) i)) (congrArg Value.int (sp_mst_n (f := (fun z => sp_duties (sp_set A.1 36 0 z))) (by omega)).symm) ?_
          refine hr_istore2 (q := 44) X dX5_without_43 rfl rfl (Nat.le_of_ble_eq_true rfl) ?_
          refine hr_iinc3 (v := (nI (i + 1))) (q := 47) X dX5_without_44 rfl (nI_add _ _) rfl (Nat.le_of_ble_eq_true rfl) ?_
          refine hr_goto (tgt := 6) X dX5_without_47 (by decide) ?_
          refine hr_fg4 ?_
          exact ih6 (hs_I G6 o 36 (nI i)) (tw_setS u6 36 (nI i)) (i + 1) i i hR2 hA2 (by omega) (by omega) (sp_bst_y h6_2 rfl (Or.inl c27))
        · refine hr_iload4 (q := 32) X dX5_without_30 rfl ?_
          refine hr_iload2 (q := 33) X dX5_without_32 rfl ?_
          have hF : sp_duties (sp_set A.1 36 0 B) ≤ 441 := sp_duties_le (sp_wf_missing hw (n := B) (by omega))
          refine hr_st1 (v' := .int (nI (sp_duties (sp_set A.1 36 0 B)))) (congrArg Value.int (sp_mst_n (f := (fun z => sp_duties (sp_set A.1 36 0 z))) c27)) ?_
          refine hr_icmpN_lt (q := 36) (tgt := 39) X dX5_without_33 rfl (by decide) (by omega) (by omega) (fun c33 => ?_) (fun c33 => ?_)
          · refine hr_iload3 (q := 40) X dX5_without_39 rfl ?_
            refine hr_st1 (v' := .int (oI i)) (congrArg Value.int (oI_of (by omega)).symm) ?_
            refine hr_istore1 (q := 41) X dX5_without_40 rfl rfl (Nat.le_of_ble_eq_true rfl) ?_
            refine hr_iload4 (q := 43) X dX5_without_41 rfl ?_
            refine hr_st1 (v' := .int (sp_mst (fun z => sp_duties (sp_set A.1 36 0 z)) i)) (congrArg Value.int (sp_mst_n (f := (fun z => sp_duties (sp_set A.1 36 0 z))) (by omega)).symm) ?_
            refine hr_istore2 (q := 44) X dX5_without_43 rfl rfl (Nat.le_of_ble_eq_true rfl) ?_
            refine hr_iinc3 (v := (nI (i + 1))) (q := 47) X dX5_without_44 rfl (nI_add _ _) rfl (Nat.le_of_ble_eq_true rfl) ?_
            refine hr_goto (tgt := 6) X dX5_without_47 (by decide) ?_
            refine hr_fg4 ?_
            exact ih6 (hs_I G6 o 36 (nI i)) (tw_setS u6 36 (nI i)) (i + 1) i i hR2 hA2 (by omega) (by omega) (sp_bst_y h6_2 rfl (Or.inr (decide_eq_true c33)))
          · refine hr_goto (tgt := 44) X dX5_without_36 (by decide) ?_
            refine hr_iinc3 (v := (nI (i + 1))) (q := 47) X dX5_without_44 rfl (nI_add _ _) rfl (Nat.le_of_ble_eq_true rfl) ?_
            refine hr_goto (tgt := 6) X dX5_without_47 (by decide) ?_
            refine hr_fg4 ?_
            exact ih6 (hs_I G6 o 36 (nI i)) (tw_setS u6 36 (nI i)) (i + 1) B i hR2 hA2 (by omega) (by omega) (sp_bst_k h6_2 (Or.inr ⟨c27, decide_eq_false (by omega)⟩))
  exact loop6 _ _ (A.1.1 0 0 + 1) G u 0 99 99 hR (by rw [← w36, ab_n_id]; exact hA) (by omega) (by omega) rfl

def sp_mostOwes (t : sp_S) : Nat := sp_bst (fun _ => true) (fun a b => decide (sp_owes t b < sp_owes t a)) (t.1 0 0)

def sq_most (a1 : Int32) (A : ab_S) : Int32 × ab_S :=
  if (A.1.1 0 0) = 0 then (((sq_no (-5) A).1), (sq_no (-5) A).2)
  else if a1 < 0 then (((sq_no (-5) A).1), (sq_no (-5) A).2)
  else if a1 ≤ (nI 1) then if a1 = (nI 1) then (((oI (sp_wo A.1 (A.1.1 0 0)), A).1), (oI (sp_wo A.1 (A.1.1 0 0)), A).2)
    else ((nI (sp_mostOwes A.1)), A)
  else (((sq_no (-5) A).1), (sq_no (-5) A).2)
theorem tk_most {l : Launch} {D : hg_D} {lo : Nat} (htr : l.stackTraces = false) {G : hg_G} {o : Nat} {am : Nat → Nat} {u : tw_S} {A : ab_S} (hR : tw_R G o am u) (hA : tw_A u A) {a1 : Int32} (hW : ab_wf A) :
    hg_M l D lo yX5_most (ws_ yX5_most cX5_most 4 ((some FieldType.int))) rm_X5_most [.ref o, .int a1] G (tw_Po o am (sq_most a1 A)) := by
  have hw := hW.w; have w0 := hw.b0; have w1 := hw.b1; have w2 := hw.b2; have w3 := hw.b3; have w36 := hW.b36; have w43 := hW.b43
  refine hg_M.of htr (by decide) [some (.ref o), some (.int a1), none, none] rfl (Nat.le_of_ble_eq_true rfl) ?_
  intro p e s m args below meth c X hr hnm htab
  have X : hg_X p l s m args meth c D lo "TaxOnLooksModel" cX5_most 4 := X
  refine hr_aload0 (q := 1) X dX5_most_0 rfl ?_
  refine hr_getI (v := (nI (A.1.1 0 0))) (q := 4) X dX5_most_1 rfl fr_q1382_5 rfl hR.om ((hR.sc 0).trans (hA.sc (by decide))) ?_
  refine hr_ifN_eq (q := 7) (tgt := 16) X dX5_most_4 rfl (by decide) (by omega) (fun c4 => ?_) (fun c4 => ?_)
  · refine hr_aload0 (q := 17) X dX5_most_16 rfl ?_
    refine hr_bipush (v := (-5)) (q := 19) X dX5_most_17 rfl rfl ?_
    refine hr_callT (q := 22) (hc_V (n := 1) (ci := 5) (As := [.int (-5)]) X dX5_most_19 rfl (tk_no X.tr hR hA (b := (-5)) (by decide)) q1523 cv_X5_no ⟨Nat.le_of_ble_eq_true rfl, Nat.le_of_ble_eq_true rfl⟩ rfl (Nat.le_of_ble_eq_true rfl) hR.om rfl rfl) rfl (fun G1 u1 hR1 hA1 => ?_)
    exact hr_iret X hr dX5_most_22 (tw_end (by rw [sq_most, if_pos (show (A.1.1 0 0) = 0 by omega)]) hR1 hA1)
  · refine hr_iload1 (q := 8) X dX5_most_7 rfl ?_
    refine hr_if_lt (q := 11) (tgt := 16) X dX5_most_8 rfl (by decide) (fun c8 => ?_) (fun c8 => ?_)
    · refine hr_aload0 (q := 17) X dX5_most_16 rfl ?_
      refine hr_bipush (v := (-5)) (q := 19) X dX5_most_17 rfl rfl ?_
      refine hr_callT (q := 22) (hc_V (n := 1) (ci := 5) (As := [.int (-5)]) X dX5_most_19 rfl (tk_no X.tr hR hA (b := (-5)) (by decide)) q1523 cv_X5_no ⟨Nat.le_of_ble_eq_true rfl, Nat.le_of_ble_eq_true rfl⟩ rfl (Nat.le_of_ble_eq_true rfl) hR.om rfl rfl) rfl (fun G2 u2 hR2 hA2 => ?_)
      exact hr_iret X hr dX5_most_22 (tw_end (by rw [sq_most, if_neg (show ¬ ((A.1.1 0 0) = 0) by omega), if_pos c8]) hR2 hA2)
    · refine hr_iload1 (q := 12) X dX5_most_11 rfl ?_
      refine hr_iconst (v := (nI 1)) (q := 13) X dX5_most_12 rfl rfl ?_
      refine hr_icmp_le (q := 16) (tgt := 23) X dX5_most_13 rfl (by decide) (fun c13 => ?_) (fun c13 => ?_)
      · refine hr_iload1 (q := 24) X dX5_most_23 rfl ?_
        refine hr_iconst (v := (nI 1)) (q := 25) X dX5_most_24 rfl rfl ?_
        refine hr_icmp_ne (q := 28) (tgt := 33) X dX5_most_25 rfl (by decide) (fun c25 => ?_) (fun c25 => ?_)
        · refine hr_iconst (v := (nI 0)) (q := 34) X dX5_most_33 rfl rfl ?_
          refine hr_istore2 (q := 35) X dX5_most_34 rfl rfl (Nat.le_of_ble_eq_true rfl) ?_
          refine hr_iconst (v := (nI 1)) (q := 36) X dX5_most_35 rfl rfl ?_
          refine hr_istore3 (q := 37) X dX5_most_36 rfl rfl (Nat.le_of_ble_eq_true rfl) ?_
          have loop37 : ∀ (kr nr n : Nat) (i B : Nat), (i ≤ A.1.1 0 0) → (A.1.1 0 0 + 1 ≤ i + n) → (B = sp_bst (fun _ => true) (fun a b => decide (sp_owes A.1 b < sp_owes A.1 a)) i) → (1 ≤ i) → hg_W p l e rm_X5_most s m args below meth c (hg_Q below D lo args s rm_X5_most G (tw_Po o am (sq_most a1 A))) D lo G.1 4 kr nr G 37 [some (.ref o), some (.int a1), some (.int (nI B)), some (.int (nI i))] [] := by
            intro kr nr n
            induction n with
            | zero =>
              intro i B h37_0 h37_1 h37_2 h37_3
              omega
            | succ n ih =>
              intro i B h37_0 h37_1 h37_2 h37_3
              refine hr_iload3 (q := 38) X dX5_most_37 rfl ?_
              refine hr_aload0 (q := 39) X dX5_most_38 rfl ?_
              refine hr_getI (v := (nI (A.1.1 0 0))) (q := 42) X dX5_most_39 rfl fr_q1382_5 rfl hR.om ((hR.sc 0).trans (hA.sc (by decide))) ?_
              refine hr_icmpN_ge (q := 45) (tgt := 66) X dX5_most_42 rfl (by decide) (by omega) (by omega) (fun c42 => ?_) (fun c42 => ?_)
              · have z3 : i = A.1.1 0 0 := by omega
                subst z3
                have hEq : B = sp_mostOwes A.1 := h37_2
                refine hr_iload2 (q := 67) X dX5_most_66 rfl ?_
                exact hr_iret X hr dX5_most_67 (tw_end (by rw [sq_most, if_neg (show ¬ ((A.1.1 0 0) = 0) by omega), if_neg c8, if_pos c13, if_neg c25, ← hEq]) hR hA)
              · have hB := sp_bst_all (lt := (fun a b => decide (sp_owes A.1 b < sp_owes A.1 a))) (i := i) (by omega) (by omega)
                rw [← h37_2] at hB
                refine hr_aload0 (q := 46) X dX5_most_45 rfl ?_
                refine hr_iload3 (q := 47) X dX5_most_46 rfl ?_
                refine hr_callP (q := 50) (hc_V (n := 1) (ci := 5) (As := [.int (nI i)]) X dX5_most_47 rfl (tk_owes X.tr hR hA.t hw (x := i) (by omega)) q1691 cv_X5_owes ⟨Nat.le_of_ble_eq_true rfl, Nat.le_of_ble_eq_true rfl⟩ rfl (Nat.le_of_ble_eq_true rfl) hR.om rfl rfl) rfl ?_
                have := sp_owes_lt (t := A.1) hw i
                refine hr_aload0 (q := 51) X dX5_most_50 rfl ?_
                refine hr_iload2 (q := 52) X dX5_most_51 rfl ?_
                refine hr_callP (q := 55) (hc_V (n := 1) (ci := 5) (As := [.int (nI B)]) X dX5_most_52 rfl (tk_owes X.tr hR hA.t hw (x := B) (by omega)) q1691 cv_X5_owes ⟨Nat.le_of_ble_eq_true rfl, Nat.le_of_ble_eq_true rfl⟩ rfl (Nat.le_of_ble_eq_true rfl) hR.om rfl rfl) rfl ?_
                have := sp_owes_lt (t := A.1) hw B
                refine hr_icmpN_le (q := 58) (tgt := 60) X dX5_most_55 rfl (by decide) (by omega) (by omega) (fun c55 => ?_) (fun c55 => ?_)
                · refine hr_iinc3 (v := (nI (i + 1))) (q := 63) X dX5_most_60 rfl (nI_add _ _) rfl (Nat.le_of_ble_eq_true rfl) ?_
                  refine hr_goto (tgt := 37) X dX5_most_63 (by decide) ?_
                  exact ih (i + 1) B (by omega) (by omega) (sp_bst_k h37_2 (Or.inr ⟨by omega, decide_eq_false (by omega)⟩)) (by omega)
                · refine hr_iload3 (q := 59) X dX5_most_58 rfl ?_
                  refine hr_istore2 (q := 60) X dX5_most_59 rfl rfl (Nat.le_of_ble_eq_true rfl) ?_
                  refine hr_iinc3 (v := (nI (i + 1))) (q := 63) X dX5_most_60 rfl (nI_add _ _) rfl (Nat.le_of_ble_eq_true rfl) ?_
                  refine hr_goto (tgt := 37) X dX5_most_63 (by decide) ?_
                  exact ih (i + 1) i (by omega) (by omega) (sp_bst_y h37_2 rfl (Or.inr (decide_eq_true c55))) (by omega)
          exact loop37 _ _ (A.1.1 0 0 + 1) 1 0 (by omega) (by omega) (sp_bst_1 _).symm (by omega)
        · refine hr_aload0 (q := 29) X dX5_most_28 rfl ?_
          refine hr_callT (q := 32) (hc_V (n := 0) (ci := 5) (As := []) X dX5_most_29 rfl (tk_without X.tr hR hA hW) q1768 cv_X5_without ⟨Nat.le_of_ble_eq_true rfl, Nat.le_of_ble_eq_true rfl⟩ rfl (Nat.le_of_ble_eq_true rfl) hR.om rfl rfl) rfl (fun G4 u4 hR4 hA4 => ?_)
          exact hr_iret X hr dX5_most_32 (tw_end (by rw [sq_most, if_neg (show ¬ ((A.1.1 0 0) = 0) by omega), if_neg c8, if_pos c13, if_pos c25]) hR4 hA4)
      · refine hr_aload0 (q := 17) X dX5_most_16 rfl ?_
        refine hr_bipush (v := (-5)) (q := 19) X dX5_most_17 rfl rfl ?_
        refine hr_callT (q := 22) (hc_V (n := 1) (ci := 5) (As := [.int (-5)]) X dX5_most_19 rfl (tk_no X.tr hR hA (b := (-5)) (by decide)) q1523 cv_X5_no ⟨Nat.le_of_ble_eq_true rfl, Nat.le_of_ble_eq_true rfl⟩ rfl (Nat.le_of_ble_eq_true rfl) hR.om rfl rfl) rfl (fun G5 u5 hR5 hA5 => ?_)
        exact hr_iret X hr dX5_most_22 (tw_end (by rw [sq_most, if_neg (show ¬ ((A.1.1 0 0) = 0) by omega), if_neg c8, if_neg c13]) hR5 hA5)

theorem tk_tellsDuties {l : Launch} {D : hg_D} {lo : Nat} (htr : l.stackTraces = false) {G : hg_G} {o : Nat} {am : Nat → Nat} {u : tw_S} {A : ab_S} (hR : tw_R G o am u) (hA : tw_A u A) (hW : ab_wf A) {x : Nat} (hx : x < A.1.1 0 0) :
    hg_M l D lo yX5_tellsDuties (ws_ yX5_tellsDuties cX5_tellsDuties 4 (none)) rm_X5_tellsDuties [.ref o, .int (nI x)] G (fun r G' => r = .inl none ∧ ∃ u', tw_R G' o am u' ∧ tw_A u' A ∧ ∀ c, c < 36 → u'.2.1 37 c = nI (sp_dutyAt A.1 x c)) := by
  have hw := hW.w; have w0 := hw.b0; have w1 := hw.b1; have w2 := hw.b2; have w3 := hw.b3; have w36 := hW.b36; have w43 := hW.b43
  refine hg_M.of htr (by decide) [some (.ref o), some (.int (nI x)), none, none] rfl (Nat.le_of_ble_eq_true rfl) ?_
  intro p e s m args below meth c X hr hnm htab
  have X : hg_X p l s m args meth c D lo "TaxOnLooksModel" cX5_tellsDuties 4 := X
  refine hr_aload0 (q := 1) X dX5_tellsDuties_0 rfl ?_
  refine hr_getR (v := am 14) (q := 4) X dX5_tellsDuties_1 rfl fr_q1396_5 rfl hR.om (hR.f rfl) ?_
  refine hr_iload1 (q := 5) X dX5_tellsDuties_4 rfl ?_
  refine hr_ialdN (v := (nI (A.1.1 14 x))) (q := 6) X dX5_tellsDuties_5 rfl (hR.ka (n := 7) rfl rfl rfl) (Or.inl rfl) (by omega) (by decide) ((hR.ar rfl _).trans (hA.p (by decide) (by decide) (by omega))) ?_
  have b5 := hW.w.b14 (show x < 7 by omega)
  refine hr_istore2 (q := 7) X dX5_tellsDuties_6 rfl rfl (Nat.le_of_ble_eq_true rfl) ?_
  refine hr_iconst (v := (nI 0)) (q := 8) X dX5_tellsDuties_7 rfl rfl ?_
  refine hr_istore3 (q := 9) X dX5_tellsDuties_8 rfl rfl (Nat.le_of_ble_eq_true rfl) ?_
  have loop9 : ∀ (kr nr n : Nat) (G9 : hg_G) (u9 : tw_S) (i y : Nat), tw_R G9 o am u9 → tw_A u9 (ab_n A 14 x y) → (i ≤ 36) → (37 ≤ i + n) → (∀ c, c < i → u9.2.1 37 c = nI (sp_dutyAt A.1 x c)) → hg_W p l e rm_X5_tellsDuties s m args below meth c (hg_Q below D lo args s rm_X5_tellsDuties G (fun r G' => r = .inl none ∧ ∃ u', tw_R G' o am u' ∧ tw_A u' A ∧ ∀ c, c < 36 → u'.2.1 37 c = nI (sp_dutyAt A.1 x c))) D lo G.1 4 kr nr G9 9 [some (.ref o), some (.int (nI x)), some (.int (nI (A.1.1 14 x))), some (.int (nI i))] [] := by
    intro kr nr n
    induction n with
    | zero =>
      intro G9 u9 i y hR9 hA9 h9_0 h9_1 h9_2
      omega
    | succ n ih9 =>
      intro G9 u9 i y hR9 hA9 h9_0 h9_1 h9_2
      refine hr_iload3 (q := 10) X dX5_tellsDuties_9 rfl ?_
      refine hr_bipush (v := (nI 36)) (q := 12) X dX5_tellsDuties_10 rfl rfl ?_
      refine hr_icmpN_ge (q := 15) (tgt := 54) X dX5_tellsDuties_12 rfl (by decide) (by omega) (by omega) (fun c12 => ?_) (fun c12 => ?_)
      · refine hr_aload0 (q := 55) X dX5_tellsDuties_54 rfl ?_
        refine hr_getR (v := am 14) (q := 58) X dX5_tellsDuties_55 rfl fr_q1396_5 rfl hR9.om (hR9.f rfl) ?_
        refine hr_iload1 (q := 59) X dX5_tellsDuties_58 rfl ?_
        refine hr_iload2 (q := 60) X dX5_tellsDuties_59 rfl ?_
        refine hr_iastN (q := 61) X dX5_tellsDuties_60 rfl (hR9.ka (n := 7) rfl rfl rfl) (by omega) (by decide) ?_
        have hR1 := hR9.setA (k := 14) rfl x (nI (A.1.1 14 x))
        have hA1 := hA9.nA (k := 14) (j := x) (n := A.1.1 14 x) (by decide) rfl
        rw [ab_n_back] at hA1
        exact hr_vret X hr dX5_tellsDuties_61 ⟨rfl, _, hR1, hA1, fun j hj => h9_2 j (by omega)⟩
      · refine hr_aload0 (q := 16) X dX5_tellsDuties_15 rfl ?_
        refine hr_getR (v := am 14) (q := 19) X dX5_tellsDuties_16 rfl fr_q1396_5 rfl hR9.om (hR9.f rfl) ?_
        refine hr_iload1 (q := 20) X dX5_tellsDuties_19 rfl ?_
        refine hr_iload3 (q := 21) X dX5_tellsDuties_20 rfl ?_
        refine hr_iastN (q := 22) X dX5_tellsDuties_21 rfl (hR9.ka (n := 7) rfl rfl rfl) (by omega) (by decide) ?_
        have hR2 := hR9.setA (k := 14) rfl x (nI i)
        have hA2 := hA9.nA (k := 14) (j := x) (n := i) (by decide) rfl
        rw [ab_n_n] at hA2
        refine hr_aload0 (q := 23) X dX5_tellsDuties_22 rfl ?_
        refine hr_getR (v := am 37) (q := 26) X dX5_tellsDuties_23 rfl fr_q1419_5 rfl hR2.om (hR2.f rfl) ?_
        refine hr_iload3 (q := 27) X dX5_tellsDuties_26 rfl ?_
        refine hr_aload0 (q := 28) X dX5_tellsDuties_27 rfl ?_
        refine hr_getR (v := am 16) (q := 31) X dX5_tellsDuties_28 rfl fr_q1398_5 rfl hR2.om (hR2.f rfl) ?_
        refine hr_iload3 (q := 32) X dX5_tellsDuties_31 rfl ?_
        refine hr_ialdN (v := (nI (A.1.1 16 i))) (q := 33) X dX5_tellsDuties_32 rfl (hR2.ka (n := 36) rfl rfl rfl) (Or.inl rfl) (by omega) (by decide) ((hR2.ar rfl _).trans (hA2.c (by decide) (by decide) (by omega))) ?_
        have b32 := hW.w.b16 (show i < 36 by omega)
        refine hr_iconst (v := (nI 1)) (q := 34) X dX5_tellsDuties_33 rfl rfl ?_
        refine hr_icmpN_ne (q := 37) (tgt := 42) X dX5_tellsDuties_34 rfl (by decide) (by omega) (by omega) (fun c34 => ?_) (fun c34 => ?_)
        · refine hr_aload0 (q := 43) X dX5_tellsDuties_42 rfl ?_
          refine hr_iload1 (q := 44) X dX5_tellsDuties_43 rfl ?_
          refine hr_callP (v := .int (nI (sp_owes (sp_set A.1 14 x i) x))) (q := 47) (hc_V (n := 1) (ci := 5) (As := [.int (nI x)]) X dX5_tellsDuties_44 rfl (tk_owes X.tr hR2 hA2.t (sp_wf_at hw (x := x) (c := i) (by omega) (by omega)) (x := x) (by omega)) q1691 cv_X5_owes ⟨Nat.le_of_ble_eq_true rfl, Nat.le_of_ble_eq_true rfl⟩ rfl (Nat.le_of_ble_eq_true rfl) hR2.om rfl rfl) rfl ?_
          refine hr_iastN (q := 48) X dX5_tellsDuties_47 rfl (hR2.ka (n := 36) rfl rfl rfl) (by omega) (by decide) ?_
          have hR3 := hR2.setA (k := 37) rfl i (nI (sp_owes (sp_set A.1 14 x i) x))
          have hA3 := hA2.scA (k := 37) rfl i (nI (sp_owes (sp_set A.1 14 x i) x))
          refine hr_iinc3 (v := (nI (i + 1))) (q := 51) X dX5_tellsDuties_48 rfl (nI_add _ _) rfl (Nat.le_of_ble_eq_true rfl) ?_
          refine hr_goto (tgt := 9) X dX5_tellsDuties_51 (by decide) ?_
          exact ih9 (hs_I (hs_I G9 (am 14) x (nI i)) (am 37) i (nI (sp_owes (sp_set A.1 14 x i) x))) (tw_setA (tw_setA u9 14 x (nI i)) 37 i (nI (sp_owes (sp_set A.1 14 x i) x))) (i + 1) i hR3 hA3 (by omega) (by omega) (sp_ext (fun j hj => (if_neg (by omega)).trans (h9_2 j hj)) ((if_pos rfl).trans (congrArg nI (if_neg (by omega)).symm)))
        · refine hr_ldc (q := 39) X dX5_tellsDuties_37 rfl q1723 ?_
          refine hr_goto (tgt := 47) X dX5_tellsDuties_39 (by decide) ?_
          refine hr_iastN (q := 48) X dX5_tellsDuties_47 rfl (hR2.ka (n := 36) rfl rfl rfl) (by omega) (by decide) ?_
          have hR4 := hR2.setA (k := 37) rfl i 100000000
          have hA4 := hA2.scA (k := 37) rfl i 100000000
          refine hr_iinc3 (v := (nI (i + 1))) (q := 51) X dX5_tellsDuties_48 rfl (nI_add _ _) rfl (Nat.le_of_ble_eq_true rfl) ?_
          refine hr_goto (tgt := 9) X dX5_tellsDuties_51 (by decide) ?_
          exact ih9 (hs_I (hs_I G9 (am 14) x (nI i)) (am 37) i 100000000) (tw_setA (tw_setA u9 14 x (nI i)) 37 i 100000000) (i + 1) i hR4 hA4 (by omega) (by omega) (sp_ext (fun j hj => (if_neg (by omega)).trans (h9_2 j hj)) ((if_pos rfl).trans (congrArg nI (if_pos (by omega)).symm)))
  exact loop9 _ _ 37 G u 0 (A.1.1 14 x) hR (by rw [ab_n_id]; exact hA) (by omega) (by omega) (fun j hj => absurd hj (Nat.not_lt_zero _))

theorem sp_dutyAt_le {t : sp_S} (hw : sp_wf t) (x : Nat) {c : Nat} (hc : c < 36) : sp_dutyAt t x c ≤ 100000000 := by
  unfold sp_dutyAt
  split
  · exact Nat.le_refl _
  · have h1 := hw.b16 hc
    have := sp_owes_lt (sp_wf_at hw (x := x) hc (by omega)) x
    omega
def sp_stand (t : sp_S) (x : Nat) : Nat := sp_bst (fun _ => true) (fun a b => decide (sp_dutyAt t x a < sp_dutyAt t x b)) 36
theorem sp_stand_lt (t : sp_S) (x : Nat) : sp_stand t x < 36 := sp_bst_all (by decide) (by decide)

def sq_stand (a1 : Int32) (a2 : Int32) (A : ab_S) : Int32 × ab_S :=
  if sp_in a1 (A.1.1 0 0) = true then if a2 < 0 then (((sq_no (-5) A).1), (sq_no (-5) A).2)
    else if a2 ≤ (nI 1) then if a2 = 0 then ((nI (sp_stand A.1 (iN a1))), A)
      else ((nI (sp_dutyAt A.1 (iN a1) (sp_stand A.1 (iN a1)))), A)
    else (((sq_no (-5) A).1), (sq_no (-5) A).2)
  else (((sq_no (-1) A).1), (sq_no (-1) A).2)
theorem tk_stand {l : Launch} {D : hg_D} {lo : Nat} (htr : l.stackTraces = false) {G : hg_G} {o : Nat} {am : Nat → Nat} {u : tw_S} {A : ab_S} (hR : tw_R G o am u) (hA : tw_A u A) {a1 : Int32} {a2 : Int32} (hW : ab_wf A) :
    hg_M l D lo yX5_stand (ws_ yX5_stand cX5_stand 5 ((some FieldType.int))) rm_X5_stand [.ref o, .int a1, .int a2] G (tw_Po o am (sq_stand a1 a2 A)) := by
  have hw := hW.w; have w0 := hw.b0; have w1 := hw.b1; have w2 := hw.b2; have w3 := hw.b3; have w36 := hW.b36; have w43 := hW.b43
  refine hg_M.of htr (by decide) [some (.ref o), some (.int a1), some (.int a2), none, none] rfl (Nat.le_of_ble_eq_true rfl) ?_
  intro p e s m args below meth c X hr hnm htab
  have X : hg_X p l s m args meth c D lo "TaxOnLooksModel" cX5_stand 5 := X
  refine hr_aload0 (q := 1) X dX5_stand_0 rfl ?_
  refine hr_iload1 (q := 2) X dX5_stand_1 rfl ?_
  refine hr_callP (q := 5) (hc_V (n := 1) (ci := 5) (As := [.int a1]) X dX5_stand_2 rfl (tk_isOne X.tr hR hA.t a1) q1543 cv_X5_isOne ⟨Nat.le_of_ble_eq_true rfl, Nat.le_of_ble_eq_true rfl⟩ rfl (Nat.le_of_ble_eq_true rfl) hR.om rfl rfl) rfl ?_
  refine hr_ifB_ne (q := 8) (tgt := 14) X dX5_stand_5 rfl (by decide) (fun c5 => ?_) (fun c5 => ?_)
  · refine hr_iload2 (q := 15) X dX5_stand_14 rfl ?_
    refine hr_if_lt (q := 18) (tgt := 23) X dX5_stand_15 rfl (by decide) (fun c15 => ?_) (fun c15 => ?_)
    · refine hr_aload0 (q := 24) X dX5_stand_23 rfl ?_
      refine hr_bipush (v := (-5)) (q := 26) X dX5_stand_24 rfl rfl ?_
      refine hr_callT (q := 29) (hc_V (n := 1) (ci := 5) (As := [.int (-5)]) X dX5_stand_26 rfl (tk_no X.tr hR hA (b := (-5)) (by decide)) q1523 cv_X5_no ⟨Nat.le_of_ble_eq_true rfl, Nat.le_of_ble_eq_true rfl⟩ rfl (Nat.le_of_ble_eq_true rfl) hR.om rfl rfl) rfl (fun G1 u1 hR1 hA1 => ?_)
      exact hr_iret X hr dX5_stand_29 (tw_end (by rw [sq_stand, if_pos c5, if_pos c15]) hR1 hA1)
    · refine hr_iload2 (q := 19) X dX5_stand_18 rfl ?_
      refine hr_iconst (v := (nI 1)) (q := 20) X dX5_stand_19 rfl rfl ?_
      refine hr_icmp_le (q := 23) (tgt := 30) X dX5_stand_20 rfl (by decide) (fun c20 => ?_) (fun c20 => ?_)
      · have n30_1 := sp_inN (by omega) c5
        refine hr_L (L' := [some (.ref o), some (.int (nI (iN a1))), some (.int a2), none, none]) (by rw [← n30_1.1]) ?_
        refine hr_aload0 (q := 31) X dX5_stand_30 rfl ?_
        refine hr_iload1 (q := 32) X dX5_stand_31 rfl ?_
        refine hr_call0 (q := 35) (hc_V (n := 1) (ci := 5) (As := [.int (nI (iN a1))]) X dX5_stand_32 rfl (tk_tellsDuties X.tr hR hA hW (x := iN a1) (by omega)) q1719 cv_X5_tellsDuties ⟨Nat.le_of_ble_eq_true rfl, Nat.le_of_ble_eq_true rfl⟩ rfl (Nat.le_of_ble_eq_true rfl) hR.om rfl rfl) rfl (fun qx E G' hp => by cases hp.1) (fun r G1 hp _ => ?_)
        obtain ⟨hv1, u1, hR1, hA1, hD⟩ := hp
        cases hv1
        refine hr_iconst (v := (nI 0)) (q := 36) X dX5_stand_35 rfl rfl ?_
        refine hr_istore3 (q := 37) X dX5_stand_36 rfl rfl (Nat.le_of_ble_eq_true rfl) ?_
        refine hr_iconst (v := (nI 1)) (q := 38) X dX5_stand_37 rfl rfl ?_
        refine hr_istore4 (q := 40) X dX5_stand_38 rfl rfl (Nat.le_of_ble_eq_true rfl) ?_
        have loop40 : ∀ (kr nr n : Nat) (i B : Nat), (i ≤ 36) → (37 ≤ i + n) → (B = sp_bst (fun _ => true) (fun a b => decide (sp_dutyAt A.1 (iN a1) a < sp_dutyAt A.1 (iN a1) b)) i) → (1 ≤ i) → hg_W p l e rm_X5_stand s m args below meth c (hg_Q below D lo args s rm_X5_stand G (tw_Po o am (sq_stand a1 a2 A))) D lo G.1 5 kr nr G1 40 [some (.ref o), some (.int (nI (iN a1))), some (.int a2), some (.int (nI B)), some (.int (nI i))] [] := by
          intro kr nr n
          induction n with
          | zero =>
            intro i B h40_0 h40_1 h40_2 h40_3
            omega
          | succ n ih =>
            intro i B h40_0 h40_1 h40_2 h40_3
            refine hr_iload4 (q := 42) X dX5_stand_40 rfl ?_
            refine hr_bipush (v := (nI 36)) (q := 44) X dX5_stand_42 rfl rfl ?_
            refine hr_icmpN_ge (q := 47) (tgt := 72) X dX5_stand_44 rfl (by decide) (by omega) (by omega) (fun c44 => ?_) (fun c44 => ?_)
            · have z2 : i = 36 := by omega
              subst z2
              have hEq : B = sp_stand A.1 (iN a1) := h40_2
              have hBl : B < 36 := hEq ▸ sp_stand_lt A.1 (iN a1)
              refine hr_iload2 (q := 73) X dX5_stand_72 rfl ?_
              refine hr_if_ne (q := 76) (tgt := 80) X dX5_stand_73 rfl (by decide) (fun c73 => ?_) (fun c73 => ?_)
              · refine hr_aload0 (q := 81) X dX5_stand_80 rfl ?_
                refine hr_getR (v := am 37) (q := 84) X dX5_stand_81 rfl fr_q1419_5 rfl hR1.om (hR1.f rfl) ?_
                refine hr_iload3 (q := 85) X dX5_stand_84 rfl ?_
                refine hr_ialdN (v := (nI (sp_dutyAt A.1 (iN a1) B))) (q := 86) X dX5_stand_85 rfl (hR1.ka (n := 36) rfl rfl rfl) (Or.inl rfl) (by omega) (by decide) ((hR1.ar rfl _).trans (hD _ (by omega))) ?_
                exact hr_iret X hr dX5_stand_86 (tw_end (by rw [sq_stand, if_pos c5, if_neg c15, if_pos c20, if_neg c73, ← hEq]) hR1 hA1)
              · refine hr_iload3 (q := 77) X dX5_stand_76 rfl ?_
                refine hr_goto (tgt := 86) X dX5_stand_77 (by decide) ?_
                exact hr_iret X hr dX5_stand_86 (tw_end (by rw [sq_stand, if_pos c5, if_neg c15, if_pos c20, if_pos c73, ← hEq]) hR1 hA1)
            · have hB := sp_bst_all (lt := (fun a b => decide (sp_dutyAt A.1 (iN a1) a < sp_dutyAt A.1 (iN a1) b))) (i := i) (by omega) (by omega)
              rw [← h40_2] at hB
              have hd1 := sp_dutyAt_le hw (iN a1) (c := i) (by omega); have hd2 := sp_dutyAt_le hw (iN a1) (c := B) (by omega)
              refine hr_aload0 (q := 48) X dX5_stand_47 rfl ?_
              refine hr_getR (v := am 37) (q := 51) X dX5_stand_48 rfl fr_q1419_5 rfl hR1.om (hR1.f rfl) ?_
              refine hr_iload4 (q := 53) X dX5_stand_51 rfl ?_
              refine hr_ialdN (v := (nI (sp_dutyAt A.1 (iN a1) i))) (q := 54) X dX5_stand_53 rfl (hR1.ka (n := 36) rfl rfl rfl) (Or.inl rfl) (by omega) (by decide) ((hR1.ar rfl _).trans (hD _ (by omega))) ?_
              refine hr_aload0 (q := 55) X dX5_stand_54 rfl ?_
              refine hr_getR (v := am 37) (q := 58) X dX5_stand_55 rfl fr_q1419_5 rfl hR1.om (hR1.f rfl) ?_
              refine hr_iload3 (q := 59) X dX5_stand_58 rfl ?_
              refine hr_ialdN (v := (nI (sp_dutyAt A.1 (iN a1) B))) (q := 60) X dX5_stand_59 rfl (hR1.ka (n := 36) rfl rfl rfl) (Or.inl rfl) (by omega) (by decide) ((hR1.ar rfl _).trans (hD _ (by omega))) ?_
              refine hr_icmpN_ge (q := 63) (tgt := 66) X dX5_stand_60 rfl (by decide) (by omega) (by omega) (fun c60 => ?_) (fun c60 => ?_)
              · refine hr_iinc4 (v := (nI (i + 1))) (q := 69) X dX5_stand_66 rfl (nI_add _ _) rfl (Nat.le_of_ble_eq_true rfl) ?_
                refine hr_goto (tgt := 40) X dX5_stand_69 (by decide) ?_
                exact ih (i + 1) B (by omega) (by omega) (sp_bst_k h40_2 (Or.inr ⟨by omega, decide_eq_false (by omega)⟩)) (by omega)
              · refine hr_iload4 (q := 65) X dX5_stand_63 rfl ?_
                refine hr_istore3 (q := 66) X dX5_stand_65 rfl rfl (Nat.le_of_ble_eq_true rfl) ?_
                refine hr_iinc4 (v := (nI (i + 1))) (q := 69) X dX5_stand_66 rfl (nI_add _ _) rfl (Nat.le_of_ble_eq_true rfl) ?_
                refine hr_goto (tgt := 40) X dX5_stand_69 (by decide) ?_
                exact ih (i + 1) i (by omega) (by omega) (sp_bst_y h40_2 rfl (Or.inr (decide_eq_true c60))) (by omega)
        exact loop40 _ _ 37 1 0 (by omega) (by omega) (sp_bst_1 _).symm (by omega)
      · refine hr_aload0 (q := 24) X dX5_stand_23 rfl ?_
        refine hr_bipush (v := (-5)) (q := 26) X dX5_stand_24 rfl rfl ?_
        refine hr_callT (q := 29) (hc_V (n := 1) (ci := 5) (As := [.int (-5)]) X dX5_stand_26 rfl (tk_no X.tr hR hA (b := (-5)) (by decide)) q1523 cv_X5_no ⟨Nat.le_of_ble_eq_true rfl, Nat.le_of_ble_eq_true rfl⟩ rfl (Nat.le_of_ble_eq_true rfl) hR.om rfl rfl) rfl (fun G3 u3 hR3 hA3 => ?_)
        exact hr_iret X hr dX5_stand_29 (tw_end (by rw [sq_stand, if_pos c5, if_neg c15, if_neg c20]) hR3 hA3)
  · refine hr_aload0 (q := 9) X dX5_stand_8 rfl ?_
    refine hr_iconst (v := (-1)) (q := 10) X dX5_stand_9 rfl rfl ?_
    refine hr_callT (q := 13) (hc_V (n := 1) (ci := 5) (As := [.int (-1)]) X dX5_stand_10 rfl (tk_no X.tr hR hA (b := (-1)) (by decide)) q1523 cv_X5_no ⟨Nat.le_of_ble_eq_true rfl, Nat.le_of_ble_eq_true rfl⟩ rfl (Nat.le_of_ble_eq_true rfl) hR.om rfl rfl) rfl (fun G4 u4 hR4 hA4 => ?_)
    exact hr_iret X hr dX5_stand_13 (tw_end (by rw [sq_stand, if_neg (by rw [c5]; decide)]) hR4 hA4)

