theorem wk_upd {u : tw_S} {m : Nat → Nat} {c n : Nat} (h : ∀ j, j < 36 → u.2.1 38 j = nI (m j)) : ∀ j, j < 36 → (tw_setA u 38 c (nI n)).2.1 38 j = nI ((((fun j => if j = c then n else m j), true) : wk_S).1 j) := by
  intro j hj
  show (if j = c then nI n else u.2.1 38 j) = nI (if j = c then n else m j)
  split
  · rfl
  · exact h j hj

theorem tk_tellsWays {l : Launch} {D : hg_D} {lo : Nat} (htr : l.stackTraces = false) {G : hg_G} {o : Nat} {am : Nat → Nat} {u : tw_S} {A : ab_S} (hR : tw_R G o am u) (hA : tw_A u A) (hW : ab_wf A) {x to : Nat} (hx : x < A.1.1 0 0) (hto : to < 36) (hD : ∀ c, c < 36 → u.2.1 37 c = nI (sp_dutyAt A.1 x c)) :
    hg_M l D lo yX5_tellsWays (ws_ yX5_tellsWays cX5_tellsWays 6 (none)) rm_X5_tellsWays [.ref o, .int (nI to)] G (fun r G' => r = .inl none ∧ ∃ u', tw_R G' o am u' ∧ tw_A u' A ∧ (∀ c, c < 36 → u'.2.1 38 c = nI (wk_fin A.1 (sp_dutyAt A.1 x) to c)) ∧ ∀ c, c < 36 → u'.2.1 37 c = nI (sp_dutyAt A.1 x c)) := by
  have hw := hW.w; have w0 := hw.b0; have w1 := hw.b1; have w2 := hw.b2; have w3 := hw.b3; have w36 := hW.b36; have w43 := hW.b43
  refine hg_M.of htr (by decide) [some (.ref o), some (.int (nI to)), none, none, none, none] rfl (Nat.le_of_ble_eq_true rfl) ?_
  intro p e s m args below meth c X hr hnm htab
  have X : hg_X p l s m args meth c D lo "TaxOnLooksModel" cX5_tellsWays 6 := X
  refine hr_iconst (v := (nI 0)) (q := 1) X dX5_tellsWays_0 rfl rfl ?_
  refine hr_istore2 (q := 2) X dX5_tellsWays_1 rfl rfl (Nat.le_of_ble_eq_true rfl) ?_
  have loop2 : ∀ (kr nr n : Nat) (G2 : hg_G) (u2 : tw_S) (i : Nat), tw_R G2 o am u2 → tw_A u2 (A) → (i ≤ 36) → (37 ≤ i + n) → (∀ c, c < i → u2.2.1 38 c = nI (wk_m0 A.1 to c)) → (∀ c, c < 36 → u2.2.1 37 c = nI (sp_dutyAt A.1 x c)) → hg_W p l e rm_X5_tellsWays s m args below meth c (hg_Q below D lo args s rm_X5_tellsWays G (fun r G' => r = .inl none ∧ ∃ u', tw_R G' o am u' ∧ tw_A u' A ∧ (∀ c, c < 36 → u'.2.1 38 c = nI (wk_fin A.1 (sp_dutyAt A.1 x) to c)) ∧ ∀ c, c < 36 → u'.2.1 37 c = nI (sp_dutyAt A.1 x c))) D lo G.1 6 kr nr G2 2 [some (.ref o), some (.int (nI to)), some (.int (nI i)), none, none, none] [] := by
    intro kr nr n
    induction n with
    | zero =>
      intro G2 u2 i hR2 hA2 h2_0 h2_1 h2_2 h2_3
      omega
    | succ n ih2 =>
      intro G2 u2 i hR2 hA2 h2_0 h2_1 h2_2 h2_3
      refine hr_iload2 (q := 3) X dX5_tellsWays_2 rfl ?_
      refine hr_bipush (v := (nI 36)) (q := 5) X dX5_tellsWays_3 rfl rfl ?_
      refine hr_icmpN_ge (q := 8) (tgt := 40) X dX5_tellsWays_5 rfl (by decide) (by omega) (by omega) (fun c5 => ?_) (fun c5 => ?_)
      · have z1 : i = 36 := by omega
        subst z1
        refine hr_iconst (v := (nI 1)) (q := 41) X dX5_tellsWays_40 rfl rfl ?_
        refine hr_st1 (v' := .int (bI true)) (congrArg Value.int rfl) ?_
        refine hr_istore2 (q := 42) X dX5_tellsWays_41 rfl rfl (Nat.le_of_ble_eq_true rfl) ?_
        have loop42 : ∀ (n : Nat) (G42 : hg_G) (u42 : tw_S) (mm : Nat → Nat) (g : Bool), tw_R G42 o am u42 → tw_A u42 (A) → (1 ≤ n) → (g = true → sp_sum mm 36 + 2 ≤ n ∧ wk_run A.1 (sp_dutyAt A.1 x) n mm = wk_fin A.1 (sp_dutyAt A.1 x) to) → (g = false → mm = wk_fin A.1 (sp_dutyAt A.1 x) to) → (∀ c, c < 36 → u42.2.1 38 c = nI (mm c)) → (∀ c, c < 36 → u42.2.1 37 c = nI (sp_dutyAt A.1 x c)) → (∀ c, mm c ≤ 100000000) → hg_W p l e rm_X5_tellsWays s m args below meth c (hg_Q below D lo args s rm_X5_tellsWays G (fun r G' => r = .inl none ∧ ∃ u', tw_R G' o am u' ∧ tw_A u' A ∧ (∀ c, c < 36 → u'.2.1 38 c = nI (wk_fin A.1 (sp_dutyAt A.1 x) to c)) ∧ ∀ c, c < 36 → u'.2.1 37 c = nI (sp_dutyAt A.1 x c))) D lo G.1 6 kr nr G42 42 [some (.ref o), some (.int (nI to)), some (.int (bI g)), none, none, none] [] := by
          intro n
          induction n with
          | zero =>
            intro G42 u42 mm g hR42 hA42 h42_0 h42_1 h42_2 h42_3 h42_4 h42_5
            omega
          | succ n ih42 =>
            intro G42 u42 mm g hR42 hA42 h42_0 h42_1 h42_2 h42_3 h42_4 h42_5
            refine hr_iload2 (q := 43) X dX5_tellsWays_42 rfl ?_
            refine hr_ifB_eq (q := 46) (tgt := 193) X dX5_tellsWays_43 rfl (by decide) (fun c43 => ?_) (fun c43 => ?_)
            · exact hr_vret X hr dX5_tellsWays_193 ⟨rfl, _, hR42, hA42, fun c hc => (h42_3 c hc).trans (congrArg nI (congrFun (h42_2 c43) c)), h42_4⟩
            · refine hr_iconst (v := (nI 0)) (q := 47) X dX5_tellsWays_46 rfl rfl ?_
              refine hr_st1 (v' := .int (bI false)) (congrArg Value.int rfl) ?_
              refine hr_istore2 (q := 48) X dX5_tellsWays_47 rfl rfl (Nat.le_of_ble_eq_true rfl) ?_
              refine hr_iconst (v := (nI 0)) (q := 49) X dX5_tellsWays_48 rfl rfl ?_
              refine hr_istore3 (q := 50) X dX5_tellsWays_49 rfl rfl (Nat.le_of_ble_eq_true rfl) ?_
              have loop50 : ∀ (n : Nat) (G50 : hg_G) (u50 : tw_S) (c9 : Nat), tw_R G50 o am u50 → tw_A u50 (A) → (c9 ≤ 36) → (37 ≤ c9 + n) → (∀ c, c < 36 → u50.2.1 38 c = nI ((wk_pass A.1 (sp_dutyAt A.1 x) (mm, false) c9).1 c)) → (∀ c, c < 36 → u50.2.1 37 c = nI (sp_dutyAt A.1 x c)) → hg_W p l e rm_X5_tellsWays s m args below meth c (hg_Q below D lo args s rm_X5_tellsWays G (fun r G' => r = .inl none ∧ ∃ u', tw_R G' o am u' ∧ tw_A u' A ∧ (∀ c, c < 36 → u'.2.1 38 c = nI (wk_fin A.1 (sp_dutyAt A.1 x) to c)) ∧ ∀ c, c < 36 → u'.2.1 37 c = nI (sp_dutyAt A.1 x c))) D lo G.1 6 kr nr G50 50 [some (.ref o), some (.int (nI to)), some (.int (bI ((wk_pass A.1 (sp_dutyAt A.1 x) (mm, false) c9).2))), some (.int (nI c9)), none, none] [] := by
                intro n
                induction n with
                | zero =>
                  intro G50 u50 c9 hR50 hA50 h50_0 h50_1 h50_2 h50_3
                  omega
                | succ n ih50 =>
                  intro G50 u50 c9 hR50 hA50 h50_0 h50_1 h50_2 h50_3
                  refine hr_iload3 (q := 51) X dX5_tellsWays_50 rfl ?_
                  refine hr_bipush (v := (nI 36)) (q := 53) X dX5_tellsWays_51 rfl rfl ?_
                  refine hr_icmpN_ge (q := 56) (tgt := 190) X dX5_tellsWays_53 rfl (by decide) (by omega) (by omega) (fun c53 => ?_) (fun c53 => ?_)
                  · have z2 : c9 = 36 := by omega
                    subst z2
                    refine hr_goto (tgt := 42) X dX5_tellsWays_190 (by decide) ?_
                    refine hr_fg3 ?_
                    exact ih42 G50 u50 (wk_pass A.1 (sp_dutyAt A.1 x) (mm, false) 36).1 (wk_pass A.1 (sp_dutyAt A.1 x) (mm, false) 36).2 hR50 hA50 (by have := h42_1 c43; omega) (fun z => ⟨by have := h42_1 c43; have := wk_pass_sum z; omega, by rw [← (h42_1 c43).2]; exact (wk_run_y z).symm⟩) (fun z => by rw [← (h42_1 c43).2]; exact (wk_run_n z).symm) h50_2 h50_3 (fun c => Nat.le_trans (wk_pass_le (q := (mm, false)) c 36) (h42_5 c))
                  · refine hr_aload0 (q := 57) X dX5_tellsWays_56 rfl ?_
                    refine hr_getR (v := am 16) (q := 60) X dX5_tellsWays_57 rfl fr_q1398_5 rfl hR50.om (hR50.f rfl) ?_
                    refine hr_iload3 (q := 61) X dX5_tellsWays_60 rfl ?_
                    refine hr_ialdN (v := (nI (A.1.1 16 c9))) (q := 62) X dX5_tellsWays_61 rfl (hR50.ka (n := 36) rfl rfl rfl) (Or.inl rfl) (by omega) (by decide) ((hR50.ar rfl _).trans (hA50.c (by decide) (by decide) (by omega))) ?_
                    have b61 := hW.w.b16 (show c9 < 36 by omega)
                    refine hr_iconst (v := (nI 1)) (q := 63) X dX5_tellsWays_62 rfl rfl ?_
                    refine hr_icmpN_ne (q := 66) (tgt := 69) X dX5_tellsWays_63 rfl (by decide) (by omega) (by omega) (fun c63 => ?_) (fun c63 => ?_)
                    · refine hr_iconst (v := (nI 0)) (q := 70) X dX5_tellsWays_69 rfl rfl ?_
                      refine hr_istore4 (q := 72) X dX5_tellsWays_70 rfl rfl (Nat.le_of_ble_eq_true rfl) ?_
                      have loop72 : ∀ (n : Nat) (G72 : hg_G) (u72 : tw_S) (v : Nat), tw_R G72 o am u72 → tw_A u72 (A) → (v ≤ 4) → (5 ≤ v + n) → (∀ c, c < 36 → u72.2.1 38 c = nI ((wk_ws A.1 (sp_dutyAt A.1 x) (wk_pass A.1 (sp_dutyAt A.1 x) (mm, false) c9) c9 v).1 c)) → (∀ c, c < 36 → u72.2.1 37 c = nI (sp_dutyAt A.1 x c)) → hg_W p l e rm_X5_tellsWays s m args below meth c (hg_Q below D lo args s rm_X5_tellsWays G (fun r G' => r = .inl none ∧ ∃ u', tw_R G' o am u' ∧ tw_A u' A ∧ (∀ c, c < 36 → u'.2.1 38 c = nI (wk_fin A.1 (sp_dutyAt A.1 x) to c)) ∧ ∀ c, c < 36 → u'.2.1 37 c = nI (sp_dutyAt A.1 x c))) D lo G.1 6 kr nr G72 72 [some (.ref o), some (.int (nI to)), some (.int (bI ((wk_ws A.1 (sp_dutyAt A.1 x) (wk_pass A.1 (sp_dutyAt A.1 x) (mm, false) c9) c9 v).2))), some (.int (nI c9)), some (.int (nI v)), none] [] := by
                        intro n
                        induction n with
                        | zero =>
                          intro G72 u72 v hR72 hA72 h72_0 h72_1 h72_2 h72_3
                          omega
                        | succ n ih72 =>
                          intro G72 u72 v hR72 hA72 h72_0 h72_1 h72_2 h72_3
                          refine hr_iload4 (q := 74) X dX5_tellsWays_72 rfl ?_
                          refine hr_iconst (v := (nI 4)) (q := 75) X dX5_tellsWays_74 rfl rfl ?_
                          refine hr_icmpN_ge (q := 78) (tgt := 184) X dX5_tellsWays_75 rfl (by decide) (by omega) (by omega) (fun c75 => ?_) (fun c75 => ?_)
                          · have hv4 : v = 4 := by omega
                            subst hv4
                            have hsq : wk_pass A.1 (sp_dutyAt A.1 x) (mm, false) (c9 + 1) = wk_ws A.1 (sp_dutyAt A.1 x) (wk_pass A.1 (sp_dutyAt A.1 x) (mm, false) c9) c9 4 := by rw [wk_pass, wk_sq, if_neg c63]
                            refine hr_fg4 ?_
                            refine hr_L (L' := [some (.ref o), some (.int (nI to)), some (.int (bI ((wk_pass A.1 (sp_dutyAt A.1 x) (mm, false) (c9 + 1)).2))), some (.int (nI c9)), none, none]) (by rw [hsq]) ?_
                            refine hr_iinc3 (v := (nI (c9 + 1))) (q := 187) X dX5_tellsWays_184 rfl (nI_add _ _) rfl (Nat.le_of_ble_eq_true rfl) ?_
                            refine hr_goto (tgt := 50) X dX5_tellsWays_187 (by decide) ?_
                            exact ih50 G72 u72 (c9 + 1) hR72 hA72 (by omega) (by omega) (by rw [hsq]; exact h72_2) h72_3
                          · have hbl := sp_beside_lt (c := c9) (w := v) (by omega)
                            have hb : ∀ c, (wk_ws A.1 (sp_dutyAt A.1 x) (wk_pass A.1 (sp_dutyAt A.1 x) (mm, false) c9) c9 v).1 c ≤ 100000000 := fun c => Nat.le_trans (wk_ws_le c v) (Nat.le_trans (wk_pass_le (q := (mm, false)) c c9) (h42_5 c))
                            refine hr_aload0 (q := 79) X dX5_tellsWays_78 rfl ?_
                            refine hr_iload3 (q := 80) X dX5_tellsWays_79 rfl ?_
                            refine hr_iload4 (q := 82) X dX5_tellsWays_80 rfl ?_
                            refine hr_callP (q := 85) (hc_V (n := 2) (ci := 5) (As := [.int (nI c9), .int (nI v)]) X dX5_tellsWays_82 rfl (tk_beside X.tr hR72 (z := c9) (v := v) (by omega) (by omega)) q1728 cv_X5_beside ⟨Nat.le_of_ble_eq_true rfl, Nat.le_of_ble_eq_true rfl⟩ rfl (Nat.le_of_ble_eq_true rfl) hR72.om rfl rfl) rfl ?_
                            refine hr_istore5 (q := 87) X dX5_tellsWays_85 rfl rfl (Nat.le_of_ble_eq_true rfl) ?_
                            refine hr_iload5 (q := 89) X dX5_tellsWays_87 rfl ?_
                            refine hr_iconst (v := (-1)) (q := 90) X dX5_tellsWays_89 rfl rfl ?_
                            refine hr_icmpO_eq (q := 93) (tgt := 178) X dX5_tellsWays_90 rfl (by decide) (by omega) (fun c90 => ?_) (fun c90 => ?_)
                            · have hQ : wk_ws A.1 (sp_dutyAt A.1 x) (wk_pass A.1 (sp_dutyAt A.1 x) (mm, false) c9) c9 (v + 1) = wk_ws A.1 (sp_dutyAt A.1 x) (wk_pass A.1 (sp_dutyAt A.1 x) (mm, false) c9) c9 v := wk_rel_k (Or.inl c90)
                              refine hr_fg5 ?_
                              refine hr_L (L' := [some (.ref o), some (.int (nI to)), some (.int (bI ((wk_ws A.1 (sp_dutyAt A.1 x) (wk_pass A.1 (sp_dutyAt A.1 x) (mm, false) c9) c9 (v + 1)).2))), some (.int (nI c9)), some (.int (nI v)), none]) (by rw [hQ]) ?_
                              refine hr_iinc4 (v := (nI (v + 1))) (q := 181) X dX5_tellsWays_178 rfl (nI_add _ _) rfl (Nat.le_of_ble_eq_true rfl) ?_
                              refine hr_goto (tgt := 72) X dX5_tellsWays_181 (by decide) ?_
                              exact ih72 G72 u72 (v + 1) hR72 hA72 (by omega) (by omega) (by rw [hQ]; exact h72_2) h72_3
                            · have hbe := hbl.resolve_left c90
                              refine hr_L (L' := [some (.ref o), some (.int (nI to)), some (.int (bI ((wk_ws A.1 (sp_dutyAt A.1 x) (wk_pass A.1 (sp_dutyAt A.1 x) (mm, false) c9) c9 v).2))), some (.int (nI c9)), some (.int (nI v)), some (.int (nI (sp_beside c9 v)))]) (by rw [← oI_of c90]) ?_
                              refine hr_aload0 (q := 94) X dX5_tellsWays_93 rfl ?_
                              refine hr_getR (v := am 16) (q := 97) X dX5_tellsWays_94 rfl fr_q1398_5 rfl hR72.om (hR72.f rfl) ?_
                              refine hr_iload5 (q := 99) X dX5_tellsWays_97 rfl ?_
                              refine hr_ialdN (v := (nI (A.1.1 16 (sp_beside c9 v)))) (q := 100) X dX5_tellsWays_99 rfl (hR72.ka (n := 36) rfl rfl rfl) (Or.inl rfl) (by omega) (by decide) ((hR72.ar rfl _).trans (hA72.c (by decide) (by decide) (by omega))) ?_
                              have b99 := hW.w.b16 (show sp_beside c9 v < 36 by omega)
                              refine hr_iconst (v := (nI 1)) (q := 101) X dX5_tellsWays_100 rfl rfl ?_
                              refine hr_icmpN_eq (q := 104) (tgt := 178) X dX5_tellsWays_101 rfl (by decide) (by omega) (by omega) (fun c101 => ?_) (fun c101 => ?_)
                              · have hQ : wk_ws A.1 (sp_dutyAt A.1 x) (wk_pass A.1 (sp_dutyAt A.1 x) (mm, false) c9) c9 (v + 1) = wk_ws A.1 (sp_dutyAt A.1 x) (wk_pass A.1 (sp_dutyAt A.1 x) (mm, false) c9) c9 v := wk_rel_k (Or.inr (Or.inl c101))
                                refine hr_fg5 ?_
                                refine hr_L (L' := [some (.ref o), some (.int (nI to)), some (.int (bI ((wk_ws A.1 (sp_dutyAt A.1 x) (wk_pass A.1 (sp_dutyAt A.1 x) (mm, false) c9) c9 (v + 1)).2))), some (.int (nI c9)), some (.int (nI v)), none]) (by rw [hQ]) ?_
                                refine hr_iinc4 (v := (nI (v + 1))) (q := 181) X dX5_tellsWays_178 rfl (nI_add _ _) rfl (Nat.le_of_ble_eq_true rfl) ?_
                                refine hr_goto (tgt := 72) X dX5_tellsWays_181 (by decide) ?_
                                exact ih72 G72 u72 (v + 1) hR72 hA72 (by omega) (by omega) (by rw [hQ]; exact h72_2) h72_3
                              · have hdu := sp_dutyAt_free hw (x := x) hbe c101
                                have hb1 := hb (sp_beside c9 v); have hb2 := hb c9
                                refine hr_aload0 (q := 105) X dX5_tellsWays_104 rfl ?_
                                refine hr_getR (v := am 38) (q := 108) X dX5_tellsWays_105 rfl fr_q1420_5 rfl hR72.om (hR72.f rfl) ?_
                                refine hr_iload5 (q := 110) X dX5_tellsWays_108 rfl ?_
                                refine hr_ialdN (v := (nI ((wk_ws A.1 (sp_dutyAt A.1 x) (wk_pass A.1 (sp_dutyAt A.1 x) (mm, false) c9) c9 v).1 (sp_beside c9 v)))) (q := 111) X dX5_tellsWays_110 rfl (hR72.ka (n := 36) rfl rfl rfl) (Or.inl rfl) (by omega) (by decide) ((hR72.ar rfl _).trans (h72_2 _ (by omega))) ?_
                                refine hr_ldc (q := 113) X dX5_tellsWays_111 rfl q1723 ?_
                                refine hr_st1 (v' := .int (nI 100000000)) (congrArg Value.int rfl) ?_
                                refine hr_icmpN_eq (q := 116) (tgt := 178) X dX5_tellsWays_113 rfl (by decide) (by omega) (by omega) (fun c113 => ?_) (fun c113 => ?_)
                                · have hQ : wk_ws A.1 (sp_dutyAt A.1 x) (wk_pass A.1 (sp_dutyAt A.1 x) (mm, false) c9) c9 (v + 1) = wk_ws A.1 (sp_dutyAt A.1 x) (wk_pass A.1 (sp_dutyAt A.1 x) (mm, false) c9) c9 v := wk_rel_k (Or.inr (Or.inr (Or.inl c113)))
                                  refine hr_fg5 ?_
                                  refine hr_L (L' := [some (.ref o), some (.int (nI to)), some (.int (bI ((wk_ws A.1 (sp_dutyAt A.1 x) (wk_pass A.1 (sp_dutyAt A.1 x) (mm, false) c9) c9 (v + 1)).2))), some (.int (nI c9)), some (.int (nI v)), none]) (by rw [hQ]) ?_
                                  refine hr_iinc4 (v := (nI (v + 1))) (q := 181) X dX5_tellsWays_178 rfl (nI_add _ _) rfl (Nat.le_of_ble_eq_true rfl) ?_
                                  refine hr_goto (tgt := 72) X dX5_tellsWays_181 (by decide) ?_
                                  exact ih72 G72 u72 (v + 1) hR72 hA72 (by omega) (by omega) (by rw [hQ]; exact h72_2) h72_3
                                · refine hr_aload0 (q := 117) X dX5_tellsWays_116 rfl ?_
                                  refine hr_getR (v := am 38) (q := 120) X dX5_tellsWays_117 rfl fr_q1420_5 rfl hR72.om (hR72.f rfl) ?_
                                  refine hr_iload5 (q := 122) X dX5_tellsWays_120 rfl ?_
                                  refine hr_ialdN (v := (nI ((wk_ws A.1 (sp_dutyAt A.1 x) (wk_pass A.1 (sp_dutyAt A.1 x) (mm, false) c9) c9 v).1 (sp_beside c9 v)))) (q := 123) X dX5_tellsWays_122 rfl (hR72.ka (n := 36) rfl rfl rfl) (Or.inl rfl) (by omega) (by decide) ((hR72.ar rfl _).trans (h72_2 _ (by omega))) ?_
                                  refine hr_sipush (v := (nI 1000)) (q := 126) X dX5_tellsWays_123 rfl rfl ?_
                                  refine hr_aload0 (q := 127) X dX5_tellsWays_126 rfl ?_
                                  refine hr_getR (v := am 37) (q := 130) X dX5_tellsWays_127 rfl fr_q1419_5 rfl hR72.om (hR72.f rfl) ?_
                                  refine hr_iload5 (q := 132) X dX5_tellsWays_130 rfl ?_
                                  refine hr_ialdN (v := (nI (sp_dutyAt A.1 x (sp_beside c9 v)))) (q := 133) X dX5_tellsWays_132 rfl (hR72.ka (n := 36) rfl rfl rfl) (Or.inl rfl) (by omega) (by decide) ((hR72.ar rfl _).trans (h72_3 _ (by omega))) ?_
                                  refine hr_imul (v := (nI (1000 * (sp_dutyAt A.1 x (sp_beside c9 v))))) (q := 134) X dX5_tellsWays_133 rfl (pk_mul _ _) ?_
                                  refine hr_iadd (v := (nI ((wk_ws A.1 (sp_dutyAt A.1 x) (wk_pass A.1 (sp_dutyAt A.1 x) (mm, false) c9) c9 v).1 (sp_beside c9 v) + (1000 * (sp_dutyAt A.1 x (sp_beside c9 v)))))) (q := 135) X dX5_tellsWays_134 rfl (nI_add _ _) ?_
                                  refine hr_iconst (v := (nI 1)) (q := 136) X dX5_tellsWays_135 rfl rfl ?_
                                  refine hr_iadd (v := (nI ((wk_ws A.1 (sp_dutyAt A.1 x) (wk_pass A.1 (sp_dutyAt A.1 x) (mm, false) c9) c9 v).1 (sp_beside c9 v) + (1000 * (sp_dutyAt A.1 x (sp_beside c9 v))) + 1))) (q := 137) X dX5_tellsWays_136 rfl (nI_add _ _) ?_
                                  refine hr_aload0 (q := 138) X dX5_tellsWays_137 rfl ?_
                                  refine hr_getR (v := am 38) (q := 141) X dX5_tellsWays_138 rfl fr_q1420_5 rfl hR72.om (hR72.f rfl) ?_
                                  refine hr_iload3 (q := 142) X dX5_tellsWays_141 rfl ?_
                                  refine hr_ialdN (v := (nI ((wk_ws A.1 (sp_dutyAt A.1 x) (wk_pass A.1 (sp_dutyAt A.1 x) (mm, false) c9) c9 v).1 c9))) (q := 143) X dX5_tellsWays_142 rfl (hR72.ka (n := 36) rfl rfl rfl) (Or.inl rfl) (by omega) (by decide) ((hR72.ar rfl _).trans (h72_2 _ (by omega))) ?_
                                  refine hr_icmpN_lt (q := 146) (tgt := 149) X dX5_tellsWays_143 rfl (by decide) (by omega) (by omega) (fun c143 => ?_) (fun c143 => ?_)
                                  · refine hr_aload0 (q := 150) X dX5_tellsWays_149 rfl ?_
                                    refine hr_getR (v := am 38) (q := 153) X dX5_tellsWays_150 rfl fr_q1420_5 rfl hR72.om (hR72.f rfl) ?_
                                    refine hr_iload3 (q := 154) X dX5_tellsWays_153 rfl ?_
                                    refine hr_aload0 (q := 155) X dX5_tellsWays_154 rfl ?_
                                    refine hr_getR (v := am 38) (q := 158) X dX5_tellsWays_155 rfl fr_q1420_5 rfl hR72.om (hR72.f rfl) ?_
                                    refine hr_iload5 (q := 160) X dX5_tellsWays_158 rfl ?_
                                    refine hr_ialdN (v := (nI ((wk_ws A.1 (sp_dutyAt A.1 x) (wk_pass A.1 (sp_dutyAt A.1 x) (mm, false) c9) c9 v).1 (sp_beside c9 v)))) (q := 161) X dX5_tellsWays_160 rfl (hR72.ka (n := 36) rfl rfl rfl) (Or.inl rfl) (by omega) (by decide) ((hR72.ar rfl _).trans (h72_2 _ (by omega))) ?_
                                    refine hr_sipush (v := (nI 1000)) (q := 164) X dX5_tellsWays_161 rfl rfl ?_
                                    refine hr_aload0 (q := 165) X dX5_tellsWays_164 rfl ?_
                                    refine hr_getR (v := am 37) (q := 168) X dX5_tellsWays_165 rfl fr_q1419_5 rfl hR72.om (hR72.f rfl) ?_
                                    refine hr_iload5 (q := 170) X dX5_tellsWays_168 rfl ?_
                                    refine hr_ialdN (v := (nI (sp_dutyAt A.1 x (sp_beside c9 v)))) (q := 171) X dX5_tellsWays_170 rfl (hR72.ka (n := 36) rfl rfl rfl) (Or.inl rfl) (by omega) (by decide) ((hR72.ar rfl _).trans (h72_3 _ (by omega))) ?_
                                    refine hr_imul (v := (nI (1000 * (sp_dutyAt A.1 x (sp_beside c9 v))))) (q := 172) X dX5_tellsWays_171 rfl (pk_mul _ _) ?_
                                    refine hr_iadd (v := (nI ((wk_ws A.1 (sp_dutyAt A.1 x) (wk_pass A.1 (sp_dutyAt A.1 x) (mm, false) c9) c9 v).1 (sp_beside c9 v) + (1000 * (sp_dutyAt A.1 x (sp_beside c9 v)))))) (q := 173) X dX5_tellsWays_172 rfl (nI_add _ _) ?_
                                    refine hr_iconst (v := (nI 1)) (q := 174) X dX5_tellsWays_173 rfl rfl ?_
                                    refine hr_iadd (v := (nI ((wk_ws A.1 (sp_dutyAt A.1 x) (wk_pass A.1 (sp_dutyAt A.1 x) (mm, false) c9) c9 v).1 (sp_beside c9 v) + (1000 * (sp_dutyAt A.1 x (sp_beside c9 v))) + 1))) (q := 175) X dX5_tellsWays_174 rfl (nI_add _ _) ?_
                                    refine hr_iastN (q := 176) X dX5_tellsWays_175 rfl (hR72.ka (n := 36) rfl rfl rfl) (by omega) (by decide) ?_
                                    have hR3 := hR72.setA (k := 38) rfl c9 (nI ((wk_ws A.1 (sp_dutyAt A.1 x) (wk_pass A.1 (sp_dutyAt A.1 x) (mm, false) c9) c9 v).1 (sp_beside c9 v) + (1000 * (sp_dutyAt A.1 x (sp_beside c9 v))) + 1))
                                    have hA3 := hA72.scA (k := 38) rfl c9 (nI ((wk_ws A.1 (sp_dutyAt A.1 x) (wk_pass A.1 (sp_dutyAt A.1 x) (mm, false) c9) c9 v).1 (sp_beside c9 v) + (1000 * (sp_dutyAt A.1 x (sp_beside c9 v))) + 1))
                                    refine hr_iconst (v := (nI 1)) (q := 177) X dX5_tellsWays_176 rfl rfl ?_
                                    refine hr_st1 (v' := .int (bI true)) (congrArg Value.int rfl) ?_
                                    refine hr_istore2 (q := 178) X dX5_tellsWays_177 rfl rfl (Nat.le_of_ble_eq_true rfl) ?_
                                    have hQ : wk_ws A.1 (sp_dutyAt A.1 x) (wk_pass A.1 (sp_dutyAt A.1 x) (mm, false) c9) c9 (v + 1) = ((fun j => if j = c9 then (wk_ws A.1 (sp_dutyAt A.1 x) (wk_pass A.1 (sp_dutyAt A.1 x) (mm, false) c9) c9 v).1 (sp_beside c9 v) + 1000 * sp_dutyAt A.1 x (sp_beside c9 v) + 1 else (wk_ws A.1 (sp_dutyAt A.1 x) (wk_pass A.1 (sp_dutyAt A.1 x) (mm, false) c9) c9 v).1 j), true) := wk_rel_s c90 c101 c113 c143
                                    refine hr_fg5 ?_
                                    refine hr_L (L' := [some (.ref o), some (.int (nI to)), some (.int (bI ((wk_ws A.1 (sp_dutyAt A.1 x) (wk_pass A.1 (sp_dutyAt A.1 x) (mm, false) c9) c9 (v + 1)).2))), some (.int (nI c9)), some (.int (nI v)), none]) (by rw [hQ]) ?_
                                    refine hr_iinc4 (v := (nI (v + 1))) (q := 181) X dX5_tellsWays_178 rfl (nI_add _ _) rfl (Nat.le_of_ble_eq_true rfl) ?_
                                    refine hr_goto (tgt := 72) X dX5_tellsWays_181 (by decide) ?_
                                    exact ih72 (hs_I G72 (am 38) c9 (nI ((wk_ws A.1 (sp_dutyAt A.1 x) (wk_pass A.1 (sp_dutyAt A.1 x) (mm, false) c9) c9 v).1 (sp_beside c9 v) + (1000 * (sp_dutyAt A.1 x (sp_beside c9 v))) + 1))) (tw_setA u72 38 c9 (nI ((wk_ws A.1 (sp_dutyAt A.1 x) (wk_pass A.1 (sp_dutyAt A.1 x) (mm, false) c9) c9 v).1 (sp_beside c9 v) + (1000 * (sp_dutyAt A.1 x (sp_beside c9 v))) + 1))) (v + 1) hR3 hA3 (by omega) (by omega) (by rw [hQ]; exact wk_upd h72_2) h72_3
                                  · refine hr_goto (tgt := 178) X dX5_tellsWays_146 (by decide) ?_
                                    have hQ : wk_ws A.1 (sp_dutyAt A.1 x) (wk_pass A.1 (sp_dutyAt A.1 x) (mm, false) c9) c9 (v + 1) = wk_ws A.1 (sp_dutyAt A.1 x) (wk_pass A.1 (sp_dutyAt A.1 x) (mm, false) c9) c9 v := wk_rel_k (Or.inr (Or.inr (Or.inr (by omega))))
                                    refine hr_fg5 ?_
                                    refine hr_L (L' := [some (.ref o), some (.int (nI to)), some (.int (bI ((wk_ws A.1 (sp_dutyAt A.1 x) (wk_pass A.1 (sp_dutyAt A.1 x) (mm, false) c9) c9 (v + 1)).2))), some (.int (nI c9)), some (.int (nI v)), none]) (by rw [hQ]) ?_
                                    refine hr_iinc4 (v := (nI (v + 1))) (q := 181) X dX5_tellsWays_178 rfl (nI_add _ _) rfl (Nat.le_of_ble_eq_true rfl) ?_
                                    refine hr_goto (tgt := 72) X dX5_tellsWays_181 (by decide) ?_
                                    exact ih72 G72 u72 (v + 1) hR72 hA72 (by omega) (by omega) (by rw [hQ]; exact h72_2) h72_3
                      exact loop72 5 G50 u50 0 hR50 hA50 (by omega) (by omega) h50_2 h50_3
                    · refine hr_goto (tgt := 184) X dX5_tellsWays_66 (by decide) ?_
                      have hsq : wk_pass A.1 (sp_dutyAt A.1 x) (mm, false) (c9 + 1) = wk_pass A.1 (sp_dutyAt A.1 x) (mm, false) c9 := by rw [wk_pass, wk_sq, if_pos c63]
                      refine hr_L (L' := [some (.ref o), some (.int (nI to)), some (.int (bI ((wk_pass A.1 (sp_dutyAt A.1 x) (mm, false) (c9 + 1)).2))), some (.int (nI c9)), none, none]) (by rw [hsq]) ?_
                      refine hr_iinc3 (v := (nI (c9 + 1))) (q := 187) X dX5_tellsWays_184 rfl (nI_add _ _) rfl (Nat.le_of_ble_eq_true rfl) ?_
                      refine hr_goto (tgt := 50) X dX5_tellsWays_187 (by decide) ?_
                      exact ih50 G50 u50 (c9 + 1) hR50 hA50 (by omega) (by omega) (by rw [hsq]; exact h50_2) h50_3
              exact loop50 37 G42 u42 0 hR42 hA42 (by omega) (by omega) h42_3 h42_4
        exact loop42 (sp_sum (wk_m0 A.1 to) 36 + 2) G2 u2 (wk_m0 A.1 to) true hR2 hA2 (Nat.le_add_left 1 _) (fun _ => ⟨Nat.le_refl _, rfl⟩) (fun z => nomatch z) h2_2 h2_3 (wk_m0_le A.1 to)
      · refine hr_aload0 (q := 9) X dX5_tellsWays_8 rfl ?_
        refine hr_getR (v := am 38) (q := 12) X dX5_tellsWays_9 rfl fr_q1420_5 rfl hR2.om (hR2.f rfl) ?_
        refine hr_iload2 (q := 13) X dX5_tellsWays_12 rfl ?_
        refine hr_iload2 (q := 14) X dX5_tellsWays_13 rfl ?_
        refine hr_iload1 (q := 15) X dX5_tellsWays_14 rfl ?_
        refine hr_icmpN_ne (q := 18) (tgt := 31) X dX5_tellsWays_15 rfl (by decide) (by omega) (by omega) (fun c15 => ?_) (fun c15 => ?_)
        · refine hr_ldc (q := 33) X dX5_tellsWays_31 rfl q1723 ?_
          refine hr_st1 (v' := .int (nI 100000000)) (congrArg Value.int rfl) ?_
          refine hr_iastN (q := 34) X dX5_tellsWays_33 rfl (hR2.ka (n := 36) rfl rfl rfl) (by omega) (by decide) ?_
          have hR4 := hR2.setA (k := 38) rfl i (nI 100000000)
          have hA4 := hA2.scA (k := 38) rfl i (nI 100000000)
          refine hr_iinc2 (v := (nI (i + 1))) (q := 37) X dX5_tellsWays_34 rfl (nI_add _ _) rfl (Nat.le_of_ble_eq_true rfl) ?_
          refine hr_goto (tgt := 2) X dX5_tellsWays_37 (by decide) ?_
          exact ih2 (hs_I G2 (am 38) i (nI 100000000)) (tw_setA u2 38 i (nI 100000000)) (i + 1) hR4 hA4 (by omega) (by omega) (sp_ext (fun j hj => (if_neg (by omega)).trans (h2_2 j hj)) ((if_pos rfl).trans (congrArg nI (if_neg (by omega)).symm))) h2_3
        · refine hr_aload0 (q := 19) X dX5_tellsWays_18 rfl ?_
          refine hr_getR (v := am 16) (q := 22) X dX5_tellsWays_19 rfl fr_q1398_5 rfl hR2.om (hR2.f rfl) ?_
          refine hr_iload2 (q := 23) X dX5_tellsWays_22 rfl ?_
          refine hr_ialdN (v := (nI (A.1.1 16 i))) (q := 24) X dX5_tellsWays_23 rfl (hR2.ka (n := 36) rfl rfl rfl) (Or.inl rfl) (by omega) (by decide) ((hR2.ar rfl _).trans (hA2.c (by decide) (by decide) (by omega))) ?_
          have b23 := hW.w.b16 (show i < 36 by omega)
          refine hr_ifN_ne (q := 27) (tgt := 31) X dX5_tellsWays_24 rfl (by decide) (by omega) (fun c24 => ?_) (fun c24 => ?_)
          · refine hr_ldc (q := 33) X dX5_tellsWays_31 rfl q1723 ?_
            refine hr_st1 (v' := .int (nI 100000000)) (congrArg Value.int rfl) ?_
            refine hr_iastN (q := 34) X dX5_tellsWays_33 rfl (hR2.ka (n := 36) rfl rfl rfl) (by omega) (by decide) ?_
            have hR5 := hR2.setA (k := 38) rfl i (nI 100000000)
            have hA5 := hA2.scA (k := 38) rfl i (nI 100000000)
            refine hr_iinc2 (v := (nI (i + 1))) (q := 37) X dX5_tellsWays_34 rfl (nI_add _ _) rfl (Nat.le_of_ble_eq_true rfl) ?_
            refine hr_goto (tgt := 2) X dX5_tellsWays_37 (by decide) ?_
            exact ih2 (hs_I G2 (am 38) i (nI 100000000)) (tw_setA u2 38 i (nI 100000000)) (i + 1) hR5 hA5 (by omega) (by omega) (sp_ext (fun j hj => (if_neg (by omega)).trans (h2_2 j hj)) ((if_pos rfl).trans (congrArg nI (if_neg (by omega)).symm))) h2_3
          · refine hr_iconst (v := (nI 0)) (q := 28) X dX5_tellsWays_27 rfl rfl ?_
            refine hr_goto (tgt := 33) X dX5_tellsWays_28 (by decide) ?_
            refine hr_iastN (q := 34) X dX5_tellsWays_33 rfl (hR2.ka (n := 36) rfl rfl rfl) (by omega) (by decide) ?_
            have hR6 := hR2.setA (k := 38) rfl i (nI 0)
            have hA6 := hA2.scA (k := 38) rfl i (nI 0)
            refine hr_iinc2 (v := (nI (i + 1))) (q := 37) X dX5_tellsWays_34 rfl (nI_add _ _) rfl (Nat.le_of_ble_eq_true rfl) ?_
            refine hr_goto (tgt := 2) X dX5_tellsWays_37 (by decide) ?_
            exact ih2 (hs_I G2 (am 38) i (nI 0)) (tw_setA u2 38 i (nI 0)) (i + 1) hR6 hA6 (by omega) (by omega) (sp_ext (fun j hj => (if_neg (by omega)).trans (h2_2 j hj)) ((if_pos rfl).trans (congrArg nI (if_pos ⟨by omega, by omega⟩).symm))) h2_3
  exact loop2 _ _ 37 G u 0 hR hA (by omega) (by omega) (fun j hj => absurd hj (Nat.not_lt_zero _)) hD

theorem tk_firstOn {l : Launch} {D : hg_D} {lo : Nat} (htr : l.stackTraces = false) {G : hg_G} {o : Nat} {am : Nat → Nat} {u : tw_S} {A : ab_S} (hR : tw_R G o am u) (hA : tw_A u A) (hW : ab_wf A) {x c9 : Nat} {z : Nat → Nat} (hz : ∀ c, c < 36 → u.2.1 38 c = nI (z c)) (hz2 : ∀ c, z c ≤ 100000000) (hD : ∀ c, c < 36 → u.2.1 37 c = nI (sp_dutyAt A.1 x c)) (hc : c9 < 36) :
    hg_M l D lo yX5_firstOn (ws_ yX5_firstOn cX5_firstOn 5 ((some FieldType.int))) rm_X5_firstOn [.ref o, .int (nI c9)] G (hg_Pv G (.int (oI (wk_first A.1 (sp_dutyAt A.1 x) z c9)))) := by
  have hw := hW.w; have w0 := hw.b0; have w1 := hw.b1; have w2 := hw.b2; have w3 := hw.b3; have w36 := hW.b36; have w43 := hW.b43
  refine hg_M.of htr (by decide) [some (.ref o), some (.int (nI c9)), none, none, none] rfl (Nat.le_of_ble_eq_true rfl) ?_
  intro p e s m args below meth c X hr hnm htab
  have X : hg_X p l s m args meth c D lo "TaxOnLooksModel" cX5_firstOn 5 := X
  refine hr_aload0 (q := 1) X dX5_firstOn_0 rfl ?_
  refine hr_getR (v := am 38) (q := 4) X dX5_firstOn_1 rfl fr_q1420_5 rfl hR.om (hR.f rfl) ?_
  refine hr_iload1 (q := 5) X dX5_firstOn_4 rfl ?_
  refine hr_ialdN (v := (nI (z c9))) (q := 6) X dX5_firstOn_5 rfl (hR.ka (n := 36) rfl rfl rfl) (Or.inl rfl) (by omega) (by decide) ((hR.ar rfl _).trans (hz _ (by omega))) ?_
  have hb2 := hz2 c9
  refine hr_ifN_ne (q := 9) (tgt := 11) X dX5_firstOn_6 rfl (by decide) (by omega) (fun c6 => ?_) (fun c6 => ?_)
  · refine hr_iconst (v := (-1)) (q := 12) X dX5_firstOn_11 rfl rfl ?_
    refine hr_istore2 (q := 13) X dX5_firstOn_12 rfl rfl (Nat.le_of_ble_eq_true rfl) ?_
    refine hr_iconst (v := (nI 0)) (q := 14) X dX5_firstOn_13 rfl rfl ?_
    refine hr_istore3 (q := 15) X dX5_firstOn_14 rfl rfl (Nat.le_of_ble_eq_true rfl) ?_
    have loop15 : ∀ (kr nr n : Nat) (v : Nat), (v ≤ 4) → (5 ≤ v + n) → hg_W p l e rm_X5_firstOn s m args below meth c (hg_Q below D lo args s rm_X5_firstOn G (hg_Pv G (.int (oI (wk_first A.1 (sp_dutyAt A.1 x) z c9))))) D lo G.1 5 kr nr G 15 [some (.ref o), some (.int (nI c9)), some (.int (oI (wk_fst A.1 (sp_dutyAt A.1 x) z c9 v))), some (.int (nI v)), none] [] := by
      intro kr nr n
      induction n with
      | zero =>
        intro v h15_0 h15_1
        omega
      | succ n ih15 =>
        intro v h15_0 h15_1
        refine hr_iload3 (q := 16) X dX5_firstOn_15 rfl ?_
        refine hr_iconst (v := (nI 4)) (q := 17) X dX5_firstOn_16 rfl rfl ?_
        refine hr_icmpN_ge (q := 20) (tgt := 110) X dX5_firstOn_17 rfl (by decide) (by omega) (by omega) (fun c17 => ?_) (fun c17 => ?_)
        · refine hr_iload2 (q := 111) X dX5_firstOn_110 rfl ?_
          exact hr_iret X hr dX5_firstOn_111 ⟨hz_i (by rw [wk_first, if_neg (by omega), show v = 4 by omega]), rfl⟩
        · have hbl := sp_beside_lt (c := c9) (w := v) (by omega)
          have hfl := wk_fst_lt (t := A.1) (du := (sp_dutyAt A.1 x)) (z := z) hc v
          refine hr_aload0 (q := 21) X dX5_firstOn_20 rfl ?_
          refine hr_iload1 (q := 22) X dX5_firstOn_21 rfl ?_
          refine hr_iload3 (q := 23) X dX5_firstOn_22 rfl ?_
          refine hr_callP (q := 26) (hc_V (n := 2) (ci := 5) (As := [.int (nI c9), .int (nI v)]) X dX5_firstOn_23 rfl (tk_beside X.tr hR (z := c9) (v := v) (by omega) (by omega)) q1728 cv_X5_beside ⟨Nat.le_of_ble_eq_true rfl, Nat.le_of_ble_eq_true rfl⟩ rfl (Nat.le_of_ble_eq_true rfl) hR.om rfl rfl) rfl ?_
          refine hr_istore4 (q := 28) X dX5_firstOn_26 rfl rfl (Nat.le_of_ble_eq_true rfl) ?_
          refine hr_iload4 (q := 30) X dX5_firstOn_28 rfl ?_
          refine hr_iconst (v := (-1)) (q := 31) X dX5_firstOn_30 rfl rfl ?_
          refine hr_icmpO_eq (q := 34) (tgt := 104) X dX5_firstOn_31 rfl (by decide) (by omega) (fun c31 => ?_) (fun c31 => ?_)
          · have hF : wk_fst A.1 (sp_dutyAt A.1 x) z c9 (v + 1) = wk_fst A.1 (sp_dutyAt A.1 x) z c9 v := wk_fst_k (Or.inl c31)
            refine hr_fg4 ?_
            refine hr_L (L' := [some (.ref o), some (.int (nI c9)), some (.int (oI (wk_fst A.1 (sp_dutyAt A.1 x) z c9 (v + 1)))), some (.int (nI v)), none]) (by rw [hF]) ?_
            refine hr_iinc3 (v := (nI (v + 1))) (q := 107) X dX5_firstOn_104 rfl (nI_add _ _) rfl (Nat.le_of_ble_eq_true rfl) ?_
            refine hr_goto (tgt := 15) X dX5_firstOn_107 (by decide) ?_
            exact ih15 (v + 1) (by omega) (by omega)
          · have hbe := hbl.resolve_left c31
            refine hr_L (L' := [some (.ref o), some (.int (nI c9)), some (.int (oI (wk_fst A.1 (sp_dutyAt A.1 x) z c9 v))), some (.int (nI v)), some (.int (nI (sp_beside c9 v)))]) (by rw [← oI_of c31]) ?_
            refine hr_aload0 (q := 35) X dX5_firstOn_34 rfl ?_
            refine hr_getR (v := am 16) (q := 38) X dX5_firstOn_35 rfl fr_q1398_5 rfl hR.om (hR.f rfl) ?_
            refine hr_iload4 (q := 40) X dX5_firstOn_38 rfl ?_
            refine hr_ialdN (v := (nI (A.1.1 16 (sp_beside c9 v)))) (q := 41) X dX5_firstOn_40 rfl (hR.ka (n := 36) rfl rfl rfl) (Or.inl rfl) (by omega) (by decide) ((hR.ar rfl _).trans (hA.c (by decide) (by decide) (by omega))) ?_
            have b40 := hW.w.b16 (show sp_beside c9 v < 36 by omega)
            refine hr_iconst (v := (nI 1)) (q := 42) X dX5_firstOn_41 rfl rfl ?_
            refine hr_icmpN_eq (q := 45) (tgt := 104) X dX5_firstOn_42 rfl (by decide) (by omega) (by omega) (fun c42 => ?_) (fun c42 => ?_)
            · have hF : wk_fst A.1 (sp_dutyAt A.1 x) z c9 (v + 1) = wk_fst A.1 (sp_dutyAt A.1 x) z c9 v := wk_fst_k (Or.inr (Or.inl c42))
              refine hr_fg4 ?_
              refine hr_L (L' := [some (.ref o), some (.int (nI c9)), some (.int (oI (wk_fst A.1 (sp_dutyAt A.1 x) z c9 (v + 1)))), some (.int (nI v)), none]) (by rw [hF]) ?_
              refine hr_iinc3 (v := (nI (v + 1))) (q := 107) X dX5_firstOn_104 rfl (nI_add _ _) rfl (Nat.le_of_ble_eq_true rfl) ?_
              refine hr_goto (tgt := 15) X dX5_firstOn_107 (by decide) ?_
              exact ih15 (v + 1) (by omega) (by omega)
            · have hdu := sp_dutyAt_free hw (x := x) hbe c42
              have hb1 := hz2 (sp_beside c9 v)
              refine hr_aload0 (q := 46) X dX5_firstOn_45 rfl ?_
              refine hr_getR (v := am 38) (q := 49) X dX5_firstOn_46 rfl fr_q1420_5 rfl hR.om (hR.f rfl) ?_
              refine hr_iload4 (q := 51) X dX5_firstOn_49 rfl ?_
              refine hr_ialdN (v := (nI (z (sp_beside c9 v)))) (q := 52) X dX5_firstOn_51 rfl (hR.ka (n := 36) rfl rfl rfl) (Or.inl rfl) (by omega) (by decide) ((hR.ar rfl _).trans (hz _ (by omega))) ?_
              refine hr_ldc (q := 54) X dX5_firstOn_52 rfl q1723 ?_
              refine hr_st1 (v' := .int (nI 100000000)) (congrArg Value.int rfl) ?_
              refine hr_icmpN_eq (q := 57) (tgt := 104) X dX5_firstOn_54 rfl (by decide) (by omega) (by omega) (fun c54 => ?_) (fun c54 => ?_)
              · have hF : wk_fst A.1 (sp_dutyAt A.1 x) z c9 (v + 1) = wk_fst A.1 (sp_dutyAt A.1 x) z c9 v := wk_fst_k (Or.inr (Or.inr (Or.inl c54)))
                refine hr_fg4 ?_
                refine hr_L (L' := [some (.ref o), some (.int (nI c9)), some (.int (oI (wk_fst A.1 (sp_dutyAt A.1 x) z c9 (v + 1)))), some (.int (nI v)), none]) (by rw [hF]) ?_
                refine hr_iinc3 (v := (nI (v + 1))) (q := 107) X dX5_firstOn_104 rfl (nI_add _ _) rfl (Nat.le_of_ble_eq_true rfl) ?_
                refine hr_goto (tgt := 15) X dX5_firstOn_107 (by decide) ?_
                exact ih15 (v + 1) (by omega) (by omega)
              · refine hr_aload0 (q := 58) X dX5_firstOn_57 rfl ?_
                refine hr_getR (v := am 38) (q := 61) X dX5_firstOn_58 rfl fr_q1420_5 rfl hR.om (hR.f rfl) ?_
                refine hr_iload4 (q := 63) X dX5_firstOn_61 rfl ?_
                refine hr_ialdN (v := (nI (z (sp_beside c9 v)))) (q := 64) X dX5_firstOn_63 rfl (hR.ka (n := 36) rfl rfl rfl) (Or.inl rfl) (by omega) (by decide) ((hR.ar rfl _).trans (hz _ (by omega))) ?_
                refine hr_sipush (v := (nI 1000)) (q := 67) X dX5_firstOn_64 rfl rfl ?_
                refine hr_aload0 (q := 68) X dX5_firstOn_67 rfl ?_
                refine hr_getR (v := am 37) (q := 71) X dX5_firstOn_68 rfl fr_q1419_5 rfl hR.om (hR.f rfl) ?_
                refine hr_iload4 (q := 73) X dX5_firstOn_71 rfl ?_
                refine hr_ialdN (v := (nI (sp_dutyAt A.1 x (sp_beside c9 v)))) (q := 74) X dX5_firstOn_73 rfl (hR.ka (n := 36) rfl rfl rfl) (Or.inl rfl) (by omega) (by decide) ((hR.ar rfl _).trans (hD _ (by omega))) ?_
                refine hr_imul (v := (nI (1000 * (sp_dutyAt A.1 x (sp_beside c9 v))))) (q := 75) X dX5_firstOn_74 rfl (pk_mul _ _) ?_
                refine hr_iadd (v := (nI (z (sp_beside c9 v) + (1000 * (sp_dutyAt A.1 x (sp_beside c9 v)))))) (q := 76) X dX5_firstOn_75 rfl (nI_add _ _) ?_
                refine hr_iconst (v := (nI 1)) (q := 77) X dX5_firstOn_76 rfl rfl ?_
                refine hr_iadd (v := (nI (z (sp_beside c9 v) + (1000 * (sp_dutyAt A.1 x (sp_beside c9 v))) + 1))) (q := 78) X dX5_firstOn_77 rfl (nI_add _ _) ?_
                refine hr_aload0 (q := 79) X dX5_firstOn_78 rfl ?_
                refine hr_getR (v := am 38) (q := 82) X dX5_firstOn_79 rfl fr_q1420_5 rfl hR.om (hR.f rfl) ?_
                refine hr_iload1 (q := 83) X dX5_firstOn_82 rfl ?_
                refine hr_ialdN (v := (nI (z c9))) (q := 84) X dX5_firstOn_83 rfl (hR.ka (n := 36) rfl rfl rfl) (Or.inl rfl) (by omega) (by decide) ((hR.ar rfl _).trans (hz _ (by omega))) ?_
                refine hr_icmpN_eq (q := 87) (tgt := 90) X dX5_firstOn_84 rfl (by decide) (by omega) (by omega) (fun c84 => ?_) (fun c84 => ?_)
                · refine hr_iload2 (q := 91) X dX5_firstOn_90 rfl ?_
                  refine hr_iconst (v := (-1)) (q := 92) X dX5_firstOn_91 rfl rfl ?_
                  refine hr_icmpO_eq (q := 95) (tgt := 101) X dX5_firstOn_92 rfl (by decide) (by omega) (fun c92 => ?_) (fun c92 => ?_)
                  · refine hr_iload4 (q := 103) X dX5_firstOn_101 rfl ?_
                    refine hr_istore2 (q := 104) X dX5_firstOn_103 rfl rfl (Nat.le_of_ble_eq_true rfl) ?_
                    have hF : wk_fst A.1 (sp_dutyAt A.1 x) z c9 (v + 1) = sp_beside c9 v := wk_fst_y c31 c42 c54 c84 (Or.inl c92)
                    refine hr_fg4 ?_
                    refine hr_L (L' := [some (.ref o), some (.int (nI c9)), some (.int (oI (wk_fst A.1 (sp_dutyAt A.1 x) z c9 (v + 1)))), some (.int (nI v)), none]) (by rw [hF, oI_of c31]) ?_
                    refine hr_iinc3 (v := (nI (v + 1))) (q := 107) X dX5_firstOn_104 rfl (nI_add _ _) rfl (Nat.le_of_ble_eq_true rfl) ?_
                    refine hr_goto (tgt := 15) X dX5_firstOn_107 (by decide) ?_
                    exact ih15 (v + 1) (by omega) (by omega)
                  · refine hr_iload4 (q := 97) X dX5_firstOn_95 rfl ?_
                    refine hr_iload2 (q := 98) X dX5_firstOn_97 rfl ?_
                    refine hr_st1 (v' := .int (nI (wk_fst A.1 (sp_dutyAt A.1 x) z c9 v))) (congrArg Value.int (oI_of c92)) ?_
                    refine hr_icmpN_ge (q := 101) (tgt := 104) X dX5_firstOn_98 rfl (by decide) (by omega) (by omega) (fun c98 => ?_) (fun c98 => ?_)
                    · have hF : wk_fst A.1 (sp_dutyAt A.1 x) z c9 (v + 1) = wk_fst A.1 (sp_dutyAt A.1 x) z c9 v := wk_fst_k (Or.inr (Or.inr (Or.inr (Or.inr (by omega)))))
                      refine hr_fg4 ?_
                      refine hr_L (L' := [some (.ref o), some (.int (nI c9)), some (.int (oI (wk_fst A.1 (sp_dutyAt A.1 x) z c9 (v + 1)))), some (.int (nI v)), none]) (by rw [hF]) ?_
                      refine hr_iinc3 (v := (nI (v + 1))) (q := 107) X dX5_firstOn_104 rfl (nI_add _ _) rfl (Nat.le_of_ble_eq_true rfl) ?_
                      refine hr_goto (tgt := 15) X dX5_firstOn_107 (by decide) ?_
                      exact ih15 (v + 1) (by omega) (by omega)
                    · refine hr_iload4 (q := 103) X dX5_firstOn_101 rfl ?_
                      refine hr_istore2 (q := 104) X dX5_firstOn_103 rfl rfl (Nat.le_of_ble_eq_true rfl) ?_
                      have hF : wk_fst A.1 (sp_dutyAt A.1 x) z c9 (v + 1) = sp_beside c9 v := wk_fst_y c31 c42 c54 c84 (Or.inr (by omega))
                      refine hr_fg4 ?_
                      refine hr_L (L' := [some (.ref o), some (.int (nI c9)), some (.int (oI (wk_fst A.1 (sp_dutyAt A.1 x) z c9 (v + 1)))), some (.int (nI v)), none]) (by rw [hF, oI_of c31]) ?_
                      refine hr_iinc3 (v := (nI (v + 1))) (q := 107) X dX5_firstOn_104 rfl (nI_add _ _) rfl (Nat.le_of_ble_eq_true rfl) ?_
                      refine hr_goto (tgt := 15) X dX5_firstOn_107 (by decide) ?_
                      exact ih15 (v + 1) (by omega) (by omega)
                · refine hr_goto (tgt := 104) X dX5_firstOn_87 (by decide) ?_
                  have hF : wk_fst A.1 (sp_dutyAt A.1 x) z c9 (v + 1) = wk_fst A.1 (sp_dutyAt A.1 x) z c9 v := wk_fst_k (Or.inr (Or.inr (Or.inr (Or.inl c84))))
                  refine hr_fg4 ?_
                  refine hr_L (L' := [some (.ref o), some (.int (nI c9)), some (.int (oI (wk_fst A.1 (sp_dutyAt A.1 x) z c9 (v + 1)))), some (.int (nI v)), none]) (by rw [hF]) ?_
                  refine hr_iinc3 (v := (nI (v + 1))) (q := 107) X dX5_firstOn_104 rfl (nI_add _ _) rfl (Nat.le_of_ble_eq_true rfl) ?_
                  refine hr_goto (tgt := 15) X dX5_firstOn_107 (by decide) ?_
                  exact ih15 (v + 1) (by omega) (by omega)
    exact loop15 _ _ 5 0 (by omega) (by omega)
  · refine hr_iload1 (q := 10) X dX5_firstOn_9 rfl ?_
    exact hr_iret X hr dX5_firstOn_10 ⟨hz_i (by rw [wk_first, if_pos c6]; exact (oI_of (by omega)).symm), rfl⟩

def sq_walk (a1 : Int32) (a2 : Int32) (a3 : Int32) (A : ab_S) : Int32 × ab_S :=
  if sp_in a1 (A.1.1 0 0) = true then if a3 < 0 then (((sq_noTen (-5) A).1), (sq_noTen (-5) A).2)
    else if a3 ≤ (nI 2) then if sp_in a2 36 = true then if (A.1.1 16 (iN a2)) = 1 then (((sq_noTen (-6) A).1), (sq_noTen (-6) A).2)
        else if (wk_fin A.1 (sp_dutyAt A.1 (iN a1)) (iN a2) (A.1.1 14 (iN a1))) = 100000000 then ((-1), A)
        else if a3 = 0 then ((nI ((wk_fin A.1 (sp_dutyAt A.1 (iN a1)) (iN a2) (A.1.1 14 (iN a1))) / 1000)), A)
        else if a3 = (nI 1) then ((nI ((wk_fin A.1 (sp_dutyAt A.1 (iN a1)) (iN a2) (A.1.1 14 (iN a1))) % 1000)), A)
        else ((oI (wk_first A.1 (sp_dutyAt A.1 (iN a1)) (wk_fin A.1 (sp_dutyAt A.1 (iN a1)) (iN a2)) (A.1.1 14 (iN a1)))), A)
      else (((sq_noTen (-6) A).1), (sq_noTen (-6) A).2)
    else (((sq_noTen (-5) A).1), (sq_noTen (-5) A).2)
  else (((sq_noTen (-1) A).1), (sq_noTen (-1) A).2)
theorem tk_walk {l : Launch} {D : hg_D} {lo : Nat} (htr : l.stackTraces = false) {G : hg_G} {o : Nat} {am : Nat → Nat} {u : tw_S} {A : ab_S} (hR : tw_R G o am u) (hA : tw_A u A) {a1 : Int32} {a2 : Int32} {a3 : Int32} (hW : ab_wf A) :
    hg_M l D lo yX5_walk (ws_ yX5_walk cX5_walk 5 ((some FieldType.int))) rm_X5_walk [.ref o, .int a1, .int a2, .int a3] G (tw_Po o am (sq_walk a1 a2 a3 A)) := by
  have hw := hW.w; have w0 := hw.b0; have w1 := hw.b1; have w2 := hw.b2; have w3 := hw.b3; have w36 := hW.b36; have w43 := hW.b43
  refine hg_M.of htr (by decide) [some (.ref o), some (.int a1), some (.int a2), some (.int a3), none] rfl (Nat.le_of_ble_eq_true rfl) ?_
  intro p e s m args below meth c X hr hnm htab
  have X : hg_X p l s m args meth c D lo "TaxOnLooksModel" cX5_walk 5 := X
  refine hr_aload0 (q := 1) X dX5_walk_0 rfl ?_
  refine hr_iload1 (q := 2) X dX5_walk_1 rfl ?_
  refine hr_callP (q := 5) (hc_V (n := 1) (ci := 5) (As := [.int a1]) X dX5_walk_2 rfl (tk_isOne X.tr hR hA.t a1) q1543 cv_X5_isOne ⟨Nat.le_of_ble_eq_true rfl, Nat.le_of_ble_eq_true rfl⟩ rfl (Nat.le_of_ble_eq_true rfl) hR.om rfl rfl) rfl ?_
  refine hr_ifB_ne (q := 8) (tgt := 14) X dX5_walk_5 rfl (by decide) (fun c5 => ?_) (fun c5 => ?_)
  · refine hr_iload3 (q := 15) X dX5_walk_14 rfl ?_
    refine hr_if_lt (q := 18) (tgt := 23) X dX5_walk_15 rfl (by decide) (fun c15 => ?_) (fun c15 => ?_)
    · refine hr_aload0 (q := 24) X dX5_walk_23 rfl ?_
      refine hr_bipush (v := (-5)) (q := 26) X dX5_walk_24 rfl rfl ?_
      refine hr_callT (q := 29) (hc_V (n := 1) (ci := 5) (As := [.int (-5)]) X dX5_walk_26 rfl (tk_noTen X.tr hR hA (b := (-5)) (by decide)) q1715 cv_X5_noTen ⟨Nat.le_of_ble_eq_true rfl, Nat.le_of_ble_eq_true rfl⟩ rfl (Nat.le_of_ble_eq_true rfl) hR.om rfl rfl) rfl (fun G1 u1 hR1 hA1 => ?_)
      exact hr_iret X hr dX5_walk_29 (tw_end (by rw [sq_walk, if_pos c5, if_pos c15]) hR1 hA1)
    · refine hr_iload3 (q := 19) X dX5_walk_18 rfl ?_
      refine hr_iconst (v := (nI 2)) (q := 20) X dX5_walk_19 rfl rfl ?_
      refine hr_icmp_le (q := 23) (tgt := 30) X dX5_walk_20 rfl (by decide) (fun c20 => ?_) (fun c20 => ?_)
      · refine hr_aload0 (q := 31) X dX5_walk_30 rfl ?_
        refine hr_iload2 (q := 32) X dX5_walk_31 rfl ?_
        refine hr_callP (q := 35) (hc_V (n := 1) (ci := 5) (As := [.int a2]) X dX5_walk_32 rfl (tk_isSquare X.tr hR a2) q1567 cv_X5_isSquare ⟨Nat.le_of_ble_eq_true rfl, Nat.le_of_ble_eq_true rfl⟩ rfl (Nat.le_of_ble_eq_true rfl) hR.om rfl rfl) rfl ?_
        refine hr_ifB_eq (q := 38) (tgt := 48) X dX5_walk_35 rfl (by decide) (fun c35 => ?_) (fun c35 => ?_)
        · refine hr_aload0 (q := 49) X dX5_walk_48 rfl ?_
          refine hr_bipush (v := (-6)) (q := 51) X dX5_walk_49 rfl rfl ?_
          refine hr_callT (q := 54) (hc_V (n := 1) (ci := 5) (As := [.int (-6)]) X dX5_walk_51 rfl (tk_noTen X.tr hR hA (b := (-6)) (by decide)) q1715 cv_X5_noTen ⟨Nat.le_of_ble_eq_true rfl, Nat.le_of_ble_eq_true rfl⟩ rfl (Nat.le_of_ble_eq_true rfl) hR.om rfl rfl) rfl (fun G2 u2 hR2 hA2 => ?_)
          exact hr_iret X hr dX5_walk_54 (tw_end (by rw [sq_walk, if_pos c5, if_neg c15, if_pos c20, if_neg (by rw [c35]; decide)]) hR2 hA2)
        · have n38_2 := sp_inN (by decide) c35
          refine hr_L (L' := [some (.ref o), some (.int a1), some (.int (nI (iN a2))), some (.int a3), none]) (by rw [← n38_2.1]) ?_
          refine hr_aload0 (q := 39) X dX5_walk_38 rfl ?_
          refine hr_getR (v := am 16) (q := 42) X dX5_walk_39 rfl fr_q1398_5 rfl hR.om (hR.f rfl) ?_
          refine hr_iload2 (q := 43) X dX5_walk_42 rfl ?_
          refine hr_ialdN (v := (nI (A.1.1 16 (iN a2)))) (q := 44) X dX5_walk_43 rfl (hR.ka (n := 36) rfl rfl rfl) (Or.inl rfl) (by omega) (by decide) ((hR.ar rfl _).trans (hA.c (by decide) (by decide) (by omega))) ?_
          have b43 := hW.w.b16 (show iN a2 < 36 by omega)
          refine hr_iconst (v := (nI 1)) (q := 45) X dX5_walk_44 rfl rfl ?_
          refine hr_icmpN_ne (q := 48) (tgt := 55) X dX5_walk_45 rfl (by decide) (by omega) (by omega) (fun c45 => ?_) (fun c45 => ?_)
          · have n55_1 := sp_inN (by omega) c5
            refine hr_L (L' := [some (.ref o), some (.int (nI (iN a1))), some (.int (nI (iN a2))), some (.int a3), none]) (by rw [← n55_1.1]) ?_
            refine hr_aload0 (q := 56) X dX5_walk_55 rfl ?_
            refine hr_iload1 (q := 57) X dX5_walk_56 rfl ?_
            refine hr_call0 (q := 60) (hc_V (n := 1) (ci := 5) (As := [.int (nI (iN a1))]) X dX5_walk_57 rfl (tk_tellsDuties X.tr hR hA hW (x := iN a1) (by omega)) q1719 cv_X5_tellsDuties ⟨Nat.le_of_ble_eq_true rfl, Nat.le_of_ble_eq_true rfl⟩ rfl (Nat.le_of_ble_eq_true rfl) hR.om rfl rfl) rfl (fun qx E G' hp => by cases hp.1) (fun r G1 hp _ => ?_)
            obtain ⟨hv1, u1, hR1, hA1, hD⟩ := hp
            cases hv1
            refine hr_aload0 (q := 61) X dX5_walk_60 rfl ?_
            refine hr_iload2 (q := 62) X dX5_walk_61 rfl ?_
            refine hr_call0 (q := 65) (hc_V (n := 1) (ci := 5) (As := [.int (nI (iN a2))]) X dX5_walk_62 rfl (tk_tellsWays X.tr hR1 hA1 hW (x := iN a1) (to := iN a2) (by omega) (by omega) hD) q1724 cv_X5_tellsWays ⟨Nat.le_of_ble_eq_true rfl, Nat.le_of_ble_eq_true rfl⟩ rfl (Nat.le_of_ble_eq_true rfl) hR1.om rfl rfl) rfl (fun qx E G' hp => by cases hp.1) (fun r G2 hp _ => ?_)
            obtain ⟨hv2, u2, hR2, hA2, hY, hD2⟩ := hp
            cases hv2
            refine hr_aload0 (q := 66) X dX5_walk_65 rfl ?_
            refine hr_getR (v := am 38) (q := 69) X dX5_walk_66 rfl fr_q1420_5 rfl hR2.om (hR2.f rfl) ?_
            refine hr_aload0 (q := 70) X dX5_walk_69 rfl ?_
            refine hr_getR (v := am 14) (q := 73) X dX5_walk_70 rfl fr_q1396_5 rfl hR2.om (hR2.f rfl) ?_
            refine hr_iload1 (q := 74) X dX5_walk_73 rfl ?_
            refine hr_ialdN (v := (nI (A.1.1 14 (iN a1)))) (q := 75) X dX5_walk_74 rfl (hR2.ka (n := 7) rfl rfl rfl) (Or.inl rfl) (by omega) (by decide) ((hR2.ar rfl _).trans (hA2.p (by decide) (by decide) (by omega))) ?_
            have b74 := hW.w.b14 (show iN a1 < 7 by omega)
            refine hr_ialdN (v := (nI (wk_fin A.1 (sp_dutyAt A.1 (iN a1)) (iN a2) (A.1.1 14 (iN a1))))) (q := 76) X dX5_walk_75 rfl (hR2.ka (n := 36) rfl rfl rfl) (Or.inl rfl) (by omega) (by decide) ((hR2.ar rfl _).trans (hY _ (by omega))) ?_
            have hfl := wk_fin_le A.1 (sp_dutyAt A.1 (iN a1)) (iN a2) (A.1.1 14 (iN a1))
            refine hr_istore4 (q := 78) X dX5_walk_76 rfl rfl (Nat.le_of_ble_eq_true rfl) ?_
            refine hr_iload4 (q := 80) X dX5_walk_78 rfl ?_
            refine hr_ldc (q := 82) X dX5_walk_80 rfl q1723 ?_
            refine hr_st1 (v' := .int (nI 100000000)) (congrArg Value.int rfl) ?_
            refine hr_icmpN_ne (q := 85) (tgt := 87) X dX5_walk_82 rfl (by decide) (by omega) (by omega) (fun c82 => ?_) (fun c82 => ?_)
            · refine hr_iload3 (q := 88) X dX5_walk_87 rfl ?_
              refine hr_if_ne (q := 91) (tgt := 100) X dX5_walk_88 rfl (by decide) (fun c88 => ?_) (fun c88 => ?_)
              · refine hr_iload3 (q := 101) X dX5_walk_100 rfl ?_
                refine hr_iconst (v := (nI 1)) (q := 102) X dX5_walk_101 rfl rfl ?_
                refine hr_icmp_ne (q := 105) (tgt := 114) X dX5_walk_102 rfl (by decide) (fun c102 => ?_) (fun c102 => ?_)
                · refine hr_aload0 (q := 115) X dX5_walk_114 rfl ?_
                  refine hr_aload0 (q := 116) X dX5_walk_115 rfl ?_
                  refine hr_getR (v := am 14) (q := 119) X dX5_walk_116 rfl fr_q1396_5 rfl hR2.om (hR2.f rfl) ?_
                  refine hr_iload1 (q := 120) X dX5_walk_119 rfl ?_
                  refine hr_ialdN (v := (nI (A.1.1 14 (iN a1)))) (q := 121) X dX5_walk_120 rfl (hR2.ka (n := 7) rfl rfl rfl) (Or.inl rfl) (by omega) (by decide) ((hR2.ar rfl _).trans (hA2.p (by decide) (by decide) (by omega))) ?_
                  have b120 := hW.w.b14 (show iN a1 < 7 by omega)
                  refine hr_callP (q := 124) (hc_V (n := 1) (ci := 5) (As := [.int (nI (A.1.1 14 (iN a1)))]) X dX5_walk_121 rfl (tk_firstOn X.tr hR2 hA2 hW (x := iN a1) (c9 := A.1.1 14 (iN a1)) hY (wk_fin_le A.1 _ _) hD2 (by omega)) q1732 cv_X5_firstOn ⟨Nat.le_of_ble_eq_true rfl, Nat.le_of_ble_eq_true rfl⟩ rfl (Nat.le_of_ble_eq_true rfl) hR2.om rfl rfl) rfl ?_
                  exact hr_iret X hr dX5_walk_124 (tw_end (by rw [sq_walk, if_pos c5, if_neg c15, if_pos c20, if_pos c35, if_neg (show ¬ ((A.1.1 16 (iN a2)) = 1) by omega), if_neg (show ¬ ((wk_fin A.1 (sp_dutyAt A.1 (iN a1)) (iN a2) (A.1.1 14 (iN a1))) = 100000000) by omega), if_neg c88, if_neg c102]) hR2 hA2)
                · refine hr_iload4 (q := 107) X dX5_walk_105 rfl ?_
                  refine hr_sipush (v := (nI 1000)) (q := 110) X dX5_walk_107 rfl rfl ?_
                  refine hr_irem (v := (nI ((wk_fin A.1 (sp_dutyAt A.1 (iN a1)) (iN a2) (A.1.1 14 (iN a1))) % 1000))) (q := 111) X dX5_walk_110 rfl (by decide) (pk_rem (by omega) (by decide) (by decide)) ?_
                  refine hr_goto (tgt := 124) X dX5_walk_111 (by decide) ?_
                  exact hr_iret X hr dX5_walk_124 (tw_end (by rw [sq_walk, if_pos c5, if_neg c15, if_pos c20, if_pos c35, if_neg (show ¬ ((A.1.1 16 (iN a2)) = 1) by omega), if_neg (show ¬ ((wk_fin A.1 (sp_dutyAt A.1 (iN a1)) (iN a2) (A.1.1 14 (iN a1))) = 100000000) by omega), if_neg c88, if_pos c102]) hR2 hA2)
              · refine hr_iload4 (q := 93) X dX5_walk_91 rfl ?_
                refine hr_sipush (v := (nI 1000)) (q := 96) X dX5_walk_93 rfl rfl ?_
                refine hr_idiv (v := (nI ((wk_fin A.1 (sp_dutyAt A.1 (iN a1)) (iN a2) (A.1.1 14 (iN a1))) / 1000))) (q := 97) X dX5_walk_96 rfl (by decide) (pk_div (by omega) (by decide) (by decide)) ?_
                refine hr_goto (tgt := 124) X dX5_walk_97 (by decide) ?_
                exact hr_iret X hr dX5_walk_124 (tw_end (by rw [sq_walk, if_pos c5, if_neg c15, if_pos c20, if_pos c35, if_neg (show ¬ ((A.1.1 16 (iN a2)) = 1) by omega), if_neg (show ¬ ((wk_fin A.1 (sp_dutyAt A.1 (iN a1)) (iN a2) (A.1.1 14 (iN a1))) = 100000000) by omega), if_pos c88]) hR2 hA2)
            · refine hr_iconst (v := (-1)) (q := 86) X dX5_walk_85 rfl rfl ?_
              exact hr_iret X hr dX5_walk_86 (tw_end (by rw [sq_walk, if_pos c5, if_neg c15, if_pos c20, if_pos c35, if_neg (show ¬ ((A.1.1 16 (iN a2)) = 1) by omega), if_pos (show (wk_fin A.1 (sp_dutyAt A.1 (iN a1)) (iN a2) (A.1.1 14 (iN a1))) = 100000000 by omega)]) hR2 hA2)
          · refine hr_aload0 (q := 49) X dX5_walk_48 rfl ?_
            refine hr_bipush (v := (-6)) (q := 51) X dX5_walk_49 rfl rfl ?_
            refine hr_callT (q := 54) (hc_V (n := 1) (ci := 5) (As := [.int (-6)]) X dX5_walk_51 rfl (tk_noTen X.tr hR hA (b := (-6)) (by decide)) q1715 cv_X5_noTen ⟨Nat.le_of_ble_eq_true rfl, Nat.le_of_ble_eq_true rfl⟩ rfl (Nat.le_of_ble_eq_true rfl) hR.om rfl rfl) rfl (fun G3 u3 hR3 hA3 => ?_)
            exact hr_iret X hr dX5_walk_54 (tw_end (by rw [sq_walk, if_pos c5, if_neg c15, if_pos c20, if_pos c35, if_pos (show (A.1.1 16 (iN a2)) = 1 by omega)]) hR3 hA3)
      · refine hr_aload0 (q := 24) X dX5_walk_23 rfl ?_
        refine hr_bipush (v := (-5)) (q := 26) X dX5_walk_24 rfl rfl ?_
        refine hr_callT (q := 29) (hc_V (n := 1) (ci := 5) (As := [.int (-5)]) X dX5_walk_26 rfl (tk_noTen X.tr hR hA (b := (-5)) (by decide)) q1715 cv_X5_noTen ⟨Nat.le_of_ble_eq_true rfl, Nat.le_of_ble_eq_true rfl⟩ rfl (Nat.le_of_ble_eq_true rfl) hR.om rfl rfl) rfl (fun G4 u4 hR4 hA4 => ?_)
        exact hr_iret X hr dX5_walk_29 (tw_end (by rw [sq_walk, if_pos c5, if_neg c15, if_neg c20]) hR4 hA4)
  · refine hr_aload0 (q := 9) X dX5_walk_8 rfl ?_
    refine hr_iconst (v := (-1)) (q := 10) X dX5_walk_9 rfl rfl ?_
    refine hr_callT (q := 13) (hc_V (n := 1) (ci := 5) (As := [.int (-1)]) X dX5_walk_10 rfl (tk_noTen X.tr hR hA (b := (-1)) (by decide)) q1715 cv_X5_noTen ⟨Nat.le_of_ble_eq_true rfl, Nat.le_of_ble_eq_true rfl⟩ rfl (Nat.le_of_ble_eq_true rfl) hR.om rfl rfl) rfl (fun G5 u5 hR5 hA5 => ?_)
    exact hr_iret X hr dX5_walk_13 (tw_end (by rw [sq_walk, if_neg (by rw [c5]; decide)]) hR5 hA5)

