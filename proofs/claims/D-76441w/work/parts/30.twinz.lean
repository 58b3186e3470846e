/-! items: ends, frames -/
def rd_Po (o : Nat) (am : Nat → Nat) (u : tw_S) (sh tE : Nat) (Z : Bool × Nat × ab_S) : hg_Po := fun r G' => r = .inl (some (.int (bI Z.1))) ∧ ∃ u', tw_R G' o am u' ∧ tw_A u' Z.2.2 ∧ (Z.1 = true → rd_C u' sh tE Z.2.1) ∧ (Z.1 = false → u'.1 32 = nI Z.2.1) ∧ u'.2.1 33 = u.2.1 33
theorem rd_end_n {o : Nat} {am : Nat → Nat} {u u' : tw_S} {sh tE q : Nat} {Z : Bool × Nat × ab_S} {B : ab_S} {G' : hg_G} {v : Int32} (hZ : Z = (false, q, B)) (hv : v = bI false) (hR : tw_R G' o am u') (hA : tw_A u' B) (h : u'.1 32 = nI q) (hf : u'.2.1 33 = u.2.1 33) : rd_Po o am u sh tE Z (.inl (some (.int v))) G' := by
  subst hZ hv
  exact ⟨rfl, u', hR, hA, (fun z => nomatch z), fun _ => h, hf⟩
theorem rd_end_y {o : Nat} {am : Nat → Nat} {u u' : tw_S} {sh tE q : Nat} {Z : Bool × Nat × ab_S} {B : ab_S} {G' : hg_G} {v : Int32} (hZ : Z = (true, q, B)) (hv : v = bI true) (hR : tw_R G' o am u') (hA : tw_A u' B) (h : rd_C u' sh tE q) (hf : u'.2.1 33 = u.2.1 33) : rd_Po o am u sh tE Z (.inl (some (.int v))) G' := by
  subst hZ hv
  exact ⟨rfl, u', hR, hA, fun _ => h, (fun z => nomatch z), hf⟩
def tw_PoF (o : Nat) (am : Nat → Nat) (u : tw_S) (q : Int32 × ab_S) : hg_Po := fun r G' => r = .inl (some (.int q.1)) ∧ ∃ u', tw_R G' o am u' ∧ tw_A u' q.2 ∧ (∀ k, 28 ≤ k → k ≤ 32 → u'.1 k = u.1 k) ∧ u'.2.1 33 = u.2.1 33
def tw_PzF (o : Nat) (am : Nat → Nat) (u : tw_S) (B : ab_S) : hg_Po := fun r G' => r = .inl none ∧ ∃ u', tw_R G' o am u' ∧ tw_A u' B ∧ (∀ k, 28 ≤ k → k ≤ 32 → u'.1 k = u.1 k) ∧ u'.2.1 33 = u.2.1 33
theorem tw_endF {o : Nat} {am : Nat → Nat} {u : tw_S} {q : Int32 × ab_S} {G' : hg_G} {u' : tw_S} {v : Int32} {B : ab_S} (h : q = (v, B)) (hR : tw_R G' o am u') (hA : tw_A u' B) (h1 : ∀ k, 28 ≤ k → k ≤ 32 → u'.1 k = u.1 k) (h2 : u'.2.1 33 = u.2.1 33) : tw_PoF o am u q (.inl (some (.int v))) G' := by
  subst h
  exact ⟨rfl, u', hR, hA, h1, h2⟩
theorem tw_endzF {o : Nat} {am : Nat → Nat} {u : tw_S} {q : ab_S} {G' : hg_G} {u' : tw_S} {B : ab_S} (h : q = B) (hR : tw_R G' o am u') (hA : tw_A u' B) (h1 : ∀ k, 28 ≤ k → k ≤ 32 → u'.1 k = u.1 k) (h2 : u'.2.1 33 = u.2.1 33) : tw_PzF o am u q (.inl none) G' := by
  subst h
  exact ⟨rfl, u', hR, hA, h1, h2⟩
theorem rd_nlt : ∀ k, k < 7 → sp_nums.getD k 0 ≤ 6 ∧ 1 ≤ sp_nums.getD k 0 := by decide +kernel
theorem rd_so_36 {A : ab_S} {k i v : Nat} (hk : k < 3) (h : rd_so A k i v = true) : v < 36 ∧ (k = 0 → sp_there A.1 v = 0) := by
  rw [rd_so, if_neg (by omega), if_neg (by omega), if_neg (by omega)] at h
  exact of_decide_eq_true h
theorem rd_so_3 {A : ab_S} {i v : Nat} (h : rd_so A 3 i v = true) : v ≤ sp_mosts.getD i 0 ∧ (i = 5 → A.1.1 16 v = 0) := by
  rw [rd_so, if_pos rfl] at h
  exact of_decide_eq_true h
theorem rd_so_4 {A : ab_S} {k i v : Nat} (hk : k = 4) (h : rd_so A k i v = true) : v < A.1.1 0 0 := by
  rw [rd_so, if_neg (by omega), if_pos hk] at h
  exact of_decide_eq_true h
theorem rd_so_5 {A : ab_S} {k i v : Nat} (hk : 4 < k) (h : rd_so A k i v = true) : sp_asked (nI (k - 5)) (nI v) = true := by
  rw [rd_so, if_neg (by omega), if_neg (by omega), if_pos hk] at h
  exact h
theorem tk_wrong {l : Launch} {D : hg_D} {lo : Nat} (htr : l.stackTraces = false) {G : hg_G} {o : Nat} {am : Nat → Nat} {u : tw_S} {A : ab_S} (hR : tw_R G o am u) (hA : tw_A u A) (hW : ab_wf A)  {x : Int32} :
    hg_M l D lo yX5_wrong (ws_ yX5_wrong cX5_wrong 2 ((some FieldType.boolean))) rm_X5_wrong [.ref o, .int x] G (fun r G' => r = .inl (some (.int (bI false))) ∧ ∃ u', tw_R G' o am u' ∧ tw_A u' A ∧ u'.1 32 = x ∧ u'.2.1 33 = u.2.1 33) := by
  have hw := hW.w; have w0 := hw.b0; have w1 := hw.b1; have w2 := hw.b2; have w3 := hw.b3; have w36 := hW.b36; have w43 := hW.b43
  refine hg_M.of htr (by decide) [some (.ref o), some (.int x)] rfl (Nat.le_of_ble_eq_true rfl) ?_
  intro p e s m args below meth c X hr hnm htab
  have X : hg_X p l s m args meth c D lo "TaxOnLooksModel" cX5_wrong 2 := X
  refine hr_aload0 (q := 1) X dX5_wrong_0 rfl ?_
  refine hr_iload1 (q := 2) X dX5_wrong_1 rfl ?_
  refine hr_putI (q := 5) X dX5_wrong_2 rfl fw_q1414_5 (fun h => nomatch h) rfl rfl rfl hR.om ?_
  have hR1 := hR.setS 32 x
  have hA1 := hA.scS (k := 32) rfl x
  refine hr_iconst (v := (nI 0)) (q := 6) X dX5_wrong_5 rfl rfl ?_
  exact hr_zret X hr rfl dX5_wrong_6 ⟨hz_b0 rfl, _, hR1, hA1, rfl, rfl⟩

theorem tk_stands3 {l : Launch} {D : hg_D} {lo : Nat} (htr : l.stackTraces = false) {G : hg_G} {o : Nat} {am : Nat → Nat} {u : tw_S} {A : ab_S} (hR : tw_R G o am u) (hA : tw_A u A) (hW : ab_wf A) {sh tE tp : Nat} (hs : sh < 8) (hE : tE ≤ 160) (hp : tp ≤ tE) (hC : rd_C u sh tE tp) :
    hg_M l D lo yX5_stands (ws_ yX5_stands cX5_stands 4 ((some FieldType.boolean))) rm_X5_stands [.ref o, .int (nI 3)] G (hg_Pv G (.int (bI (rd_mat (rd_f A sh) tE (rd_w 3) tp == tp + 6)))) := by
  have hw := hW.w; have w0 := hw.b0; have w1 := hw.b1; have w2 := hw.b2; have w3 := hw.b3; have w36 := hW.b36; have w43 := hW.b43
  refine hg_M.of htr (by decide) [some (.ref o), some (.int (nI 3)), none, none] rfl (Nat.le_of_ble_eq_true rfl) ?_
  intro p e s m args below meth c X hr hnm htab
  have X : hg_X p l s m args meth c D lo "TaxOnLooksModel" cX5_stands 4 := X
  refine hr_iconst (v := (nI 0)) (q := 1) X dX5_stands_0 rfl rfl ?_
  refine hr_istore2 (q := 2) X dX5_stands_1 rfl rfl (Nat.le_of_ble_eq_true rfl) ?_
  refine hr_iconst (v := (nI 0)) (q := 3) X dX5_stands_2 rfl rfl ?_
  refine hr_istore3 (q := 4) X dX5_stands_3 rfl rfl (Nat.le_of_ble_eq_true rfl) ?_
  have loop4 : ∀ (kr nr n : Nat) (c2 : Nat), (c2 ≤ 20) → (21 ≤ c2 + n) → hg_W p l e rm_X5_stands s m args below meth c (hg_Q below D lo args s rm_X5_stands G (hg_Pv G (.int (bI (rd_mat (rd_f A sh) tE (rd_w 3) tp == tp + 6))))) D lo G.1 4 kr nr G 4 [some (.ref o), some (.int (nI 3)), some (.int (nI c2)), some (.int (nI (rd_zs c2)))] [] := by
    intro kr nr n
    induction n with
    | zero =>
      intro c2 h4_0 h4_1
      omega
    | succ n ih4 =>
      intro c2 h4_0 h4_1
      refine hr_iload3 (q := 5) X dX5_stands_4 rfl ?_
      have hz1 := rd_zs_le c2 h4_0
      refine hr_iload1 (q := 6) X dX5_stands_5 rfl ?_
      refine hr_icmpN_ge (q := 9) (tgt := 32) X dX5_stands_6 rfl (by decide) (by omega) (by omega) (fun c6 => ?_) (fun c6 => ?_)
      · have z1 : c2 = 20 := hz1.2.1 (by omega)
        subst z1
        refine hr_aload0 (q := 33) X dX5_stands_32 rfl ?_
        refine hr_getI (v := (nI tp)) (q := 36) X dX5_stands_33 rfl fr_q1411_5 rfl hR.om ((hR.sc 29).trans (hC.2.2)) ?_
        refine hr_istore3 (q := 37) X dX5_stands_36 rfl rfl (Nat.le_of_ble_eq_true rfl) ?_
        have loop37 : ∀ (n : Nat) (j : Nat), (j ≤ 6) → (7 ≤ j + n) → (tp + j ≤ tE) → (rd_mat (rd_f A sh) tE ((rd_w 3).drop j) (tp + j) = rd_mat (rd_f A sh) tE (rd_w 3) tp) → hg_W p l e rm_X5_stands s m args below meth c (hg_Q below D lo args s rm_X5_stands G (hg_Pv G (.int (bI (rd_mat (rd_f A sh) tE (rd_w 3) tp == tp + 6))))) D lo G.1 4 kr nr G 37 [some (.ref o), some (.int (nI 3)), some (.int (nI (20 + j))), some (.int (nI (tp + j)))] [] := by
          intro n
          induction n with
          | zero =>
            intro j h37_0 h37_1 h37_2 h37_3
            omega
          | succ n ih37 =>
            intro j h37_0 h37_1 h37_2 h37_3
            refine hr_aload0 (q := 38) X dX5_stands_37 rfl ?_
            refine hr_getR (v := am 24) (q := 41) X dX5_stands_38 rfl fr_q1406_5 rfl hR.om (hR.f rfl) ?_
            refine hr_iload2 (q := 42) X dX5_stands_41 rfl ?_
            refine hr_ialdN (v := (nI (sp_words.getD (20 + j) 0))) (q := 43) X dX5_stands_42 rfl (hR.ka (n := 47) rfl rfl rfl) (Or.inl rfl) (by omega) (by decide) ((hR.ar rfl _).trans (hA.w24 (by omega))) ?_
            have hw42 := rd_wlt (20 + j)
            refine hr_bipush (v := (nI 32)) (q := 45) X dX5_stands_43 rfl rfl ?_
            refine hr_icmpN_le (q := 48) (tgt := 86) X dX5_stands_45 rfl (by decide) (by omega) (by omega) (fun c45 => ?_) (fun c45 => ?_)
            · have hj : j = 6 := Classical.byContradiction fun z => absurd c45 (by have := (rd_six j (by omega)).2; omega)
              refine hr_aload0 (q := 87) X dX5_stands_86 rfl ?_
              refine hr_getR (v := am 24) (q := 90) X dX5_stands_87 rfl fr_q1406_5 rfl hR.om (hR.f rfl) ?_
              refine hr_iload2 (q := 91) X dX5_stands_90 rfl ?_
              refine hr_ialdN (v := (nI (sp_words.getD (20 + j) 0))) (q := 92) X dX5_stands_91 rfl (hR.ka (n := 47) rfl rfl rfl) (Or.inl rfl) (by omega) (by decide) ((hR.ar rfl _).trans (hA.w24 (by omega))) ?_
              have hw91 := rd_wlt (20 + j)
              refine hr_bipush (v := (nI 32)) (q := 94) X dX5_stands_92 rfl rfl ?_
              refine hr_icmpN_gt (q := 97) (tgt := 101) X dX5_stands_94 rfl (by decide) (by omega) (by omega) (fun c94 => ?_) (fun c94 => ?_)
              · exact absurd c94 (by omega)
              · refine hr_iconst (v := (nI 1)) (q := 98) X dX5_stands_97 rfl rfl ?_
                refine hr_goto (tgt := 102) X dX5_stands_98 (by decide) ?_
                exact hr_zret X hr rfl dX5_stands_102 ⟨hz_b1 (by rw [← h37_3, hj, rd_mat_de (j := 6) rfl]; exact beq_self_eq_true _), rfl⟩
            · have hj6 : j < 6 := Nat.lt_of_le_of_ne h37_0 (fun z => absurd c45 (by rw [z]; decide))
              refine hr_iload3 (q := 49) X dX5_stands_48 rfl ?_
              refine hr_aload0 (q := 50) X dX5_stands_49 rfl ?_
              refine hr_getI (v := (nI tE)) (q := 53) X dX5_stands_50 rfl fr_q1412_5 rfl hR.om ((hR.sc 30).trans (hC.2.1)) ?_
              refine hr_icmpN_ge (q := 56) (tgt := 86) X dX5_stands_53 rfl (by decide) (by omega) (by omega) (fun c53 => ?_) (fun c53 => ?_)
              · have hno := rd_mat_dn (f := (rd_f A sh)) (E := tE) (p := tp) (l := rd_w 3) (show j < 6 from hj6) (fun z => by omega)
                refine hr_aload0 (q := 87) X dX5_stands_86 rfl ?_
                refine hr_getR (v := am 24) (q := 90) X dX5_stands_87 rfl fr_q1406_5 rfl hR.om (hR.f rfl) ?_
                refine hr_iload2 (q := 91) X dX5_stands_90 rfl ?_
                refine hr_ialdN (v := (nI (sp_words.getD (20 + j) 0))) (q := 92) X dX5_stands_91 rfl (hR.ka (n := 47) rfl rfl rfl) (Or.inl rfl) (by omega) (by decide) ((hR.ar rfl _).trans (hA.w24 (by omega))) ?_
                have hw91 := rd_wlt (20 + j)
                refine hr_bipush (v := (nI 32)) (q := 94) X dX5_stands_92 rfl rfl ?_
                refine hr_icmpN_gt (q := 97) (tgt := 101) X dX5_stands_94 rfl (by decide) (by omega) (by omega) (fun c94 => ?_) (fun c94 => ?_)
                · refine hr_iconst (v := (nI 0)) (q := 102) X dX5_stands_101 rfl rfl ?_
                  exact hr_zret X hr rfl dX5_stands_102 ⟨hz_b0 (beq_eq_false_iff_ne.mpr (by rw [← h37_3, hno]; omega)), rfl⟩
                · exact absurd c94 (by omega)
              · refine hr_aload0 (q := 57) X dX5_stands_56 rfl ?_
                refine hr_getR (v := am 22) (q := 60) X dX5_stands_57 rfl fr_q1404_5 rfl hR.om (hR.f rfl) ?_
                refine hr_aload0 (q := 61) X dX5_stands_60 rfl ?_
                refine hr_getI (v := (nI (160 * sh))) (q := 64) X dX5_stands_61 rfl fr_q1410_5 rfl hR.om ((hR.sc 28).trans (hC.1)) ?_
                refine hr_iload3 (q := 65) X dX5_stands_64 rfl ?_
                refine hr_iadd (v := (nI (160 * sh + (tp + j)))) (q := 66) X dX5_stands_65 rfl (nI_add _ _) ?_
                refine hr_laldN (v := (A.2.2.2 (160 * sh + (tp + j)))) (q := 67) X dX5_stands_66 rfl (hR.ka (n := 1280) rfl rfl rfl) (by omega) (by decide) ((hR.lg rfl _).trans (hA.ce _)) ?_
                refine hr_l2i (v := (rd_f A sh (tp + j))) (q := 68) X dX5_stands_67 rfl rfl ?_
                refine hr_aload0 (q := 69) X dX5_stands_68 rfl ?_
                refine hr_getR (v := am 24) (q := 72) X dX5_stands_69 rfl fr_q1406_5 rfl hR.om (hR.f rfl) ?_
                refine hr_iload2 (q := 73) X dX5_stands_72 rfl ?_
                refine hr_ialdN (v := (nI (sp_words.getD (20 + j) 0))) (q := 74) X dX5_stands_73 rfl (hR.ka (n := 47) rfl rfl rfl) (Or.inl rfl) (by omega) (by decide) ((hR.ar rfl _).trans (hA.w24 (by omega))) ?_
                have hw73 := rd_wlt (20 + j)
                refine hr_icmp_ne (q := 77) (tgt := 86) X dX5_stands_74 rfl (by decide) (fun c74 => ?_) (fun c74 => ?_)
                · have hno := rd_mat_dn (f := (rd_f A sh)) (E := tE) (p := tp) (l := rd_w 3) (show j < 6 from hj6) (fun z => c74 (z.2.trans (congrArg nI (rd_six j hj6).1.symm)))
                  refine hr_aload0 (q := 87) X dX5_stands_86 rfl ?_
                  refine hr_getR (v := am 24) (q := 90) X dX5_stands_87 rfl fr_q1406_5 rfl hR.om (hR.f rfl) ?_
                  refine hr_iload2 (q := 91) X dX5_stands_90 rfl ?_
                  refine hr_ialdN (v := (nI (sp_words.getD (20 + j) 0))) (q := 92) X dX5_stands_91 rfl (hR.ka (n := 47) rfl rfl rfl) (Or.inl rfl) (by omega) (by decide) ((hR.ar rfl _).trans (hA.w24 (by omega))) ?_
                  have hw91 := rd_wlt (20 + j)
                  refine hr_bipush (v := (nI 32)) (q := 94) X dX5_stands_92 rfl rfl ?_
                  refine hr_icmpN_gt (q := 97) (tgt := 101) X dX5_stands_94 rfl (by decide) (by omega) (by omega) (fun c94 => ?_) (fun c94 => ?_)
                  · refine hr_iconst (v := (nI 0)) (q := 102) X dX5_stands_101 rfl rfl ?_
                    exact hr_zret X hr rfl dX5_stands_102 ⟨hz_b0 (beq_eq_false_iff_ne.mpr (by rw [← h37_3, hno]; omega)), rfl⟩
                  · exact absurd c94 (by omega)
                · refine hr_iinc3 (v := (nI (tp + j + 1))) (q := 80) X dX5_stands_77 rfl (nI_add _ _) rfl (Nat.le_of_ble_eq_true rfl) ?_
                  refine hr_iinc2 (v := (nI (20 + j + 1))) (q := 83) X dX5_stands_80 rfl (nI_add _ _) rfl (Nat.le_of_ble_eq_true rfl) ?_
                  refine hr_goto (tgt := 37) X dX5_stands_83 (by decide) ?_
                  exact ih37 (j + 1) (by omega) (by omega) (by omega) (by rw [← h37_3]; exact (rd_mat_dy (l := rd_w 3) (show j < 6 by omega) (by omega) (c74.trans (congrArg nI (rd_six j (by omega)).1))).symm)
        exact loop37 7 0 (by omega) (by omega) (by omega) rfl
      · have hc20 : c2 < 20 := Nat.lt_of_le_of_ne h4_0 (fun z => absurd (hz1.2.2 z) (by omega))
        refine hr_iload3 (q := 10) X dX5_stands_9 rfl ?_
        refine hr_aload0 (q := 11) X dX5_stands_10 rfl ?_
        refine hr_getR (v := am 24) (q := 14) X dX5_stands_11 rfl fr_q1406_5 rfl hR.om (hR.f rfl) ?_
        refine hr_iload2 (q := 15) X dX5_stands_14 rfl ?_
        refine hr_ialdN (v := (nI (sp_words.getD c2 0))) (q := 16) X dX5_stands_15 rfl (hR.ka (n := 47) rfl rfl rfl) (Or.inl rfl) (by omega) (by decide) ((hR.ar rfl _).trans (hA.w24 (by omega))) ?_
        have hw15 := rd_wlt c2
        refine hr_ifN_ne (q := 19) (tgt := 23) X dX5_stands_16 rfl (by decide) (by omega) (fun c16 => ?_) (fun c16 => ?_)
        · refine hr_iconst (v := (nI 0)) (q := 24) X dX5_stands_23 rfl rfl ?_
          refine hr_iadd (v := (nI (rd_zs c2 + 0))) (q := 25) X dX5_stands_24 rfl (nI_add _ _) ?_
          refine hr_istore3 (q := 26) X dX5_stands_25 rfl rfl (Nat.le_of_ble_eq_true rfl) ?_
          refine hr_iinc2 (v := (nI (c2 + 1))) (q := 29) X dX5_stands_26 rfl (nI_add _ _) rfl (Nat.le_of_ble_eq_true rfl) ?_
          refine hr_L (L' := [some (.ref o), some (.int (nI 3)), some (.int (nI (c2 + 1))), some (.int (nI (rd_zs (c2 + 1))))]) (by rw [rd_zs_n c2 (by omega), if_neg (by omega)]) ?_
          refine hr_goto (tgt := 4) X dX5_stands_29 (by decide) ?_
          exact ih4 (c2 + 1) (by omega) (by omega)
        · refine hr_iconst (v := (nI 1)) (q := 20) X dX5_stands_19 rfl rfl ?_
          refine hr_goto (tgt := 24) X dX5_stands_20 (by decide) ?_
          refine hr_iadd (v := (nI (rd_zs c2 + 1))) (q := 25) X dX5_stands_24 rfl (nI_add _ _) ?_
          refine hr_istore3 (q := 26) X dX5_stands_25 rfl rfl (Nat.le_of_ble_eq_true rfl) ?_
          refine hr_iinc2 (v := (nI (c2 + 1))) (q := 29) X dX5_stands_26 rfl (nI_add _ _) rfl (Nat.le_of_ble_eq_true rfl) ?_
          refine hr_L (L' := [some (.ref o), some (.int (nI 3)), some (.int (nI (c2 + 1))), some (.int (nI (rd_zs (c2 + 1))))]) (by rw [rd_zs_n c2 (by omega), if_pos c16]) ?_
          refine hr_goto (tgt := 4) X dX5_stands_29 (by decide) ?_
          exact ih4 (c2 + 1) (by omega) (by omega)
  exact loop4 _ _ 21 0 (by omega) (by omega)

theorem tk_word {l : Launch} {D : hg_D} {lo : Nat} (htr : l.stackTraces = false) {G : hg_G} {o : Nat} {am : Nat → Nat} {u : tw_S} {A : ab_S} (hR : tw_R G o am u) (hA : tw_A u A) (hW : ab_wf A) {sh tE tp : Nat} (hs : sh < 8) (hE : tE ≤ 160) (hp : tp ≤ tE) (hC : rd_C u sh tE tp) :
    hg_M l D lo yX5_word (ws_ yX5_word cX5_word 6 ((some FieldType.int))) rm_X5_word [.ref o] G (fun r G' => r = .inl (some (.int (oI (rd_wd (rd_f A sh) tE tp)))) ∧ ∃ u', tw_R G' o am u' ∧ tw_A u' A ∧ (¬ rd_wd (rd_f A sh) tE tp = 99 → rd_C u' sh tE (tp + (rd_v (rd_sel (rd_f A sh) tE tp)).length)) ∧ (rd_wd (rd_f A sh) tE tp = 99 → u'.1 32 = nI (rd_mat (rd_f A sh) tE (rd_v (rd_sel (rd_f A sh) tE tp)) tp)) ∧ u'.2.1 33 = u.2.1 33) := by
  have hw := hW.w; have w0 := hw.b0; have w1 := hw.b1; have w2 := hw.b2; have w3 := hw.b3; have w36 := hW.b36; have w43 := hW.b43
  refine hg_M.of htr (by decide) [some (.ref o), none, none, none, none, none] rfl (Nat.le_of_ble_eq_true rfl) ?_
  intro p e s m args below meth c X hr hnm htab
  have X : hg_X p l s m args meth c D lo "TaxOnLooksModel" cX5_word 6 := X
  refine hr_iconst (v := (nI 0)) (q := 1) X dX5_word_0 rfl rfl ?_
  refine hr_istore1 (q := 2) X dX5_word_1 rfl rfl (Nat.le_of_ble_eq_true rfl) ?_
  refine hr_aload0 (q := 3) X dX5_word_2 rfl ?_
  refine hr_getI (v := (nI tp)) (q := 6) X dX5_word_3 rfl fr_q1411_5 rfl hR.om ((hR.sc 29).trans (hC.2.2)) ?_
  refine hr_istore2 (q := 7) X dX5_word_6 rfl rfl (Nat.le_of_ble_eq_true rfl) ?_
  refine hr_iconst (v := (nI 0)) (q := 8) X dX5_word_7 rfl rfl ?_
  refine hr_istore3 (q := 9) X dX5_word_8 rfl rfl (Nat.le_of_ble_eq_true rfl) ?_
  have loop9 : ∀ (kr nr n : Nat) (k : Nat), (k ≤ 7) → (8 ≤ k + n) → (∀ k1, k1 < k → rd_full (rd_f A sh) tE tp k1 = false) → hg_W p l e rm_X5_word s m args below meth c (hg_Q below D lo args s rm_X5_word G (fun r G' => r = .inl (some (.int (oI (rd_wd (rd_f A sh) tE tp)))) ∧ ∃ u', tw_R G' o am u' ∧ tw_A u' A ∧ (¬ rd_wd (rd_f A sh) tE tp = 99 → rd_C u' sh tE (tp + (rd_v (rd_sel (rd_f A sh) tE tp)).length)) ∧ (rd_wd (rd_f A sh) tE tp = 99 → u'.1 32 = nI (rd_mat (rd_f A sh) tE (rd_v (rd_sel (rd_f A sh) tE tp)) tp)) ∧ u'.2.1 33 = u.2.1 33)) D lo G.1 6 kr nr G 9 [some (.ref o), some (.int (nI (rd_st k))), some (.int (nI (rd_far (rd_f A sh) tE tp k))), some (.int (nI k)), none, none] [] := by
    intro kr nr n
    induction n with
    | zero =>
      intro k h9_0 h9_1 h9_2
      omega
    | succ n ih9 =>
      intro k h9_0 h9_1 h9_2
      refine hr_iload3 (q := 10) X dX5_word_9 rfl ?_
      refine hr_bipush (v := (nI 7)) (q := 12) X dX5_word_10 rfl rfl ?_
      refine hr_icmpN_ge (q := 15) (tgt := 130) X dX5_word_12 rfl (by decide) (by omega) (by omega) (fun c12 => ?_) (fun c12 => ?_)
      · refine hr_aload0 (q := 131) X dX5_word_130 rfl ?_
        refine hr_iload2 (q := 132) X dX5_word_131 rfl ?_
        refine hr_putI (q := 135) X dX5_word_132 rfl fw_q1414_5 (fun h => nomatch h) rfl rfl rfl hR.om ?_
        have hR1 := hR.setS 32 (nI (rd_far (rd_f A sh) tE tp k))
        have hA1 := hA.scS (k := 32) rfl (nI (rd_far (rd_f A sh) tE tp k))
        refine hr_iconst (v := (-1)) (q := 136) X dX5_word_135 rfl rfl ?_
        have h99 := rd_wd_n (f := (rd_f A sh)) (E := tE) (p := tp) (fun z hz => h9_2 z (by omega))
        have hk7 : k = 7 := by omega
        subst hk7
        exact hr_iret X hr dX5_word_136 ⟨hz_i (by rw [h99]; rfl), _, hR1, hA1, fun z => absurd h99 z, fun _ => congrArg nI (rd_far_7 (rd_f A sh) tE tp), rfl⟩
      · have hk0 := rd_words0 k (by omega); have hfl := rd_far_le (f := (rd_f A sh)) hp k
        refine hr_aload0 (q := 16) X dX5_word_15 rfl ?_
        refine hr_getI (v := (nI tp)) (q := 19) X dX5_word_16 rfl fr_q1411_5 rfl hR.om ((hR.sc 29).trans (hC.2.2)) ?_
        refine hr_istore4 (q := 21) X dX5_word_19 rfl rfl (Nat.le_of_ble_eq_true rfl) ?_
        refine hr_iload1 (q := 22) X dX5_word_21 rfl ?_
        refine hr_istore5 (q := 24) X dX5_word_22 rfl rfl (Nat.le_of_ble_eq_true rfl) ?_
        have loop24 : ∀ (n : Nat) (j : Nat), (j ≤ (rd_v k).length) → (9 ≤ j + n) → (tp + j ≤ tE) → (rd_mat (rd_f A sh) tE ((rd_v k).drop j) (tp + j) = rd_mat (rd_f A sh) tE (rd_v k) tp) → hg_W p l e rm_X5_word s m args below meth c (hg_Q below D lo args s rm_X5_word G (fun r G' => r = .inl (some (.int (oI (rd_wd (rd_f A sh) tE tp)))) ∧ ∃ u', tw_R G' o am u' ∧ tw_A u' A ∧ (¬ rd_wd (rd_f A sh) tE tp = 99 → rd_C u' sh tE (tp + (rd_v (rd_sel (rd_f A sh) tE tp)).length)) ∧ (rd_wd (rd_f A sh) tE tp = 99 → u'.1 32 = nI (rd_mat (rd_f A sh) tE (rd_v (rd_sel (rd_f A sh) tE tp)) tp)) ∧ u'.2.1 33 = u.2.1 33)) D lo G.1 6 kr nr G 24 [some (.ref o), some (.int (nI (rd_st k))), some (.int (nI (rd_far (rd_f A sh) tE tp k))), some (.int (nI k)), some (.int (nI (tp + j))), some (.int (nI (rd_st k + j)))] [] := by
          intro n
          induction n with
          | zero =>
            intro j h24_0 h24_1 h24_2 h24_3
            omega
          | succ n ih24 =>
            intro j h24_0 h24_1 h24_2 h24_3
            refine hr_aload0 (q := 25) X dX5_word_24 rfl ?_
            refine hr_getR (v := am 24) (q := 28) X dX5_word_25 rfl fr_q1406_5 rfl hR.om (hR.f rfl) ?_
            refine hr_iload5 (q := 30) X dX5_word_28 rfl ?_
            refine hr_ialdN (v := (nI (sp_words.getD (rd_st k + j) 0))) (q := 31) X dX5_word_30 rfl (hR.ka (n := 47) rfl rfl rfl) (Or.inl rfl) (by omega) (by decide) ((hR.ar rfl _).trans (hA.w24 (by omega))) ?_
            have hw30 := rd_wlt (rd_st k + j)
            refine hr_ifN_eq (q := 34) (tgt := 75) X dX5_word_31 rfl (by decide) (by omega) (fun c31 => ?_) (fun c31 => ?_)
            · have hj : j = (rd_v k).length := Classical.byContradiction fun z => (rd_words k (by omega) j (by omega)).2.1 ((rd_words k (by omega) j (by omega)).1.symm.trans c31)
              refine hr_aload0 (q := 76) X dX5_word_75 rfl ?_
              refine hr_getR (v := am 24) (q := 79) X dX5_word_76 rfl fr_q1406_5 rfl hR.om (hR.f rfl) ?_
              refine hr_iload5 (q := 81) X dX5_word_79 rfl ?_
              refine hr_ialdN (v := (nI (sp_words.getD (rd_st k + j) 0))) (q := 82) X dX5_word_81 rfl (hR.ka (n := 47) rfl rfl rfl) (Or.inl rfl) (by omega) (by decide) ((hR.ar rfl _).trans (hA.w24 (by omega))) ?_
              have hw81 := rd_wlt (rd_st k + j)
              refine hr_ifN_ne (q := 85) (tgt := 93) X dX5_word_82 rfl (by decide) (by omega) (fun c82 => ?_) (fun c82 => ?_)
              · exact absurd c82 (by omega)
              · refine hr_aload0 (q := 86) X dX5_word_85 rfl ?_
                refine hr_iload4 (q := 88) X dX5_word_86 rfl ?_
                refine hr_putI (q := 91) X dX5_word_88 rfl fw_q1411_5 (fun h => nomatch h) rfl rfl rfl hR.om ?_
                have hR2 := hR.setS 29 (nI (tp + j))
                have hA2 := hA.scS (k := 29) rfl (nI (tp + j))
                refine hr_iload3 (q := 92) X dX5_word_91 rfl ?_
                have hfu : rd_full (rd_f A sh) tE tp k = true := beq_iff_eq.mpr (by rw [← h24_3, rd_mat_de hj, hj])
                have hwd := rd_wd_y (by omega) hfu
                exact hr_iret X hr dX5_word_92 ⟨hz_i (by rw [hwd.1]; exact (oI_of (by omega)).symm), _, hR2, hA2, fun _ => by rw [hwd.2, ← hj]; exact ⟨hC.1, hC.2.1, rfl⟩, fun z => absurd z (by rw [hwd.1]; omega), rfl⟩
            · have hjl : j < (rd_v k).length := Nat.lt_of_le_of_ne h24_0 (fun z => absurd hk0.1 (by rw [← z]; omega))
              refine hr_iload4 (q := 36) X dX5_word_34 rfl ?_
              refine hr_aload0 (q := 37) X dX5_word_36 rfl ?_
              refine hr_getI (v := (nI tE)) (q := 40) X dX5_word_37 rfl fr_q1412_5 rfl hR.om ((hR.sc 30).trans (hC.2.1)) ?_
              refine hr_icmpN_ge (q := 43) (tgt := 75) X dX5_word_40 rfl (by decide) (by omega) (by omega) (fun c40 => ?_) (fun c40 => ?_)
              · refine hr_aload0 (q := 76) X dX5_word_75 rfl ?_
                refine hr_getR (v := am 24) (q := 79) X dX5_word_76 rfl fr_q1406_5 rfl hR.om (hR.f rfl) ?_
                refine hr_iload5 (q := 81) X dX5_word_79 rfl ?_
                refine hr_ialdN (v := (nI (sp_words.getD (rd_st k + j) 0))) (q := 82) X dX5_word_81 rfl (hR.ka (n := 47) rfl rfl rfl) (Or.inl rfl) (by omega) (by decide) ((hR.ar rfl _).trans (hA.w24 (by omega))) ?_
                have hw81 := rd_wlt (rd_st k + j)
                refine hr_ifN_ne (q := 85) (tgt := 93) X dX5_word_82 rfl (by decide) (by omega) (fun c82 => ?_) (fun c82 => ?_)
                · have hm : rd_mat (rd_f A sh) tE (rd_v k) tp = tp + j := by rw [← h24_3]; exact rd_mat_dn (l := rd_v k) hjl (fun z => by omega)
                  have hno : rd_full (rd_f A sh) tE tp k = false := beq_eq_false_iff_ne.mpr (by rw [hm]; omega)
                  refine hr_iload4 (q := 95) X dX5_word_93 rfl ?_
                  refine hr_iload2 (q := 96) X dX5_word_95 rfl ?_
                  refine hr_icmpN_le (q := 99) (tgt := 104) X dX5_word_96 rfl (by decide) (by omega) (by omega) (fun c96 => ?_) (fun c96 => ?_)
                  · refine hr_iload2 (q := 105) X dX5_word_104 rfl ?_
                    refine hr_st1 (v' := .int (nI (rd_far (rd_f A sh) tE tp (k + 1)))) (congrArg Value.int (by rw [rd_far, hm, if_neg (by omega)])) ?_
                    refine hr_istore2 (q := 106) X dX5_word_105 rfl rfl (Nat.le_of_ble_eq_true rfl) ?_
                    have loop106 : ∀ (n : Nat) (i : Nat), (i ≤ (rd_v k).length) → (9 ≤ i + n) → hg_W p l e rm_X5_word s m args below meth c (hg_Q below D lo args s rm_X5_word G (fun r G' => r = .inl (some (.int (oI (rd_wd (rd_f A sh) tE tp)))) ∧ ∃ u', tw_R G' o am u' ∧ tw_A u' A ∧ (¬ rd_wd (rd_f A sh) tE tp = 99 → rd_C u' sh tE (tp + (rd_v (rd_sel (rd_f A sh) tE tp)).length)) ∧ (rd_wd (rd_f A sh) tE tp = 99 → u'.1 32 = nI (rd_mat (rd_f A sh) tE (rd_v (rd_sel (rd_f A sh) tE tp)) tp)) ∧ u'.2.1 33 = u.2.1 33)) D lo G.1 6 kr nr G 106 [some (.ref o), some (.int (nI (rd_st k + i))), some (.int (nI (rd_far (rd_f A sh) tE tp (k + 1)))), some (.int (nI k)), some (.int (nI (tp + j))), some (.int (nI (rd_st k + j)))] [] := by
                      intro n
                      induction n with
                      | zero =>
                        intro i h106_0 h106_1
                        omega
                      | succ n ih106 =>
                        intro i h106_0 h106_1
                        refine hr_aload0 (q := 107) X dX5_word_106 rfl ?_
                        refine hr_getR (v := am 24) (q := 110) X dX5_word_107 rfl fr_q1406_5 rfl hR.om (hR.f rfl) ?_
                        refine hr_iload1 (q := 111) X dX5_word_110 rfl ?_
                        refine hr_ialdN (v := (nI (sp_words.getD (rd_st k + i) 0))) (q := 112) X dX5_word_111 rfl (hR.ka (n := 47) rfl rfl rfl) (Or.inl rfl) (by omega) (by decide) ((hR.ar rfl _).trans (hA.w24 (by omega))) ?_
                        have hw111 := rd_wlt (rd_st k + i)
                        refine hr_ifN_eq (q := 115) (tgt := 121) X dX5_word_112 rfl (by decide) (by omega) (fun c112 => ?_) (fun c112 => ?_)
                        · have hi : i = (rd_v k).length := Classical.byContradiction fun z => (rd_words k (by omega) i (by omega)).2.1 ((rd_words k (by omega) i (by omega)).1.symm.trans c112)
                          refine hr_iinc1 (v := (nI (rd_st k + i + 1))) (q := 124) X dX5_word_121 rfl (nI_add _ _) rfl (Nat.le_of_ble_eq_true rfl) ?_
                          refine hr_iinc3 (v := (nI (k + 1))) (q := 127) X dX5_word_124 rfl (nI_add _ _) rfl (Nat.le_of_ble_eq_true rfl) ?_
                          refine hr_L (L' := [some (.ref o), some (.int (nI (rd_st (k + 1)))), some (.int (nI (rd_far (rd_f A sh) tE tp (k + 1)))), some (.int (nI (k + 1))), some (.int (nI (tp + j))), some (.int (nI (rd_st k + j)))]) (by rw [hk0.2.2.1, hi]) ?_
                          refine hr_goto (tgt := 9) X dX5_word_127 (by decide) ?_
                          refine hr_fg4 ?_
                          refine hr_fg5 ?_
                          exact ih9 (k + 1) (by omega) (by omega) (sp_ext h9_2 hno)
                        · have hil : i < (rd_v k).length := Nat.lt_of_le_of_ne h106_0 (fun z => absurd hk0.1 (by rw [← z]; omega))
                          refine hr_iinc1 (v := (nI (rd_st k + i + 1))) (q := 118) X dX5_word_115 rfl (nI_add _ _) rfl (Nat.le_of_ble_eq_true rfl) ?_
                          refine hr_goto (tgt := 106) X dX5_word_118 (by decide) ?_
                          exact ih106 (i + 1) (by omega) (by omega)
                    exact loop106 9 0 (by omega) (by omega)
                  · refine hr_iload4 (q := 101) X dX5_word_99 rfl ?_
                    refine hr_goto (tgt := 105) X dX5_word_101 (by decide) ?_
                    refine hr_st1 (v' := .int (nI (rd_far (rd_f A sh) tE tp (k + 1)))) (congrArg Value.int (by rw [rd_far, hm, if_pos (by omega)])) ?_
                    refine hr_istore2 (q := 106) X dX5_word_105 rfl rfl (Nat.le_of_ble_eq_true rfl) ?_
                    have loop106 : ∀ (n : Nat) (i : Nat), (i ≤ (rd_v k).length) → (9 ≤ i + n) → hg_W p l e rm_X5_word s m args below meth c (hg_Q below D lo args s rm_X5_word G (fun r G' => r = .inl (some (.int (oI (rd_wd (rd_f A sh) tE tp)))) ∧ ∃ u', tw_R G' o am u' ∧ tw_A u' A ∧ (¬ rd_wd (rd_f A sh) tE tp = 99 → rd_C u' sh tE (tp + (rd_v (rd_sel (rd_f A sh) tE tp)).length)) ∧ (rd_wd (rd_f A sh) tE tp = 99 → u'.1 32 = nI (rd_mat (rd_f A sh) tE (rd_v (rd_sel (rd_f A sh) tE tp)) tp)) ∧ u'.2.1 33 = u.2.1 33)) D lo G.1 6 kr nr G 106 [some (.ref o), some (.int (nI (rd_st k + i))), some (.int (nI (rd_far (rd_f A sh) tE tp (k + 1)))), some (.int (nI k)), some (.int (nI (tp + j))), some (.int (nI (rd_st k + j)))] [] := by
                      intro n
                      induction n with
                      | zero =>
                        intro i h106_0 h106_1
                        omega
                      | succ n ih106 =>
                        intro i h106_0 h106_1
                        refine hr_aload0 (q := 107) X dX5_word_106 rfl ?_
                        refine hr_getR (v := am 24) (q := 110) X dX5_word_107 rfl fr_q1406_5 rfl hR.om (hR.f rfl) ?_
                        refine hr_iload1 (q := 111) X dX5_word_110 rfl ?_
                        refine hr_ialdN (v := (nI (sp_words.getD (rd_st k + i) 0))) (q := 112) X dX5_word_111 rfl (hR.ka (n := 47) rfl rfl rfl) (Or.inl rfl) (by omega) (by decide) ((hR.ar rfl _).trans (hA.w24 (by omega))) ?_
                        have hw111 := rd_wlt (rd_st k + i)
                        refine hr_ifN_eq (q := 115) (tgt := 121) X dX5_word_112 rfl (by decide) (by omega) (fun c112 => ?_) (fun c112 => ?_)
                        · have hi : i = (rd_v k).length := Classical.byContradiction fun z => (rd_words k (by omega) i (by omega)).2.1 ((rd_words k (by omega) i (by omega)).1.symm.trans c112)
                          refine hr_iinc1 (v := (nI (rd_st k + i + 1))) (q := 124) X dX5_word_121 rfl (nI_add _ _) rfl (Nat.le_of_ble_eq_true rfl) ?_
                          refine hr_iinc3 (v := (nI (k + 1))) (q := 127) X dX5_word_124 rfl (nI_add _ _) rfl (Nat.le_of_ble_eq_true rfl) ?_
                          refine hr_L (L' := [some (.ref o), some (.int (nI (rd_st (k + 1)))), some (.int (nI (rd_far (rd_f A sh) tE tp (k + 1)))), some (.int (nI (k + 1))), some (.int (nI (tp + j))), some (.int (nI (rd_st k + j)))]) (by rw [hk0.2.2.1, hi]) ?_
                          refine hr_goto (tgt := 9) X dX5_word_127 (by decide) ?_
                          refine hr_fg4 ?_
                          refine hr_fg5 ?_
                          exact ih9 (k + 1) (by omega) (by omega) (sp_ext h9_2 hno)
                        · have hil : i < (rd_v k).length := Nat.lt_of_le_of_ne h106_0 (fun z => absurd hk0.1 (by rw [← z]; omega))
                          refine hr_iinc1 (v := (nI (rd_st k + i + 1))) (q := 118) X dX5_word_115 rfl (nI_add _ _) rfl (Nat.le_of_ble_eq_true rfl) ?_
                          refine hr_goto (tgt := 106) X dX5_word_118 (by decide) ?_
                          exact ih106 (i + 1) (by omega) (by omega)
                    exact loop106 9 0 (by omega) (by omega)
                · exact absurd c82 (by omega)
              · refine hr_aload0 (q := 44) X dX5_word_43 rfl ?_
                refine hr_getR (v := am 22) (q := 47) X dX5_word_44 rfl fr_q1404_5 rfl hR.om (hR.f rfl) ?_
                refine hr_aload0 (q := 48) X dX5_word_47 rfl ?_
                refine hr_getI (v := (nI (160 * sh))) (q := 51) X dX5_word_48 rfl fr_q1410_5 rfl hR.om ((hR.sc 28).trans (hC.1)) ?_
                refine hr_iload4 (q := 53) X dX5_word_51 rfl ?_
                refine hr_iadd (v := (nI (160 * sh + (tp + j)))) (q := 54) X dX5_word_53 rfl (nI_add _ _) ?_
                refine hr_laldN (v := (A.2.2.2 (160 * sh + (tp + j)))) (q := 55) X dX5_word_54 rfl (hR.ka (n := 1280) rfl rfl rfl) (by omega) (by decide) ((hR.lg rfl _).trans (hA.ce _)) ?_
                refine hr_l2i (v := (rd_f A sh (tp + j))) (q := 56) X dX5_word_55 rfl rfl ?_
                refine hr_aload0 (q := 57) X dX5_word_56 rfl ?_
                refine hr_getR (v := am 24) (q := 60) X dX5_word_57 rfl fr_q1406_5 rfl hR.om (hR.f rfl) ?_
                refine hr_iload5 (q := 62) X dX5_word_60 rfl ?_
                refine hr_ialdN (v := (nI (sp_words.getD (rd_st k + j) 0))) (q := 63) X dX5_word_62 rfl (hR.ka (n := 47) rfl rfl rfl) (Or.inl rfl) (by omega) (by decide) ((hR.ar rfl _).trans (hA.w24 (by omega))) ?_
                have hw62 := rd_wlt (rd_st k + j)
                refine hr_icmp_ne (q := 66) (tgt := 75) X dX5_word_63 rfl (by decide) (fun c63 => ?_) (fun c63 => ?_)
                · refine hr_aload0 (q := 76) X dX5_word_75 rfl ?_
                  refine hr_getR (v := am 24) (q := 79) X dX5_word_76 rfl fr_q1406_5 rfl hR.om (hR.f rfl) ?_
                  refine hr_iload5 (q := 81) X dX5_word_79 rfl ?_
                  refine hr_ialdN (v := (nI (sp_words.getD (rd_st k + j) 0))) (q := 82) X dX5_word_81 rfl (hR.ka (n := 47) rfl rfl rfl) (Or.inl rfl) (by omega) (by decide) ((hR.ar rfl _).trans (hA.w24 (by omega))) ?_
                  have hw81 := rd_wlt (rd_st k + j)
                  refine hr_ifN_ne (q := 85) (tgt := 93) X dX5_word_82 rfl (by decide) (by omega) (fun c82 => ?_) (fun c82 => ?_)
                  · have hm : rd_mat (rd_f A sh) tE (rd_v k) tp = tp + j := by rw [← h24_3]; exact rd_mat_dn (l := rd_v k) hjl (fun z => c63 (z.2.trans (congrArg nI (rd_words k (by omega) j hjl).1.symm)))
                    have hno : rd_full (rd_f A sh) tE tp k = false := beq_eq_false_iff_ne.mpr (by rw [hm]; omega)
                    refine hr_iload4 (q := 95) X dX5_word_93 rfl ?_
                    refine hr_iload2 (q := 96) X dX5_word_95 rfl ?_
                    refine hr_icmpN_le (q := 99) (tgt := 104) X dX5_word_96 rfl (by decide) (by omega) (by omega) (fun c96 => ?_) (fun c96 => ?_)
                    · refine hr_iload2 (q := 105) X dX5_word_104 rfl ?_
                      refine hr_st1 (v' := .int (nI (rd_far (rd_f A sh) tE tp (k + 1)))) (congrArg Value.int (by rw [rd_far, hm, if_neg (by omega)])) ?_
                      refine hr_istore2 (q := 106) X dX5_word_105 rfl rfl (Nat.le_of_ble_eq_true rfl) ?_
                      have loop106 : ∀ (n : Nat) (i : Nat), (i ≤ (rd_v k).length) → (9 ≤ i + n) → hg_W p l e rm_X5_word s m args below meth c (hg_Q below D lo args s rm_X5_word G (fun r G' => r = .inl (some (.int (oI (rd_wd (rd_f A sh) tE tp)))) ∧ ∃ u', tw_R G' o am u' ∧ tw_A u' A ∧ (¬ rd_wd (rd_f A sh) tE tp = 99 → rd_C u' sh tE (tp + (rd_v (rd_sel (rd_f A sh) tE tp)).length)) ∧ (rd_wd (rd_f A sh) tE tp = 99 → u'.1 32 = nI (rd_mat (rd_f A sh) tE (rd_v (rd_sel (rd_f A sh) tE tp)) tp)) ∧ u'.2.1 33 = u.2.1 33)) D lo G.1 6 kr nr G 106 [some (.ref o), some (.int (nI (rd_st k + i))), some (.int (nI (rd_far (rd_f A sh) tE tp (k + 1)))), some (.int (nI k)), some (.int (nI (tp + j))), some (.int (nI (rd_st k + j)))] [] := by
                        intro n
                        induction n with
                        | zero =>
                          intro i h106_0 h106_1
                          omega
                        | succ n ih106 =>
                          intro i h106_0 h106_1
                          refine hr_aload0 (q := 107) X dX5_word_106 rfl ?_
                          refine hr_getR (v := am 24) (q := 110) X dX5_word_107 rfl fr_q1406_5 rfl hR.om (hR.f rfl) ?_
                          refine hr_iload1 (q := 111) X dX5_word_110 rfl ?_
                          refine hr_ialdN (v := (nI (sp_words.getD (rd_st k + i) 0))) (q := 112) X dX5_word_111 rfl (hR.ka (n := 47) rfl rfl rfl) (Or.inl rfl) (by omega) (by decide) ((hR.ar rfl _).trans (hA.w24 (by omega))) ?_
                          have hw111 := rd_wlt (rd_st k + i)
                          refine hr_ifN_eq (q := 115) (tgt := 121) X dX5_word_112 rfl (by decide) (by omega) (fun c112 => ?_) (fun c112 => ?_)
                          · have hi : i = (rd_v k).length := Classical.byContradiction fun z => (rd_words k (by omega) i (by omega)).2.1 ((rd_words k (by omega) i (by omega)).1.symm.trans c112)
                            refine hr_iinc1 (v := (nI (rd_st k + i + 1))) (q := 124) X dX5_word_121 rfl (nI_add _ _) rfl (Nat.le_of_ble_eq_true rfl) ?_
                            refine hr_iinc3 (v := (nI (k + 1))) (q := 127) X dX5_word_124 rfl (nI_add _ _) rfl (Nat.le_of_ble_eq_true rfl) ?_
                            refine hr_L (L' := [some (.ref o), some (.int (nI (rd_st (k + 1)))), some (.int (nI (rd_far (rd_f A sh) tE tp (k + 1)))), some (.int (nI (k + 1))), some (.int (nI (tp + j))), some (.int (nI (rd_st k + j)))]) (by rw [hk0.2.2.1, hi]) ?_
                            refine hr_goto (tgt := 9) X dX5_word_127 (by decide) ?_
                            refine hr_fg4 ?_
                            refine hr_fg5 ?_
                            exact ih9 (k + 1) (by omega) (by omega) (sp_ext h9_2 hno)
                          · have hil : i < (rd_v k).length := Nat.lt_of_le_of_ne h106_0 (fun z => absurd hk0.1 (by rw [← z]; omega))
                            refine hr_iinc1 (v := (nI (rd_st k + i + 1))) (q := 118) X dX5_word_115 rfl (nI_add _ _) rfl (Nat.le_of_ble_eq_true rfl) ?_
                            refine hr_goto (tgt := 106) X dX5_word_118 (by decide) ?_
                            exact ih106 (i + 1) (by omega) (by omega)
                      exact loop106 9 0 (by omega) (by omega)
                    · refine hr_iload4 (q := 101) X dX5_word_99 rfl ?_
                      refine hr_goto (tgt := 105) X dX5_word_101 (by decide) ?_
                      refine hr_st1 (v' := .int (nI (rd_far (rd_f A sh) tE tp (k + 1)))) (congrArg Value.int (by rw [rd_far, hm, if_pos (by omega)])) ?_
                      refine hr_istore2 (q := 106) X dX5_word_105 rfl rfl (Nat.le_of_ble_eq_true rfl) ?_
                      have loop106 : ∀ (n : Nat) (i : Nat), (i ≤ (rd_v k).length) → (9 ≤ i + n) → hg_W p l e rm_X5_word s m args below meth c (hg_Q below D lo args s rm_X5_word G (fun r G' => r = .inl (some (.int (oI (rd_wd (rd_f A sh) tE tp)))) ∧ ∃ u', tw_R G' o am u' ∧ tw_A u' A ∧ (¬ rd_wd (rd_f A sh) tE tp = 99 → rd_C u' sh tE (tp + (rd_v (rd_sel (rd_f A sh) tE tp)).length)) ∧ (rd_wd (rd_f A sh) tE tp = 99 → u'.1 32 = nI (rd_mat (rd_f A sh) tE (rd_v (rd_sel (rd_f A sh) tE tp)) tp)) ∧ u'.2.1 33 = u.2.1 33)) D lo G.1 6 kr nr G 106 [some (.ref o), some (.int (nI (rd_st k + i))), some (.int (nI (rd_far (rd_f A sh) tE tp (k + 1)))), some (.int (nI k)), some (.int (nI (tp + j))), some (.int (nI (rd_st k + j)))] [] := by
                        intro n
                        induction n with
                        | zero =>
                          intro i h106_0 h106_1
                          omega
                        | succ n ih106 =>
                          intro i h106_0 h106_1
                          refine hr_aload0 (q := 107) X dX5_word_106 rfl ?_
                          refine hr_getR (v := am 24) (q := 110) X dX5_word_107 rfl fr_q1406_5 rfl hR.om (hR.f rfl) ?_
                          refine hr_iload1 (q := 111) X dX5_word_110 rfl ?_
                          refine hr_ialdN (v := (nI (sp_words.getD (rd_st k + i) 0))) (q := 112) X dX5_word_111 rfl (hR.ka (n := 47) rfl rfl rfl) (Or.inl rfl) (by omega) (by decide) ((hR.ar rfl _).trans (hA.w24 (by omega))) ?_
                          have hw111 := rd_wlt (rd_st k + i)
                          refine hr_ifN_eq (q := 115) (tgt := 121) X dX5_word_112 rfl (by decide) (by omega) (fun c112 => ?_) (fun c112 => ?_)
                          · have hi : i = (rd_v k).length := Classical.byContradiction fun z => (rd_words k (by omega) i (by omega)).2.1 ((rd_words k (by omega) i (by omega)).1.symm.trans c112)
                            refine hr_iinc1 (v := (nI (rd_st k + i + 1))) (q := 124) X dX5_word_121 rfl (nI_add _ _) rfl (Nat.le_of_ble_eq_true rfl) ?_
                            refine hr_iinc3 (v := (nI (k + 1))) (q := 127) X dX5_word_124 rfl (nI_add _ _) rfl (Nat.le_of_ble_eq_true rfl) ?_
                            refine hr_L (L' := [some (.ref o), some (.int (nI (rd_st (k + 1)))), some (.int (nI (rd_far (rd_f A sh) tE tp (k + 1)))), some (.int (nI (k + 1))), some (.int (nI (tp + j))), some (.int (nI (rd_st k + j)))]) (by rw [hk0.2.2.1, hi]) ?_
                            refine hr_goto (tgt := 9) X dX5_word_127 (by decide) ?_
                            refine hr_fg4 ?_
                            refine hr_fg5 ?_
                            exact ih9 (k + 1) (by omega) (by omega) (sp_ext h9_2 hno)
                          · have hil : i < (rd_v k).length := Nat.lt_of_le_of_ne h106_0 (fun z => absurd hk0.1 (by rw [← z]; omega))
                            refine hr_iinc1 (v := (nI (rd_st k + i + 1))) (q := 118) X dX5_word_115 rfl (nI_add _ _) rfl (Nat.le_of_ble_eq_true rfl) ?_
                            refine hr_goto (tgt := 106) X dX5_word_118 (by decide) ?_
                            exact ih106 (i + 1) (by omega) (by omega)
                      exact loop106 9 0 (by omega) (by omega)
                  · exact absurd c82 (by omega)
                · refine hr_iinc4 (v := (nI (tp + j + 1))) (q := 69) X dX5_word_66 rfl (nI_add _ _) rfl (Nat.le_of_ble_eq_true rfl) ?_
                  refine hr_iinc5 (v := (nI (rd_st k + j + 1))) (q := 72) X dX5_word_69 rfl (nI_add _ _) rfl (Nat.le_of_ble_eq_true rfl) ?_
                  refine hr_goto (tgt := 24) X dX5_word_72 (by decide) ?_
                  exact ih24 (j + 1) (by omega) (by omega) (by omega) (by rw [← h24_3]; exact (rd_mat_dy (l := rd_v k) hjl (by omega) (c63.trans (congrArg nI (rd_words k (by omega) j hjl).1))).symm)
        exact loop24 9 0 (by omega) (by omega) (by omega) rfl
  exact loop9 _ _ 8 0 (by omega) (by omega) (fun z hz => absurd hz (Nat.not_lt_zero _))

theorem tk_isDigit {l : Launch} {D : hg_D} {lo : Nat} (htr : l.stackTraces = false) {G : hg_G} {o : Nat} {am : Nat → Nat} {u : tw_S} {A : ab_S} (hR : tw_R G o am u) (hA : tw_A u A) (hW : ab_wf A) {sh tE tp : Nat} (hs : sh < 8) (hE : tE ≤ 160) (hp : tp ≤ tE) (hC : rd_C u sh tE tp) :
    hg_M l D lo yX5_isDigit (ws_ yX5_isDigit cX5_isDigit 1 ((some FieldType.boolean))) rm_X5_isDigit [.ref o] G (hg_Pv G (.int (bI (rd_dig (rd_f A sh) tE tp)))) := by
  have hw := hW.w; have w0 := hw.b0; have w1 := hw.b1; have w2 := hw.b2; have w3 := hw.b3; have w36 := hW.b36; have w43 := hW.b43
  refine hg_M.of htr (by decide) [some (.ref o)] rfl (Nat.le_of_ble_eq_true rfl) ?_
  intro p e s m args below meth c X hr hnm htab
  have X : hg_X p l s m args meth c D lo "TaxOnLooksModel" cX5_isDigit 1 := X
  refine hr_aload0 (q := 1) X dX5_isDigit_0 rfl ?_
  refine hr_getI (v := (nI tp)) (q := 4) X dX5_isDigit_1 rfl fr_q1411_5 rfl hR.om ((hR.sc 29).trans (hC.2.2)) ?_
  refine hr_aload0 (q := 5) X dX5_isDigit_4 rfl ?_
  refine hr_getI (v := (nI tE)) (q := 8) X dX5_isDigit_5 rfl fr_q1412_5 rfl hR.om ((hR.sc 30).trans (hC.2.1)) ?_
  refine hr_icmpN_ge (q := 11) (tgt := 55) X dX5_isDigit_8 rfl (by decide) (by omega) (by omega) (fun c8 => ?_) (fun c8 => ?_)
  · refine hr_iconst (v := (nI 0)) (q := 56) X dX5_isDigit_55 rfl rfl ?_
    exact hr_zret X hr rfl dX5_isDigit_56 ⟨hz_b0 (decide_eq_false (fun z => by omega)), rfl⟩
  · refine hr_aload0 (q := 12) X dX5_isDigit_11 rfl ?_
    refine hr_getR (v := am 22) (q := 15) X dX5_isDigit_12 rfl fr_q1404_5 rfl hR.om (hR.f rfl) ?_
    refine hr_aload0 (q := 16) X dX5_isDigit_15 rfl ?_
    refine hr_getI (v := (nI (160 * sh))) (q := 19) X dX5_isDigit_16 rfl fr_q1410_5 rfl hR.om ((hR.sc 28).trans (hC.1)) ?_
    refine hr_aload0 (q := 20) X dX5_isDigit_19 rfl ?_
    refine hr_getI (v := (nI tp)) (q := 23) X dX5_isDigit_20 rfl fr_q1411_5 rfl hR.om ((hR.sc 29).trans (hC.2.2)) ?_
    refine hr_iadd (v := (nI (160 * sh + tp))) (q := 24) X dX5_isDigit_23 rfl (nI_add _ _) ?_
    refine hr_laldN (v := (A.2.2.2 (160 * sh + tp))) (q := 25) X dX5_isDigit_24 rfl (hR.ka (n := 1280) rfl rfl rfl) (by omega) (by decide) ((hR.lg rfl _).trans (hA.ce _)) ?_
    refine hr_l2i (v := (rd_f A sh tp)) (q := 26) X dX5_isDigit_25 rfl rfl ?_
    refine hr_bipush (v := (nI 48)) (q := 28) X dX5_isDigit_26 rfl rfl ?_
    refine hr_icmp_lt (q := 31) (tgt := 55) X dX5_isDigit_28 rfl (by decide) (fun c28 => ?_) (fun c28 => ?_)
    · refine hr_iconst (v := (nI 0)) (q := 56) X dX5_isDigit_55 rfl rfl ?_
      exact hr_zret X hr rfl dX5_isDigit_56 ⟨hz_b0 (decide_eq_false (fun z => Int32.not_lt.mpr z.2.1 c28)), rfl⟩
    · refine hr_aload0 (q := 32) X dX5_isDigit_31 rfl ?_
      refine hr_getR (v := am 22) (q := 35) X dX5_isDigit_32 rfl fr_q1404_5 rfl hR.om (hR.f rfl) ?_
      refine hr_aload0 (q := 36) X dX5_isDigit_35 rfl ?_
      refine hr_getI (v := (nI (160 * sh))) (q := 39) X dX5_isDigit_36 rfl fr_q1410_5 rfl hR.om ((hR.sc 28).trans (hC.1)) ?_
      refine hr_aload0 (q := 40) X dX5_isDigit_39 rfl ?_
      refine hr_getI (v := (nI tp)) (q := 43) X dX5_isDigit_40 rfl fr_q1411_5 rfl hR.om ((hR.sc 29).trans (hC.2.2)) ?_
      refine hr_iadd (v := (nI (160 * sh + tp))) (q := 44) X dX5_isDigit_43 rfl (nI_add _ _) ?_
      refine hr_laldN (v := (A.2.2.2 (160 * sh + tp))) (q := 45) X dX5_isDigit_44 rfl (hR.ka (n := 1280) rfl rfl rfl) (by omega) (by decide) ((hR.lg rfl _).trans (hA.ce _)) ?_
      refine hr_l2i (v := (rd_f A sh tp)) (q := 46) X dX5_isDigit_45 rfl rfl ?_
      refine hr_bipush (v := (nI 57)) (q := 48) X dX5_isDigit_46 rfl rfl ?_
      refine hr_icmp_gt (q := 51) (tgt := 55) X dX5_isDigit_48 rfl (by decide) (fun c48 => ?_) (fun c48 => ?_)
      · refine hr_iconst (v := (nI 0)) (q := 56) X dX5_isDigit_55 rfl rfl ?_
        exact hr_zret X hr rfl dX5_isDigit_56 ⟨hz_b0 (decide_eq_false (fun z => Int32.not_lt.mpr z.2.2 c48)), rfl⟩
      · refine hr_iconst (v := (nI 1)) (q := 52) X dX5_isDigit_51 rfl rfl ?_
        refine hr_goto (tgt := 56) X dX5_isDigit_52 (by decide) ?_
        exact hr_zret X hr rfl dX5_isDigit_56 ⟨hz_b1 (decide_eq_true ⟨by omega, Int32.not_lt.mp c28, Int32.not_lt.mp c48⟩), rfl⟩

theorem tk_reads {l : Launch} {D : hg_D} {lo : Nat} (htr : l.stackTraces = false) {G : hg_G} {o : Nat} {am : Nat → Nat} {u : tw_S} {A : ab_S} (hR : tw_R G o am u) (hA : tw_A u A) (hW : ab_wf A) {sh tE tp : Nat} (hs : sh < 8) (hE : tE ≤ 160) (hp : tp ≤ tE) (hC : rd_C u sh tE tp) :
    hg_M l D lo yX5_reads (ws_ yX5_reads cX5_reads 2 ((some FieldType.boolean))) rm_X5_reads [.ref o] G (fun r G' => r = .inl (some (.int (bI (rd_dig (rd_f A sh) tE tp)))) ∧ ∃ u', tw_R G' o am u' ∧ tw_A u' A ∧ (rd_dig (rd_f A sh) tE tp = true → rd_C u' sh tE (rd_end (rd_f A sh) tE tp) ∧ u'.1 31 = nI (rd_num (rd_f A sh) tE tp)) ∧ (rd_dig (rd_f A sh) tE tp = false → u'.1 32 = nI tp) ∧ u'.2.1 33 = u.2.1 33 ∧ (rd_dig (rd_f A sh) tE tp = true → u'.2.1 27 = u.2.1 27)) := by
  have hw := hW.w; have w0 := hw.b0; have w1 := hw.b1; have w2 := hw.b2; have w3 := hw.b3; have w36 := hW.b36; have w43 := hW.b43
  refine hg_M.of htr (by decide) [some (.ref o), none] rfl (Nat.le_of_ble_eq_true rfl) ?_
  intro p e s m args below meth c X hr hnm htab
  have X : hg_X p l s m args meth c D lo "TaxOnLooksModel" cX5_reads 2 := X
  refine hr_aload0 (q := 1) X dX5_reads_0 rfl ?_
  refine hr_iconst (v := (nI 0)) (q := 2) X dX5_reads_1 rfl rfl ?_
  refine hr_putI (q := 5) X dX5_reads_2 rfl fw_q1413_5 (fun h => nomatch h) rfl rfl rfl hR.om ?_
  have hR1 := hR.setS 31 (nI 0)
  have hA1 := hA.scS (k := 31) rfl (nI 0)
  refine hr_aload0 (q := 6) X dX5_reads_5 rfl ?_
  refine hr_callP (v := .int (bI (rd_dig (rd_f A sh) tE tp))) (q := 9) (hc_V (n := 0) (ci := 5) (As := []) X dX5_reads_6 rfl (tk_isDigit X.tr hR1 hA1 hW (sh := sh) (tE := tE) (tp := tp) (by omega) (by omega) (by omega) ⟨hC.1, hC.2.1, hC.2.2⟩) q1647 cv_X5_isDigit ⟨Nat.le_of_ble_eq_true rfl, Nat.le_of_ble_eq_true rfl⟩ rfl (Nat.le_of_ble_eq_true rfl) hR1.om rfl rfl) rfl ?_
  refine hr_ifB_ne (q := 12) (tgt := 21) X dX5_reads_9 rfl (by decide) (fun c9 => ?_) (fun c9 => ?_)
  · have hdg := c9
    refine hr_iconst (v := (nI 0)) (q := 22) X dX5_reads_21 rfl rfl ?_
    refine hr_istore1 (q := 23) X dX5_reads_22 rfl rfl (Nat.le_of_ble_eq_true rfl) ?_
    refine hr_iload1 (q := 24) X dX5_reads_23 rfl ?_
    refine hr_iconst (v := (nI 2)) (q := 25) X dX5_reads_24 rfl rfl ?_
    refine hr_icmpN_ge (q := 28) (tgt := 81) X dX5_reads_25 rfl (by decide) (by decide) (by decide) (fun z => absurd z (by decide)) (fun _ => ?_)
    refine hr_aload0 (q := 29) X dX5_reads_28 rfl ?_
    refine hr_callP (v := .int (bI (rd_dig (rd_f A sh) tE tp))) (q := 32) (hc_V (n := 0) (ci := 5) (As := []) X dX5_reads_29 rfl (tk_isDigit X.tr hR1 hA1 hW (sh := sh) (tE := tE) (tp := tp) (by omega) (by omega) (by omega) ⟨hC.1, hC.2.1, hC.2.2⟩) q1647 cv_X5_isDigit ⟨Nat.le_of_ble_eq_true rfl, Nat.le_of_ble_eq_true rfl⟩ rfl (Nat.le_of_ble_eq_true rfl) hR1.om rfl rfl) rfl ?_
    refine hr_ifB_eq (q := 35) (tgt := 81) X dX5_reads_32 rfl (by decide) (fun c32 => ?_) (fun c32 => ?_)
    · exact absurd hdg (by rw [c32]; decide)
    · have hd2 := c32
      have hlt35 := (rd_dig_n c32).1
      refine hr_aload0 (q := 36) X dX5_reads_35 rfl ?_
      refine hr_bipush (v := (nI 10)) (q := 38) X dX5_reads_36 rfl rfl ?_
      refine hr_aload0 (q := 39) X dX5_reads_38 rfl ?_
      refine hr_getI (v := (nI 0)) (q := 42) X dX5_reads_39 rfl fr_q1413_5 rfl hR1.om (hR1.sc 31) ?_
      refine hr_imul (v := (nI (10 * 0))) (q := 43) X dX5_reads_42 rfl (pk_mul _ _) ?_
      refine hr_aload0 (q := 44) X dX5_reads_43 rfl ?_
      refine hr_getR (v := am 22) (q := 47) X dX5_reads_44 rfl fr_q1404_5 rfl hR1.om (hR1.f rfl) ?_
      refine hr_aload0 (q := 48) X dX5_reads_47 rfl ?_
      refine hr_getI (v := (nI (160 * sh))) (q := 51) X dX5_reads_48 rfl fr_q1410_5 rfl hR1.om ((hR1.sc 28).trans (hC.1)) ?_
      refine hr_aload0 (q := 52) X dX5_reads_51 rfl ?_
      refine hr_getI (v := (nI tp)) (q := 55) X dX5_reads_52 rfl fr_q1411_5 rfl hR1.om ((hR1.sc 29).trans (hC.2.2)) ?_
      refine hr_iadd (v := (nI (160 * sh + tp))) (q := 56) X dX5_reads_55 rfl (nI_add _ _) ?_
      refine hr_laldN (v := (A.2.2.2 (160 * sh + tp))) (q := 57) X dX5_reads_56 rfl (hR1.ka (n := 1280) rfl rfl rfl) (by omega) (by decide) ((hR1.lg rfl _).trans (hA1.ce _)) ?_
      refine hr_l2i (v := (rd_f A sh tp)) (q := 58) X dX5_reads_57 rfl rfl ?_
      refine hr_iadd (v := ((nI (10 * 0)) + (rd_f A sh tp))) (q := 59) X dX5_reads_58 rfl rfl ?_
      refine hr_bipush (v := (nI 48)) (q := 61) X dX5_reads_59 rfl rfl ?_
      refine hr_isub (v := (((nI (10 * 0)) + (rd_f A sh tp)) - (nI 48))) (q := 62) X dX5_reads_61 rfl rfl ?_
      have hdp := rd_dig_n c32
      refine hr_st1 (v' := .int (nI (10 * 0 + rd_d (rd_f A sh) tp))) (congrArg Value.int (rd_digit c32 _)) ?_
      refine hr_putI (q := 65) X dX5_reads_62 rfl fw_q1413_5 (fun h => nomatch h) rfl rfl rfl hR1.om ?_
      have hR2 := hR1.setS 31 (nI (10 * 0 + rd_d (rd_f A sh) tp))
      have hA2 := hA1.scS (k := 31) rfl (nI (10 * 0 + rd_d (rd_f A sh) tp))
      refine hr_aload0 (q := 66) X dX5_reads_65 rfl ?_
      refine hr_dup (q := 67) X dX5_reads_66 rfl rfl ?_
      refine hr_getI (v := (nI tp)) (q := 70) X dX5_reads_67 rfl fr_q1411_5 rfl hR2.om ((hR2.sc 29).trans (hC.2.2)) ?_
      refine hr_iconst (v := (nI 1)) (q := 71) X dX5_reads_70 rfl rfl ?_
      refine hr_iadd (v := (nI (tp + 1))) (q := 72) X dX5_reads_71 rfl (nI_add _ _) ?_
      refine hr_putI (q := 75) X dX5_reads_72 rfl fw_q1411_5 (fun h => nomatch h) rfl rfl rfl hR2.om ?_
      have hR3 := hR2.setS 29 (nI (tp + 1))
      have hA3 := hA2.scS (k := 29) rfl (nI (tp + 1))
      refine hr_iinc1 (v := (nI 1)) (q := 78) X dX5_reads_75 rfl (by decide) rfl (Nat.le_of_ble_eq_true rfl) ?_
      refine hr_goto (tgt := 23) X dX5_reads_78 (by decide) ?_
      refine hr_iload1 (q := 24) X dX5_reads_23 rfl ?_
      refine hr_iconst (v := (nI 2)) (q := 25) X dX5_reads_24 rfl rfl ?_
      refine hr_icmpN_ge (q := 28) (tgt := 81) X dX5_reads_25 rfl (by decide) (by decide) (by decide) (fun z => absurd z (by decide)) (fun _ => ?_)
      refine hr_aload0 (q := 29) X dX5_reads_28 rfl ?_
      have hd1 := rd_dig_n hdg
      refine hr_callP (v := .int (bI (rd_dig (rd_f A sh) tE (tp + 1)))) (q := 32) (hc_V (n := 0) (ci := 5) (As := []) X dX5_reads_29 rfl (tk_isDigit X.tr hR3 hA3 hW (sh := sh) (tE := tE) (tp := tp + 1) (by omega) (by omega) (by omega) ⟨hC.1, hC.2.1, rfl⟩) q1647 cv_X5_isDigit ⟨Nat.le_of_ble_eq_true rfl, Nat.le_of_ble_eq_true rfl⟩ rfl (Nat.le_of_ble_eq_true rfl) hR3.om rfl rfl) rfl ?_
      refine hr_ifB_eq (q := 35) (tgt := 81) X dX5_reads_32 rfl (by decide) (fun c32 => ?_) (fun c32 => ?_)
      · refine hr_iconst (v := (nI 1)) (q := 82) X dX5_reads_81 rfl rfl ?_
        exact hr_zret X hr rfl dX5_reads_82 ⟨hz_b1 hdg, _, hR3, hA3, fun _ => ⟨(by rw [rd_end, if_neg (by rw [c32]; decide)]; exact ⟨hC.1, hC.2.1, rfl⟩), (by rw [rd_num, if_neg (by rw [c32]; decide)]; exact congrArg nI (by omega))⟩, fun z => absurd (hdg.symm.trans z) (by decide), rfl, fun _ => rfl⟩
      · have hd3 := c32
        have hlt35 := (rd_dig_n c32).1
        refine hr_aload0 (q := 36) X dX5_reads_35 rfl ?_
        refine hr_bipush (v := (nI 10)) (q := 38) X dX5_reads_36 rfl rfl ?_
        refine hr_aload0 (q := 39) X dX5_reads_38 rfl ?_
        refine hr_getI (v := (nI (10 * 0 + rd_d (rd_f A sh) tp))) (q := 42) X dX5_reads_39 rfl fr_q1413_5 rfl hR3.om (hR3.sc 31) ?_
        refine hr_imul (v := (nI (10 * (10 * 0 + rd_d (rd_f A sh) tp)))) (q := 43) X dX5_reads_42 rfl (pk_mul _ _) ?_
        refine hr_aload0 (q := 44) X dX5_reads_43 rfl ?_
        refine hr_getR (v := am 22) (q := 47) X dX5_reads_44 rfl fr_q1404_5 rfl hR3.om (hR3.f rfl) ?_
        refine hr_aload0 (q := 48) X dX5_reads_47 rfl ?_
        refine hr_getI (v := (nI (160 * sh))) (q := 51) X dX5_reads_48 rfl fr_q1410_5 rfl hR3.om ((hR3.sc 28).trans (hC.1)) ?_
        refine hr_aload0 (q := 52) X dX5_reads_51 rfl ?_
        refine hr_getI (v := (nI (tp + 1))) (q := 55) X dX5_reads_52 rfl fr_q1411_5 rfl hR3.om (hR3.sc 29) ?_
        refine hr_iadd (v := (nI (160 * sh + (tp + 1)))) (q := 56) X dX5_reads_55 rfl (nI_add _ _) ?_
        refine hr_laldN (v := (A.2.2.2 (160 * sh + (tp + 1)))) (q := 57) X dX5_reads_56 rfl (hR3.ka (n := 1280) rfl rfl rfl) (by omega) (by decide) ((hR3.lg rfl _).trans (hA3.ce _)) ?_
        refine hr_l2i (v := (rd_f A sh (tp + 1))) (q := 58) X dX5_reads_57 rfl rfl ?_
        refine hr_iadd (v := ((nI (10 * (10 * 0 + rd_d (rd_f A sh) tp))) + (rd_f A sh (tp + 1)))) (q := 59) X dX5_reads_58 rfl rfl ?_
        refine hr_bipush (v := (nI 48)) (q := 61) X dX5_reads_59 rfl rfl ?_
        refine hr_isub (v := (((nI (10 * (10 * 0 + rd_d (rd_f A sh) tp))) + (rd_f A sh (tp + 1))) - (nI 48))) (q := 62) X dX5_reads_61 rfl rfl ?_
        have hdp := rd_dig_n c32
        refine hr_st1 (v' := .int (nI (10 * (10 * 0 + rd_d (rd_f A sh) tp) + rd_d (rd_f A sh) (tp + 1)))) (congrArg Value.int (rd_digit c32 _)) ?_
        refine hr_putI (q := 65) X dX5_reads_62 rfl fw_q1413_5 (fun h => nomatch h) rfl rfl rfl hR3.om ?_
        have hR4 := hR3.setS 31 (nI (10 * (10 * 0 + rd_d (rd_f A sh) tp) + rd_d (rd_f A sh) (tp + 1)))
        have hA4 := hA3.scS (k := 31) rfl (nI (10 * (10 * 0 + rd_d (rd_f A sh) tp) + rd_d (rd_f A sh) (tp + 1)))
        refine hr_aload0 (q := 66) X dX5_reads_65 rfl ?_
        refine hr_dup (q := 67) X dX5_reads_66 rfl rfl ?_
        refine hr_getI (v := (nI (tp + 1))) (q := 70) X dX5_reads_67 rfl fr_q1411_5 rfl hR4.om (hR4.sc 29) ?_
        refine hr_iconst (v := (nI 1)) (q := 71) X dX5_reads_70 rfl rfl ?_
        refine hr_iadd (v := (nI (tp + 1 + 1))) (q := 72) X dX5_reads_71 rfl (nI_add _ _) ?_
        refine hr_putI (q := 75) X dX5_reads_72 rfl fw_q1411_5 (fun h => nomatch h) rfl rfl rfl hR4.om ?_
        have hR5 := hR4.setS 29 (nI (tp + 1 + 1))
        have hA5 := hA4.scS (k := 29) rfl (nI (tp + 1 + 1))
        refine hr_iinc1 (v := (nI 2)) (q := 78) X dX5_reads_75 rfl (by decide) rfl (Nat.le_of_ble_eq_true rfl) ?_
        refine hr_goto (tgt := 23) X dX5_reads_78 (by decide) ?_
        refine hr_iload1 (q := 24) X dX5_reads_23 rfl ?_
        refine hr_iconst (v := (nI 2)) (q := 25) X dX5_reads_24 rfl rfl ?_
        refine hr_icmpN_ge (q := 28) (tgt := 81) X dX5_reads_25 rfl (by decide) (by decide) (by decide) (fun _ => ?_) (fun z => absurd z (by decide))
        refine hr_iconst (v := (nI 1)) (q := 82) X dX5_reads_81 rfl rfl ?_
        exact hr_zret X hr rfl dX5_reads_82 ⟨hz_b1 hdg, _, hR5, hA5, fun _ => ⟨(by rw [rd_end, if_pos hd3]; exact ⟨hC.1, hC.2.1, rfl⟩), (by rw [rd_num, if_pos hd3]; exact congrArg nI (by omega))⟩, fun z => absurd (hdg.symm.trans z) (by decide), rfl, fun _ => rfl⟩
  · refine hr_aload0 (q := 13) X dX5_reads_12 rfl ?_
    refine hr_aload0 (q := 14) X dX5_reads_13 rfl ?_
    refine hr_getI (v := (nI tp)) (q := 17) X dX5_reads_14 rfl fr_q1411_5 rfl hR1.om ((hR1.sc 29).trans (hC.2.2)) ?_
    refine hr_call0 (q := 20) (hc_V (n := 1) (ci := 5) (As := [.int (nI tp)]) X dX5_reads_17 rfl (tk_wrong X.tr hR1 hA1 hW (x := (nI tp))) q1635 cv_X5_wrong ⟨Nat.le_of_ble_eq_true rfl, Nat.le_of_ble_eq_true rfl⟩ rfl (Nat.le_of_ble_eq_true rfl) hR1.om rfl rfl) rfl (fun qx E G' hp => by cases hp.1) (fun r Gw6 hp _ => ?_)
    obtain ⟨hvw6, uw6, hRw6, hAw6, hgw6, hfw6⟩ := hp
    cases hvw6
    exact hr_zret X hr (bI_nar _) dX5_reads_20 ⟨by rw [c9], _, hRw6, hAw6, fun z => absurd (c9.symm.trans z) (by decide), fun _ => hgw6, hfw6, fun z => absurd (c9.symm.trans z) (by decide)⟩

theorem tk_isSo {l : Launch} {D : hg_D} {lo : Nat} (htr : l.stackTraces = false) {G : hg_G} {o : Nat} {am : Nat → Nat} {u : tw_S} {A : ab_S} (hR : tw_R G o am u) (hA : tw_A u A) (hW : ab_wf A)  {k i v : Nat} (hk : k < 7) (hi : i < 6) (hv : v < 100) (h31 : u.1 31 = nI v) :
    hg_M l D lo yX5_isSo (ws_ yX5_isSo cX5_isSo 3 ((some FieldType.boolean))) rm_X5_isSo [.ref o, .int (nI k), .int (nI i)] G (hg_Pv G (.int (bI (rd_so A k i v)))) := by
  have hw := hW.w; have w0 := hw.b0; have w1 := hw.b1; have w2 := hw.b2; have w3 := hw.b3; have w36 := hW.b36; have w43 := hW.b43
  refine hg_M.of htr (by decide) [some (.ref o), some (.int (nI k)), some (.int (nI i))] rfl (Nat.le_of_ble_eq_true rfl) ?_
  intro p e s m args below meth c X hr hnm htab
  have X : hg_X p l s m args meth c D lo "TaxOnLooksModel" cX5_isSo 3 := X
  refine hr_iload1 (q := 1) X dX5_isSo_0 rfl ?_
  refine hr_iconst (v := (nI 3)) (q := 2) X dX5_isSo_1 rfl rfl ?_
  refine hr_icmpN_ne (q := 5) (tgt := 41) X dX5_isSo_2 rfl (by decide) (by omega) (by omega) (fun c2 => ?_) (fun c2 => ?_)
  · refine hr_iload1 (q := 42) X dX5_isSo_41 rfl ?_
    refine hr_iconst (v := (nI 4)) (q := 43) X dX5_isSo_42 rfl rfl ?_
    refine hr_icmpN_ne (q := 46) (tgt := 63) X dX5_isSo_43 rfl (by decide) (by omega) (by omega) (fun c43 => ?_) (fun c43 => ?_)
    · refine hr_iload1 (q := 64) X dX5_isSo_63 rfl ?_
      refine hr_iconst (v := (nI 4)) (q := 65) X dX5_isSo_64 rfl rfl ?_
      refine hr_icmpN_le (q := 68) (tgt := 82) X dX5_isSo_65 rfl (by decide) (by omega) (by omega) (fun c65 => ?_) (fun c65 => ?_)
      · refine hr_aload0 (q := 83) X dX5_isSo_82 rfl ?_
        refine hr_aload0 (q := 84) X dX5_isSo_83 rfl ?_
        refine hr_getI (v := (nI v)) (q := 87) X dX5_isSo_84 rfl fr_q1413_5 rfl hR.om ((hR.sc 31).trans (h31)) ?_
        refine hr_callP (q := 90) (hc_V (n := 1) (ci := 5) (As := [.int (nI v)]) X dX5_isSo_87 rfl (tk_isSquare X.tr hR (nI v)) q1567 cv_X5_isSquare ⟨Nat.le_of_ble_eq_true rfl, Nat.le_of_ble_eq_true rfl⟩ rfl (Nat.le_of_ble_eq_true rfl) hR.om rfl rfl) rfl ?_
        refine hr_ifB_eq (q := 93) (tgt := 112) X dX5_isSo_90 rfl (by decide) (fun c90 => ?_) (fun c90 => ?_)
        · refine hr_iconst (v := (nI 0)) (q := 113) X dX5_isSo_112 rfl rfl ?_
          exact hr_zret X hr rfl dX5_isSo_113 ⟨hz_b0 (by rw [rd_so, if_neg c2, if_neg c43, if_neg (by omega)]; exact decide_eq_false (fun z => by rw [sp_in_t z.1 (by decide)] at c90; cases c90)), rfl⟩
        · refine hr_iload1 (q := 94) X dX5_isSo_93 rfl ?_
          refine hr_ifN_ne (q := 97) (tgt := 108) X dX5_isSo_94 rfl (by decide) (by omega) (fun c94 => ?_) (fun c94 => ?_)
          · refine hr_iconst (v := (nI 1)) (q := 109) X dX5_isSo_108 rfl rfl ?_
            refine hr_goto (tgt := 113) X dX5_isSo_109 (by decide) ?_
            exact hr_zret X hr rfl dX5_isSo_113 ⟨hz_b1 (by rw [rd_so, if_neg c2, if_neg c43, if_neg (by omega)]; exact decide_eq_true ⟨(by have := (sp_inN (by decide) c90).2; rw [iN_nI (by omega)] at this; exact this), fun z => by omega⟩), rfl⟩
          · have hv36 : v < 36 := by have := (sp_inN (by decide) c90).2; rw [iN_nI (by omega)] at this; exact this
            refine hr_aload0 (q := 98) X dX5_isSo_97 rfl ?_
            refine hr_aload0 (q := 99) X dX5_isSo_98 rfl ?_
            refine hr_getI (v := (nI v)) (q := 102) X dX5_isSo_99 rfl fr_q1413_5 rfl hR.om ((hR.sc 31).trans (h31)) ?_
            refine hr_callP (q := 105) (hc_V (n := 1) (ci := 5) (As := [.int (nI v)]) X dX5_isSo_102 rfl (tk_thereAt X.tr hR hA.t hw (z := v) (by omega)) q1579 cv_X5_thereAt ⟨Nat.le_of_ble_eq_true rfl, Nat.le_of_ble_eq_true rfl⟩ rfl (Nat.le_of_ble_eq_true rfl) hR.om rfl rfl) rfl ?_
            have := sp_there_lt (t := A.1) hw v
            refine hr_ifN_ne (q := 108) (tgt := 112) X dX5_isSo_105 rfl (by decide) (by omega) (fun c105 => ?_) (fun c105 => ?_)
            · refine hr_iconst (v := (nI 0)) (q := 113) X dX5_isSo_112 rfl rfl ?_
              exact hr_zret X hr rfl dX5_isSo_113 ⟨hz_b0 (by rw [rd_so, if_neg c2, if_neg c43, if_neg (by omega)]; exact decide_eq_false (fun z => by have := z.2 c94; omega)), rfl⟩
            · refine hr_iconst (v := (nI 1)) (q := 109) X dX5_isSo_108 rfl rfl ?_
              refine hr_goto (tgt := 113) X dX5_isSo_109 (by decide) ?_
              exact hr_zret X hr rfl dX5_isSo_113 ⟨hz_b1 (by rw [rd_so, if_neg c2, if_neg c43, if_neg (by omega)]; exact decide_eq_true ⟨hv36, fun _ => c105⟩), rfl⟩
      · refine hr_aload0 (q := 69) X dX5_isSo_68 rfl ?_
        refine hr_iload1 (q := 70) X dX5_isSo_69 rfl ?_
        refine hr_iconst (v := (nI 5)) (q := 71) X dX5_isSo_70 rfl rfl ?_
        refine hr_isub (v := (nI (k - 5))) (q := 72) X dX5_isSo_71 rfl (pk_sub (by omega)) ?_
        refine hr_aload0 (q := 73) X dX5_isSo_72 rfl ?_
        refine hr_getI (v := (nI v)) (q := 76) X dX5_isSo_73 rfl fr_q1413_5 rfl hR.om ((hR.sc 31).trans (h31)) ?_
        refine hr_callP (q := 79) (hc_V (n := 2) (ci := 5) (As := [.int (nI (k - 5)), .int (nI v)]) X dX5_isSo_76 rfl (tk_isAsked X.tr hR (nI (k - 5)) (nI v)) q1595 cv_X5_isAsked ⟨Nat.le_of_ble_eq_true rfl, Nat.le_of_ble_eq_true rfl⟩ rfl (Nat.le_of_ble_eq_true rfl) hR.om rfl rfl) rfl ?_
        refine hr_goto (tgt := 113) X dX5_isSo_79 (by decide) ?_
        exact hr_zret X hr (bI_nar _) dX5_isSo_113 ⟨by rw [rd_so, if_neg c2, if_neg c43, if_pos (by omega)], rfl⟩
    · refine hr_aload0 (q := 47) X dX5_isSo_46 rfl ?_
      refine hr_getI (v := (nI v)) (q := 50) X dX5_isSo_47 rfl fr_q1413_5 rfl hR.om ((hR.sc 31).trans (h31)) ?_
      refine hr_aload0 (q := 51) X dX5_isSo_50 rfl ?_
      refine hr_getI (v := (nI (A.1.1 0 0))) (q := 54) X dX5_isSo_51 rfl fr_q1382_5 rfl hR.om ((hR.sc 0).trans (hA.sc (by decide))) ?_
      refine hr_icmpN_ge (q := 57) (tgt := 61) X dX5_isSo_54 rfl (by decide) (by omega) (by omega) (fun c54 => ?_) (fun c54 => ?_)
      · refine hr_iconst (v := (nI 0)) (q := 62) X dX5_isSo_61 rfl rfl ?_
        exact hr_zret X hr rfl dX5_isSo_62 ⟨hz_b0 (by rw [rd_so, if_neg c2, if_pos c43]; exact decide_eq_false (by omega)), rfl⟩
      · refine hr_iconst (v := (nI 1)) (q := 58) X dX5_isSo_57 rfl rfl ?_
        refine hr_goto (tgt := 62) X dX5_isSo_58 (by decide) ?_
        exact hr_zret X hr rfl dX5_isSo_62 ⟨hz_b1 (by rw [rd_so, if_neg c2, if_pos c43]; exact decide_eq_true (by omega)), rfl⟩
  · refine hr_aload0 (q := 6) X dX5_isSo_5 rfl ?_
    refine hr_getI (v := (nI v)) (q := 9) X dX5_isSo_6 rfl fr_q1413_5 rfl hR.om ((hR.sc 31).trans (h31)) ?_
    refine hr_aload0 (q := 10) X dX5_isSo_9 rfl ?_
    refine hr_getR (v := am 26) (q := 13) X dX5_isSo_10 rfl fr_q1408_5 rfl hR.om (hR.f rfl) ?_
    refine hr_iload2 (q := 14) X dX5_isSo_13 rfl ?_
    refine hr_ialdN (v := (nI (sp_mosts.getD i 0))) (q := 15) X dX5_isSo_14 rfl (hR.ka (n := 6) rfl rfl rfl) (Or.inl rfl) (by omega) (by decide) ((hR.ar rfl _).trans (hA.w26 (by omega))) ?_
    have hm14 := rd_mlt i
    refine hr_icmpN_gt (q := 18) (tgt := 39) X dX5_isSo_15 rfl (by decide) (by omega) (by omega) (fun c15 => ?_) (fun c15 => ?_)
    · refine hr_iconst (v := (nI 0)) (q := 40) X dX5_isSo_39 rfl rfl ?_
      exact hr_zret X hr rfl dX5_isSo_40 ⟨hz_b0 (by rw [rd_so, if_pos c2]; exact decide_eq_false (fun z => by omega)), rfl⟩
    · refine hr_iload2 (q := 19) X dX5_isSo_18 rfl ?_
      refine hr_iconst (v := (nI 5)) (q := 20) X dX5_isSo_19 rfl rfl ?_
      refine hr_icmpN_ne (q := 23) (tgt := 35) X dX5_isSo_20 rfl (by decide) (by omega) (by omega) (fun c20 => ?_) (fun c20 => ?_)
      · refine hr_iconst (v := (nI 1)) (q := 36) X dX5_isSo_35 rfl rfl ?_
        refine hr_goto (tgt := 40) X dX5_isSo_36 (by decide) ?_
        exact hr_zret X hr rfl dX5_isSo_40 ⟨hz_b1 (by rw [rd_so, if_pos c2]; exact decide_eq_true ⟨by omega, fun z => absurd z c20⟩), rfl⟩
      · have hm5 : sp_mosts.getD i 0 = 35 := by rw [c20]; rfl
        refine hr_aload0 (q := 24) X dX5_isSo_23 rfl ?_
        refine hr_getR (v := am 16) (q := 27) X dX5_isSo_24 rfl fr_q1398_5 rfl hR.om (hR.f rfl) ?_
        refine hr_aload0 (q := 28) X dX5_isSo_27 rfl ?_
        refine hr_getI (v := (nI v)) (q := 31) X dX5_isSo_28 rfl fr_q1413_5 rfl hR.om ((hR.sc 31).trans (h31)) ?_
        refine hr_ialdN (v := (nI (A.1.1 16 v))) (q := 32) X dX5_isSo_31 rfl (hR.ka (n := 36) rfl rfl rfl) (Or.inl rfl) (by omega) (by decide) ((hR.ar rfl _).trans (hA.c (by decide) (by decide) (by omega))) ?_
        have b31 := hW.w.b16 (show v < 36 by omega)
        refine hr_ifN_ne (q := 35) (tgt := 39) X dX5_isSo_32 rfl (by decide) (by omega) (fun c32 => ?_) (fun c32 => ?_)
        · refine hr_iconst (v := (nI 0)) (q := 40) X dX5_isSo_39 rfl rfl ?_
          exact hr_zret X hr rfl dX5_isSo_40 ⟨hz_b0 (by rw [rd_so, if_pos c2]; exact decide_eq_false (fun z => by have := z.2 c20; omega)), rfl⟩
        · refine hr_iconst (v := (nI 1)) (q := 36) X dX5_isSo_35 rfl rfl ?_
          refine hr_goto (tgt := 40) X dX5_isSo_36 (by decide) ?_
          exact hr_zret X hr rfl dX5_isSo_40 ⟨hz_b1 (by rw [rd_so, if_pos c2]; exact decide_eq_true ⟨by omega, fun _ => by omega⟩), rfl⟩

theorem tk_addsF {l : Launch} {D : hg_D} {lo : Nat} (htr : l.stackTraces = false) {G : hg_G} {o : Nat} {am : Nat → Nat} {u : tw_S} {A : ab_S} (hR : tw_R G o am u) (hA : tw_A u A) {k1 : Nat} {k2 : Nat} {k3 : Nat} {k4 : Nat} {k5 : Nat} {k6 : Nat} (hW : ab_wf A) (h7 : A.1.1 0 0 < 7) :
    hg_M l D lo yX5_adds (ws_ yX5_adds cX5_adds 7 ((some FieldType.int))) rm_X5_adds [.ref o, .int (nI k1), .int (nI k2), .int (nI k3), .int (nI k4), .int (nI k5), .int (nI k6)] G (tw_PoF o am u (sq_adds k1 k2 k3 k4 k5 k6 A)) := by
  have hw := hW.w; have w0 := hw.b0; have w1 := hw.b1; have w2 := hw.b2; have w3 := hw.b3; have w36 := hW.b36; have w43 := hW.b43
  refine hg_M.of htr (by decide) [some (.ref o), some (.int (nI k1)), some (.int (nI k2)), some (.int (nI k3)), some (.int (nI k4)), some (.int (nI k5)), some (.int (nI k6))] rfl (Nat.le_of_ble_eq_true rfl) ?_
  intro p e s m args below meth c X hr hnm htab
  have X : hg_X p l s m args meth c D lo "TaxOnLooksModel" cX5_adds 7 := X
  refine hr_aload0 (q := 1) X dX5_adds_0 rfl ?_
  refine hr_getR (v := am 9) (q := 4) X dX5_adds_1 rfl fr_q1391_5 rfl hR.om (hR.f rfl) ?_
  refine hr_aload0 (q := 5) X dX5_adds_4 rfl ?_
  refine hr_getI (v := (nI (A.1.1 0 0))) (q := 8) X dX5_adds_5 rfl fr_q1382_5 rfl hR.om ((hR.sc 0).trans (hA.sc (by decide))) ?_
  refine hr_iload1 (q := 9) X dX5_adds_8 rfl ?_
  refine hr_iastN (q := 10) X dX5_adds_9 rfl (hR.ka (n := 7) rfl rfl rfl) (by omega) (by decide) ?_
  have hR1 := hR.setA (k := 9) rfl (A.1.1 0 0) (nI k1)
  have hA1 := hA.nA (k := 9) (j := A.1.1 0 0) (n := k1) (by decide) rfl
  refine hr_aload0 (q := 11) X dX5_adds_10 rfl ?_
  refine hr_getR (v := am 10) (q := 14) X dX5_adds_11 rfl fr_q1392_5 rfl hR1.om (hR1.f rfl) ?_
  refine hr_aload0 (q := 15) X dX5_adds_14 rfl ?_
  refine hr_getI (v := (nI (A.1.1 0 0))) (q := 18) X dX5_adds_15 rfl fr_q1382_5 rfl hR1.om ((hR1.sc 0).trans (hA1.sc (by decide))) ?_
  refine hr_iload2 (q := 19) X dX5_adds_18 rfl ?_
  refine hr_iastN (q := 20) X dX5_adds_19 rfl (hR1.ka (n := 7) rfl rfl rfl) (by omega) (by decide) ?_
  have hR2 := hR1.setA (k := 10) rfl (A.1.1 0 0) (nI k2)
  have hA2 := hA1.nA (k := 10) (j := A.1.1 0 0) (n := k2) (by decide) rfl
  refine hr_aload0 (q := 21) X dX5_adds_20 rfl ?_
  refine hr_getR (v := am 11) (q := 24) X dX5_adds_21 rfl fr_q1393_5 rfl hR2.om (hR2.f rfl) ?_
  refine hr_aload0 (q := 25) X dX5_adds_24 rfl ?_
  refine hr_getI (v := (nI (A.1.1 0 0))) (q := 28) X dX5_adds_25 rfl fr_q1382_5 rfl hR2.om ((hR2.sc 0).trans (hA2.sc (by decide))) ?_
  refine hr_iload3 (q := 29) X dX5_adds_28 rfl ?_
  refine hr_iastN (q := 30) X dX5_adds_29 rfl (hR2.ka (n := 7) rfl rfl rfl) (by omega) (by decide) ?_
  have hR3 := hR2.setA (k := 11) rfl (A.1.1 0 0) (nI k3)
  have hA3 := hA2.nA (k := 11) (j := A.1.1 0 0) (n := k3) (by decide) rfl
  refine hr_aload0 (q := 31) X dX5_adds_30 rfl ?_
  refine hr_getR (v := am 12) (q := 34) X dX5_adds_31 rfl fr_q1394_5 rfl hR3.om (hR3.f rfl) ?_
  refine hr_aload0 (q := 35) X dX5_adds_34 rfl ?_
  refine hr_getI (v := (nI (A.1.1 0 0))) (q := 38) X dX5_adds_35 rfl fr_q1382_5 rfl hR3.om ((hR3.sc 0).trans (hA3.sc (by decide))) ?_
  refine hr_iload4 (q := 40) X dX5_adds_38 rfl ?_
  refine hr_iastN (q := 41) X dX5_adds_40 rfl (hR3.ka (n := 7) rfl rfl rfl) (by omega) (by decide) ?_
  have hR4 := hR3.setA (k := 12) rfl (A.1.1 0 0) (nI k4)
  have hA4 := hA3.nA (k := 12) (j := A.1.1 0 0) (n := k4) (by decide) rfl
  refine hr_aload0 (q := 42) X dX5_adds_41 rfl ?_
  refine hr_getR (v := am 13) (q := 45) X dX5_adds_42 rfl fr_q1395_5 rfl hR4.om (hR4.f rfl) ?_
  refine hr_aload0 (q := 46) X dX5_adds_45 rfl ?_
  refine hr_getI (v := (nI (A.1.1 0 0))) (q := 49) X dX5_adds_46 rfl fr_q1382_5 rfl hR4.om ((hR4.sc 0).trans (hA4.sc (by decide))) ?_
  refine hr_iload5 (q := 51) X dX5_adds_49 rfl ?_
  refine hr_iastN (q := 52) X dX5_adds_51 rfl (hR4.ka (n := 7) rfl rfl rfl) (by omega) (by decide) ?_
  have hR5 := hR4.setA (k := 13) rfl (A.1.1 0 0) (nI k5)
  have hA5 := hA4.nA (k := 13) (j := A.1.1 0 0) (n := k5) (by decide) rfl
  refine hr_aload0 (q := 53) X dX5_adds_52 rfl ?_
  refine hr_getR (v := am 14) (q := 56) X dX5_adds_53 rfl fr_q1396_5 rfl hR5.om (hR5.f rfl) ?_
  refine hr_aload0 (q := 57) X dX5_adds_56 rfl ?_
  refine hr_getI (v := (nI (A.1.1 0 0))) (q := 60) X dX5_adds_57 rfl fr_q1382_5 rfl hR5.om ((hR5.sc 0).trans (hA5.sc (by decide))) ?_
  refine hr_iload6 (q := 62) X dX5_adds_60 rfl ?_
  refine hr_iastN (q := 63) X dX5_adds_62 rfl (hR5.ka (n := 7) rfl rfl rfl) (by omega) (by decide) ?_
  have hR6 := hR5.setA (k := 14) rfl (A.1.1 0 0) (nI k6)
  have hA6 := hA5.nA (k := 14) (j := A.1.1 0 0) (n := k6) (by decide) rfl
  refine hr_aload0 (q := 64) X dX5_adds_63 rfl ?_
  refine hr_getR (v := am 15) (q := 67) X dX5_adds_64 rfl fr_q1397_5 rfl hR6.om (hR6.f rfl) ?_
  refine hr_aload0 (q := 68) X dX5_adds_67 rfl ?_
  refine hr_getI (v := (nI (A.1.1 0 0))) (q := 71) X dX5_adds_68 rfl fr_q1382_5 rfl hR6.om ((hR6.sc 0).trans (hA6.sc (by decide))) ?_
  refine hr_iconst (v := (nI 0)) (q := 72) X dX5_adds_71 rfl rfl ?_
  refine hr_iastN (q := 73) X dX5_adds_72 rfl (hR6.ka (n := 7) rfl rfl rfl) (by omega) (by decide) ?_
  have hR7 := hR6.setA (k := 15) rfl (A.1.1 0 0) (nI 0)
  have hA7 := hA6.nA (k := 15) (j := A.1.1 0 0) (n := 0) (by decide) rfl
  refine hr_aload0 (q := 74) X dX5_adds_73 rfl ?_
  refine hr_dup (q := 75) X dX5_adds_74 rfl rfl ?_
  refine hr_getI (v := (nI (A.1.1 0 0))) (q := 78) X dX5_adds_75 rfl fr_q1382_5 rfl hR7.om ((hR7.sc 0).trans (hA7.sc (by decide))) ?_
  refine hr_dup_x1 (q := 79) X dX5_adds_78 rfl rfl rfl ?_
  refine hr_iconst (v := (nI 1)) (q := 80) X dX5_adds_79 rfl rfl ?_
  refine hr_iadd (v := (nI (A.1.1 0 0 + 1))) (q := 81) X dX5_adds_80 rfl (nI_add _ _) ?_
  refine hr_putI (q := 84) X dX5_adds_81 rfl fw_q1382_5 (fun h => nomatch h) rfl rfl rfl hR7.om ?_
  have hR8 := hR7.setS 0 (nI (A.1.1 0 0 + 1))
  have hA8 := hA7.nS (k := 0) (n := A.1.1 0 0 + 1) (by decide) rfl
  exact hr_iret X hr dX5_adds_84 (tw_endF (by rw [sq_adds]) hR8 hA8 (fun z h1 h2 => if_neg (by omega)) rfl)

theorem tk_asksF {l : Launch} {D : hg_D} {lo : Nat} (htr : l.stackTraces = false) {G : hg_G} {o : Nat} {am : Nat → Nat} {u : tw_S} {A : ab_S} (hR : tw_R G o am u) (hA : tw_A u A) {a1 : Int32} {a2 : Nat} (hW : ab_wf A) :
    hg_M l D lo yX5_asks (ws_ yX5_asks cX5_asks 3 (none)) rm_X5_asks [.ref o, .int a1, .int (nI a2)] G (tw_PzF o am u (sq_asks a1 a2 A)) := by
  have hw := hW.w; have w0 := hw.b0; have w1 := hw.b1; have w2 := hw.b2; have w3 := hw.b3; have w36 := hW.b36; have w43 := hW.b43
  refine hg_M.of htr (by decide) [some (.ref o), some (.int a1), some (.int (nI a2))] rfl (Nat.le_of_ble_eq_true rfl) ?_
  intro p e s m args below meth c X hr hnm htab
  have X : hg_X p l s m args meth c D lo "TaxOnLooksModel" cX5_asks 3 := X
  refine hr_iload1 (q := 1) X dX5_asks_0 rfl ?_
  refine hr_if_ne (q := 4) (tgt := 12) X dX5_asks_1 rfl (by decide) (fun c1 => ?_) (fun c1 => ?_)
  · refine hr_iload1 (q := 13) X dX5_asks_12 rfl ?_
    refine hr_iconst (v := (nI 1)) (q := 14) X dX5_asks_13 rfl rfl ?_
    refine hr_icmp_ne (q := 17) (tgt := 25) X dX5_asks_14 rfl (by decide) (fun c14 => ?_) (fun c14 => ?_)
    · refine hr_aload0 (q := 26) X dX5_asks_25 rfl ?_
      refine hr_iload2 (q := 27) X dX5_asks_26 rfl ?_
      refine hr_putI (q := 30) X dX5_asks_27 rfl fw_q1385_5 (fun h => nomatch h) rfl rfl rfl hR.om ?_
      have hR1 := hR.setS 3 (nI a2)
      have hA1 := hA.nS (k := 3) (n := a2) (by decide) rfl
      exact hr_vret X hr dX5_asks_30 (tw_endzF (by rw [sq_asks, if_neg c1, if_neg c14]) hR1 hA1 (fun z h1 h2 => if_neg (by omega)) rfl)
    · refine hr_aload0 (q := 18) X dX5_asks_17 rfl ?_
      refine hr_iload2 (q := 19) X dX5_asks_18 rfl ?_
      refine hr_putI (q := 22) X dX5_asks_19 rfl fw_q1384_5 (fun h => nomatch h) rfl rfl rfl hR.om ?_
      have hR2 := hR.setS 2 (nI a2)
      have hA2 := hA.nS (k := 2) (n := a2) (by decide) rfl
      refine hr_goto (tgt := 30) X dX5_asks_22 (by decide) ?_
      exact hr_vret X hr dX5_asks_30 (tw_endzF (by rw [sq_asks, if_neg c1, if_pos c14]) hR2 hA2 (fun z h1 h2 => if_neg (by omega)) rfl)
  · refine hr_aload0 (q := 5) X dX5_asks_4 rfl ?_
    refine hr_iload2 (q := 6) X dX5_asks_5 rfl ?_
    refine hr_putI (q := 9) X dX5_asks_6 rfl fw_q1383_5 (fun h => nomatch h) rfl rfl rfl hR.om ?_
    have hR3 := hR.setS 1 (nI a2)
    have hA3 := hA.nS (k := 1) (n := a2) (by decide) rfl
    refine hr_goto (tgt := 30) X dX5_asks_9 (by decide) ?_
    exact hr_vret X hr dX5_asks_30 (tw_endzF (by rw [sq_asks, if_pos c1]) hR3 hA3 (fun z h1 h2 => if_neg (by omega)) rfl)

theorem tk_item {l : Launch} {D : hg_D} {lo : Nat} (htr : l.stackTraces = false) {G : hg_G} {o : Nat} {am : Nat → Nat} {u : tw_S} {A : ab_S} (hR : tw_R G o am u) (hA : tw_A u A) (hW : ab_wf A) {sh tE tp : Nat} (hs : sh < 8) (hE : tE ≤ 160) (hp : tp ≤ tE) (hC : rd_C u sh tE tp) :
    hg_M l D lo yX5_item (ws_ yX5_item cX5_item 4 ((some FieldType.boolean))) rm_X5_item [.ref o] G (rd_Po o am u sh tE (rd_item (rd_f A sh) tE A tp)) := by
  have hw := hW.w; have w0 := hw.b0; have w1 := hw.b1; have w2 := hw.b2; have w3 := hw.b3; have w36 := hW.b36; have w43 := hW.b43
  refine hg_M.of htr (by decide) [some (.ref o), none, none, none] rfl (Nat.le_of_ble_eq_true rfl) ?_
  intro p e s m args below meth c X hr hnm htab
  have X : hg_X p l s m args meth c D lo "TaxOnLooksModel" cX5_item 4 := X
  refine hr_aload0 (q := 1) X dX5_item_0 rfl ?_
  refine hr_iconst (v := (nI 3)) (q := 2) X dX5_item_1 rfl rfl ?_
  refine hr_callP (q := 5) (hc_V (n := 1) (ci := 5) (As := [.int (nI 3)]) X dX5_item_2 rfl (tk_stands3 X.tr hR hA hW hs hE hp hC) q1631 cv_X5_stands ⟨Nat.le_of_ble_eq_true rfl, Nat.le_of_ble_eq_true rfl⟩ rfl (Nat.le_of_ble_eq_true rfl) hR.om rfl rfl) rfl ?_
  refine hr_ifB_eq (q := 8) (tgt := 26) X dX5_item_5 rfl (by decide) (fun c5 => ?_) (fun c5 => ?_)
  · have hnp : ¬ (rd_mat (rd_f A sh) tE (rd_w 3) tp = tp + 6 ∧ A.1.1 0 0 = 7) := fun z => absurd (beq_iff_eq.mpr z.1) (by rw [c5]; decide)
    refine hr_aload0 (q := 27) X dX5_item_26 rfl ?_
    refine hr_call0 (q := 30) (hc_V (n := 0) (ci := 5) (As := []) X dX5_item_27 rfl (tk_word X.tr hR hA hW hs hE hp hC) q1639 cv_X5_word ⟨Nat.le_of_ble_eq_true rfl, Nat.le_of_ble_eq_true rfl⟩ rfl (Nat.le_of_ble_eq_true rfl) hR.om rfl rfl) rfl (fun qx E G' hp => by cases hp.1) (fun r Gd hp _ => ?_)
    obtain ⟨hvd, ud, hRd, hAd, hwC, hwN, hfd⟩ := hp
    cases hvd
    have hwl := rd_wd_lt (rd_f A sh) tE tp
    refine hr_istore1 (q := 31) X dX5_item_30 rfl rfl (Nat.le_of_ble_eq_true rfl) ?_
    refine hr_iload1 (q := 32) X dX5_item_31 rfl ?_
    refine hr_iconst (v := (-1)) (q := 33) X dX5_item_32 rfl rfl ?_
    refine hr_icmpO_ne (q := 36) (tgt := 38) X dX5_item_33 rfl (by decide) (by omega) (fun c33 => ?_) (fun c33 => ?_)
    · have hws := rd_wd_s c33; have hsl := rd_sel_lt (rd_f A sh) tE tp
      have hC1 := hwC c33
      obtain ⟨k, hk⟩ : ∃ k, k = rd_sel (rd_f A sh) tE tp := ⟨_, rfl⟩
      rw [← hk] at hsl hC1
      have hwk : rd_wd (rd_f A sh) tE tp = k := hws.2.trans hk.symm
      have hfu : rd_full (rd_f A sh) tE tp k = true := by rw [hk]; exact hws.1
      have hq0 : tp + (rd_v k).length ≤ tE := by have := (rd_mat_le (rd_f A sh) tE (rd_v k) tp).2.2 hp; rw [beq_iff_eq.mp hfu] at this; exact this
      have hN := rd_nlt k hsl
      refine hr_L (L' := [some (.ref o), some (.int (nI k)), none, none]) (by rw [hwk, oI_of (by omega)]) ?_
      refine hr_iconst (v := (nI 0)) (q := 39) X dX5_item_38 rfl rfl ?_
      refine hr_istore2 (q := 40) X dX5_item_39 rfl rfl (Nat.le_of_ble_eq_true rfl) ?_
      have loop40 : ∀ (kr nr n : Nat) (G40 : hg_G) (u40 : tw_S) (i q : Nat) (v : Nat → Nat), tw_R G40 o am u40 → tw_A u40 (A) → (i ≤ sp_nums.getD k 0) → (sp_nums.getD k 0 + 1 ≤ i + n) → (q ≤ tE) → (rd_C u40 sh tE q) → (rd_ns (rd_f A sh) tE A k (sp_nums.getD k 0 - i) i q v = rd_ns (rd_f A sh) tE A k (sp_nums.getD k 0) 0 (tp + (rd_v k).length) (fun _ => 0)) → (∀ j, j < i → u40.2.1 27 j = nI (v j)) → (∀ j, j < i → rd_so A k j (v j) = true ∧ v j < 100) → (u40.2.1 33 = u.2.1 33) → hg_W p l e rm_X5_item s m args below meth c (hg_Q below D lo args s rm_X5_item G (rd_Po o am u sh tE (rd_item (rd_f A sh) tE A tp))) D lo G.1 4 kr nr G40 40 [some (.ref o), some (.int (nI k)), some (.int (nI i)), none] [] := by
        intro kr nr n
        induction n with
        | zero =>
          intro G40 u40 i q v hR40 hA40 h40_0 h40_1 h40_2 h40_3 h40_4 h40_5 h40_6 h40_7
          omega
        | succ n ih40 =>
          intro G40 u40 i q v hR40 hA40 h40_0 h40_1 h40_2 h40_3 h40_4 h40_5 h40_6 h40_7
          refine hr_iload2 (q := 41) X dX5_item_40 rfl ?_
          refine hr_aload0 (q := 42) X dX5_item_41 rfl ?_
          refine hr_getR (v := am 25) (q := 45) X dX5_item_42 rfl fr_q1407_5 rfl hR40.om (hR40.f rfl) ?_
          refine hr_iload1 (q := 46) X dX5_item_45 rfl ?_
          refine hr_ialdN (v := (nI (sp_nums.getD k 0))) (q := 47) X dX5_item_46 rfl (hR40.ka (n := 7) rfl rfl rfl) (Or.inl rfl) (by omega) (by decide) ((hR40.ar rfl _).trans (hA40.w25 (by omega))) ?_
          refine hr_icmpN_ge (q := 50) (tgt := 149) X dX5_item_47 rfl (by decide) (by omega) (by omega) (fun c47 => ?_) (fun c47 => ?_)
          · have hi : i = sp_nums.getD k 0 := by omega
            have hZ : rd_ns (rd_f A sh) tE A k (sp_nums.getD k 0) 0 (tp + (rd_v k).length) (fun _ => 0) = (true, q, v) := by rw [← h40_4, hi, Nat.sub_self]; rfl
            have hv0 := h40_6 0 (by omega)
            refine hr_fg2 ?_
            refine hr_iload1 (q := 150) X dX5_item_149 rfl ?_
            by_cases e150_0 : k = 0
            · refine hr_tableIn (off := 34) (tgt := 184) X dX5_item_150 (by rw [(congrArg nI e150_0)]; decide) (by rw [(congrArg nI e150_0)]; decide) (by rw [(congrArg nI e150_0)]; rfl) (by decide) ?_
              have hv36 := (rd_so_36 (by omega) hv0.1).1
              refine hr_aload0 (q := 185) X dX5_item_184 rfl ?_
              refine hr_getR (v := am 16) (q := 188) X dX5_item_185 rfl fr_q1398_5 rfl hR40.om (hR40.f rfl) ?_
              refine hr_aload0 (q := 189) X dX5_item_188 rfl ?_
              refine hr_getR (v := am 27) (q := 192) X dX5_item_189 rfl fr_q1409_5 rfl hR40.om (hR40.f rfl) ?_
              refine hr_iconst (v := (nI 0)) (q := 193) X dX5_item_192 rfl rfl ?_
              refine hr_ialdN (v := (nI (v 0))) (q := 194) X dX5_item_193 rfl (hR40.ka (n := 6) rfl rfl rfl) (Or.inl rfl) (by omega) (by decide) ((hR40.ar rfl _).trans (h40_5 0 (by omega))) ?_
              refine hr_iconst (v := (nI 1)) (q := 195) X dX5_item_194 rfl rfl ?_
              refine hr_iload1 (q := 196) X dX5_item_195 rfl ?_
              refine hr_isub (v := (nI (1 - k))) (q := 197) X dX5_item_196 rfl (pk_sub (by omega)) ?_
              refine hr_iastN (q := 198) X dX5_item_197 rfl (hR40.ka (n := 36) rfl rfl rfl) (by omega) (by decide) ?_
              have hR1 := hR40.setA (k := 16) rfl (v 0) (nI (1 - k))
              have hA1 := hA40.nA (k := 16) (j := v 0) (n := 1 - k) (by decide) rfl
              refine hr_goto (tgt := 288) X dX5_item_198 (by decide) ?_
              refine hr_iconst (v := (nI 1)) (q := 289) X dX5_item_288 rfl rfl ?_
              have hB : rd_do A k v = ab_n A 16 (v 0) (1 - k) := by rw [rd_do, if_pos e150_0, show 1 - k = 1 by omega]
              exact hr_zret X hr rfl dX5_item_289 (rd_end_y (rd_item_y hnp hk hfu hZ) rfl hR1 (by rw [hB]; exact hA1) ⟨h40_3.1, h40_3.2.1, h40_3.2.2⟩ (h40_7))
            by_cases e150_1 : k = 1
            · refine hr_tableIn (off := 34) (tgt := 184) X dX5_item_150 (by rw [(congrArg nI e150_1)]; decide) (by rw [(congrArg nI e150_1)]; decide) (by rw [(congrArg nI e150_1)]; rfl) (by decide) ?_
              have hv36 := (rd_so_36 (by omega) hv0.1).1
              refine hr_aload0 (q := 185) X dX5_item_184 rfl ?_
              refine hr_getR (v := am 16) (q := 188) X dX5_item_185 rfl fr_q1398_5 rfl hR40.om (hR40.f rfl) ?_
              refine hr_aload0 (q := 189) X dX5_item_188 rfl ?_
              refine hr_getR (v := am 27) (q := 192) X dX5_item_189 rfl fr_q1409_5 rfl hR40.om (hR40.f rfl) ?_
              refine hr_iconst (v := (nI 0)) (q := 193) X dX5_item_192 rfl rfl ?_
              refine hr_ialdN (v := (nI (v 0))) (q := 194) X dX5_item_193 rfl (hR40.ka (n := 6) rfl rfl rfl) (Or.inl rfl) (by omega) (by decide) ((hR40.ar rfl _).trans (h40_5 0 (by omega))) ?_
              refine hr_iconst (v := (nI 1)) (q := 195) X dX5_item_194 rfl rfl ?_
              refine hr_iload1 (q := 196) X dX5_item_195 rfl ?_
              refine hr_isub (v := (nI (1 - k))) (q := 197) X dX5_item_196 rfl (pk_sub (by omega)) ?_
              refine hr_iastN (q := 198) X dX5_item_197 rfl (hR40.ka (n := 36) rfl rfl rfl) (by omega) (by decide) ?_
              have hR2 := hR40.setA (k := 16) rfl (v 0) (nI (1 - k))
              have hA2 := hA40.nA (k := 16) (j := v 0) (n := 1 - k) (by decide) rfl
              refine hr_goto (tgt := 288) X dX5_item_198 (by decide) ?_
              refine hr_iconst (v := (nI 1)) (q := 289) X dX5_item_288 rfl rfl ?_
              have hB : rd_do A k v = ab_n A 16 (v 0) (1 - k) := by rw [rd_do, if_neg e150_0, if_pos e150_1, show 1 - k = 0 by omega]
              exact hr_zret X hr rfl dX5_item_289 (rd_end_y (rd_item_y hnp hk hfu hZ) rfl hR2 (by rw [hB]; exact hA2) ⟨h40_3.1, h40_3.2.1, h40_3.2.2⟩ (h40_7))
            by_cases e150_2 : k = 2
            · refine hr_tableIn (off := 51) (tgt := 201) X dX5_item_150 (by rw [(congrArg nI e150_2)]; decide) (by rw [(congrArg nI e150_2)]; decide) (by rw [(congrArg nI e150_2)]; rfl) (by decide) ?_
              have hv36 := (rd_so_36 (by omega) hv0.1).1
              refine hr_aload0 (q := 202) X dX5_item_201 rfl ?_
              refine hr_getR (v := am 17) (q := 205) X dX5_item_202 rfl fr_q1399_5 rfl hR40.om (hR40.f rfl) ?_
              refine hr_aload0 (q := 206) X dX5_item_205 rfl ?_
              refine hr_getR (v := am 27) (q := 209) X dX5_item_206 rfl fr_q1409_5 rfl hR40.om (hR40.f rfl) ?_
              refine hr_iconst (v := (nI 0)) (q := 210) X dX5_item_209 rfl rfl ?_
              refine hr_ialdN (v := (nI (v 0))) (q := 211) X dX5_item_210 rfl (hR40.ka (n := 6) rfl rfl rfl) (Or.inl rfl) (by omega) (by decide) ((hR40.ar rfl _).trans (h40_5 0 (by omega))) ?_
              refine hr_iconst (v := (nI 1)) (q := 212) X dX5_item_211 rfl rfl ?_
              refine hr_iastN (q := 213) X dX5_item_212 rfl (hR40.ka (n := 36) rfl rfl rfl) (by omega) (by decide) ?_
              have hR3 := hR40.setA (k := 17) rfl (v 0) (nI 1)
              have hA3 := hA40.nA (k := 17) (j := v 0) (n := 1) (by decide) rfl
              refine hr_goto (tgt := 288) X dX5_item_213 (by decide) ?_
              refine hr_iconst (v := (nI 1)) (q := 289) X dX5_item_288 rfl rfl ?_
              have hB : rd_do A k v = ab_n A 17 (v 0) 1 := by rw [rd_do, if_neg e150_0, if_neg e150_1, if_pos e150_2]
              exact hr_zret X hr rfl dX5_item_289 (rd_end_y (rd_item_y hnp hk hfu hZ) rfl hR3 (by rw [hB]; exact hA3) ⟨h40_3.1, h40_3.2.1, h40_3.2.2⟩ (h40_7))
            by_cases e150_3 : k = 3
            · refine hr_tableIn (off := 66) (tgt := 216) X dX5_item_150 (by rw [(congrArg nI e150_3)]; decide) (by rw [(congrArg nI e150_3)]; decide) (by rw [(congrArg nI e150_3)]; rfl) (by decide) ?_
              have h6 : i = 6 := by rw [hi, e150_3]; rfl
              have hp7 : A.1.1 0 0 < 7 := by have h3 := (rd_full_y hfu).1; rw [e150_3] at h3; have hne : ¬ A.1.1 0 0 = 7 := fun z => hnp ⟨h3, z⟩; omega
              refine hr_aload0 (q := 217) X dX5_item_216 rfl ?_
              refine hr_aload0 (q := 218) X dX5_item_217 rfl ?_
              refine hr_getR (v := am 27) (q := 221) X dX5_item_218 rfl fr_q1409_5 rfl hR40.om (hR40.f rfl) ?_
              refine hr_iconst (v := (nI 0)) (q := 222) X dX5_item_221 rfl rfl ?_
              refine hr_ialdN (v := (nI (v 0))) (q := 223) X dX5_item_222 rfl (hR40.ka (n := 6) rfl rfl rfl) (Or.inl rfl) (by omega) (by decide) ((hR40.ar rfl _).trans (h40_5 0 (by omega))) ?_
              refine hr_aload0 (q := 224) X dX5_item_223 rfl ?_
              refine hr_getR (v := am 27) (q := 227) X dX5_item_224 rfl fr_q1409_5 rfl hR40.om (hR40.f rfl) ?_
              refine hr_iconst (v := (nI 1)) (q := 228) X dX5_item_227 rfl rfl ?_
              refine hr_ialdN (v := (nI (v 1))) (q := 229) X dX5_item_228 rfl (hR40.ka (n := 6) rfl rfl rfl) (Or.inl rfl) (by omega) (by decide) ((hR40.ar rfl _).trans (h40_5 1 (by omega))) ?_
              refine hr_aload0 (q := 230) X dX5_item_229 rfl ?_
              refine hr_getR (v := am 27) (q := 233) X dX5_item_230 rfl fr_q1409_5 rfl hR40.om (hR40.f rfl) ?_
              refine hr_iconst (v := (nI 2)) (q := 234) X dX5_item_233 rfl rfl ?_
              refine hr_ialdN (v := (nI (v 2))) (q := 235) X dX5_item_234 rfl (hR40.ka (n := 6) rfl rfl rfl) (Or.inl rfl) (by omega) (by decide) ((hR40.ar rfl _).trans (h40_5 2 (by omega))) ?_
              refine hr_aload0 (q := 236) X dX5_item_235 rfl ?_
              refine hr_getR (v := am 27) (q := 239) X dX5_item_236 rfl fr_q1409_5 rfl hR40.om (hR40.f rfl) ?_
              refine hr_iconst (v := (nI 3)) (q := 240) X dX5_item_239 rfl rfl ?_
              refine hr_ialdN (v := (nI (v 3))) (q := 241) X dX5_item_240 rfl (hR40.ka (n := 6) rfl rfl rfl) (Or.inl rfl) (by omega) (by decide) ((hR40.ar rfl _).trans (h40_5 3 (by omega))) ?_
              refine hr_aload0 (q := 242) X dX5_item_241 rfl ?_
              refine hr_getR (v := am 27) (q := 245) X dX5_item_242 rfl fr_q1409_5 rfl hR40.om (hR40.f rfl) ?_
              refine hr_iconst (v := (nI 4)) (q := 246) X dX5_item_245 rfl rfl ?_
              refine hr_ialdN (v := (nI (v 4))) (q := 247) X dX5_item_246 rfl (hR40.ka (n := 6) rfl rfl rfl) (Or.inl rfl) (by omega) (by decide) ((hR40.ar rfl _).trans (h40_5 4 (by omega))) ?_
              refine hr_aload0 (q := 248) X dX5_item_247 rfl ?_
              refine hr_getR (v := am 27) (q := 251) X dX5_item_248 rfl fr_q1409_5 rfl hR40.om (hR40.f rfl) ?_
              refine hr_iconst (v := (nI 5)) (q := 252) X dX5_item_251 rfl rfl ?_
              refine hr_ialdN (v := (nI (v 5))) (q := 253) X dX5_item_252 rfl (hR40.ka (n := 6) rfl rfl rfl) (Or.inl rfl) (by omega) (by decide) ((hR40.ar rfl _).trans (h40_5 5 (by omega))) ?_
              refine hr_call0 (q := 256) (hc_V (n := 6) (ci := 5) (As := [.int (nI (v 0)), .int (nI (v 1)), .int (nI (v 2)), .int (nI (v 3)), .int (nI (v 4)), .int (nI (v 5))]) X dX5_item_253 rfl (tk_addsF X.tr hR40 hA40 hW hp7 (k1 := v 0) (k2 := v 1) (k3 := v 2) (k4 := v 3) (k5 := v 4) (k6 := v 5)) q1571 cv_X5_adds ⟨Nat.le_of_ble_eq_true rfl, Nat.le_of_ble_eq_true rfl⟩ rfl (Nat.le_of_ble_eq_true rfl) hR40.om rfl rfl) rfl (fun qx E G' hp => by cases hp.1) (fun r Ga hp _ => ?_)
              obtain ⟨hva, ua, hRa, hAa, hfa, hfb⟩ := hp
              cases hva
              have fra := hfb.trans h40_7
              refine hr_pop (q := 257) X dX5_item_256 rfl rfl ?_
              refine hr_goto (tgt := 288) X dX5_item_257 (by decide) ?_
              refine hr_iconst (v := (nI 1)) (q := 289) X dX5_item_288 rfl rfl ?_
              have hB : rd_do A k v = (sq_adds (v 0) (v 1) (v 2) (v 3) (v 4) (v 5) A).2 := by rw [rd_do, if_neg e150_0, if_neg e150_1, if_neg e150_2, if_pos e150_3]
              exact hr_zret X hr rfl dX5_item_289 (rd_end_y (rd_item_y hnp hk hfu hZ) rfl hRa (by rw [hB]; exact hAa) ⟨(hfa 28 (by decide) (by decide)).trans h40_3.1, (hfa 30 (by decide) (by decide)).trans h40_3.2.1, (hfa 29 (by decide) (by decide)).trans h40_3.2.2⟩ (fra))
            by_cases e150_4 : k = 4
            · refine hr_tableIn (off := 110) (tgt := 260) X dX5_item_150 (by rw [(congrArg nI e150_4)]; decide) (by rw [(congrArg nI e150_4)]; decide) (by rw [(congrArg nI e150_4)]; rfl) (by decide) ?_
              have hv7 := rd_so_4 e150_4 hv0.1
              refine hr_aload0 (q := 261) X dX5_item_260 rfl ?_
              refine hr_getR (v := am 15) (q := 264) X dX5_item_261 rfl fr_q1397_5 rfl hR40.om (hR40.f rfl) ?_
              refine hr_aload0 (q := 265) X dX5_item_264 rfl ?_
              refine hr_getR (v := am 27) (q := 268) X dX5_item_265 rfl fr_q1409_5 rfl hR40.om (hR40.f rfl) ?_
              refine hr_iconst (v := (nI 0)) (q := 269) X dX5_item_268 rfl rfl ?_
              refine hr_ialdN (v := (nI (v 0))) (q := 270) X dX5_item_269 rfl (hR40.ka (n := 6) rfl rfl rfl) (Or.inl rfl) (by omega) (by decide) ((hR40.ar rfl _).trans (h40_5 0 (by omega))) ?_
              refine hr_iconst (v := (nI 1)) (q := 271) X dX5_item_270 rfl rfl ?_
              refine hr_iastN (q := 272) X dX5_item_271 rfl (hR40.ka (n := 7) rfl rfl rfl) (by omega) (by decide) ?_
              have hR4 := hR40.setA (k := 15) rfl (v 0) (nI 1)
              have hA4 := hA40.nA (k := 15) (j := v 0) (n := 1) (by decide) rfl
              refine hr_goto (tgt := 288) X dX5_item_272 (by decide) ?_
              refine hr_iconst (v := (nI 1)) (q := 289) X dX5_item_288 rfl rfl ?_
              have hB : rd_do A k v = ab_n A 15 (v 0) 1 := by rw [rd_do, if_neg e150_0, if_neg e150_1, if_neg e150_2, if_neg e150_3, if_pos e150_4]
              exact hr_zret X hr rfl dX5_item_289 (rd_end_y (rd_item_y hnp hk hfu hZ) rfl hR4 (by rw [hB]; exact hA4) ⟨h40_3.1, h40_3.2.1, h40_3.2.2⟩ (h40_7))
            refine hr_tableOut (tgt := 275) X dX5_item_150 (sp_out (n := 5) (by decide) (fun i hi => by match i, hi with | 0, _ => exact (fun z => e150_0 ((nI_eq (by omega) (by omega)).mp z)) | 1, _ => exact (fun z => e150_1 ((nI_eq (by omega) (by omega)).mp z)) | 2, _ => exact (fun z => e150_2 ((nI_eq (by omega) (by omega)).mp z)) | 3, _ => exact (fun z => e150_3 ((nI_eq (by omega) (by omega)).mp z)) | 4, _ => exact (fun z => e150_4 ((nI_eq (by omega) (by omega)).mp z)) | (k + 5), hi => omega)) (by decide) ?_
            refine hr_aload0 (q := 276) X dX5_item_275 rfl ?_
            refine hr_iload1 (q := 277) X dX5_item_276 rfl ?_
            refine hr_iconst (v := (nI 5)) (q := 278) X dX5_item_277 rfl rfl ?_
            refine hr_isub (v := (nI (k - 5))) (q := 279) X dX5_item_278 rfl (pk_sub (by omega)) ?_
            refine hr_aload0 (q := 280) X dX5_item_279 rfl ?_
            refine hr_getR (v := am 27) (q := 283) X dX5_item_280 rfl fr_q1409_5 rfl hR40.om (hR40.f rfl) ?_
            refine hr_iconst (v := (nI 0)) (q := 284) X dX5_item_283 rfl rfl ?_
            refine hr_ialdN (v := (nI (v 0))) (q := 285) X dX5_item_284 rfl (hR40.ka (n := 6) rfl rfl rfl) (Or.inl rfl) (by omega) (by decide) ((hR40.ar rfl _).trans (h40_5 0 (by omega))) ?_
            refine hr_call0 (q := 288) (hc_V (n := 2) (ci := 5) (As := [.int (nI (k - 5)), .int (nI (v 0))]) X dX5_item_285 rfl (tk_asksF X.tr hR40 hA40 hW (a1 := nI (k - 5)) (a2 := v 0)) q1599 cv_X5_asks ⟨Nat.le_of_ble_eq_true rfl, Nat.le_of_ble_eq_true rfl⟩ rfl (Nat.le_of_ble_eq_true rfl) hR40.om rfl rfl) rfl (fun qx E G' hp => by cases hp.1) (fun r Ga hp _ => ?_)
            obtain ⟨hva, ua, hRa, hAa, hfa, hfb⟩ := hp
            cases hva
            have fra := hfb.trans h40_7
            refine hr_iconst (v := (nI 1)) (q := 289) X dX5_item_288 rfl rfl ?_
            have hB : rd_do A k v = sq_asks (nI (k - 5)) (v 0) A := by rw [rd_do, if_neg e150_0, if_neg e150_1, if_neg e150_2, if_neg e150_3, if_neg e150_4]
            exact hr_zret X hr rfl dX5_item_289 (rd_end_y (rd_item_y hnp hk hfu hZ) rfl hRa (by rw [hB]; exact hAa) ⟨(hfa 28 (by decide) (by decide)).trans h40_3.1, (hfa 30 (by decide) (by decide)).trans h40_3.2.1, (hfa 29 (by decide) (by decide)).trans h40_3.2.2⟩ (fra))
          · refine hr_iload2 (q := 51) X dX5_item_50 rfl ?_
            refine hr_ifN_le (q := 54) (tgt := 104) X dX5_item_51 rfl (by decide) (by omega) (fun c51 => ?_) (fun c51 => ?_)
            · refine hr_aload0 (q := 105) X dX5_item_104 rfl ?_
              refine hr_getI (v := (nI q)) (q := 108) X dX5_item_105 rfl fr_q1411_5 rfl hR40.om ((hR40.sc 29).trans (h40_3.2.2)) ?_
              have hQ : (i = 0 ∧ q = q) ∨ (¬ i = 0 ∧ q = q + 1 ∧ rd_is (rd_f A sh) tE q 32 = true) := Or.inl ⟨by omega, rfl⟩
              refine hr_istore3 (q := 109) X dX5_item_108 rfl rfl (Nat.le_of_ble_eq_true rfl) ?_
              refine hr_aload0 (q := 110) X dX5_item_109 rfl ?_
              refine hr_call0 (q := 113) (hc_V (n := 0) (ci := 5) (As := []) X dX5_item_110 rfl (tk_reads X.tr hR40 hA40 hW (sh := sh) (tE := tE) (tp := q) hs hE (by omega) ⟨h40_3.1, h40_3.2.1, h40_3.2.2⟩) q1643 cv_X5_reads ⟨Nat.le_of_ble_eq_true rfl, Nat.le_of_ble_eq_true rfl⟩ rfl (Nat.le_of_ble_eq_true rfl) hR40.om rfl rfl) rfl (fun qx E G' hp => by cases hp.1) (fun r Gr hp _ => ?_)
              obtain ⟨hvr, ur, hRr, hAr, hr1, hr2, hr3, hr4⟩ := hp
              cases hvr
              have hfr := hr3.trans h40_7
              refine hr_ifB_ne (q := 116) (tgt := 118) X dX5_item_113 rfl (by decide) (fun c113 => ?_) (fun c113 => ?_)
              · have hnl := rd_num_lt c113; have hen := rd_end_le c113
                refine hr_aload0 (q := 119) X dX5_item_118 rfl ?_
                refine hr_iload1 (q := 120) X dX5_item_119 rfl ?_
                refine hr_iload2 (q := 121) X dX5_item_120 rfl ?_
                refine hr_callP (q := 124) (hc_V (n := 2) (ci := 5) (As := [.int (nI k), .int (nI i)]) X dX5_item_121 rfl (tk_isSo X.tr hRr hAr hW (k := k) (i := i) (v := rd_num (rd_f A sh) tE q) (by omega) (by omega) (by omega) (hr1 c113).2) q1651 cv_X5_isSo ⟨Nat.le_of_ble_eq_true rfl, Nat.le_of_ble_eq_true rfl⟩ rfl (Nat.le_of_ble_eq_true rfl) hRr.om rfl rfl) rfl ?_
                refine hr_ifB_ne (q := 127) (tgt := 133) X dX5_item_124 rfl (by decide) (fun c124 => ?_) (fun c124 => ?_)
                · refine hr_aload0 (q := 134) X dX5_item_133 rfl ?_
                  refine hr_getR (v := am 27) (q := 137) X dX5_item_134 rfl fr_q1409_5 rfl hRr.om (hRr.f rfl) ?_
                  refine hr_iload2 (q := 138) X dX5_item_137 rfl ?_
                  refine hr_aload0 (q := 139) X dX5_item_138 rfl ?_
                  refine hr_getI (v := (nI (rd_num (rd_f A sh) tE q))) (q := 142) X dX5_item_139 rfl fr_q1413_5 rfl hRr.om ((hRr.sc 31).trans ((hr1 c113).2)) ?_
                  refine hr_iastN (q := 143) X dX5_item_142 rfl (hRr.ka (n := 6) rfl rfl rfl) (by omega) (by decide) ?_
                  have hR5 := hRr.setA (k := 27) rfl i (nI (rd_num (rd_f A sh) tE q))
                  have hA5 := hAr.scA (k := 27) rfl i (nI (rd_num (rd_f A sh) tE q))
                  refine hr_iinc2 (v := (nI (i + 1))) (q := 146) X dX5_item_143 rfl (nI_add _ _) rfl (Nat.le_of_ble_eq_true rfl) ?_
                  refine hr_goto (tgt := 40) X dX5_item_146 (by decide) ?_
                  refine hr_fg3 ?_
                  exact ih40 (hs_I Gr (am 27) i (nI (rd_num (rd_f A sh) tE q))) (tw_setA ur 27 i (nI (rd_num (rd_f A sh) tE q))) (i + 1) (rd_end (rd_f A sh) tE q) (fun j => if j = i then rd_num (rd_f A sh) tE q else v j) hR5 hA5 (by omega) (by omega) (by omega) ⟨(hr1 c113).1.1, (hr1 c113).1.2.1, (hr1 c113).1.2.2⟩ (by rw [← h40_4, show sp_nums.getD k 0 - i = (sp_nums.getD k 0 - (i + 1)) + 1 by omega]; exact (rd_ns_s hQ c113 c124).symm) (sp_ext (fun j hj => (if_neg (by omega)).trans (((congrFun (hr4 c113) j).trans (h40_5 j hj)).trans (congrArg nI (if_neg (by omega)).symm))) ((if_pos rfl).trans (congrArg nI (if_pos rfl).symm))) (sp_ext (fun j hj => by rw [if_neg (by omega)]; exact h40_6 j hj) (by rw [if_pos rfl]; exact ⟨c124, hnl⟩)) hfr
                · refine hr_aload0 (q := 128) X dX5_item_127 rfl ?_
                  refine hr_iload3 (q := 129) X dX5_item_128 rfl ?_
                  refine hr_call0 (q := 132) (hc_V (n := 1) (ci := 5) (As := [.int (nI q)]) X dX5_item_129 rfl (tk_wrong X.tr hRr hAr hW (x := (nI q))) q1635 cv_X5_wrong ⟨Nat.le_of_ble_eq_true rfl, Nat.le_of_ble_eq_true rfl⟩ rfl (Nat.le_of_ble_eq_true rfl) hRr.om rfl rfl) rfl (fun qx E G' hp => by cases hp.1) (fun r Gw6 hp _ => ?_)
                  obtain ⟨hvw6, uw6, hRw6, hAw6, hgw6, hfw6⟩ := hp
                  cases hvw6
                  have frw6 := hfw6.trans (hfr)
                  exact hr_zret X hr (bI_nar _) dX5_item_132 (rd_end_n (rd_item_n hnp hk hfu (h40_4.symm.trans (rd_ns_o (by omega) hQ c113 c124))) rfl hRw6 hAw6 hgw6 (frw6))
              · refine hr_iconst (v := (nI 0)) (q := 117) X dX5_item_116 rfl rfl ?_
                exact hr_zret X hr rfl dX5_item_117 (rd_end_n (rd_item_n hnp hk hfu (h40_4.symm.trans (rd_ns_d (by omega) hQ c113))) rfl hRr hAr (hr2 c113) (hfr))
            · refine hr_aload0 (q := 55) X dX5_item_54 rfl ?_
              refine hr_getI (v := (nI q)) (q := 58) X dX5_item_55 rfl fr_q1411_5 rfl hR40.om ((hR40.sc 29).trans (h40_3.2.2)) ?_
              refine hr_aload0 (q := 59) X dX5_item_58 rfl ?_
              refine hr_getI (v := (nI tE)) (q := 62) X dX5_item_59 rfl fr_q1412_5 rfl hR40.om ((hR40.sc 30).trans (h40_3.2.1)) ?_
              refine hr_icmpN_ge (q := 65) (tgt := 85) X dX5_item_62 rfl (by decide) (by omega) (by omega) (fun c62 => ?_) (fun c62 => ?_)
              · refine hr_aload0 (q := 86) X dX5_item_85 rfl ?_
                refine hr_aload0 (q := 87) X dX5_item_86 rfl ?_
                refine hr_getI (v := (nI q)) (q := 90) X dX5_item_87 rfl fr_q1411_5 rfl hR40.om ((hR40.sc 29).trans (h40_3.2.2)) ?_
                refine hr_call0 (q := 93) (hc_V (n := 1) (ci := 5) (As := [.int (nI q)]) X dX5_item_90 rfl (tk_wrong X.tr hR40 hA40 hW (x := (nI q))) q1635 cv_X5_wrong ⟨Nat.le_of_ble_eq_true rfl, Nat.le_of_ble_eq_true rfl⟩ rfl (Nat.le_of_ble_eq_true rfl) hR40.om rfl rfl) rfl (fun qx E G' hp => by cases hp.1) (fun r Gw7 hp _ => ?_)
                obtain ⟨hvw7, uw7, hRw7, hAw7, hgw7, hfw7⟩ := hp
                cases hvw7
                have frw7 := hfw7.trans (h40_7)
                exact hr_zret X hr (bI_nar _) dX5_item_93 (rd_end_n (rd_item_n hnp hk hfu (h40_4.symm.trans (rd_ns_b (by omega) (by omega) (rd_is_f (fun z => by omega))))) rfl hRw7 hAw7 hgw7 (frw7))
              · refine hr_aload0 (q := 66) X dX5_item_65 rfl ?_
                refine hr_getR (v := am 22) (q := 69) X dX5_item_66 rfl fr_q1404_5 rfl hR40.om (hR40.f rfl) ?_
                refine hr_aload0 (q := 70) X dX5_item_69 rfl ?_
                refine hr_getI (v := (nI (160 * sh))) (q := 73) X dX5_item_70 rfl fr_q1410_5 rfl hR40.om ((hR40.sc 28).trans (h40_3.1)) ?_
                refine hr_aload0 (q := 74) X dX5_item_73 rfl ?_
                refine hr_getI (v := (nI q)) (q := 77) X dX5_item_74 rfl fr_q1411_5 rfl hR40.om ((hR40.sc 29).trans (h40_3.2.2)) ?_
                refine hr_iadd (v := (nI (160 * sh + q))) (q := 78) X dX5_item_77 rfl (nI_add _ _) ?_
                refine hr_laldN (v := (A.2.2.2 (160 * sh + q))) (q := 79) X dX5_item_78 rfl (hR40.ka (n := 1280) rfl rfl rfl) (by omega) (by decide) ((hR40.lg rfl _).trans (hA40.ce _)) ?_
                refine hr_l2i (v := (rd_f A sh q)) (q := 80) X dX5_item_79 rfl rfl ?_
                refine hr_bipush (v := (nI 32)) (q := 82) X dX5_item_80 rfl rfl ?_
                refine hr_icmp_eq (q := 85) (tgt := 94) X dX5_item_82 rfl (by decide) (fun c82 => ?_) (fun c82 => ?_)
                · refine hr_aload0 (q := 95) X dX5_item_94 rfl ?_
                  refine hr_dup (q := 96) X dX5_item_95 rfl rfl ?_
                  refine hr_getI (v := (nI q)) (q := 99) X dX5_item_96 rfl fr_q1411_5 rfl hR40.om ((hR40.sc 29).trans (h40_3.2.2)) ?_
                  refine hr_iconst (v := (nI 1)) (q := 100) X dX5_item_99 rfl rfl ?_
                  refine hr_iadd (v := (nI (q + 1))) (q := 101) X dX5_item_100 rfl (nI_add _ _) ?_
                  refine hr_putI (q := 104) X dX5_item_101 rfl fw_q1411_5 (fun h => nomatch h) rfl rfl rfl hR40.om ?_
                  have hR8 := hR40.setS 29 (nI (q + 1))
                  have hA8 := hA40.scS (k := 29) rfl (nI (q + 1))
                  refine hr_aload0 (q := 105) X dX5_item_104 rfl ?_
                  refine hr_getI (v := (nI (q + 1))) (q := 108) X dX5_item_105 rfl fr_q1411_5 rfl hR8.om (hR8.sc 29) ?_
                  have hQ : (i = 0 ∧ (q + 1) = q) ∨ (¬ i = 0 ∧ (q + 1) = q + 1 ∧ rd_is (rd_f A sh) tE q 32 = true) := Or.inr ⟨by omega, rfl, rd_is_b.mpr ⟨by omega, c82⟩⟩
                  refine hr_istore3 (q := 109) X dX5_item_108 rfl rfl (Nat.le_of_ble_eq_true rfl) ?_
                  refine hr_aload0 (q := 110) X dX5_item_109 rfl ?_
                  refine hr_call0 (q := 113) (hc_V (n := 0) (ci := 5) (As := []) X dX5_item_110 rfl (tk_reads X.tr hR8 hA8 hW (sh := sh) (tE := tE) (tp := (q + 1)) hs hE (by omega) ⟨h40_3.1, h40_3.2.1, rfl⟩) q1643 cv_X5_reads ⟨Nat.le_of_ble_eq_true rfl, Nat.le_of_ble_eq_true rfl⟩ rfl (Nat.le_of_ble_eq_true rfl) hR8.om rfl rfl) rfl (fun qx E G' hp => by cases hp.1) (fun r Gr hp _ => ?_)
                  obtain ⟨hvr, ur, hRr, hAr, hr1, hr2, hr3, hr4⟩ := hp
                  cases hvr
                  have hfr := hr3.trans h40_7
                  refine hr_ifB_ne (q := 116) (tgt := 118) X dX5_item_113 rfl (by decide) (fun c113 => ?_) (fun c113 => ?_)
                  · have hnl := rd_num_lt c113; have hen := rd_end_le c113
                    refine hr_aload0 (q := 119) X dX5_item_118 rfl ?_
                    refine hr_iload1 (q := 120) X dX5_item_119 rfl ?_
                    refine hr_iload2 (q := 121) X dX5_item_120 rfl ?_
                    refine hr_callP (q := 124) (hc_V (n := 2) (ci := 5) (As := [.int (nI k), .int (nI i)]) X dX5_item_121 rfl (tk_isSo X.tr hRr hAr hW (k := k) (i := i) (v := rd_num (rd_f A sh) tE (q + 1)) (by omega) (by omega) (by omega) (hr1 c113).2) q1651 cv_X5_isSo ⟨Nat.le_of_ble_eq_true rfl, Nat.le_of_ble_eq_true rfl⟩ rfl (Nat.le_of_ble_eq_true rfl) hRr.om rfl rfl) rfl ?_
                    refine hr_ifB_ne (q := 127) (tgt := 133) X dX5_item_124 rfl (by decide) (fun c124 => ?_) (fun c124 => ?_)
                    · refine hr_aload0 (q := 134) X dX5_item_133 rfl ?_
                      refine hr_getR (v := am 27) (q := 137) X dX5_item_134 rfl fr_q1409_5 rfl hRr.om (hRr.f rfl) ?_
                      refine hr_iload2 (q := 138) X dX5_item_137 rfl ?_
                      refine hr_aload0 (q := 139) X dX5_item_138 rfl ?_
                      refine hr_getI (v := (nI (rd_num (rd_f A sh) tE (q + 1)))) (q := 142) X dX5_item_139 rfl fr_q1413_5 rfl hRr.om ((hRr.sc 31).trans ((hr1 c113).2)) ?_
                      refine hr_iastN (q := 143) X dX5_item_142 rfl (hRr.ka (n := 6) rfl rfl rfl) (by omega) (by decide) ?_
                      have hR9 := hRr.setA (k := 27) rfl i (nI (rd_num (rd_f A sh) tE (q + 1)))
                      have hA9 := hAr.scA (k := 27) rfl i (nI (rd_num (rd_f A sh) tE (q + 1)))
                      refine hr_iinc2 (v := (nI (i + 1))) (q := 146) X dX5_item_143 rfl (nI_add _ _) rfl (Nat.le_of_ble_eq_true rfl) ?_
                      refine hr_goto (tgt := 40) X dX5_item_146 (by decide) ?_
                      refine hr_fg3 ?_
                      exact ih40 (hs_I Gr (am 27) i (nI (rd_num (rd_f A sh) tE (q + 1)))) (tw_setA ur 27 i (nI (rd_num (rd_f A sh) tE (q + 1)))) (i + 1) (rd_end (rd_f A sh) tE (q + 1)) (fun j => if j = i then rd_num (rd_f A sh) tE (q + 1) else v j) hR9 hA9 (by omega) (by omega) (by omega) ⟨(hr1 c113).1.1, (hr1 c113).1.2.1, (hr1 c113).1.2.2⟩ (by rw [← h40_4, show sp_nums.getD k 0 - i = (sp_nums.getD k 0 - (i + 1)) + 1 by omega]; exact (rd_ns_s hQ c113 c124).symm) (sp_ext (fun j hj => (if_neg (by omega)).trans (((congrFun (hr4 c113) j).trans (h40_5 j hj)).trans (congrArg nI (if_neg (by omega)).symm))) ((if_pos rfl).trans (congrArg nI (if_pos rfl).symm))) (sp_ext (fun j hj => by rw [if_neg (by omega)]; exact h40_6 j hj) (by rw [if_pos rfl]; exact ⟨c124, hnl⟩)) hfr
                    · refine hr_aload0 (q := 128) X dX5_item_127 rfl ?_
                      refine hr_iload3 (q := 129) X dX5_item_128 rfl ?_
                      refine hr_call0 (q := 132) (hc_V (n := 1) (ci := 5) (As := [.int (nI (q + 1))]) X dX5_item_129 rfl (tk_wrong X.tr hRr hAr hW (x := (nI (q + 1)))) q1635 cv_X5_wrong ⟨Nat.le_of_ble_eq_true rfl, Nat.le_of_ble_eq_true rfl⟩ rfl (Nat.le_of_ble_eq_true rfl) hRr.om rfl rfl) rfl (fun qx E G' hp => by cases hp.1) (fun r Gw10 hp _ => ?_)
                      obtain ⟨hvw10, uw10, hRw10, hAw10, hgw10, hfw10⟩ := hp
                      cases hvw10
                      have frw10 := hfw10.trans (hfr)
                      exact hr_zret X hr (bI_nar _) dX5_item_132 (rd_end_n (rd_item_n hnp hk hfu (h40_4.symm.trans (rd_ns_o (by omega) hQ c113 c124))) rfl hRw10 hAw10 hgw10 (frw10))
                  · refine hr_iconst (v := (nI 0)) (q := 117) X dX5_item_116 rfl rfl ?_
                    exact hr_zret X hr rfl dX5_item_117 (rd_end_n (rd_item_n hnp hk hfu (h40_4.symm.trans (rd_ns_d (by omega) hQ c113))) rfl hRr hAr (hr2 c113) (hfr))
                · refine hr_aload0 (q := 86) X dX5_item_85 rfl ?_
                  refine hr_aload0 (q := 87) X dX5_item_86 rfl ?_
                  refine hr_getI (v := (nI q)) (q := 90) X dX5_item_87 rfl fr_q1411_5 rfl hR40.om ((hR40.sc 29).trans (h40_3.2.2)) ?_
                  refine hr_call0 (q := 93) (hc_V (n := 1) (ci := 5) (As := [.int (nI q)]) X dX5_item_90 rfl (tk_wrong X.tr hR40 hA40 hW (x := (nI q))) q1635 cv_X5_wrong ⟨Nat.le_of_ble_eq_true rfl, Nat.le_of_ble_eq_true rfl⟩ rfl (Nat.le_of_ble_eq_true rfl) hR40.om rfl rfl) rfl (fun qx E G' hp => by cases hp.1) (fun r Gw11 hp _ => ?_)
                  obtain ⟨hvw11, uw11, hRw11, hAw11, hgw11, hfw11⟩ := hp
                  cases hvw11
                  have frw11 := hfw11.trans (h40_7)
                  exact hr_zret X hr (bI_nar _) dX5_item_93 (rd_end_n (rd_item_n hnp hk hfu (h40_4.symm.trans (rd_ns_b (by omega) (by omega) (rd_is_f (fun z => c82 z.2))))) rfl hRw11 hAw11 hgw11 (frw11))
      exact loop40 _ _ (sp_nums.getD k 0 + 1) Gd ud 0 (tp + (rd_v k).length) (fun _ => 0) hRd hAd (by omega) (by omega) hq0 hC1 rfl (fun j hj => absurd hj (Nat.not_lt_zero _)) (fun j hj => absurd hj (Nat.not_lt_zero _)) (hfd)
    · refine hr_iconst (v := (nI 0)) (q := 37) X dX5_item_36 rfl rfl ?_
      exact hr_zret X hr rfl dX5_item_37 (rd_end_n (rd_item_w hnp (rd_wd_99 c33)) rfl hRd hAd (hwN c33) (hfd))
  · have hst : rd_mat (rd_f A sh) tE (rd_w 3) tp = tp + 6 := beq_iff_eq.mp c5
    refine hr_aload0 (q := 9) X dX5_item_8 rfl ?_
    refine hr_getI (v := (nI (A.1.1 0 0))) (q := 12) X dX5_item_9 rfl fr_q1382_5 rfl hR.om ((hR.sc 0).trans (hA.sc (by decide))) ?_
    refine hr_bipush (v := (nI 7)) (q := 14) X dX5_item_12 rfl rfl ?_
    refine hr_icmpN_ne (q := 17) (tgt := 26) X dX5_item_14 rfl (by decide) (by omega) (by omega) (fun c14 => ?_) (fun c14 => ?_)
    · have hnp : ¬ (rd_mat (rd_f A sh) tE (rd_w 3) tp = tp + 6 ∧ A.1.1 0 0 = 7) := fun z => absurd z.2 (by omega)
      refine hr_aload0 (q := 27) X dX5_item_26 rfl ?_
      refine hr_call0 (q := 30) (hc_V (n := 0) (ci := 5) (As := []) X dX5_item_27 rfl (tk_word X.tr hR hA hW hs hE hp hC) q1639 cv_X5_word ⟨Nat.le_of_ble_eq_true rfl, Nat.le_of_ble_eq_true rfl⟩ rfl (Nat.le_of_ble_eq_true rfl) hR.om rfl rfl) rfl (fun qx E G' hp => by cases hp.1) (fun r Gd hp _ => ?_)
      obtain ⟨hvd, ud, hRd, hAd, hwC, hwN, hfd⟩ := hp
      cases hvd
      have hwl := rd_wd_lt (rd_f A sh) tE tp
      refine hr_istore1 (q := 31) X dX5_item_30 rfl rfl (Nat.le_of_ble_eq_true rfl) ?_
      refine hr_iload1 (q := 32) X dX5_item_31 rfl ?_
      refine hr_iconst (v := (-1)) (q := 33) X dX5_item_32 rfl rfl ?_
      refine hr_icmpO_ne (q := 36) (tgt := 38) X dX5_item_33 rfl (by decide) (by omega) (fun c33 => ?_) (fun c33 => ?_)
      · have hws := rd_wd_s c33; have hsl := rd_sel_lt (rd_f A sh) tE tp
        have hC1 := hwC c33
        obtain ⟨k, hk⟩ : ∃ k, k = rd_sel (rd_f A sh) tE tp := ⟨_, rfl⟩
        rw [← hk] at hsl hC1
        have hwk : rd_wd (rd_f A sh) tE tp = k := hws.2.trans hk.symm
        have hfu : rd_full (rd_f A sh) tE tp k = true := by rw [hk]; exact hws.1
        have hq0 : tp + (rd_v k).length ≤ tE := by have := (rd_mat_le (rd_f A sh) tE (rd_v k) tp).2.2 hp; rw [beq_iff_eq.mp hfu] at this; exact this
        have hN := rd_nlt k hsl
        refine hr_L (L' := [some (.ref o), some (.int (nI k)), none, none]) (by rw [hwk, oI_of (by omega)]) ?_
        refine hr_iconst (v := (nI 0)) (q := 39) X dX5_item_38 rfl rfl ?_
        refine hr_istore2 (q := 40) X dX5_item_39 rfl rfl (Nat.le_of_ble_eq_true rfl) ?_
        have loop40 : ∀ (kr nr n : Nat) (G40 : hg_G) (u40 : tw_S) (i q : Nat) (v : Nat → Nat), tw_R G40 o am u40 → tw_A u40 (A) → (i ≤ sp_nums.getD k 0) → (sp_nums.getD k 0 + 1 ≤ i + n) → (q ≤ tE) → (rd_C u40 sh tE q) → (rd_ns (rd_f A sh) tE A k (sp_nums.getD k 0 - i) i q v = rd_ns (rd_f A sh) tE A k (sp_nums.getD k 0) 0 (tp + (rd_v k).length) (fun _ => 0)) → (∀ j, j < i → u40.2.1 27 j = nI (v j)) → (∀ j, j < i → rd_so A k j (v j) = true ∧ v j < 100) → (u40.2.1 33 = u.2.1 33) → hg_W p l e rm_X5_item s m args below meth c (hg_Q below D lo args s rm_X5_item G (rd_Po o am u sh tE (rd_item (rd_f A sh) tE A tp))) D lo G.1 4 kr nr G40 40 [some (.ref o), some (.int (nI k)), some (.int (nI i)), none] [] := by
          intro kr nr n
          induction n with
          | zero =>
            intro G40 u40 i q v hR40 hA40 h40_0 h40_1 h40_2 h40_3 h40_4 h40_5 h40_6 h40_7
            omega
          | succ n ih40 =>
            intro G40 u40 i q v hR40 hA40 h40_0 h40_1 h40_2 h40_3 h40_4 h40_5 h40_6 h40_7
            refine hr_iload2 (q := 41) X dX5_item_40 rfl ?_
            refine hr_aload0 (q := 42) X dX5_item_41 rfl ?_
            refine hr_getR (v := am 25) (q := 45) X dX5_item_42 rfl fr_q1407_5 rfl hR40.om (hR40.f rfl) ?_
            refine hr_iload1 (q := 46) X dX5_item_45 rfl ?_
            refine hr_ialdN (v := (nI (sp_nums.getD k 0))) (q := 47) X dX5_item_46 rfl (hR40.ka (n := 7) rfl rfl rfl) (Or.inl rfl) (by omega) (by decide) ((hR40.ar rfl _).trans (hA40.w25 (by omega))) ?_
            refine hr_icmpN_ge (q := 50) (tgt := 149) X dX5_item_47 rfl (by decide) (by omega) (by omega) (fun c47 => ?_) (fun c47 => ?_)
            · have hi : i = sp_nums.getD k 0 := by omega
              have hZ : rd_ns (rd_f A sh) tE A k (sp_nums.getD k 0) 0 (tp + (rd_v k).length) (fun _ => 0) = (true, q, v) := by rw [← h40_4, hi, Nat.sub_self]; rfl
              have hv0 := h40_6 0 (by omega)
              refine hr_fg2 ?_
              refine hr_iload1 (q := 150) X dX5_item_149 rfl ?_
              by_cases e150_0 : k = 0
              · refine hr_tableIn (off := 34) (tgt := 184) X dX5_item_150 (by rw [(congrArg nI e150_0)]; decide) (by rw [(congrArg nI e150_0)]; decide) (by rw [(congrArg nI e150_0)]; rfl) (by decide) ?_
                have hv36 := (rd_so_36 (by omega) hv0.1).1
                refine hr_aload0 (q := 185) X dX5_item_184 rfl ?_
                refine hr_getR (v := am 16) (q := 188) X dX5_item_185 rfl fr_q1398_5 rfl hR40.om (hR40.f rfl) ?_
                refine hr_aload0 (q := 189) X dX5_item_188 rfl ?_
                refine hr_getR (v := am 27) (q := 192) X dX5_item_189 rfl fr_q1409_5 rfl hR40.om (hR40.f rfl) ?_
                refine hr_iconst (v := (nI 0)) (q := 193) X dX5_item_192 rfl rfl ?_
                refine hr_ialdN (v := (nI (v 0))) (q := 194) X dX5_item_193 rfl (hR40.ka (n := 6) rfl rfl rfl) (Or.inl rfl) (by omega) (by decide) ((hR40.ar rfl _).trans (h40_5 0 (by omega))) ?_
                refine hr_iconst (v := (nI 1)) (q := 195) X dX5_item_194 rfl rfl ?_
                refine hr_iload1 (q := 196) X dX5_item_195 rfl ?_
                refine hr_isub (v := (nI (1 - k))) (q := 197) X dX5_item_196 rfl (pk_sub (by omega)) ?_
                refine hr_iastN (q := 198) X dX5_item_197 rfl (hR40.ka (n := 36) rfl rfl rfl) (by omega) (by decide) ?_
                have hR12 := hR40.setA (k := 16) rfl (v 0) (nI (1 - k))
                have hA12 := hA40.nA (k := 16) (j := v 0) (n := 1 - k) (by decide) rfl
                refine hr_goto (tgt := 288) X dX5_item_198 (by decide) ?_
                refine hr_iconst (v := (nI 1)) (q := 289) X dX5_item_288 rfl rfl ?_
                have hB : rd_do A k v = ab_n A 16 (v 0) (1 - k) := by rw [rd_do, if_pos e150_0, show 1 - k = 1 by omega]
                exact hr_zret X hr rfl dX5_item_289 (rd_end_y (rd_item_y hnp hk hfu hZ) rfl hR12 (by rw [hB]; exact hA12) ⟨h40_3.1, h40_3.2.1, h40_3.2.2⟩ (h40_7))
              by_cases e150_1 : k = 1
              · refine hr_tableIn (off := 34) (tgt := 184) X dX5_item_150 (by rw [(congrArg nI e150_1)]; decide) (by rw [(congrArg nI e150_1)]; decide) (by rw [(congrArg nI e150_1)]; rfl) (by decide) ?_
                have hv36 := (rd_so_36 (by omega) hv0.1).1
                refine hr_aload0 (q := 185) X dX5_item_184 rfl ?_
                refine hr_getR (v := am 16) (q := 188) X dX5_item_185 rfl fr_q1398_5 rfl hR40.om (hR40.f rfl) ?_
                refine hr_aload0 (q := 189) X dX5_item_188 rfl ?_
                refine hr_getR (v := am 27) (q := 192) X dX5_item_189 rfl fr_q1409_5 rfl hR40.om (hR40.f rfl) ?_
                refine hr_iconst (v := (nI 0)) (q := 193) X dX5_item_192 rfl rfl ?_
                refine hr_ialdN (v := (nI (v 0))) (q := 194) X dX5_item_193 rfl (hR40.ka (n := 6) rfl rfl rfl) (Or.inl rfl) (by omega) (by decide) ((hR40.ar rfl _).trans (h40_5 0 (by omega))) ?_
                refine hr_iconst (v := (nI 1)) (q := 195) X dX5_item_194 rfl rfl ?_
                refine hr_iload1 (q := 196) X dX5_item_195 rfl ?_
                refine hr_isub (v := (nI (1 - k))) (q := 197) X dX5_item_196 rfl (pk_sub (by omega)) ?_
                refine hr_iastN (q := 198) X dX5_item_197 rfl (hR40.ka (n := 36) rfl rfl rfl) (by omega) (by decide) ?_
                have hR13 := hR40.setA (k := 16) rfl (v 0) (nI (1 - k))
                have hA13 := hA40.nA (k := 16) (j := v 0) (n := 1 - k) (by decide) rfl
                refine hr_goto (tgt := 288) X dX5_item_198 (by decide) ?_
                refine hr_iconst (v := (nI 1)) (q := 289) X dX5_item_288 rfl rfl ?_
                have hB : rd_do A k v = ab_n A 16 (v 0) (1 - k) := by rw [rd_do, if_neg e150_0, if_pos e150_1, show 1 - k = 0 by omega]
                exact hr_zret X hr rfl dX5_item_289 (rd_end_y (rd_item_y hnp hk hfu hZ) rfl hR13 (by rw [hB]; exact hA13) ⟨h40_3.1, h40_3.2.1, h40_3.2.2⟩ (h40_7))
              by_cases e150_2 : k = 2
              · refine hr_tableIn (off := 51) (tgt := 201) X dX5_item_150 (by rw [(congrArg nI e150_2)]; decide) (by rw [(congrArg nI e150_2)]; decide) (by rw [(congrArg nI e150_2)]; rfl) (by decide) ?_
                have hv36 := (rd_so_36 (by omega) hv0.1).1
                refine hr_aload0 (q := 202) X dX5_item_201 rfl ?_
                refine hr_getR (v := am 17) (q := 205) X dX5_item_202 rfl fr_q1399_5 rfl hR40.om (hR40.f rfl) ?_
                refine hr_aload0 (q := 206) X dX5_item_205 rfl ?_
                refine hr_getR (v := am 27) (q := 209) X dX5_item_206 rfl fr_q1409_5 rfl hR40.om (hR40.f rfl) ?_
                refine hr_iconst (v := (nI 0)) (q := 210) X dX5_item_209 rfl rfl ?_
                refine hr_ialdN (v := (nI (v 0))) (q := 211) X dX5_item_210 rfl (hR40.ka (n := 6) rfl rfl rfl) (Or.inl rfl) (by omega) (by decide) ((hR40.ar rfl _).trans (h40_5 0 (by omega))) ?_
                refine hr_iconst (v := (nI 1)) (q := 212) X dX5_item_211 rfl rfl ?_
                refine hr_iastN (q := 213) X dX5_item_212 rfl (hR40.ka (n := 36) rfl rfl rfl) (by omega) (by decide) ?_
                have hR14 := hR40.setA (k := 17) rfl (v 0) (nI 1)
                have hA14 := hA40.nA (k := 17) (j := v 0) (n := 1) (by decide) rfl
                refine hr_goto (tgt := 288) X dX5_item_213 (by decide) ?_
                refine hr_iconst (v := (nI 1)) (q := 289) X dX5_item_288 rfl rfl ?_
                have hB : rd_do A k v = ab_n A 17 (v 0) 1 := by rw [rd_do, if_neg e150_0, if_neg e150_1, if_pos e150_2]
                exact hr_zret X hr rfl dX5_item_289 (rd_end_y (rd_item_y hnp hk hfu hZ) rfl hR14 (by rw [hB]; exact hA14) ⟨h40_3.1, h40_3.2.1, h40_3.2.2⟩ (h40_7))
              by_cases e150_3 : k = 3
              · refine hr_tableIn (off := 66) (tgt := 216) X dX5_item_150 (by rw [(congrArg nI e150_3)]; decide) (by rw [(congrArg nI e150_3)]; decide) (by rw [(congrArg nI e150_3)]; rfl) (by decide) ?_
                have h6 : i = 6 := by rw [hi, e150_3]; rfl
                have hp7 : A.1.1 0 0 < 7 := by have h3 := (rd_full_y hfu).1; rw [e150_3] at h3; have hne : ¬ A.1.1 0 0 = 7 := fun z => hnp ⟨h3, z⟩; omega
                refine hr_aload0 (q := 217) X dX5_item_216 rfl ?_
                refine hr_aload0 (q := 218) X dX5_item_217 rfl ?_
                refine hr_getR (v := am 27) (q := 221) X dX5_item_218 rfl fr_q1409_5 rfl hR40.om (hR40.f rfl) ?_
                refine hr_iconst (v := (nI 0)) (q := 222) X dX5_item_221 rfl rfl ?_
                refine hr_ialdN (v := (nI (v 0))) (q := 223) X dX5_item_222 rfl (hR40.ka (n := 6) rfl rfl rfl) (Or.inl rfl) (by omega) (by decide) ((hR40.ar rfl _).trans (h40_5 0 (by omega))) ?_
                refine hr_aload0 (q := 224) X dX5_item_223 rfl ?_
                refine hr_getR (v := am 27) (q := 227) X dX5_item_224 rfl fr_q1409_5 rfl hR40.om (hR40.f rfl) ?_
                refine hr_iconst (v := (nI 1)) (q := 228) X dX5_item_227 rfl rfl ?_
                refine hr_ialdN (v := (nI (v 1))) (q := 229) X dX5_item_228 rfl (hR40.ka (n := 6) rfl rfl rfl) (Or.inl rfl) (by omega) (by decide) ((hR40.ar rfl _).trans (h40_5 1 (by omega))) ?_
                refine hr_aload0 (q := 230) X dX5_item_229 rfl ?_
                refine hr_getR (v := am 27) (q := 233) X dX5_item_230 rfl fr_q1409_5 rfl hR40.om (hR40.f rfl) ?_
                refine hr_iconst (v := (nI 2)) (q := 234) X dX5_item_233 rfl rfl ?_
                refine hr_ialdN (v := (nI (v 2))) (q := 235) X dX5_item_234 rfl (hR40.ka (n := 6) rfl rfl rfl) (Or.inl rfl) (by omega) (by decide) ((hR40.ar rfl _).trans (h40_5 2 (by omega))) ?_
                refine hr_aload0 (q := 236) X dX5_item_235 rfl ?_
                refine hr_getR (v := am 27) (q := 239) X dX5_item_236 rfl fr_q1409_5 rfl hR40.om (hR40.f rfl) ?_
                refine hr_iconst (v := (nI 3)) (q := 240) X dX5_item_239 rfl rfl ?_
                refine hr_ialdN (v := (nI (v 3))) (q := 241) X dX5_item_240 rfl (hR40.ka (n := 6) rfl rfl rfl) (Or.inl rfl) (by omega) (by decide) ((hR40.ar rfl _).trans (h40_5 3 (by omega))) ?_
                refine hr_aload0 (q := 242) X dX5_item_241 rfl ?_
                refine hr_getR (v := am 27) (q := 245) X dX5_item_242 rfl fr_q1409_5 rfl hR40.om (hR40.f rfl) ?_
                refine hr_iconst (v := (nI 4)) (q := 246) X dX5_item_245 rfl rfl ?_
                refine hr_ialdN (v := (nI (v 4))) (q := 247) X dX5_item_246 rfl (hR40.ka (n := 6) rfl rfl rfl) (Or.inl rfl) (by omega) (by decide) ((hR40.ar rfl _).trans (h40_5 4 (by omega))) ?_
                refine hr_aload0 (q := 248) X dX5_item_247 rfl ?_
                refine hr_getR (v := am 27) (q := 251) X dX5_item_248 rfl fr_q1409_5 rfl hR40.om (hR40.f rfl) ?_
                refine hr_iconst (v := (nI 5)) (q := 252) X dX5_item_251 rfl rfl ?_
                refine hr_ialdN (v := (nI (v 5))) (q := 253) X dX5_item_252 rfl (hR40.ka (n := 6) rfl rfl rfl) (Or.inl rfl) (by omega) (by decide) ((hR40.ar rfl _).trans (h40_5 5 (by omega))) ?_
                refine hr_call0 (q := 256) (hc_V (n := 6) (ci := 5) (As := [.int (nI (v 0)), .int (nI (v 1)), .int (nI (v 2)), .int (nI (v 3)), .int (nI (v 4)), .int (nI (v 5))]) X dX5_item_253 rfl (tk_addsF X.tr hR40 hA40 hW hp7 (k1 := v 0) (k2 := v 1) (k3 := v 2) (k4 := v 3) (k5 := v 4) (k6 := v 5)) q1571 cv_X5_adds ⟨Nat.le_of_ble_eq_true rfl, Nat.le_of_ble_eq_true rfl⟩ rfl (Nat.le_of_ble_eq_true rfl) hR40.om rfl rfl) rfl (fun qx E G' hp => by cases hp.1) (fun r Ga hp _ => ?_)
                obtain ⟨hva, ua, hRa, hAa, hfa, hfb⟩ := hp
                cases hva
                have fra := hfb.trans h40_7
                refine hr_pop (q := 257) X dX5_item_256 rfl rfl ?_
                refine hr_goto (tgt := 288) X dX5_item_257 (by decide) ?_
                refine hr_iconst (v := (nI 1)) (q := 289) X dX5_item_288 rfl rfl ?_
                have hB : rd_do A k v = (sq_adds (v 0) (v 1) (v 2) (v 3) (v 4) (v 5) A).2 := by rw [rd_do, if_neg e150_0, if_neg e150_1, if_neg e150_2, if_pos e150_3]
                exact hr_zret X hr rfl dX5_item_289 (rd_end_y (rd_item_y hnp hk hfu hZ) rfl hRa (by rw [hB]; exact hAa) ⟨(hfa 28 (by decide) (by decide)).trans h40_3.1, (hfa 30 (by decide) (by decide)).trans h40_3.2.1, (hfa 29 (by decide) (by decide)).trans h40_3.2.2⟩ (fra))
              by_cases e150_4 : k = 4
              · refine hr_tableIn (off := 110) (tgt := 260) X dX5_item_150 (by rw [(congrArg nI e150_4)]; decide) (by rw [(congrArg nI e150_4)]; decide) (by rw [(congrArg nI e150_4)]; rfl) (by decide) ?_
                have hv7 := rd_so_4 e150_4 hv0.1
                refine hr_aload0 (q := 261) X dX5_item_260 rfl ?_
                refine hr_getR (v := am 15) (q := 264) X dX5_item_261 rfl fr_q1397_5 rfl hR40.om (hR40.f rfl) ?_
                refine hr_aload0 (q := 265) X dX5_item_264 rfl ?_
                refine hr_getR (v := am 27) (q := 268) X dX5_item_265 rfl fr_q1409_5 rfl hR40.om (hR40.f rfl) ?_
                refine hr_iconst (v := (nI 0)) (q := 269) X dX5_item_268 rfl rfl ?_
                refine hr_ialdN (v := (nI (v 0))) (q := 270) X dX5_item_269 rfl (hR40.ka (n := 6) rfl rfl rfl) (Or.inl rfl) (by omega) (by decide) ((hR40.ar rfl _).trans (h40_5 0 (by omega))) ?_
                refine hr_iconst (v := (nI 1)) (q := 271) X dX5_item_270 rfl rfl ?_
                refine hr_iastN (q := 272) X dX5_item_271 rfl (hR40.ka (n := 7) rfl rfl rfl) (by omega) (by decide) ?_
                have hR15 := hR40.setA (k := 15) rfl (v 0) (nI 1)
                have hA15 := hA40.nA (k := 15) (j := v 0) (n := 1) (by decide) rfl
                refine hr_goto (tgt := 288) X dX5_item_272 (by decide) ?_
                refine hr_iconst (v := (nI 1)) (q := 289) X dX5_item_288 rfl rfl ?_
                have hB : rd_do A k v = ab_n A 15 (v 0) 1 := by rw [rd_do, if_neg e150_0, if_neg e150_1, if_neg e150_2, if_neg e150_3, if_pos e150_4]
                exact hr_zret X hr rfl dX5_item_289 (rd_end_y (rd_item_y hnp hk hfu hZ) rfl hR15 (by rw [hB]; exact hA15) ⟨h40_3.1, h40_3.2.1, h40_3.2.2⟩ (h40_7))
              refine hr_tableOut (tgt := 275) X dX5_item_150 (sp_out (n := 5) (by decide) (fun i hi => by match i, hi with | 0, _ => exact (fun z => e150_0 ((nI_eq (by omega) (by omega)).mp z)) | 1, _ => exact (fun z => e150_1 ((nI_eq (by omega) (by omega)).mp z)) | 2, _ => exact (fun z => e150_2 ((nI_eq (by omega) (by omega)).mp z)) | 3, _ => exact (fun z => e150_3 ((nI_eq (by omega) (by omega)).mp z)) | 4, _ => exact (fun z => e150_4 ((nI_eq (by omega) (by omega)).mp z)) | (k + 5), hi => omega)) (by decide) ?_
              refine hr_aload0 (q := 276) X dX5_item_275 rfl ?_
              refine hr_iload1 (q := 277) X dX5_item_276 rfl ?_
              refine hr_iconst (v := (nI 5)) (q := 278) X dX5_item_277 rfl rfl ?_
              refine hr_isub (v := (nI (k - 5))) (q := 279) X dX5_item_278 rfl (pk_sub (by omega)) ?_
              refine hr_aload0 (q := 280) X dX5_item_279 rfl ?_
              refine hr_getR (v := am 27) (q := 283) X dX5_item_280 rfl fr_q1409_5 rfl hR40.om (hR40.f rfl) ?_
              refine hr_iconst (v := (nI 0)) (q := 284) X dX5_item_283 rfl rfl ?_
              refine hr_ialdN (v := (nI (v 0))) (q := 285) X dX5_item_284 rfl (hR40.ka (n := 6) rfl rfl rfl) (Or.inl rfl) (by omega) (by decide) ((hR40.ar rfl _).trans (h40_5 0 (by omega))) ?_
              refine hr_call0 (q := 288) (hc_V (n := 2) (ci := 5) (As := [.int (nI (k - 5)), .int (nI (v 0))]) X dX5_item_285 rfl (tk_asksF X.tr hR40 hA40 hW (a1 := nI (k - 5)) (a2 := v 0)) q1599 cv_X5_asks ⟨Nat.le_of_ble_eq_true rfl, Nat.le_of_ble_eq_true rfl⟩ rfl (Nat.le_of_ble_eq_true rfl) hR40.om rfl rfl) rfl (fun qx E G' hp => by cases hp.1) (fun r Ga hp _ => ?_)
              obtain ⟨hva, ua, hRa, hAa, hfa, hfb⟩ := hp
              cases hva
              have fra := hfb.trans h40_7
              refine hr_iconst (v := (nI 1)) (q := 289) X dX5_item_288 rfl rfl ?_
              have hB : rd_do A k v = sq_asks (nI (k - 5)) (v 0) A := by rw [rd_do, if_neg e150_0, if_neg e150_1, if_neg e150_2, if_neg e150_3, if_neg e150_4]
              exact hr_zret X hr rfl dX5_item_289 (rd_end_y (rd_item_y hnp hk hfu hZ) rfl hRa (by rw [hB]; exact hAa) ⟨(hfa 28 (by decide) (by decide)).trans h40_3.1, (hfa 30 (by decide) (by decide)).trans h40_3.2.1, (hfa 29 (by decide) (by decide)).trans h40_3.2.2⟩ (fra))
            · refine hr_iload2 (q := 51) X dX5_item_50 rfl ?_
              refine hr_ifN_le (q := 54) (tgt := 104) X dX5_item_51 rfl (by decide) (by omega) (fun c51 => ?_) (fun c51 => ?_)
              · refine hr_aload0 (q := 105) X dX5_item_104 rfl ?_
                refine hr_getI (v := (nI q)) (q := 108) X dX5_item_105 rfl fr_q1411_5 rfl hR40.om ((hR40.sc 29).trans (h40_3.2.2)) ?_
                have hQ : (i = 0 ∧ q = q) ∨ (¬ i = 0 ∧ q = q + 1 ∧ rd_is (rd_f A sh) tE q 32 = true) := Or.inl ⟨by omega, rfl⟩
                refine hr_istore3 (q := 109) X dX5_item_108 rfl rfl (Nat.le_of_ble_eq_true rfl) ?_
                refine hr_aload0 (q := 110) X dX5_item_109 rfl ?_
                refine hr_call0 (q := 113) (hc_V (n := 0) (ci := 5) (As := []) X dX5_item_110 rfl (tk_reads X.tr hR40 hA40 hW (sh := sh) (tE := tE) (tp := q) hs hE (by omega) ⟨h40_3.1, h40_3.2.1, h40_3.2.2⟩) q1643 cv_X5_reads ⟨Nat.le_of_ble_eq_true rfl, Nat.le_of_ble_eq_true rfl⟩ rfl (Nat.le_of_ble_eq_true rfl) hR40.om rfl rfl) rfl (fun qx E G' hp => by cases hp.1) (fun r Gr hp _ => ?_)
                obtain ⟨hvr, ur, hRr, hAr, hr1, hr2, hr3, hr4⟩ := hp
                cases hvr
                have hfr := hr3.trans h40_7
                refine hr_ifB_ne (q := 116) (tgt := 118) X dX5_item_113 rfl (by decide) (fun c113 => ?_) (fun c113 => ?_)
                · have hnl := rd_num_lt c113; have hen := rd_end_le c113
                  refine hr_aload0 (q := 119) X dX5_item_118 rfl ?_
                  refine hr_iload1 (q := 120) X dX5_item_119 rfl ?_
                  refine hr_iload2 (q := 121) X dX5_item_120 rfl ?_
                  refine hr_callP (q := 124) (hc_V (n := 2) (ci := 5) (As := [.int (nI k), .int (nI i)]) X dX5_item_121 rfl (tk_isSo X.tr hRr hAr hW (k := k) (i := i) (v := rd_num (rd_f A sh) tE q) (by omega) (by omega) (by omega) (hr1 c113).2) q1651 cv_X5_isSo ⟨Nat.le_of_ble_eq_true rfl, Nat.le_of_ble_eq_true rfl⟩ rfl (Nat.le_of_ble_eq_true rfl) hRr.om rfl rfl) rfl ?_
                  refine hr_ifB_ne (q := 127) (tgt := 133) X dX5_item_124 rfl (by decide) (fun c124 => ?_) (fun c124 => ?_)
                  · refine hr_aload0 (q := 134) X dX5_item_133 rfl ?_
                    refine hr_getR (v := am 27) (q := 137) X dX5_item_134 rfl fr_q1409_5 rfl hRr.om (hRr.f rfl) ?_
                    refine hr_iload2 (q := 138) X dX5_item_137 rfl ?_
                    refine hr_aload0 (q := 139) X dX5_item_138 rfl ?_
                    refine hr_getI (v := (nI (rd_num (rd_f A sh) tE q))) (q := 142) X dX5_item_139 rfl fr_q1413_5 rfl hRr.om ((hRr.sc 31).trans ((hr1 c113).2)) ?_
                    refine hr_iastN (q := 143) X dX5_item_142 rfl (hRr.ka (n := 6) rfl rfl rfl) (by omega) (by decide) ?_
                    have hR16 := hRr.setA (k := 27) rfl i (nI (rd_num (rd_f A sh) tE q))
                    have hA16 := hAr.scA (k := 27) rfl i (nI (rd_num (rd_f A sh) tE q))
                    refine hr_iinc2 (v := (nI (i + 1))) (q := 146) X dX5_item_143 rfl (nI_add _ _) rfl (Nat.le_of_ble_eq_true rfl) ?_
                    refine hr_goto (tgt := 40) X dX5_item_146 (by decide) ?_
                    refine hr_fg3 ?_
                    exact ih40 (hs_I Gr (am 27) i (nI (rd_num (rd_f A sh) tE q))) (tw_setA ur 27 i (nI (rd_num (rd_f A sh) tE q))) (i + 1) (rd_end (rd_f A sh) tE q) (fun j => if j = i then rd_num (rd_f A sh) tE q else v j) hR16 hA16 (by omega) (by omega) (by omega) ⟨(hr1 c113).1.1, (hr1 c113).1.2.1, (hr1 c113).1.2.2⟩ (by rw [← h40_4, show sp_nums.getD k 0 - i = (sp_nums.getD k 0 - (i + 1)) + 1 by omega]; exact (rd_ns_s hQ c113 c124).symm) (sp_ext (fun j hj => (if_neg (by omega)).trans (((congrFun (hr4 c113) j).trans (h40_5 j hj)).trans (congrArg nI (if_neg (by omega)).symm))) ((if_pos rfl).trans (congrArg nI (if_pos rfl).symm))) (sp_ext (fun j hj => by rw [if_neg (by omega)]; exact h40_6 j hj) (by rw [if_pos rfl]; exact ⟨c124, hnl⟩)) hfr
                  · refine hr_aload0 (q := 128) X dX5_item_127 rfl ?_
                    refine hr_iload3 (q := 129) X dX5_item_128 rfl ?_
                    refine hr_call0 (q := 132) (hc_V (n := 1) (ci := 5) (As := [.int (nI q)]) X dX5_item_129 rfl (tk_wrong X.tr hRr hAr hW (x := (nI q))) q1635 cv_X5_wrong ⟨Nat.le_of_ble_eq_true rfl, Nat.le_of_ble_eq_true rfl⟩ rfl (Nat.le_of_ble_eq_true rfl) hRr.om rfl rfl) rfl (fun qx E G' hp => by cases hp.1) (fun r Gw17 hp _ => ?_)
                    obtain ⟨hvw17, uw17, hRw17, hAw17, hgw17, hfw17⟩ := hp
                    cases hvw17
                    have frw17 := hfw17.trans (hfr)
                    exact hr_zret X hr (bI_nar _) dX5_item_132 (rd_end_n (rd_item_n hnp hk hfu (h40_4.symm.trans (rd_ns_o (by omega) hQ c113 c124))) rfl hRw17 hAw17 hgw17 (frw17))
                · refine hr_iconst (v := (nI 0)) (q := 117) X dX5_item_116 rfl rfl ?_
                  exact hr_zret X hr rfl dX5_item_117 (rd_end_n (rd_item_n hnp hk hfu (h40_4.symm.trans (rd_ns_d (by omega) hQ c113))) rfl hRr hAr (hr2 c113) (hfr))
              · refine hr_aload0 (q := 55) X dX5_item_54 rfl ?_
                refine hr_getI (v := (nI q)) (q := 58) X dX5_item_55 rfl fr_q1411_5 rfl hR40.om ((hR40.sc 29).trans (h40_3.2.2)) ?_
                refine hr_aload0 (q := 59) X dX5_item_58 rfl ?_
                refine hr_getI (v := (nI tE)) (q := 62) X dX5_item_59 rfl fr_q1412_5 rfl hR40.om ((hR40.sc 30).trans (h40_3.2.1)) ?_
                refine hr_icmpN_ge (q := 65) (tgt := 85) X dX5_item_62 rfl (by decide) (by omega) (by omega) (fun c62 => ?_) (fun c62 => ?_)
                · refine hr_aload0 (q := 86) X dX5_item_85 rfl ?_
                  refine hr_aload0 (q := 87) X dX5_item_86 rfl ?_
                  refine hr_getI (v := (nI q)) (q := 90) X dX5_item_87 rfl fr_q1411_5 rfl hR40.om ((hR40.sc 29).trans (h40_3.2.2)) ?_
                  refine hr_call0 (q := 93) (hc_V (n := 1) (ci := 5) (As := [.int (nI q)]) X dX5_item_90 rfl (tk_wrong X.tr hR40 hA40 hW (x := (nI q))) q1635 cv_X5_wrong ⟨Nat.le_of_ble_eq_true rfl, Nat.le_of_ble_eq_true rfl⟩ rfl (Nat.le_of_ble_eq_true rfl) hR40.om rfl rfl) rfl (fun qx E G' hp => by cases hp.1) (fun r Gw18 hp _ => ?_)
                  obtain ⟨hvw18, uw18, hRw18, hAw18, hgw18, hfw18⟩ := hp
                  cases hvw18
                  have frw18 := hfw18.trans (h40_7)
                  exact hr_zret X hr (bI_nar _) dX5_item_93 (rd_end_n (rd_item_n hnp hk hfu (h40_4.symm.trans (rd_ns_b (by omega) (by omega) (rd_is_f (fun z => by omega))))) rfl hRw18 hAw18 hgw18 (frw18))
                · refine hr_aload0 (q := 66) X dX5_item_65 rfl ?_
                  refine hr_getR (v := am 22) (q := 69) X dX5_item_66 rfl fr_q1404_5 rfl hR40.om (hR40.f rfl) ?_
                  refine hr_aload0 (q := 70) X dX5_item_69 rfl ?_
                  refine hr_getI (v := (nI (160 * sh))) (q := 73) X dX5_item_70 rfl fr_q1410_5 rfl hR40.om ((hR40.sc 28).trans (h40_3.1)) ?_
                  refine hr_aload0 (q := 74) X dX5_item_73 rfl ?_
                  refine hr_getI (v := (nI q)) (q := 77) X dX5_item_74 rfl fr_q1411_5 rfl hR40.om ((hR40.sc 29).trans (h40_3.2.2)) ?_
                  refine hr_iadd (v := (nI (160 * sh + q))) (q := 78) X dX5_item_77 rfl (nI_add _ _) ?_
                  refine hr_laldN (v := (A.2.2.2 (160 * sh + q))) (q := 79) X dX5_item_78 rfl (hR40.ka (n := 1280) rfl rfl rfl) (by omega) (by decide) ((hR40.lg rfl _).trans (hA40.ce _)) ?_
                  refine hr_l2i (v := (rd_f A sh q)) (q := 80) X dX5_item_79 rfl rfl ?_
                  refine hr_bipush (v := (nI 32)) (q := 82) X dX5_item_80 rfl rfl ?_
                  refine hr_icmp_eq (q := 85) (tgt := 94) X dX5_item_82 rfl (by decide) (fun c82 => ?_) (fun c82 => ?_)
                  · refine hr_aload0 (q := 95) X dX5_item_94 rfl ?_
                    refine hr_dup (q := 96) X dX5_item_95 rfl rfl ?_
                    refine hr_getI (v := (nI q)) (q := 99) X dX5_item_96 rfl fr_q1411_5 rfl hR40.om ((hR40.sc 29).trans (h40_3.2.2)) ?_
                    refine hr_iconst (v := (nI 1)) (q := 100) X dX5_item_99 rfl rfl ?_
                    refine hr_iadd (v := (nI (q + 1))) (q := 101) X dX5_item_100 rfl (nI_add _ _) ?_
                    refine hr_putI (q := 104) X dX5_item_101 rfl fw_q1411_5 (fun h => nomatch h) rfl rfl rfl hR40.om ?_
                    have hR19 := hR40.setS 29 (nI (q + 1))
                    have hA19 := hA40.scS (k := 29) rfl (nI (q + 1))
                    refine hr_aload0 (q := 105) X dX5_item_104 rfl ?_
                    refine hr_getI (v := (nI (q + 1))) (q := 108) X dX5_item_105 rfl fr_q1411_5 rfl hR19.om (hR19.sc 29) ?_
                    have hQ : (i = 0 ∧ (q + 1) = q) ∨ (¬ i = 0 ∧ (q + 1) = q + 1 ∧ rd_is (rd_f A sh) tE q 32 = true) := Or.inr ⟨by omega, rfl, rd_is_b.mpr ⟨by omega, c82⟩⟩
                    refine hr_istore3 (q := 109) X dX5_item_108 rfl rfl (Nat.le_of_ble_eq_true rfl) ?_
                    refine hr_aload0 (q := 110) X dX5_item_109 rfl ?_
                    refine hr_call0 (q := 113) (hc_V (n := 0) (ci := 5) (As := []) X dX5_item_110 rfl (tk_reads X.tr hR19 hA19 hW (sh := sh) (tE := tE) (tp := (q + 1)) hs hE (by omega) ⟨h40_3.1, h40_3.2.1, rfl⟩) q1643 cv_X5_reads ⟨Nat.le_of_ble_eq_true rfl, Nat.le_of_ble_eq_true rfl⟩ rfl (Nat.le_of_ble_eq_true rfl) hR19.om rfl rfl) rfl (fun qx E G' hp => by cases hp.1) (fun r Gr hp _ => ?_)
                    obtain ⟨hvr, ur, hRr, hAr, hr1, hr2, hr3, hr4⟩ := hp
                    cases hvr
                    have hfr := hr3.trans h40_7
                    refine hr_ifB_ne (q := 116) (tgt := 118) X dX5_item_113 rfl (by decide) (fun c113 => ?_) (fun c113 => ?_)
                    · have hnl := rd_num_lt c113; have hen := rd_end_le c113
                      refine hr_aload0 (q := 119) X dX5_item_118 rfl ?_
                      refine hr_iload1 (q := 120) X dX5_item_119 rfl ?_
                      refine hr_iload2 (q := 121) X dX5_item_120 rfl ?_
                      refine hr_callP (q := 124) (hc_V (n := 2) (ci := 5) (As := [.int (nI k), .int (nI i)]) X dX5_item_121 rfl (tk_isSo X.tr hRr hAr hW (k := k) (i := i) (v := rd_num (rd_f A sh) tE (q + 1)) (by omega) (by omega) (by omega) (hr1 c113).2) q1651 cv_X5_isSo ⟨Nat.le_of_ble_eq_true rfl, Nat.le_of_ble_eq_true rfl⟩ rfl (Nat.le_of_ble_eq_true rfl) hRr.om rfl rfl) rfl ?_
                      refine hr_ifB_ne (q := 127) (tgt := 133) X dX5_item_124 rfl (by decide) (fun c124 => ?_) (fun c124 => ?_)
                      · refine hr_aload0 (q := 134) X dX5_item_133 rfl ?_
                        refine hr_getR (v := am 27) (q := 137) X dX5_item_134 rfl fr_q1409_5 rfl hRr.om (hRr.f rfl) ?_
                        refine hr_iload2 (q := 138) X dX5_item_137 rfl ?_
                        refine hr_aload0 (q := 139) X dX5_item_138 rfl ?_
                        refine hr_getI (v := (nI (rd_num (rd_f A sh) tE (q + 1)))) (q := 142) X dX5_item_139 rfl fr_q1413_5 rfl hRr.om ((hRr.sc 31).trans ((hr1 c113).2)) ?_
                        refine hr_iastN (q := 143) X dX5_item_142 rfl (hRr.ka (n := 6) rfl rfl rfl) (by omega) (by decide) ?_
                        have hR20 := hRr.setA (k := 27) rfl i (nI (rd_num (rd_f A sh) tE (q + 1)))
                        have hA20 := hAr.scA (k := 27) rfl i (nI (rd_num (rd_f A sh) tE (q + 1)))
                        refine hr_iinc2 (v := (nI (i + 1))) (q := 146) X dX5_item_143 rfl (nI_add _ _) rfl (Nat.le_of_ble_eq_true rfl) ?_
                        refine hr_goto (tgt := 40) X dX5_item_146 (by decide) ?_
                        refine hr_fg3 ?_
                        exact ih40 (hs_I Gr (am 27) i (nI (rd_num (rd_f A sh) tE (q + 1)))) (tw_setA ur 27 i (nI (rd_num (rd_f A sh) tE (q + 1)))) (i + 1) (rd_end (rd_f A sh) tE (q + 1)) (fun j => if j = i then rd_num (rd_f A sh) tE (q + 1) else v j) hR20 hA20 (by omega) (by omega) (by omega) ⟨(hr1 c113).1.1, (hr1 c113).1.2.1, (hr1 c113).1.2.2⟩ (by rw [← h40_4, show sp_nums.getD k 0 - i = (sp_nums.getD k 0 - (i + 1)) + 1 by omega]; exact (rd_ns_s hQ c113 c124).symm) (sp_ext (fun j hj => (if_neg (by omega)).trans (((congrFun (hr4 c113) j).trans (h40_5 j hj)).trans (congrArg nI (if_neg (by omega)).symm))) ((if_pos rfl).trans (congrArg nI (if_pos rfl).symm))) (sp_ext (fun j hj => by rw [if_neg (by omega)]; exact h40_6 j hj) (by rw [if_pos rfl]; exact ⟨c124, hnl⟩)) hfr
                      · refine hr_aload0 (q := 128) X dX5_item_127 rfl ?_
                        refine hr_iload3 (q := 129) X dX5_item_128 rfl ?_
                        refine hr_call0 (q := 132) (hc_V (n := 1) (ci := 5) (As := [.int (nI (q + 1))]) X dX5_item_129 rfl (tk_wrong X.tr hRr hAr hW (x := (nI (q + 1)))) q1635 cv_X5_wrong ⟨Nat.le_of_ble_eq_true rfl, Nat.le_of_ble_eq_true rfl⟩ rfl (Nat.le_of_ble_eq_true rfl) hRr.om rfl rfl) rfl (fun qx E G' hp => by cases hp.1) (fun r Gw21 hp _ => ?_)
                        obtain ⟨hvw21, uw21, hRw21, hAw21, hgw21, hfw21⟩ := hp
                        cases hvw21
                        have frw21 := hfw21.trans (hfr)
                        exact hr_zret X hr (bI_nar _) dX5_item_132 (rd_end_n (rd_item_n hnp hk hfu (h40_4.symm.trans (rd_ns_o (by omega) hQ c113 c124))) rfl hRw21 hAw21 hgw21 (frw21))
                    · refine hr_iconst (v := (nI 0)) (q := 117) X dX5_item_116 rfl rfl ?_
                      exact hr_zret X hr rfl dX5_item_117 (rd_end_n (rd_item_n hnp hk hfu (h40_4.symm.trans (rd_ns_d (by omega) hQ c113))) rfl hRr hAr (hr2 c113) (hfr))
                  · refine hr_aload0 (q := 86) X dX5_item_85 rfl ?_
                    refine hr_aload0 (q := 87) X dX5_item_86 rfl ?_
                    refine hr_getI (v := (nI q)) (q := 90) X dX5_item_87 rfl fr_q1411_5 rfl hR40.om ((hR40.sc 29).trans (h40_3.2.2)) ?_
                    refine hr_call0 (q := 93) (hc_V (n := 1) (ci := 5) (As := [.int (nI q)]) X dX5_item_90 rfl (tk_wrong X.tr hR40 hA40 hW (x := (nI q))) q1635 cv_X5_wrong ⟨Nat.le_of_ble_eq_true rfl, Nat.le_of_ble_eq_true rfl⟩ rfl (Nat.le_of_ble_eq_true rfl) hR40.om rfl rfl) rfl (fun qx E G' hp => by cases hp.1) (fun r Gw22 hp _ => ?_)
                    obtain ⟨hvw22, uw22, hRw22, hAw22, hgw22, hfw22⟩ := hp
                    cases hvw22
                    have frw22 := hfw22.trans (h40_7)
                    exact hr_zret X hr (bI_nar _) dX5_item_93 (rd_end_n (rd_item_n hnp hk hfu (h40_4.symm.trans (rd_ns_b (by omega) (by omega) (rd_is_f (fun z => c82 z.2))))) rfl hRw22 hAw22 hgw22 (frw22))
        exact loop40 _ _ (sp_nums.getD k 0 + 1) Gd ud 0 (tp + (rd_v k).length) (fun _ => 0) hRd hAd (by omega) (by omega) hq0 hC1 rfl (fun j hj => absurd hj (Nat.not_lt_zero _)) (fun j hj => absurd hj (Nat.not_lt_zero _)) (hfd)
      · refine hr_iconst (v := (nI 0)) (q := 37) X dX5_item_36 rfl rfl ?_
        exact hr_zret X hr rfl dX5_item_37 (rd_end_n (rd_item_w hnp (rd_wd_99 c33)) rfl hRd hAd (hwN c33) (hfd))
    · refine hr_aload0 (q := 18) X dX5_item_17 rfl ?_
      refine hr_aload0 (q := 19) X dX5_item_18 rfl ?_
      refine hr_getI (v := (nI tp)) (q := 22) X dX5_item_19 rfl fr_q1411_5 rfl hR.om ((hR.sc 29).trans (hC.2.2)) ?_
      refine hr_call0 (q := 25) (hc_V (n := 1) (ci := 5) (As := [.int (nI tp)]) X dX5_item_22 rfl (tk_wrong X.tr hR hA hW (x := (nI tp))) q1635 cv_X5_wrong ⟨Nat.le_of_ble_eq_true rfl, Nat.le_of_ble_eq_true rfl⟩ rfl (Nat.le_of_ble_eq_true rfl) hR.om rfl rfl) rfl (fun qx E G' hp => by cases hp.1) (fun r Gw23 hp _ => ?_)
      obtain ⟨hvw23, uw23, hRw23, hAw23, hgw23, hfw23⟩ := hp
      cases hvw23
      have frw23 := hfw23.trans (rfl)
      exact hr_zret X hr (bI_nar _) dX5_item_25 (rd_end_n (rd_item_7 hst c14) rfl hRw23 hAw23 hgw23 (frw23))

