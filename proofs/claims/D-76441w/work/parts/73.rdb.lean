/-! thrown by the Reader -/
def rd_thr (G G' : hg_G) (o q w : Nat) : Prop := G'.1 q = some (0, 7) ∧ G'.2.1 q 6 = nI w ∧ hg_fr (fun a => a = o ∨ G.1 a = none) G G'
theorem rd_thr.of {G Gw G' : hg_G} {o q w : Nat} (hf : hg_fr (fun a => a = o) G Gw) (h1 : Gw.1 = G.1) (ht : tx_T 7 q (nI w) Gw G') : rd_thr G G' o q w := by
  obtain ⟨t1, t2, t3, t4⟩ := ht
  rw [h1] at t1
  exact ⟨t2, t3, (hf.mono (fun a e => Or.inl e)).tr (fun a ha => t4 a (fun e => ha (Or.inr (by rw [e]; exact t1))))⟩
/-- a number read -/
def rd_Nok (G G' : hg_G) (o : Nat) (f : Nat → Int32) (E p : Nat) (b z : Int32) : Prop := rd_is f E p 32 = true ∧ rd_dig f E (p + 1) = true ∧ decide (b ≤ nI (rd_num f E (p + 1)) ∧ nI (rd_num f E (p + 1)) ≤ z) = true ∧ hg_fr (fun a => a = o) G G' ∧ G'.1 = G.1 ∧ G'.2.2.2 = G.2.2.2 ∧ G'.2.1 o 2 = nI (rd_end f E (p + 1)) ∧ G'.2.1 o 3 = nI (p + 1)
def rd_Nno (G G' : hg_G) (o q : Nat) (f : Nat → Int32) (E p : Nat) (b z : Int32) : Prop := ∃ w, rd_thr G G' o q w ∧ ((rd_is f E p 32 = false ∧ w = p) ∨ (rd_is f E p 32 = true ∧ w = p + 1 ∧ (rd_dig f E (p + 1) = false ∨ (rd_dig f E (p + 1) = true ∧ decide (b ≤ nI (rd_num f E (p + 1)) ∧ nI (rd_num f E (p + 1)) ≤ z) = false))))
abbrev rk_X19_word : Room := { frames := 15, cells := 10, slots := 70, locals := 10404 }
theorem rx_word {l : Launch} {D : hg_D} {lo : Nat} (htr : l.stackTraces = false) {G : hg_G} {o x y k E : Nat} {f : Nat → Int32} {tw : Nat} (hO : rd_O G o x y k E f tw) {p9 : Nat} (hp : G.2.1 o 2 = nI p9) (hpE : p9 ≤ E) {a : Nat} {l9 : List Nat} (hS : js_S G a l9) :
    hg_M l D lo yX19_word (ws_ yX19_word cX19_word 3 (none)) rk_X19_word [.ref o, .ref a] G (fun r G' => (rd_mat f E l9 p9 = p9 + l9.length ∧ r = .inl none ∧ G' = hs_I G o 2 (nI (p9 + l9.length))) ∨ (¬ rd_mat f E l9 p9 = p9 + l9.length ∧ ∃ q, r = .inr (q, "TaxOnLooks$Faulty") ∧ tx_T 7 q (nI (rd_mat f E l9 p9)) (hs_I G o 2 (nI (rd_mat f E l9 p9))) G')) := by
  refine hg_M.of htr (by decide) [some (.ref o), some (.ref a), none] rfl (Nat.le_of_ble_eq_true rfl) ?_
  intro p e s m args below meth c X hr hnm htab
  have X : hg_X p l s m args meth c D lo "TaxOnLooks$Reader" cX19_word 3 := X
  refine hr_room (kr' := 10) (nr' := 70) (Nat.le_of_ble_eq_true rfl) (Nat.le_of_ble_eq_true rfl) ?_
  have hE9 := hO.2.2.2.1.2.1
  have hl8 := hS.2.2.1
  refine hr_iconst (v := (nI 0)) (q := 1) X dX19_word_0 rfl rfl ?_
  refine hr_istore2 (q := 2) X dX19_word_1 rfl rfl (Nat.le_of_ble_eq_true rfl) ?_
  have loop2 : ∀ (n kr nr : Nat) (i : Nat), (i ≤ l9.length) → (l9.length + 1 ≤ i + n) → (p9 + i ≤ E) → (rd_mat f E (l9.drop i) (p9 + i) = rd_mat f E l9 p9) → hg_W p l e rk_X19_word s m args below meth c (hg_Q below D lo args s rk_X19_word G (fun r G' => (rd_mat f E l9 p9 = p9 + l9.length ∧ r = .inl none ∧ G' = hs_I G o 2 (nI (p9 + l9.length))) ∨ (¬ rd_mat f E l9 p9 = p9 + l9.length ∧ ∃ q, r = .inr (q, "TaxOnLooks$Faulty") ∧ tx_T 7 q (nI (rd_mat f E l9 p9)) (hs_I G o 2 (nI (rd_mat f E l9 p9))) G'))) D lo G.1 3 (kr + 1 * n) (nr + 7 * n) (hs_I G o 2 (nI (p9 + i))) 2 [some (.ref o), some (.ref a), some (.int (nI i))] [] := by
    intro n kr nr
    induction n with
    | zero =>
      intro i h2_0 h2_1 h2_2 h2_3
      omega
    | succ n ih =>
      intro i h2_0 h2_1 h2_2 h2_3
      refine hr_room (kr' := kr + 1 * n + 1) (nr' := nr + 7 * n + 7) (by omega) (by omega) ?_
      refine hr_iload2 (q := 3) X dX19_word_2 rfl ?_
      have Oi : rd_O (hs_I G o 2 (nI (p9 + i))) o x y k E f tw := hO.I
      have hSi : js_S (hs_I G o 2 (nI (p9 + i))) a l9 := hS.fr hO.1 (hg_fr.rf.I rfl)
      refine hr_aload1 (q := 4) X dX19_word_3 rfl ?_
      refine hr_callP (q := 7) (hc_V (n := 0) (ci := 20) (As := []) X dX19_word_4 rfl (js_length X.tr hSi) q889 cv_J5_length ⟨Nat.le_of_ble_eq_true rfl, Nat.le_of_ble_eq_true rfl⟩ rfl (Nat.le_of_ble_eq_true rfl) hSi.1 rfl rfl) rfl ?_
      refine hr_icmpN_ge (q := 10) (tgt := 25) X dX19_word_7 rfl (by decide) (by omega) (by omega) (fun c7 => ?_) (fun c7 => ?_)
      · exact hr_vret X hr dX19_word_25 (Or.inl ⟨by rw [← h2_3, rd_mat_de (by omega)]; omega, rfl, by rw [show i = l9.length by omega]⟩)
      · refine hr_aload0 (q := 11) X dX19_word_10 rfl ?_
        refine hr_aload1 (q := 12) X dX19_word_11 rfl ?_
        refine hr_iload2 (q := 13) X dX19_word_12 rfl ?_
        refine hr_callP (q := 16) (hc_V (n := 1) (ci := 20) (As := [.int (nI i)]) X dX19_word_13 rfl (js_charAt X.tr hSi (i := i) (by omega)) q899 cv_J5_charAt ⟨Nat.le_of_ble_eq_true rfl, Nat.le_of_ble_eq_true rfl⟩ rfl (Nat.le_of_ble_eq_true rfl) hSi.1 rfl rfl) rfl ?_
        refine hr_call (kr := kr + 1 * n) (nr := nr + 7 * n) (q := 19) (hc_V (n := 1) (ci := 19) (As := [.int (nI (l9.getD i 0))]) X dX19_word_16 rfl (rx_must X.tr Oi (p9 := p9 + i) hs_Ieq (by omega) (c9 := l9.getD i 0) (hS.2.2.2.1 i (by omega))) q937 cv_X19_must ⟨Nat.le_of_ble_eq_true rfl, Nat.le_of_ble_eq_true rfl⟩ rfl (Nat.le_of_ble_eq_true rfl) Oi.1 rfl rfl) rfl (fun qxn1 E' Gxn1 hpn1 _ => ?_) (fun r Gn1 hpn1 _ => ?_)
        · obtain ⟨-, hrn1, -⟩ | ⟨hgn1, qn1, hrn1, htn1⟩ := hpn1
          · cases hrn1
          · cases hrn1
            have hm : rd_mat f E l9 p9 = p9 + i := by
              rw [← h2_3]
              exact rd_mat_dn (by omega) (of_decide_eq_false hgn1)
            exact hx_out X (fun z hz => absurd hz (htab z)) (Or.inr ⟨by omega, qxn1, rfl, by rw [hm]; exact htn1⟩)
        · obtain ⟨hgn1, hrn1, hGn1⟩ | ⟨-, qn1, hrn1, -⟩ := hpn1
          · cases hrn1
            rw [hs_I_I] at hGn1
            have hGn1 := hGn1.symm
            subst hGn1
            have hgi := of_decide_eq_true hgn1
            have Oz : rd_O (hs_I G o 2 (nI (p9 + i + 1))) o x y k E f tw := hO.I
            refine hr_iinc2 (v := (nI (i + 1))) (q := 22) X dX19_word_19 rfl (nI_add _ _) rfl (Nat.le_of_ble_eq_true rfl) ?_
            refine hr_goto (tgt := 2) X dX19_word_22 (by decide) ?_
            exact ih (i + 1) (by omega) (by omega) (by omega) (by rw [← h2_3]; exact (rd_mat_dy (by omega) hgi.1 hgi.2).symm)
          · cases hrn1
  have L9 := loop2 9 0 0 0 (by omega) (by omega) (by omega) rfl
  rw [show p9 + 0 = p9 from rfl, hs_I_id hp] at L9
  exact hr_room (kr' := 0 + 1 * 9) (nr' := 0 + 7 * 9) (by omega) (by omega) L9

abbrev rk_X19_number : Room := { frames := 15, cells := 3, slots := 21, locals := 10404 }
theorem rx_number {l : Launch} {D : hg_D} {lo : Nat} (htr : l.stackTraces = false) {G : hg_G} {o x y k E : Nat} {f : Nat → Int32} {tw : Nat} (hO : rd_O G o x y k E f tw) {p9 : Nat} (hp : G.2.1 o 2 = nI p9) (hpE : p9 ≤ E) {b9 z9 : Int32} :
    hg_M l D lo yX19_number (ws_ yX19_number cX19_number 5 ((some FieldType.int))) rk_X19_number [.ref o, .int b9, .int z9] G (fun r G' => (r = .inl (some (.int (nI (rd_num f E (p9 + 1))))) ∧ rd_Nok G G' o f E p9 b9 z9) ∨ (∃ q, r = .inr (q, "TaxOnLooks$Faulty") ∧ rd_Nno G G' o q f E p9 b9 z9)) := by
  refine hg_M.of htr (by decide) [some (.ref o), some (.int b9), some (.int z9), none, none] rfl (Nat.le_of_ble_eq_true rfl) ?_
  intro p e s m args below meth c X hr hnm htab
  have X : hg_X p l s m args meth c D lo "TaxOnLooks$Reader" cX19_number 5 := X
  refine hr_room (kr' := 3) (nr' := 21) (Nat.le_of_ble_eq_true rfl) (Nat.le_of_ble_eq_true rfl) ?_
  have hE9 := hO.2.2.2.1.2.1
  refine hr_aload0 (q := 1) X dX19_number_0 rfl ?_
  refine hr_bipush (v := (nI 32)) (q := 3) X dX19_number_1 rfl rfl ?_
  refine hr_call (kr := 2) (nr := 14) (q := 6) (hc_V (n := 1) (ci := 19) (As := [.int (nI 32)]) X dX19_number_3 rfl (rx_must X.tr hO (p9 := p9) hp (by omega) (c9 := 32) (by decide)) q937 cv_X19_must ⟨Nat.le_of_ble_eq_true rfl, Nat.le_of_ble_eq_true rfl⟩ rfl (Nat.le_of_ble_eq_true rfl) hO.1 rfl rfl) rfl (fun qxn1 E' Gxn1 hpn1 _ => ?_) (fun r Gn1 hpn1 _ => ?_)
  · obtain ⟨-, hrn1, -⟩ | ⟨hgn1, qn1, hrn1, htn1⟩ := hpn1
    · cases hrn1
    · cases hrn1
      exact hx_out X (fun z hz => absurd hz (htab z)) (Or.inr ⟨qxn1, rfl, p9, rd_thr.of hg_fr.rf rfl htn1, Or.inl ⟨hgn1, rfl⟩⟩)
  · obtain ⟨hgn1, hrn1, hGn1⟩ | ⟨-, qn1, hrn1, -⟩ := hpn1
    · cases hrn1
      have hGn1 := hGn1.symm
      subst hGn1
      have his := hgn1
      have hgi := of_decide_eq_true hgn1
      have Oz : rd_O (hs_I G o 2 (nI (p9 + 1))) o x y k E f tw := hO.I
      have Fz : hg_fr (fun a => a = o) G (hs_I G o 2 (nI (p9 + 1))) := hg_fr.rf.I rfl
      refine hr_aload0 (q := 7) X dX19_number_6 rfl ?_
      refine hr_aload0 (q := 8) X dX19_number_7 rfl ?_
      refine hr_getI (v := (nI (p9 + 1))) (q := 11) X dX19_number_8 rfl fr_q829_19 rfl Oz.1 hs_Ieq ?_
      refine hr_putI (q := 14) X dX19_number_11 rfl fw_q830_19 (fun h => nomatch h) rfl rfl rfl Oz.1 ?_
      have Oo2 : rd_O (hs_I (hs_I G o 2 (nI (p9 + 1))) o 3 (nI (p9 + 1))) o x y k E f tw := Oz.I
      have lo2 : (hs_I (hs_I G o 2 (nI (p9 + 1))) o 3 (nI (p9 + 1))).2.1 o 3 = (nI (p9 + 1)) := hs_Ieq
      have ao2 : (hs_I (hs_I G o 2 (nI (p9 + 1))) o 3 (nI (p9 + 1))).2.1 o 2 = nI (p9 + 1) := (hs_Inj (by decide)).trans hs_Ieq
      have F3 : hg_fr (fun a => a = o) G (hs_I (hs_I G o 2 (nI (p9 + 1))) o 3 (nI (p9 + 1))) := Fz.I rfl
      refine hr_aload0 (q := 15) X dX19_number_14 rfl ?_
      refine hr_callP (q := 18) (hc_V (n := 0) (ci := 19) (As := []) X dX19_number_15 rfl (rx_digit X.tr Oo2 (p9 := p9 + 1) ao2 (by omega)) q968 cv_X19_digit ⟨Nat.le_of_ble_eq_true rfl, Nat.le_of_ble_eq_true rfl⟩ rfl (Nat.le_of_ble_eq_true rfl) Oo2.1 rfl rfl) rfl ?_
      refine hr_ifB_ne (q := 21) (tgt := 33) X dX19_number_18 rfl (by decide) (fun c18 => ?_) (fun c18 => ?_)
      · refine hr_iconst (v := (nI 0)) (q := 34) X dX19_number_33 rfl rfl ?_
        refine hr_istore3 (q := 35) X dX19_number_34 rfl rfl (Nat.le_of_ble_eq_true rfl) ?_
        refine hr_iconst (v := (nI 0)) (q := 36) X dX19_number_35 rfl rfl ?_
        refine hr_istore4 (q := 38) X dX19_number_36 rfl rfl (Nat.le_of_ble_eq_true rfl) ?_
        refine hr_iload4 (q := 40) X dX19_number_38 rfl ?_
        refine hr_iconst (v := (nI 2)) (q := 41) X dX19_number_40 rfl rfl ?_
        refine hr_icmpN_ge (q := 44) (tgt := 84) X dX19_number_41 rfl (by decide) (by omega) (by omega) (fun c41 => ?_) (fun c41 => ?_)
        · exact False.elim (by omega)
        · refine hr_aload0 (q := 45) X dX19_number_44 rfl ?_
          refine hr_callP (q := 48) (hc_V (n := 0) (ci := 19) (As := []) X dX19_number_45 rfl (rx_digit X.tr Oo2 (p9 := p9 + 1) ao2 (by omega)) q968 cv_X19_digit ⟨Nat.le_of_ble_eq_true rfl, Nat.le_of_ble_eq_true rfl⟩ rfl (Nat.le_of_ble_eq_true rfl) Oo2.1 rfl rfl) rfl ?_
          refine hr_ifB_eq (q := 51) (tgt := 84) X dX19_number_48 rfl (by decide) (fun c48 => ?_) (fun c48 => ?_)
          · exact absurd (c18.symm.trans c48) (by decide)
          · have hdv := rd_dig_v c18
            refine hr_bipush (v := (nI 10)) (q := 53) X dX19_number_51 rfl rfl ?_
            refine hr_iload3 (q := 54) X dX19_number_53 rfl ?_
            refine hr_imul (v := (nI (10 * 0))) (q := 55) X dX19_number_54 rfl (pk_mul _ _) ?_
            refine hr_aload0 (q := 56) X dX19_number_55 rfl ?_
            refine hr_getR (v := x) (q := 59) X dX19_number_56 rfl fr_q827_19 rfl Oo2.1 Oo2.2.1 ?_
            refine hr_aload0 (q := 60) X dX19_number_59 rfl ?_
            refine hr_dup (q := 61) X dX19_number_60 rfl rfl ?_
            refine hr_getI (v := (nI (p9 + 1))) (q := 64) X dX19_number_61 rfl fr_q829_19 rfl Oo2.1 ao2 ?_
            refine hr_dup_x1 (q := 65) X dX19_number_64 rfl rfl rfl ?_
            refine hr_iconst (v := (nI 1)) (q := 66) X dX19_number_65 rfl rfl ?_
            refine hr_iadd (v := (nI (p9 + 1 + 1))) (q := 67) X dX19_number_66 rfl (nI_add _ _) ?_
            refine hr_putI (q := 70) X dX19_number_67 rfl fw_q829_19 (fun h => nomatch h) rfl rfl rfl Oo2.1 ?_
            have Oo4 : rd_O (hs_I (hs_I (hs_I G o 2 (nI (p9 + 1))) o 3 (nI (p9 + 1))) o 2 (nI (p9 + 1 + 1))) o x y k E f tw := Oo2.I
            have ao4 : (hs_I (hs_I (hs_I G o 2 (nI (p9 + 1))) o 3 (nI (p9 + 1))) o 2 (nI (p9 + 1 + 1))).2.1 o 2 = (nI (p9 + 1 + 1)) := hs_Ieq
            have lo4 : (hs_I (hs_I (hs_I G o 2 (nI (p9 + 1))) o 3 (nI (p9 + 1))) o 2 (nI (p9 + 1 + 1))).2.1 o 3 = nI (p9 + 1) := (hs_Inj (by decide)).trans lo2
            have F5 : hg_fr (fun a => a = o) G (hs_I (hs_I (hs_I G o 2 (nI (p9 + 1))) o 3 (nI (p9 + 1))) o 2 (nI (p9 + 1 + 1))) := F3.I rfl
            refine hr_callP (v := .int ((rr_el (hs_I (hs_I (hs_I G o 2 (nI (p9 + 1))) o 3 (nI (p9 + 1))) o 2 (nI (p9 + 1 + 1))) y k (iN (nI (p9 + 1)))).toInt32)) (q := 73) (hcR_asInt Oo4.2.2.2.1 (i := nI (p9 + 1)) (vp_in_nI (by omega) (by omega)) X dX19_number_70 q871 ⟨Nat.le_of_ble_eq_true rfl, Nat.le_of_ble_eq_true rfl⟩ (Nat.le_of_ble_eq_true rfl)) rfl ?_
            refine hr_st1 (v' := .int (f (p9 + 1))) (congrArg Value.int ((congrArg (fun j => (rr_el (hs_I (hs_I (hs_I G o 2 (nI (p9 + 1))) o 3 (nI (p9 + 1))) o 2 (nI (p9 + 1 + 1))) y k j).toInt32) (iN_nI (by omega))).trans (Oo4.2.2.2.2 _ (by omega)))) ?_
            refine hr_st1 (v' := .int (nI (rd_d f (p9 + 1) + 48))) (congrArg Value.int hdv.2.1) ?_
            refine hr_iadd (v := (nI (10 * 0 + (rd_d f (p9 + 1) + 48)))) (q := 74) X dX19_number_73 rfl (nI_add _ _) ?_
            refine hr_bipush (v := (nI 48)) (q := 76) X dX19_number_74 rfl rfl ?_
            refine hr_isub (v := (nI ((10 * 0 + (rd_d f (p9 + 1) + 48)) - 48))) (q := 77) X dX19_number_76 rfl (pk_sub (by omega)) ?_
            refine hr_st1 (v' := .int (nI (rd_d f (p9 + 1)))) (congrArg Value.int (congrArg nI (by omega))) ?_
            refine hr_istore3 (q := 78) X dX19_number_77 rfl rfl (Nat.le_of_ble_eq_true rfl) ?_
            refine hr_iinc4 (v := (nI 1)) (q := 81) X dX19_number_78 rfl (by decide) rfl (Nat.le_of_ble_eq_true rfl) ?_
            refine hr_goto (tgt := 38) X dX19_number_81 (by decide) ?_
            refine hr_iload4 (q := 40) X dX19_number_38 rfl ?_
            refine hr_iconst (v := (nI 2)) (q := 41) X dX19_number_40 rfl rfl ?_
            refine hr_icmpN_ge (q := 44) (tgt := 84) X dX19_number_41 rfl (by decide) (by omega) (by omega) (fun c41 => ?_) (fun c41 => ?_)
            · exact False.elim (by omega)
            · refine hr_aload0 (q := 45) X dX19_number_44 rfl ?_
              refine hr_callP (q := 48) (hc_V (n := 0) (ci := 19) (As := []) X dX19_number_45 rfl (rx_digit X.tr Oo4 (p9 := p9 + 1 + 1) ao4 (by omega)) q968 cv_X19_digit ⟨Nat.le_of_ble_eq_true rfl, Nat.le_of_ble_eq_true rfl⟩ rfl (Nat.le_of_ble_eq_true rfl) Oo4.1 rfl rfl) rfl ?_
              refine hr_ifB_eq (q := 51) (tgt := 84) X dX19_number_48 rfl (by decide) (fun c48 => ?_) (fun c48 => ?_)
              · have hnum : rd_num f E (p9 + 1) = rd_d f (p9 + 1) := by rw [rd_num, if_neg (by rw [c48]; decide)]
                have hend : rd_end f E (p9 + 1) = p9 + 1 + 1 := by rw [rd_end, if_neg (by rw [c48]; decide)]
                refine hr_L (L' := [some (.ref o), some (.int b9), some (.int z9), some (.int (nI (rd_num f E (p9 + 1)))), some (.int (nI 1))]) (by rw [hnum]) ?_
                refine hr_aload0 (q := 85) X dX19_number_84 rfl ?_
                refine hr_iload3 (q := 86) X dX19_number_85 rfl ?_
                refine hr_i2l (v := ((nI (rd_num f E (p9 + 1))).toInt64)) (q := 87) X dX19_number_86 rfl rfl ?_
                refine hr_iload1 (q := 88) X dX19_number_87 rfl ?_
                refine hr_i2l (v := b9.toInt64) (q := 89) X dX19_number_88 rfl rfl ?_
                refine hr_iload2 (q := 90) X dX19_number_89 rfl ?_
                refine hr_i2l (v := z9.toInt64) (q := 91) X dX19_number_90 rfl rfl ?_
                refine hr_callP (v := .int (bI (decide (b9 ≤ nI (rd_num f E (p9 + 1)) ∧ nI (rd_num f E (p9 + 1)) ≤ z9)))) (q := 94) (hc_S (n := 3) (As := [.long ((nI (rd_num f E (p9 + 1))).toInt64), .long b9.toInt64, .long z9.toInt64]) X dX19_number_91 rfl (tc_in3 X.tr (x := nI (rd_num f E (p9 + 1))) (b := b9) (y := z9)) q972 cs_X0_in ⟨Nat.le_of_ble_eq_true rfl, Nat.le_of_ble_eq_true rfl⟩ rfl (Nat.le_of_ble_eq_true rfl)) rfl ?_
                refine hr_aload0 (q := 95) X dX19_number_94 rfl ?_
                refine hr_getI (v := (nI (p9 + 1))) (q := 98) X dX19_number_95 rfl fr_q830_19 rfl Oo4.1 lo4 ?_
                refine hr_call (kr := 1) (nr := 7) (q := 101) (hc_V (n := 2) (ci := 19) (As := [.int (bI (decide (b9 ≤ nI (rd_num f E (p9 + 1)) ∧ nI (rd_num f E (p9 + 1)) ≤ z9))), .int (nI (p9 + 1))]) X dX19_number_98 rfl (rx_room X.tr (o := o) (g9 := decide (b9 ≤ nI (rd_num f E (p9 + 1)) ∧ nI (rd_num f E (p9 + 1)) ≤ z9)) (w9 := (nI (p9 + 1)))) q973 cv_X19_hasRoom ⟨Nat.le_of_ble_eq_true rfl, Nat.le_of_ble_eq_true rfl⟩ rfl (Nat.le_of_ble_eq_true rfl) Oo4.1 rfl rfl) rfl (fun qxn6 E' Gxn6 hpn6 _ => ?_) (fun r Gn6 hpn6 _ => ?_)
                · obtain ⟨-, hrn6, -⟩ | ⟨hgn6, qn6, hrn6, htn6⟩ := hpn6
                  · cases hrn6
                  · cases hrn6
                    exact hx_out X (fun z hz => absurd hz (htab z)) (Or.inr ⟨qxn6, rfl, p9 + 1, rd_thr.of F5 rfl htn6, Or.inr ⟨his, rfl, Or.inr ⟨c18, hgn6⟩⟩⟩)
                · obtain ⟨hgn6, hrn6, hGn6⟩ | ⟨-, qn6, hrn6, -⟩ := hpn6
                  · cases hrn6
                    have hGn6 := hGn6.symm
                    subst hGn6
                    refine hr_iload3 (q := 102) X dX19_number_101 rfl ?_
                    exact hr_iret X hr dX19_number_102 (Or.inl ⟨rfl, his, c18, hgn6, F5, rfl, rfl, ao4.trans (congrArg nI hend.symm), lo4⟩)
                  · cases hrn6
              · have hdw := rd_dig_v c48
                refine hr_bipush (v := (nI 10)) (q := 53) X dX19_number_51 rfl rfl ?_
                refine hr_iload3 (q := 54) X dX19_number_53 rfl ?_
                refine hr_imul (v := (nI (10 * (rd_d f (p9 + 1))))) (q := 55) X dX19_number_54 rfl (pk_mul _ _) ?_
                refine hr_aload0 (q := 56) X dX19_number_55 rfl ?_
                refine hr_getR (v := x) (q := 59) X dX19_number_56 rfl fr_q827_19 rfl Oo4.1 Oo4.2.1 ?_
                refine hr_aload0 (q := 60) X dX19_number_59 rfl ?_
                refine hr_dup (q := 61) X dX19_number_60 rfl rfl ?_
                refine hr_getI (v := (nI (p9 + 1 + 1))) (q := 64) X dX19_number_61 rfl fr_q829_19 rfl Oo4.1 ao4 ?_
                refine hr_dup_x1 (q := 65) X dX19_number_64 rfl rfl rfl ?_
                refine hr_iconst (v := (nI 1)) (q := 66) X dX19_number_65 rfl rfl ?_
                refine hr_iadd (v := (nI (p9 + 1 + 1 + 1))) (q := 67) X dX19_number_66 rfl (nI_add _ _) ?_
                refine hr_putI (q := 70) X dX19_number_67 rfl fw_q829_19 (fun h => nomatch h) rfl rfl rfl Oo4.1 ?_
                have Oo7 : rd_O (hs_I (hs_I (hs_I (hs_I G o 2 (nI (p9 + 1))) o 3 (nI (p9 + 1))) o 2 (nI (p9 + 1 + 1))) o 2 (nI (p9 + 1 + 1 + 1))) o x y k E f tw := Oo4.I
                have ao7 : (hs_I (hs_I (hs_I (hs_I G o 2 (nI (p9 + 1))) o 3 (nI (p9 + 1))) o 2 (nI (p9 + 1 + 1))) o 2 (nI (p9 + 1 + 1 + 1))).2.1 o 2 = (nI (p9 + 1 + 1 + 1)) := hs_Ieq
                have lo7 : (hs_I (hs_I (hs_I (hs_I G o 2 (nI (p9 + 1))) o 3 (nI (p9 + 1))) o 2 (nI (p9 + 1 + 1))) o 2 (nI (p9 + 1 + 1 + 1))).2.1 o 3 = nI (p9 + 1) := (hs_Inj (by decide)).trans lo4
                have F8 : hg_fr (fun a => a = o) G (hs_I (hs_I (hs_I (hs_I G o 2 (nI (p9 + 1))) o 3 (nI (p9 + 1))) o 2 (nI (p9 + 1 + 1))) o 2 (nI (p9 + 1 + 1 + 1))) := F5.I rfl
                refine hr_callP (v := .int ((rr_el (hs_I (hs_I (hs_I (hs_I G o 2 (nI (p9 + 1))) o 3 (nI (p9 + 1))) o 2 (nI (p9 + 1 + 1))) o 2 (nI (p9 + 1 + 1 + 1))) y k (iN (nI (p9 + 1 + 1)))).toInt32)) (q := 73) (hcR_asInt Oo7.2.2.2.1 (i := nI (p9 + 1 + 1)) (vp_in_nI (by omega) (by omega)) X dX19_number_70 q871 ⟨Nat.le_of_ble_eq_true rfl, Nat.le_of_ble_eq_true rfl⟩ (Nat.le_of_ble_eq_true rfl)) rfl ?_
                refine hr_st1 (v' := .int (f (p9 + 1 + 1))) (congrArg Value.int ((congrArg (fun j => (rr_el (hs_I (hs_I (hs_I (hs_I G o 2 (nI (p9 + 1))) o 3 (nI (p9 + 1))) o 2 (nI (p9 + 1 + 1))) o 2 (nI (p9 + 1 + 1 + 1))) y k j).toInt32) (iN_nI (by omega))).trans (Oo7.2.2.2.2 _ (by omega)))) ?_
                refine hr_st1 (v' := .int (nI (rd_d f (p9 + 1 + 1) + 48))) (congrArg Value.int hdw.2.1) ?_
                refine hr_iadd (v := (nI (10 * (rd_d f (p9 + 1)) + (rd_d f (p9 + 1 + 1) + 48)))) (q := 74) X dX19_number_73 rfl (nI_add _ _) ?_
                refine hr_bipush (v := (nI 48)) (q := 76) X dX19_number_74 rfl rfl ?_
                refine hr_isub (v := (nI ((10 * (rd_d f (p9 + 1)) + (rd_d f (p9 + 1 + 1) + 48)) - 48))) (q := 77) X dX19_number_76 rfl (pk_sub (by omega)) ?_
                refine hr_st1 (v' := .int (nI (10 * rd_d f (p9 + 1) + rd_d f (p9 + 1 + 1)))) (congrArg Value.int (congrArg nI (by omega))) ?_
                refine hr_istore3 (q := 78) X dX19_number_77 rfl rfl (Nat.le_of_ble_eq_true rfl) ?_
                refine hr_iinc4 (v := (nI 2)) (q := 81) X dX19_number_78 rfl (by decide) rfl (Nat.le_of_ble_eq_true rfl) ?_
                refine hr_goto (tgt := 38) X dX19_number_81 (by decide) ?_
                refine hr_iload4 (q := 40) X dX19_number_38 rfl ?_
                refine hr_iconst (v := (nI 2)) (q := 41) X dX19_number_40 rfl rfl ?_
                refine hr_icmpN_ge (q := 44) (tgt := 84) X dX19_number_41 rfl (by decide) (by omega) (by omega) (fun c41 => ?_) (fun c41 => ?_)
                · have hnum : rd_num f E (p9 + 1) = 10 * rd_d f (p9 + 1) + rd_d f (p9 + 1 + 1) := by rw [rd_num, if_pos c48]
                  have hend : rd_end f E (p9 + 1) = p9 + 1 + 1 + 1 := by rw [rd_end, if_pos c48]
                  refine hr_L (L' := [some (.ref o), some (.int b9), some (.int z9), some (.int (nI (rd_num f E (p9 + 1)))), some (.int (nI 2))]) (by rw [hnum]) ?_
                  refine hr_aload0 (q := 85) X dX19_number_84 rfl ?_
                  refine hr_iload3 (q := 86) X dX19_number_85 rfl ?_
                  refine hr_i2l (v := ((nI (rd_num f E (p9 + 1))).toInt64)) (q := 87) X dX19_number_86 rfl rfl ?_
                  refine hr_iload1 (q := 88) X dX19_number_87 rfl ?_
                  refine hr_i2l (v := b9.toInt64) (q := 89) X dX19_number_88 rfl rfl ?_
                  refine hr_iload2 (q := 90) X dX19_number_89 rfl ?_
                  refine hr_i2l (v := z9.toInt64) (q := 91) X dX19_number_90 rfl rfl ?_
                  refine hr_callP (v := .int (bI (decide (b9 ≤ nI (rd_num f E (p9 + 1)) ∧ nI (rd_num f E (p9 + 1)) ≤ z9)))) (q := 94) (hc_S (n := 3) (As := [.long ((nI (rd_num f E (p9 + 1))).toInt64), .long b9.toInt64, .long z9.toInt64]) X dX19_number_91 rfl (tc_in3 X.tr (x := nI (rd_num f E (p9 + 1))) (b := b9) (y := z9)) q972 cs_X0_in ⟨Nat.le_of_ble_eq_true rfl, Nat.le_of_ble_eq_true rfl⟩ rfl (Nat.le_of_ble_eq_true rfl)) rfl ?_
                  refine hr_aload0 (q := 95) X dX19_number_94 rfl ?_
                  refine hr_getI (v := (nI (p9 + 1))) (q := 98) X dX19_number_95 rfl fr_q830_19 rfl Oo7.1 lo7 ?_
                  refine hr_call (kr := 1) (nr := 7) (q := 101) (hc_V (n := 2) (ci := 19) (As := [.int (bI (decide (b9 ≤ nI (rd_num f E (p9 + 1)) ∧ nI (rd_num f E (p9 + 1)) ≤ z9))), .int (nI (p9 + 1))]) X dX19_number_98 rfl (rx_room X.tr (o := o) (g9 := decide (b9 ≤ nI (rd_num f E (p9 + 1)) ∧ nI (rd_num f E (p9 + 1)) ≤ z9)) (w9 := (nI (p9 + 1)))) q973 cv_X19_hasRoom ⟨Nat.le_of_ble_eq_true rfl, Nat.le_of_ble_eq_true rfl⟩ rfl (Nat.le_of_ble_eq_true rfl) Oo7.1 rfl rfl) rfl (fun qxn9 E' Gxn9 hpn9 _ => ?_) (fun r Gn9 hpn9 _ => ?_)
                  · obtain ⟨-, hrn9, -⟩ | ⟨hgn9, qn9, hrn9, htn9⟩ := hpn9
                    · cases hrn9
                    · cases hrn9
                      exact hx_out X (fun z hz => absurd hz (htab z)) (Or.inr ⟨qxn9, rfl, p9 + 1, rd_thr.of F8 rfl htn9, Or.inr ⟨his, rfl, Or.inr ⟨c18, hgn9⟩⟩⟩)
                  · obtain ⟨hgn9, hrn9, hGn9⟩ | ⟨-, qn9, hrn9, -⟩ := hpn9
                    · cases hrn9
                      have hGn9 := hGn9.symm
                      subst hGn9
                      refine hr_iload3 (q := 102) X dX19_number_101 rfl ?_
                      exact hr_iret X hr dX19_number_102 (Or.inl ⟨rfl, his, c18, hgn9, F8, rfl, rfl, ao7.trans (congrArg nI hend.symm), lo7⟩)
                    · cases hrn9
                · exact False.elim (by omega)
      · refine hr_new (kr := 1) (nr := 7) (q := 24) (ci := 7) (T := TX20) (N := 7) (ty := tyX20) X dX19_number_21 rfl q941 q942 q115 rfl in_X20 tyX20_ok (by decide) (fun x10 hlx10 hnx10 => ?_)
        obtain ⟨Om11, em11⟩ := Oo2.nf (G' := hs_N (hs_I (hs_I G o 2 (nI (p9 + 1))) o 3 (nI (p9 + 1))) x10 (0, 7)) (hg_fr.rf.N hnx10)
        refine hr_dup (q := 25) X dX19_number_24 rfl rfl ?_
        refine hr_aload0 (q := 26) X dX19_number_25 rfl ?_
        refine hr_getI (v := (nI (p9 + 1))) (q := 29) X dX19_number_26 rfl fr_q829_19 rfl Om11.1 ((em11 2).trans ao2) ?_
        refine hr_call0 (q := 32) (hc_I (n := 1) (As := [.int (nI (p9 + 1))]) X dX19_number_29 rfl (tx_new7 X.tr (b := x10) (if_pos rfl) (w := (nI (p9 + 1)))) q950 cj_X20_init ⟨Nat.le_of_ble_eq_true rfl, Nat.le_of_ble_eq_true rfl⟩ rfl (Nat.le_of_ble_eq_true rfl)) rfl (fun qx E G' hp => by cases hp.1) (fun r Gw12 hp _ => ?_)
        obtain ⟨hvw12, hkw12, hww12, hbtw12⟩ := hp
        cases hvw12
        have htw12 : tx_T 7 x10 (nI (p9 + 1)) (hs_I (hs_I G o 2 (nI (p9 + 1))) o 3 (nI (p9 + 1))) Gw12 := ⟨hnx10, by rw [hkw12]; exact if_pos rfl, hww12, hg_bt.N.tr hbtw12⟩
        refine hr_athrow X dX19_number_32 (ci := 7) htw12.2.1 rfl rfl ?_
        exact hx_out X (fun z hz => absurd hz (htab z)) (Or.inr ⟨x10, rfl, p9 + 1, rd_thr.of F3 rfl htw12, Or.inr ⟨his, rfl, Or.inl c18⟩⟩)
    · cases hrn1

