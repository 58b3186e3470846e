theorem sp_or2b {S i : Nat} (hi : i < 31) (h : S < 2 ^ i) : nI S ||| nI (2 ^ i) = nI (S + 2 ^ i) := by
  have h1 : 2 ^ i < 2 ^ 31 := Nat.pow_lt_pow_right (by decide) hi
  rw [nI_orN (by omega) h1]
  have e := Nat.two_pow_add_eq_or_of_lt h 1
  rw [Nat.mul_one] at e
  rw [Nat.or_comm, ← e, Nat.add_comm]
theorem tc_isRoll {l : Launch} {D : hg_D} {lo : Nat} (htr : l.stackTraces = false) {G : hg_G} {ca : Nat → Nat} {A : ab_S} (h : cp_R G ca A) (hW : ab_wf A) {s9 : Nat} (hs9 : s9 < 8) (h18 : A.1.1 18 s9 = 1) (hl9 : A.1.1 0 0 ≤ A.1.1 20 s9) {B : ab_S} (hT : tn_R G (cp_d ca) B.1) (hB : sp_wf B.1) (hBn : B.1.1 0 0 = A.1.1 0 0) (hBc : B.2.2.2 = A.2.2.2) :
    hg_M l D lo yX0_isRoll (ws_ yX0_isRoll cX0_isRoll 3 ((some FieldType.boolean))) rm_X0_isRoll [.ref (ca 0), .ref (ca (31 + s9))] G (hg_Pv G (.int (bI (sp_roll B s9 (A.1.1 0 0))))) := by
  refine hg_M.of htr (by decide) [some (.ref (ca 0)), some (.ref (ca (31 + s9))), none] rfl (Nat.le_of_ble_eq_true rfl) ?_
  intro p e s m args below meth c X hr hnm htab
  have X : hg_X p l s m args meth c D lo "TaxOnLooks" cX0_isRoll 3 := X
  have hw := hW.w; have w0 := hw.b0; have w1 := hw.b1; have w2 := hw.b2; have w3 := hw.b3; have w36 := hW.b36; have w43 := hW.b43
  have hpw := sp_wpk hw; have hpb := sp_bpk hw
  have wt0 := hB.b0
  have hl160 := hW.b20 hs9
  obtain ⟨K2, hK2, hK2s, hK2b⟩ := hT.sk
  refine hr_iconst (v := (nI 0)) (q := 1) X dX0_isRoll_0 rfl rfl ?_
  refine hr_istore2 (q := 2) X dX0_isRoll_1 rfl rfl (Nat.le_of_ble_eq_true rfl) ?_
  have loop2 : ∀ (kr nr n : Nat) (i : Nat), (i ≤ A.1.1 0 0) → (A.1.1 0 0 + 1 ≤ i + n) → (sp_roll B s9 i = true) → hg_W p l e rm_X0_isRoll s m args below meth c (hg_Q below D lo args s rm_X0_isRoll G (hg_Pv G (.int (bI (sp_roll B s9 (A.1.1 0 0)))))) D lo G.1 3 kr nr G 2 [some (.ref (ca 0)), some (.ref (ca (31 + s9))), some (.int (nI i))] [] := by
    intro kr nr n
    induction n with
    | zero =>
      intro i h2_0 h2_1 h2_2
      omega
    | succ n ih =>
      intro i h2_0 h2_1 h2_2
      refine hr_iload2 (q := 3) X dX0_isRoll_2 rfl ?_
      refine hr_aload0 (q := 4) X dX0_isRoll_3 rfl ?_
      refine hr_getR (v := (cp_w ca 0)) (q := 7) X dX0_isRoll_4 rfl fr_q250_0 rfl h.o.1 h.o.2.2.2.2.2.2.1 ?_
      refine hr_getI (v := (nI (A.1.1 0 0))) (q := 10) X dX0_isRoll_7 rfl fr_q154_2 rfl h.w.ob h.w.f0 ?_
      refine hr_icmpN_ge (q := 13) (tgt := 37) X dX0_isRoll_10 rfl (by decide) (by omega) (by omega) (fun c10 => ?_) (fun c10 => ?_)
      · refine hr_iconst (v := (nI 1)) (q := 38) X dX0_isRoll_37 rfl rfl ?_
        exact hr_zret X hr rfl dX0_isRoll_38 ⟨hz_b1 (by rw [← show i = A.1.1 0 0 by omega]; exact h2_2), rfl⟩
      · refine hr_aload0 (q := 14) X dX0_isRoll_13 rfl ?_
        refine hr_getR (v := (cp_d ca 0)) (q := 17) X dX0_isRoll_14 rfl fr_q248_0 rfl h.o.1 h.o.2.2.2.2.1 ?_
        refine hr_iload2 (q := 18) X dX0_isRoll_17 rfl ?_
        refine hr_callP (q := 21) (hc_V (n := 1) (ci := 2) (As := [.int (nI i)]) X dX0_isRoll_18 rfl (tn_duty X.tr hT hB (x := i) (by omega)) q1067 cv_X2_duty ⟨Nat.le_of_ble_eq_true rfl, Nat.le_of_ble_eq_true rfl⟩ rfl (Nat.le_of_ble_eq_true rfl) hT.ob rfl rfl) rfl ?_
        have := sp_owes_lt (t := B.1) hB i
        refine hr_aload1 (q := 22) X dX0_isRoll_21 rfl ?_
        refine hr_iload2 (q := 23) X dX0_isRoll_22 rfl ?_
        refine hr_callP (v := .int ((rr_el G (ca (39 + s9)) (A.1.1 19 (s9)) (iN (nI i))).toInt32)) (q := 26) (hcR_asInt (h.r s9 (by omega) h18).1 (i := nI i) (vp_in_nI (by omega) (by omega)) X dX0_isRoll_23 q1200 ⟨Nat.le_of_ble_eq_true rfl, Nat.le_of_ble_eq_true rfl⟩ (Nat.le_of_ble_eq_true rfl)) rfl ?_
        refine hr_st1 (v' := .int ((B.2.2.2 (160 * s9 + i)).toInt32)) (congrArg Value.int (congrArg Int64.toInt32 (by rw [iN_nI (by omega), hBc]; exact (h.r s9 (by omega) h18).2 _ (by omega)))) ?_
        refine hr_icmp_eq (q := 29) (tgt := 31) X dX0_isRoll_26 rfl (by decide) (fun c26 => ?_) (fun c26 => ?_)
        · refine hr_iinc2 (v := (nI (i + 1))) (q := 34) X dX0_isRoll_31 rfl (nI_add _ _) rfl (Nat.le_of_ble_eq_true rfl) ?_
          refine hr_goto (tgt := 2) X dX0_isRoll_34 (by decide) ?_
          exact ih (i + 1) (by omega) (by omega) (by rw [sp_roll, h2_2, Bool.true_and]; exact beq_iff_eq.mpr c26)
        · refine hr_iconst (v := (nI 0)) (q := 30) X dX0_isRoll_29 rfl rfl ?_
          exact hr_zret X hr rfl dX0_isRoll_30 ⟨hz_b0 (sp_roll_mono (y := i + 1) (by omega) (by rw [sp_roll, h2_2, Bool.true_and]; exact beq_eq_false_iff_ne.mpr c26)), rfl⟩
  exact loop2 _ _ (A.1.1 0 0 + 1) 0 (by omega) (by omega) rfl

abbrev rk_X0_fits : Room := { frames := 15, cells := 40, slots := 3000, locals := 10384 }
theorem tc_fits {l : Launch} {D : hg_D} {lo : Nat} (htr : l.stackTraces = false) {G : hg_G} {ca : Nat → Nat} {A : ab_S} (h : cp_R G ca A) (hW : ab_wf A) {a1 a2 : Int32} :
    hg_M l D lo yX0_fits (wsW_ yX0_fits cX0_fits 7 ((some FieldType.int)) [(0, 108, 109, 21)]) rk_X0_fits [.ref (ca 0), .int a1, .int a2] G (cp_Po ca (sq_fits a1 a2 A)) := by
  refine hg_M.ofH htr (by decide) [some (.ref (ca 0)), some (.int a1), some (.int a2), none, none, none, none] rfl (Nat.le_of_ble_eq_true rfl) ?_
  intro p e s m args below meth c X hr hnm htab
  have X : hg_X p l s m args meth c D lo "TaxOnLooks" cX0_fits 7 := X
  refine hr_room (kr' := 40) (nr' := 3000) (Nat.le_of_ble_eq_true rfl) (Nat.le_of_ble_eq_true rfl) ?_
  have hw := hW.w; have w0 := hw.b0; have w1 := hw.b1; have w2 := hw.b2; have w3 := hw.b3; have w36 := hW.b36; have w43 := hW.b43
  have hpw := sp_wpk hw; have hpb := sp_bpk hw
  obtain ⟨K, hK, hKs, hKb⟩ := h.w.sk
  refine hr_aload0 (q := 1) X dX0_fits_0 rfl ?_
  refine hr_iload1 (q := 2) X dX0_fits_1 rfl ?_
  refine hr_call (kr := 36) (nr := 2771) (q := 5) (hc_VX (n := 1) (ci := 0) (As := [.int a1]) X dX0_fits_2 rfl (tc_shelf X.tr h (x := a1)) q278 cv_X0_shelf ⟨Nat.le_of_ble_eq_true rfl, Nat.le_of_ble_eq_true rfl⟩ rfl (Nat.le_of_ble_eq_true rfl) h.o.1 rfl rfl) rfl (fun qxn1 E Gxn1 hpn1 _ => ?_) (fun r Gn1 hpn1 _ => ?_)
  · obtain ⟨hgn1, hrn1, hGn1⟩ | ⟨hgn1, qn1, hrn1, htn1⟩ := hpn1
    · cases hrn1
    · cases hrn1
      have hxn1 := h.T htn1
      refine hx_catch (name := "TaxOnLooks$Refused") X [] ⟨0, 108, 109, 21⟩ [] htab (fun _ h => absurd h List.not_mem_nil) (by decide) (by decide) q277 (by decide) ?_
      refine hr_astore3 (q := 110) X dX0_fits_109 rfl rfl (Nat.le_of_ble_eq_true rfl) ?_
      refine hr_aload0 (q := 111) X dX0_fits_110 rfl ?_
      refine hr_aload3 (q := 112) X dX0_fits_111 rfl ?_
      refine hr_call0 (q := 115) (hc_V (n := 1) (ci := 0) (As := [.ref qxn1]) X dX0_fits_112 rfl (tc_refused X.tr hxn1 hW (q := qxn1) htn1.2.1 htn1.2.2.1 (k := 1) (by decide) (by decide) (by decide)) q452 cv_X0_refused ⟨Nat.le_of_ble_eq_true rfl, Nat.le_of_ble_eq_true rfl⟩ rfl (Nat.le_of_ble_eq_true rfl) hxn1.o.1 rfl rfl) rfl (fun qx E G' hp => by cases hp.1) (fun r Gf2 hp _ => ?_)
      obtain ⟨hvf2, hhf2⟩ := hp
      cases hvf2
      have hq3 : sq_fits a1 a2 A = ((-1), (sq_no (-1) A).2) := by
        have hwt : sq_wanted a1 A = -1 := by rw [sq_wanted, if_neg (by rw [hgn1]; decide)]
        by_cases g : sp_in a2 (A.1.1 0 0) = true
        · rw [sq_fits, if_pos g, hwt, if_neg (by decide)]; rfl
        · rw [sq_fits, if_neg g]; rfl
      exact hr_iret X hr dX0_fits_115 (by rw [hq3]; exact ⟨rfl, ca, rfl, hhf2⟩)
  · obtain ⟨hgn1, hrn1, hGn1⟩ | ⟨hgn1, qn1, hrn1, htn1⟩ := hpn1
    · cases hrn1
      have hGn1 := hGn1.symm
      subst hGn1
      obtain ⟨ea1, la1⟩ := sp_in_n hgn1 (by omega)
      refine hr_L (L' := [some (.ref (ca 0)), some (.int (nI (iN a1))), some (.int a2), none, none, none, none]) (by rw [← ea1]) ?_
      refine hr_astore3 (q := 6) X dX0_fits_5 rfl rfl (Nat.le_of_ble_eq_true rfl) ?_
      refine hr_aload0 (q := 7) X dX0_fits_6 rfl ?_
      refine hr_iload2 (q := 8) X dX0_fits_7 rfl ?_
      refine hr_call (kr := 35) (nr := 2764) (q := 11) (hc_V (n := 1) (ci := 0) (As := [.int a2]) X dX0_fits_8 rfl (tc_mustPerson X.tr h hW (x := a2)) q563 cv_X0_mustPerson ⟨Nat.le_of_ble_eq_true rfl, Nat.le_of_ble_eq_true rfl⟩ rfl (Nat.le_of_ble_eq_true rfl) h.o.1 rfl rfl) rfl (fun qxn4 E Gxn4 hpn4 _ => ?_) (fun r Gn4 hpn4 _ => ?_)
      · obtain ⟨hgn4, hrn4, -⟩ | ⟨hgn4, qn4, hrn4, htn4⟩ := hpn4
        · cases hrn4
        · cases hrn4
          have hxn4 := h.T htn4
          refine hx_catch (name := "TaxOnLooks$Refused") X [] ⟨0, 108, 109, 21⟩ [] htab (fun _ h => absurd h List.not_mem_nil) (by decide) (by decide) q277 (by decide) ?_
          refine hr_astore3 (q := 110) X dX0_fits_109 rfl rfl (Nat.le_of_ble_eq_true rfl) ?_
          refine hr_aload0 (q := 111) X dX0_fits_110 rfl ?_
          refine hr_aload3 (q := 112) X dX0_fits_111 rfl ?_
          refine hr_call0 (q := 115) (hc_V (n := 1) (ci := 0) (As := [.ref qxn4]) X dX0_fits_112 rfl (tc_refused X.tr hxn4 hW (q := qxn4) htn4.2.1 htn4.2.2.1 (k := 1) (by decide) (by decide) (by decide)) q452 cv_X0_refused ⟨Nat.le_of_ble_eq_true rfl, Nat.le_of_ble_eq_true rfl⟩ rfl (Nat.le_of_ble_eq_true rfl) hxn4.o.1 rfl rfl) rfl (fun qx E G' hp => by cases hp.1) (fun r Gf5 hp _ => ?_)
          obtain ⟨hvf5, hhf5⟩ := hp
          cases hvf5
          have hq6 : sq_fits a1 a2 A = ((-1), (sq_no (-1) A).2) := by
            rw [sq_fits, if_neg (by rw [hgn4]; decide)]; rfl
          exact hr_iret X hr dX0_fits_115 (by rw [hq6]; exact ⟨rfl, ca, rfl, hhf5⟩)
      · obtain ⟨hgn4, hrn4, hGn4⟩ | ⟨hgn4, qn4, hrn4, htn4⟩ := hpn4
        · cases hrn4
          have hGn4 := hGn4.symm
          subst hGn4
          obtain ⟨ea2, la2⟩ := sp_in_n hgn4 (by omega)
          refine hr_L (L' := [some (.ref (ca 0)), some (.int (nI (iN a1))), some (.int (nI (iN a2))), some (.ref (ca (8 + iN a1))), none, none, none]) (by rw [← ea2]) ?_
          refine hr_aload3 (q := 12) X dX0_fits_11 rfl ?_
          refine hr_call (kr := 31) (nr := 1747) (q := 15) (hc_VX (n := 0) (ci := 4) (As := []) X dX0_fits_12 rfl (tc_row X.tr h hW (i := iN a1) (by omega)) q460 cv_X4_row ⟨Nat.le_of_ble_eq_true rfl, Nat.le_of_ble_eq_true rfl⟩ rfl (Nat.le_of_ble_eq_true rfl) (h.s.2 (iN a1) (by omega)).2.1 rfl rfl) rfl (fun qxn7 E Gxn7 hpn7 _ => ?_) (fun r Gn7 hpn7 _ => ?_)
          · obtain ⟨hgn7, hrn7, hGn7⟩ | ⟨hgn7, qn7, hrn7, htn7⟩ | ⟨hgn7, qn7, hrn7, htn7⟩ := hpn7
            · cases hrn7
            · cases hrn7
              have hxn7 := h.T htn7
              refine hx_catch (name := "TaxOnLooks$Refused") X [] ⟨0, 108, 109, 21⟩ [] htab (fun _ h => absurd h List.not_mem_nil) (by decide) (by decide) q277 (by decide) ?_
              refine hr_astore3 (q := 110) X dX0_fits_109 rfl rfl (Nat.le_of_ble_eq_true rfl) ?_
              refine hr_aload0 (q := 111) X dX0_fits_110 rfl ?_
              refine hr_aload3 (q := 112) X dX0_fits_111 rfl ?_
              refine hr_call0 (q := 115) (hc_V (n := 1) (ci := 0) (As := [.ref qxn7]) X dX0_fits_112 rfl (tc_refused X.tr hxn7 hW (q := qxn7) htn7.2.1 htn7.2.2.1 (k := 2) (by decide) (by decide) (by decide)) q452 cv_X0_refused ⟨Nat.le_of_ble_eq_true rfl, Nat.le_of_ble_eq_true rfl⟩ rfl (Nat.le_of_ble_eq_true rfl) hxn7.o.1 rfl rfl) rfl (fun qx E G' hp => by cases hp.1) (fun r Gf8 hp _ => ?_)
              obtain ⟨hvf8, hhf8⟩ := hp
              cases hvf8
              have hq9 : sq_fits a1 a2 A = ((-2), (sq_no (-2) A).2) := by
                have hwt : sq_wanted a1 A = -2 := by rw [sq_wanted, if_pos hgn1, if_pos hgn7]
                rw [sq_fits, if_pos hgn4, hwt, if_neg (by decide)]; rfl
              exact hr_iret X hr dX0_fits_115 (by rw [hq9]; exact ⟨rfl, ca, rfl, hhf8⟩)
            · cases hrn7
              have hxn7 := h.T htn7
              refine hx_catch (name := "TaxOnLooks$Refused") X [] ⟨0, 108, 109, 21⟩ [] htab (fun _ h => absurd h List.not_mem_nil) (by decide) (by decide) q277 (by decide) ?_
              refine hr_astore3 (q := 110) X dX0_fits_109 rfl rfl (Nat.le_of_ble_eq_true rfl) ?_
              refine hr_aload0 (q := 111) X dX0_fits_110 rfl ?_
              refine hr_aload3 (q := 112) X dX0_fits_111 rfl ?_
              refine hr_call0 (q := 115) (hc_V (n := 1) (ci := 0) (As := [.ref qxn7]) X dX0_fits_112 rfl (tc_refused X.tr hxn7 hW (q := qxn7) htn7.2.1 htn7.2.2.1 (k := 3) (by decide) (by decide) (by decide)) q452 cv_X0_refused ⟨Nat.le_of_ble_eq_true rfl, Nat.le_of_ble_eq_true rfl⟩ rfl (Nat.le_of_ble_eq_true rfl) hxn7.o.1 rfl rfl) rfl (fun qx E G' hp => by cases hp.1) (fun r Gf10 hp _ => ?_)
              obtain ⟨hvf10, hhf10⟩ := hp
              cases hvf10
              have hq11 : sq_fits a1 a2 A = ((-3), (sq_no (-3) A).2) := by
                have hwt : sq_wanted a1 A = -3 := by rw [sq_wanted, if_pos hgn1, if_neg (by omega), if_pos hgn7]
                rw [sq_fits, if_pos hgn4, hwt, if_neg (by decide)]; rfl
              exact hr_iret X hr dX0_fits_115 (by rw [hq11]; exact ⟨rfl, ca, rfl, hhf10⟩)
          · obtain ⟨hgn7, hrn7, hGn7⟩ | ⟨hgn7, qn7, hrn7, htn7⟩ | ⟨hgn7, qn7, hrn7, htn7⟩ := hpn7
            · cases hrn7
              have hGn7 := hGn7.symm
              subst hGn7
              refine hr_astore4 (q := 17) X dX0_fits_15 rfl rfl (Nat.le_of_ble_eq_true rfl) ?_
              have h20w := hW.b20 (j := iN a1) (by omega)
              refine hr_aload4 (q := 19) X dX0_fits_17 rfl ?_
              refine hr_callP (q := 22) (hcR_length (h.r (iN a1) (by omega) hgn7).1 X dX0_fits_19 q1195 ⟨Nat.le_of_ble_eq_true rfl, Nat.le_of_ble_eq_true rfl⟩ (Nat.le_of_ble_eq_true rfl)) rfl ?_
              refine hr_aload0 (q := 23) X dX0_fits_22 rfl ?_
              refine hr_getR (v := (cp_w ca 0)) (q := 26) X dX0_fits_23 rfl fr_q250_0 rfl h.o.1 h.o.2.2.2.2.2.2.1 ?_
              refine hr_getI (v := (nI (A.1.1 0 0))) (q := 29) X dX0_fits_26 rfl fr_q154_2 rfl h.w.ob h.w.f0 ?_
              refine hr_icmpN_lt (q := 32) (tgt := 36) X dX0_fits_29 rfl (by decide) (by omega) (by omega) (fun c29 => ?_) (fun c29 => ?_)
              · have hlen : ¬ A.1.1 0 0 ≤ A.1.1 20 (iN a1) := by omega
                refine hr_iconst (v := (bI false)) (q := 37) X dX0_fits_36 rfl rfl ?_
                refine hr_bipush (v := (-5)) (q := 39) X dX0_fits_37 rfl rfl ?_
                refine hr_call (kr := 30) (nr := 1740) (q := 42) (hc_S (n := 2) (As := [.int (bI false), .int (-5)]) X dX0_fits_39 rfl (tc_need X.tr (g := false) (w := (-5))) q383 cs_X0_need ⟨Nat.le_of_ble_eq_true rfl, Nat.le_of_ble_eq_true rfl⟩ rfl (Nat.le_of_ble_eq_true rfl)) rfl (fun qxn12 E Gxn12 hpn12 _ => ?_) (fun r Gn12 hpn12 _ => ?_)
                · obtain ⟨hgn12, hrn12, -⟩ | ⟨hgn12, qn12, hrn12, htn12⟩ := hpn12
                  · cases hrn12
                  · cases hrn12
                    have hxn12 := h.T htn12
                    refine hx_catch (name := "TaxOnLooks$Refused") X [] ⟨0, 108, 109, 21⟩ [] htab (fun _ h => absurd h List.not_mem_nil) (by decide) (by decide) q277 (by decide) ?_
                    refine hr_astore3 (q := 110) X dX0_fits_109 rfl rfl (Nat.le_of_ble_eq_true rfl) ?_
                    refine hr_aload0 (q := 111) X dX0_fits_110 rfl ?_
                    refine hr_aload3 (q := 112) X dX0_fits_111 rfl ?_
                    refine hr_call0 (q := 115) (hc_V (n := 1) (ci := 0) (As := [.ref qxn12]) X dX0_fits_112 rfl (tc_refused X.tr hxn12 hW (q := qxn12) htn12.2.1 htn12.2.2.1 (k := 5) (by decide) (by decide) (by decide)) q452 cv_X0_refused ⟨Nat.le_of_ble_eq_true rfl, Nat.le_of_ble_eq_true rfl⟩ rfl (Nat.le_of_ble_eq_true rfl) hxn12.o.1 rfl rfl) rfl (fun qx E G' hp => by cases hp.1) (fun r Gf13 hp _ => ?_)
                    obtain ⟨hvf13, hhf13⟩ := hp
                    cases hvf13
                    have hq14 : sq_fits a1 a2 A = ((-5), (sq_no (-5) A).2) := by
                      have hwt : sq_wanted a1 A = 0 := by rw [sq_wanted, if_pos hgn1, if_neg (by omega), if_neg (by omega)]; rfl
                      rw [sq_fits, if_pos hgn4, if_pos hwt, if_neg hlen]; rfl
                    exact hr_iret X hr dX0_fits_115 (by rw [hq14]; exact ⟨rfl, ca, rfl, hhf13⟩)
                · obtain ⟨hgn12, hrn12, hGn12⟩ | ⟨hgn12, qn12, hrn12, htn12⟩ := hpn12
                  · cases hgn12
                  · cases hrn12
              · have hlen : A.1.1 0 0 ≤ A.1.1 20 (iN a1) := by omega
                refine hr_iconst (v := (bI true)) (q := 33) X dX0_fits_32 rfl rfl ?_
                refine hr_goto (tgt := 37) X dX0_fits_33 (by decide) ?_
                refine hr_bipush (v := (-5)) (q := 39) X dX0_fits_37 rfl rfl ?_
                refine hr_call (kr := 30) (nr := 1740) (q := 42) (hc_S (n := 2) (As := [.int (bI true), .int (-5)]) X dX0_fits_39 rfl (tc_need X.tr (g := true) (w := (-5))) q383 cs_X0_need ⟨Nat.le_of_ble_eq_true rfl, Nat.le_of_ble_eq_true rfl⟩ rfl (Nat.le_of_ble_eq_true rfl)) rfl (fun qxn15 E Gxn15 hpn15 _ => ?_) (fun r Gn15 hpn15 _ => ?_)
                · obtain ⟨hgn15, hrn15, -⟩ | ⟨hgn15, qn15, hrn15, htn15⟩ := hpn15
                  · cases hrn15
                  · cases hgn15
                · obtain ⟨hgn15, hrn15, hGn15⟩ | ⟨hgn15, qn15, hrn15, htn15⟩ := hpn15
                  · cases hrn15
                    have hGn15 := hGn15.symm
                    subst hGn15
                    refine hr_aload0 (q := 43) X dX0_fits_42 rfl ?_
                    refine hr_getR (v := (cp_d ca 0)) (q := 46) X dX0_fits_43 rfl fr_q248_0 rfl h.o.1 h.o.2.2.2.2.1 ?_
                    refine hr_aload0 (q := 47) X dX0_fits_46 rfl ?_
                    refine hr_getR (v := (cp_w ca 0)) (q := 50) X dX0_fits_47 rfl fr_q250_0 rfl h.o.1 h.o.2.2.2.2.2.2.1 ?_
                    refine hr_call0 (q := 53) (hc_V (n := 1) (ci := 2) (As := [.ref (cp_w ca 0)]) X dX0_fits_50 rfl (tn_take_c X.tr (ta := cp_d ca) h.w w0 w3 (fun p hp => hw.b9 hp) h.d h.dD h.dw) q816 cv_X2_take ⟨Nat.le_of_ble_eq_true rfl, Nat.le_of_ble_eq_true rfl⟩ rfl (Nat.le_of_ble_eq_true rfl) h.d.1.1 rfl rfl) rfl (fun qx E G' hp => by cases hp.1) (fun r Gt16 hp _ => ?_)
                    obtain ⟨hvt16, hTt16, hkt16, hft16, -⟩ := hp
                    cases hvt16
                    rw [sp_set_99 w36] at hTt16
                    have ht16 := h.takes hft16 hTt16
                    obtain ⟨K2, hK2, hK2s, hK2b⟩ := hTt16.sk
                    refine hr_pop (q := 54) X dX0_fits_53 rfl rfl ?_
                    refine hr_iconst (v := (nI 0)) (q := 55) X dX0_fits_54 rfl rfl ?_
                    refine hr_istore5 (q := 57) X dX0_fits_55 rfl rfl (Nat.le_of_ble_eq_true rfl) ?_
                    refine hr_iconst (v := (nI 0)) (q := 58) X dX0_fits_57 rfl rfl ?_
                    refine hr_istore6 (q := 60) X dX0_fits_58 rfl rfl (Nat.le_of_ble_eq_true rfl) ?_
                    have hT0 : tn_R Gt16 (cp_d ca) (sp_set A.1 11 (iN a2) (A.1.1 11 (iN a2))) := by rw [sp_set_id]; exact hTt16
                    have loop60 : ∀ (kr nr n : Nat) (l9 S y : Nat) (G9 : hg_G), (l9 ≤ 21) → (22 ≤ l9 + n) → (y ≤ 20) → (S = sp_bits (fun l => sp_roll (ab_n A 11 (iN a2) l) (iN a1) (A.1.1 0 0)) l9) → (cp_R G9 ca A) → (tn_R G9 (cp_d ca) (sp_set A.1 11 (iN a2) y)) → hg_W p l e rk_X0_fits s m args below meth c (hg_Q below D lo args s rk_X0_fits G (cp_Po ca (sq_fits a1 a2 A))) D lo G.1 7 kr nr G9 60 [some (.ref (ca 0)), some (.int (nI (iN a1))), some (.int (nI (iN a2))), some (.ref (ca (8 + iN a1))), some (.ref (ca (31 + iN a1))), some (.int (nI S)), some (.int (nI l9))] [] := by
                      intro kr nr n
                      induction n with
                      | zero =>
                        intro l9 S y G9 h60_0 h60_1 h60_2 h60_3 h60_4 h60_5
                        omega
                      | succ n ih =>
                        intro l9 S y G9 h60_0 h60_1 h60_2 h60_3 h60_4 h60_5
                        refine hr_iload6 (q := 62) X dX0_fits_60 rfl ?_
                        have hWy := sp_wf_look hw (x := iN a2) (n := y) h60_2
                        have hSl : S < 2 ^ l9 := by rw [h60_3]; exact sp_bits_lt _ l9
                        obtain ⟨K2, hK2, hK2s, hK2b⟩ := h60_5.sk
                        refine hr_bipush (v := (nI 20)) (q := 64) X dX0_fits_62 rfl rfl ?_
                        refine hr_icmpN_gt (q := 67) (tgt := 106) X dX0_fits_64 rfl (by decide) (by omega) (by omega) (fun c64 => ?_) (fun c64 => ?_)
                        · refine hr_iload5 (q := 108) X dX0_fits_106 rfl ?_
                          have hq17 : sq_fits a1 a2 A = ((nI S), A) := by
                            have hwt : sq_wanted a1 A = 0 := by rw [sq_wanted, if_pos hgn1, if_neg (by omega), if_neg (by omega)]; rfl
                            rw [sq_fits, if_pos hgn4, if_pos hwt, if_pos hlen, h60_3, show l9 = 21 by omega]; rfl
                          exact hr_iret X hr dX0_fits_108 (by rw [hq17]; exact ⟨rfl, ca, rfl, h60_4⟩)
                        · refine hr_aload0 (q := 68) X dX0_fits_67 rfl ?_
                          refine hr_getR (v := (cp_d ca 0)) (q := 71) X dX0_fits_68 rfl fr_q248_0 rfl h60_4.o.1 h60_4.o.2.2.2.2.1 ?_
                          refine hr_getR (v := (cp_d ca 2)) (q := 74) X dX0_fits_71 rfl fr_q183_2 rfl h60_5.ob h60_5.f12 ?_
                          refine hr_iload2 (q := 75) X dX0_fits_74 rfl ?_
                          refine hr_iload6 (q := 77) X dX0_fits_75 rfl ?_
                          refine hr_iastN (q := 78) X dX0_fits_77 rfl h60_5.k2 (by omega) (by decide) ?_
                          have Tu18 : tn_R (hs_I G9 (cp_d ca 2) (iN a2) ((nI l9))) (cp_d ca) (sp_set (sp_set A.1 11 (iN a2) y) 11 (iN a2) l9) := h60_5.putA h60_4.dD (i := 2) (a := 11) (Or.inl ⟨rfl, rfl⟩)
                          have Wu18 : sp_wf (sp_set (sp_set A.1 11 (iN a2) y) 11 (iN a2) l9) := by rw [sp_set_set]; exact sp_wf_look hw (by omega)
                          have hu18 := h60_4.takes (hg_fr.rf.I ⟨2, by decide, rfl⟩) Tu18
                          rw [sp_set_set] at Tu18 Wu18
                          refine hr_iload5 (q := 80) X dX0_fits_78 rfl ?_
                          refine hr_aload0 (q := 81) X dX0_fits_80 rfl ?_
                          refine hr_aload4 (q := 83) X dX0_fits_81 rfl ?_
                          refine hr_callP (q := 86) (hc_V (n := 1) (ci := 0) (As := [.ref (ca (31 + iN a1))]) X dX0_fits_83 rfl (tc_isRoll X.tr hu18 hW (s9 := iN a1) (by omega) hgn7 (by omega) (B := ab_n A 11 (iN a2) l9) Tu18 Wu18 rfl rfl) q1196 cv_X0_isRoll ⟨Nat.le_of_ble_eq_true rfl, Nat.le_of_ble_eq_true rfl⟩ rfl (Nat.le_of_ble_eq_true rfl) hu18.o.1 rfl rfl) rfl ?_
                          refine hr_ifB_eq (q := 89) (tgt := 96) X dX0_fits_86 rfl (by decide) (fun c86 => ?_) (fun c86 => ?_)
                          · refine hr_iconst (v := (nI 0)) (q := 97) X dX0_fits_96 rfl rfl ?_
                            refine hr_ior (v := (nI S)) (q := 98) X dX0_fits_97 rfl (sp_or0 _) ?_
                            refine hr_istore5 (q := 100) X dX0_fits_98 rfl rfl (Nat.le_of_ble_eq_true rfl) ?_
                            refine hr_iinc6 (v := (nI (l9 + 1))) (q := 103) X dX0_fits_100 rfl (nI_add _ _) rfl (Nat.le_of_ble_eq_true rfl) ?_
                            refine hr_goto (tgt := 60) X dX0_fits_103 (by decide) ?_
                            exact ih (l9 + 1) S l9 (hs_I G9 (cp_d ca 2) (iN a2) ((nI l9))) (by omega) (by omega) (by omega) (by rw [← (sp_bits_f (f := (fun l => sp_roll (ab_n A 11 (iN a2) l) (iN a1) (A.1.1 0 0))) c86), ← h60_3]) hu18 Tu18
                          · refine hr_iconst (v := (nI 1)) (q := 90) X dX0_fits_89 rfl rfl ?_
                            refine hr_iload6 (q := 92) X dX0_fits_90 rfl ?_
                            refine hr_ishl (v := (nI (2 ^ l9))) (q := 93) X dX0_fits_92 rfl (sp_shl (by omega)) ?_
                            refine hr_goto (tgt := 97) X dX0_fits_93 (by decide) ?_
                            refine hr_ior (v := (nI (S + 2 ^ l9))) (q := 98) X dX0_fits_97 rfl (sp_or2b (by omega) hSl) ?_
                            refine hr_istore5 (q := 100) X dX0_fits_98 rfl rfl (Nat.le_of_ble_eq_true rfl) ?_
                            refine hr_iinc6 (v := (nI (l9 + 1))) (q := 103) X dX0_fits_100 rfl (nI_add _ _) rfl (Nat.le_of_ble_eq_true rfl) ?_
                            refine hr_goto (tgt := 60) X dX0_fits_103 (by decide) ?_
                            exact ih (l9 + 1) (S + 2 ^ l9) l9 (hs_I G9 (cp_d ca 2) (iN a2) ((nI l9))) (by omega) (by omega) (by omega) (by rw [← (sp_bits_t (f := (fun l => sp_roll (ab_n A 11 (iN a2) l) (iN a1) (A.1.1 0 0))) c86), ← h60_3]) hu18 Tu18
                    exact loop60 _ _ 22 0 0 (A.1.1 11 (iN a2)) Gt16 (by omega) (by omega) (hw.b11 (by omega)) rfl ht16 hT0
                  · cases hrn15
            · cases hrn7
            · cases hrn7
        · cases hrn4
    · cases hrn1

