abbrev rk_X0_judge : Room := { frames := 15, cells := 40, slots := 3000, locals := 10388 }
theorem tc_judge {l : Launch} {D : hg_D} {lo : Nat} (htr : l.stackTraces = false) {G : hg_G} {ca : Nat → Nat} {A : ab_S} (h : cp_R G ca A) (hW : ab_wf A) {a1 a2 : Int32} :
    hg_M l D lo yX0_judge (wsW_ yX0_judge cX0_judge 4 ((some FieldType.int)) [(0, 29, 30, 21)]) rk_X0_judge [.ref (ca 0), .int a1, .int a2] G (cp_Po ca (sq_judge a1 a2 A)) := by
  refine hg_M.ofH htr (by decide) [some (.ref (ca 0)), some (.int a1), some (.int a2), none] rfl (Nat.le_of_ble_eq_true rfl) ?_
  intro p e s m args below meth c X hr hnm htab
  have X : hg_X p l s m args meth c D lo "TaxOnLooks" cX0_judge 4 := X
  refine hr_room (kr' := 40) (nr' := 3000) (Nat.le_of_ble_eq_true rfl) (Nat.le_of_ble_eq_true rfl) ?_
  have hw := hW.w; have w0 := hw.b0; have w1 := hw.b1; have w2 := hw.b2; have w3 := hw.b3; have w36 := hW.b36; have w43 := hW.b43
  have hpw := sp_wpk hw; have hpb := sp_bpk hw
  obtain ⟨K, hK, hKs, hKb⟩ := h.w.sk
  refine hr_aload0 (q := 1) X dX0_judge_0 rfl ?_
  refine hr_iload1 (q := 2) X dX0_judge_1 rfl ?_
  refine hr_iload2 (q := 3) X dX0_judge_2 rfl ?_
  refine hr_call (kr := 30) (nr := 1500) (q := 6) (hc_V (n := 2) (ci := 0) (As := [.int a1, .int a2]) X dX0_judge_3 rfl (tc_toldAt X.tr h hW (a1 := a1) (a2 := a2)) q1223 cv_X0_toldAt ⟨Nat.le_of_ble_eq_true rfl, Nat.le_of_ble_eq_true rfl⟩ rfl (Nat.le_of_ble_eq_true rfl) h.o.1 rfl rfl) rfl (fun qxn1 E Gxn1 hpn1 _ => ?_) (fun r Gn1 hpn1 _ => ?_)
  · obtain ⟨hgn1, hrn1, hGn1⟩ | ⟨hgn1, qn1, hrn1, htn1⟩ | ⟨hgn1, qn1, hrn1, htn1⟩ | ⟨hgn1, qn1, hrn1, htn1⟩ | ⟨hgn1, qn1, hrn1, htn1⟩ | ⟨hgn1, qn1, hrn1, htn1⟩ := hpn1
    · cases hrn1
    · cases hrn1
      have hxn1 := h.T htn1
      refine hx_catch (name := "TaxOnLooks$Refused") X [] ⟨0, 29, 30, 21⟩ [] htab (fun _ h => absurd h List.not_mem_nil) (by decide) (by decide) q277 (by decide) ?_
      refine hr_astore3 (q := 31) X dX0_judge_30 rfl rfl (Nat.le_of_ble_eq_true rfl) ?_
      refine hr_aload0 (q := 32) X dX0_judge_31 rfl ?_
      refine hr_aload3 (q := 33) X dX0_judge_32 rfl ?_
      refine hr_call0 (q := 36) (hc_V (n := 1) (ci := 0) (As := [.ref qxn1]) X dX0_judge_33 rfl (tc_refused X.tr hxn1 hW (q := qxn1) htn1.2.1 htn1.2.2.1 (k := 1) (by decide) (by decide) (by decide)) q452 cv_X0_refused ⟨Nat.le_of_ble_eq_true rfl, Nat.le_of_ble_eq_true rfl⟩ rfl (Nat.le_of_ble_eq_true rfl) hxn1.o.1 rfl rfl) rfl (fun qx E G' hp => by cases hp.1) (fun r Gf2 hp _ => ?_)
      obtain ⟨hvf2, hhf2⟩ := hp
      cases hvf2
      refine hr_bipush (v := (nI 10)) (q := 38) X dX0_judge_36 rfl rfl ?_
      refine hr_isub (v := ((-1) - (nI 10))) (q := 39) X dX0_judge_38 rfl rfl ?_
      have hq3 : sq_judge a1 a2 A = (((-1) - (nI 10)), (sq_no (-1) A).2) := by
        have hb : sq_barsOf a1 a2 A = -1 := sq_bars_1 hgn1
        rw [sq_judge, hb, if_neg (by decide)]; rfl
      exact hr_iret X hr dX0_judge_39 (by rw [hq3]; exact ⟨rfl, ca, rfl, hhf2⟩)
    · cases hrn1
      have hxn1 := h.T htn1
      refine hx_catch (name := "TaxOnLooks$Refused") X [] ⟨0, 29, 30, 21⟩ [] htab (fun _ h => absurd h List.not_mem_nil) (by decide) (by decide) q277 (by decide) ?_
      refine hr_astore3 (q := 31) X dX0_judge_30 rfl rfl (Nat.le_of_ble_eq_true rfl) ?_
      refine hr_aload0 (q := 32) X dX0_judge_31 rfl ?_
      refine hr_aload3 (q := 33) X dX0_judge_32 rfl ?_
      refine hr_call0 (q := 36) (hc_V (n := 1) (ci := 0) (As := [.ref qxn1]) X dX0_judge_33 rfl (tc_refused X.tr hxn1 hW (q := qxn1) htn1.2.1 htn1.2.2.1 (k := 2) (by decide) (by decide) (by decide)) q452 cv_X0_refused ⟨Nat.le_of_ble_eq_true rfl, Nat.le_of_ble_eq_true rfl⟩ rfl (Nat.le_of_ble_eq_true rfl) hxn1.o.1 rfl rfl) rfl (fun qx E G' hp => by cases hp.1) (fun r Gf4 hp _ => ?_)
      obtain ⟨hvf4, hhf4⟩ := hp
      cases hvf4
      refine hr_bipush (v := (nI 10)) (q := 38) X dX0_judge_36 rfl rfl ?_
      refine hr_isub (v := ((-2) - (nI 10))) (q := 39) X dX0_judge_38 rfl rfl ?_
      have hq5 : sq_judge a1 a2 A = (((-2) - (nI 10)), (sq_no (-2) A).2) := by
        have hb : sq_barsOf a1 a2 A = -2 := sq_bars_2 hgn1.1 hgn1.2
        rw [sq_judge, hb, if_neg (by decide)]; rfl
      exact hr_iret X hr dX0_judge_39 (by rw [hq5]; exact ⟨rfl, ca, rfl, hhf4⟩)
    · cases hrn1
      have hxn1 := h.T htn1
      refine hx_catch (name := "TaxOnLooks$Refused") X [] ⟨0, 29, 30, 21⟩ [] htab (fun _ h => absurd h List.not_mem_nil) (by decide) (by decide) q277 (by decide) ?_
      refine hr_astore3 (q := 31) X dX0_judge_30 rfl rfl (Nat.le_of_ble_eq_true rfl) ?_
      refine hr_aload0 (q := 32) X dX0_judge_31 rfl ?_
      refine hr_aload3 (q := 33) X dX0_judge_32 rfl ?_
      refine hr_call0 (q := 36) (hc_V (n := 1) (ci := 0) (As := [.ref qxn1]) X dX0_judge_33 rfl (tc_refused X.tr hxn1 hW (q := qxn1) htn1.2.1 htn1.2.2.1 (k := 3) (by decide) (by decide) (by decide)) q452 cv_X0_refused ⟨Nat.le_of_ble_eq_true rfl, Nat.le_of_ble_eq_true rfl⟩ rfl (Nat.le_of_ble_eq_true rfl) hxn1.o.1 rfl rfl) rfl (fun qx E G' hp => by cases hp.1) (fun r Gf6 hp _ => ?_)
      obtain ⟨hvf6, hhf6⟩ := hp
      cases hvf6
      refine hr_bipush (v := (nI 10)) (q := 38) X dX0_judge_36 rfl rfl ?_
      refine hr_isub (v := ((-3) - (nI 10))) (q := 39) X dX0_judge_38 rfl rfl ?_
      have hq7 : sq_judge a1 a2 A = (((-3) - (nI 10)), (sq_no (-3) A).2) := by
        have hb : sq_barsOf a1 a2 A = -3 := sq_bars_3 hgn1.1 hgn1.2
        rw [sq_judge, hb, if_neg (by decide)]; rfl
      exact hr_iret X hr dX0_judge_39 (by rw [hq7]; exact ⟨rfl, ca, rfl, hhf6⟩)
    · cases hrn1
      have hxn1 := h.T htn1
      refine hx_catch (name := "TaxOnLooks$Refused") X [] ⟨0, 29, 30, 21⟩ [] htab (fun _ h => absurd h List.not_mem_nil) (by decide) (by decide) q277 (by decide) ?_
      refine hr_astore3 (q := 31) X dX0_judge_30 rfl rfl (Nat.le_of_ble_eq_true rfl) ?_
      refine hr_aload0 (q := 32) X dX0_judge_31 rfl ?_
      refine hr_aload3 (q := 33) X dX0_judge_32 rfl ?_
      refine hr_call0 (q := 36) (hc_V (n := 1) (ci := 0) (As := [.ref qxn1]) X dX0_judge_33 rfl (tc_refused X.tr hxn1 hW (q := qxn1) htn1.2.1 htn1.2.2.1 (k := 4) (by decide) (by decide) (by decide)) q452 cv_X0_refused ⟨Nat.le_of_ble_eq_true rfl, Nat.le_of_ble_eq_true rfl⟩ rfl (Nat.le_of_ble_eq_true rfl) hxn1.o.1 rfl rfl) rfl (fun qx E G' hp => by cases hp.1) (fun r Gf8 hp _ => ?_)
      obtain ⟨hvf8, hhf8⟩ := hp
      cases hvf8
      refine hr_bipush (v := (nI 10)) (q := 38) X dX0_judge_36 rfl rfl ?_
      refine hr_isub (v := ((-4) - (nI 10))) (q := 39) X dX0_judge_38 rfl rfl ?_
      have hq9 : sq_judge a1 a2 A = (((-4) - (nI 10)), (sq_no (-4) A).2) := by
        have hb : sq_barsOf a1 a2 A = -4 := (sq_bars_0 hgn1.1 hgn1.2.1).trans (if_neg hgn1.2.2)
        rw [sq_judge, hb, if_neg (by decide)]; rfl
      exact hr_iret X hr dX0_judge_39 (by rw [hq9]; exact ⟨rfl, ca, rfl, hhf8⟩)
    · cases hrn1
      have hxn1 := h.T htn1
      refine hx_catch (name := "TaxOnLooks$Refused") X [] ⟨0, 29, 30, 21⟩ [] htab (fun _ h => absurd h List.not_mem_nil) (by decide) (by decide) q277 (by decide) ?_
      refine hr_astore3 (q := 31) X dX0_judge_30 rfl rfl (Nat.le_of_ble_eq_true rfl) ?_
      refine hr_aload0 (q := 32) X dX0_judge_31 rfl ?_
      refine hr_aload3 (q := 33) X dX0_judge_32 rfl ?_
      refine hr_call0 (q := 36) (hc_V (n := 1) (ci := 0) (As := [.ref qxn1]) X dX0_judge_33 rfl (tc_refused X.tr hxn1 hW (q := qxn1) htn1.2.1 htn1.2.2.1 (k := 5) (by decide) (by decide) (by decide)) q452 cv_X0_refused ⟨Nat.le_of_ble_eq_true rfl, Nat.le_of_ble_eq_true rfl⟩ rfl (Nat.le_of_ble_eq_true rfl) hxn1.o.1 rfl rfl) rfl (fun qx E G' hp => by cases hp.1) (fun r Gf10 hp _ => ?_)
      obtain ⟨hvf10, hhf10⟩ := hp
      cases hvf10
      refine hr_bipush (v := (nI 10)) (q := 38) X dX0_judge_36 rfl rfl ?_
      refine hr_isub (v := ((-5) - (nI 10))) (q := 39) X dX0_judge_38 rfl rfl ?_
      have hq11 : sq_judge a1 a2 A = (((-5) - (nI 10)), (sq_no (-5) A).2) := by
        have hb : sq_barsOf a1 a2 A = -5 := (sq_bars_0 hgn1.1 hgn1.2.1).trans ((if_pos hgn1.2.2.1).trans (if_neg hgn1.2.2.2))
        rw [sq_judge, hb, if_neg (by decide)]; rfl
      exact hr_iret X hr dX0_judge_39 (by rw [hq11]; exact ⟨rfl, ca, rfl, hhf10⟩)
  · obtain ⟨hgn1, hrn1, hGn1⟩ | ⟨hgn1, qn1, hrn1, htn1⟩ | ⟨hgn1, qn1, hrn1, htn1⟩ | ⟨hgn1, qn1, hrn1, htn1⟩ | ⟨hgn1, qn1, hrn1, htn1⟩ | ⟨hgn1, qn1, hrn1, htn1⟩ := hpn1
    · cases hrn1
      have hGn1 := hGn1.symm
      subst hGn1
      obtain ⟨hin, h18, hz4, hz5⟩ := hgn1
      have h19w := hW.b20 (j := iN a1) (by have := (sp_in_n hin (by decide)).2; omega)
      have lin := (sp_in_n hin (by decide)).2
      obtain ⟨ea2, ma2⟩ := sp_geN (Int32.not_lt.mpr hz4)
      have la2 : iN a2 ≤ (A.1.1 20 (iN a1)) := by
        have e := hz5
        rw [ea2] at e
        exact (nI_leI ma2 (by omega)).mp e
      refine hr_L (L' := [some (.ref (ca 0)), some (.int a1), some (.int (nI (iN a2))), none]) (by rw [← ea2]) ?_
      refine hr_astore3 (q := 7) X dX0_judge_6 rfl rfl (Nat.le_of_ble_eq_true rfl) ?_
      refine hr_iload2 (q := 8) X dX0_judge_7 rfl ?_
      refine hr_bipush (v := (nI 40)) (q := 10) X dX0_judge_8 rfl rfl ?_
      refine hr_icmpN_gt (q := 13) (tgt := 17) X dX0_judge_10 rfl (by decide) (by omega) (by omega) (fun c10 => ?_) (fun c10 => ?_)
      · have hz6 : ¬ a2 ≤ nI 40 := fun g => by
          rw [ea2] at g
          have := (nI_leI ma2 (by decide)).mp g
          omega
        have hb : sq_barsOf a1 a2 A = -6 := (sq_bars_0 hin h18).trans ((if_pos hz4).trans ((if_pos hz5).trans (if_neg hz6)))
        refine hr_iconst (v := (bI false)) (q := 18) X dX0_judge_17 rfl rfl ?_
        refine hr_bipush (v := (-6)) (q := 20) X dX0_judge_18 rfl rfl ?_
        refine hr_call (kr := 29) (nr := 1493) (q := 23) (hc_S (n := 2) (As := [.int (bI false), .int (-6)]) X dX0_judge_20 rfl (tc_need X.tr (g := false) (w := (-6))) q383 cs_X0_need ⟨Nat.le_of_ble_eq_true rfl, Nat.le_of_ble_eq_true rfl⟩ rfl (Nat.le_of_ble_eq_true rfl)) rfl (fun qxn12 E Gxn12 hpn12 _ => ?_) (fun r Gn12 hpn12 _ => ?_)
        · obtain ⟨hgn12, hrn12, -⟩ | ⟨hgn12, qn12, hrn12, htn12⟩ := hpn12
          · cases hrn12
          · cases hrn12
            have hxn12 := h.T htn12
            refine hx_catch (name := "TaxOnLooks$Refused") X [] ⟨0, 29, 30, 21⟩ [] htab (fun _ h => absurd h List.not_mem_nil) (by decide) (by decide) q277 (by decide) ?_
            refine hr_astore3 (q := 31) X dX0_judge_30 rfl rfl (Nat.le_of_ble_eq_true rfl) ?_
            refine hr_aload0 (q := 32) X dX0_judge_31 rfl ?_
            refine hr_aload3 (q := 33) X dX0_judge_32 rfl ?_
            refine hr_call0 (q := 36) (hc_V (n := 1) (ci := 0) (As := [.ref qxn12]) X dX0_judge_33 rfl (tc_refused X.tr hxn12 hW (q := qxn12) htn12.2.1 htn12.2.2.1 (k := 6) (by decide) (by decide) (by decide)) q452 cv_X0_refused ⟨Nat.le_of_ble_eq_true rfl, Nat.le_of_ble_eq_true rfl⟩ rfl (Nat.le_of_ble_eq_true rfl) hxn12.o.1 rfl rfl) rfl (fun qx E G' hp => by cases hp.1) (fun r Gf13 hp _ => ?_)
            obtain ⟨hvf13, hhf13⟩ := hp
            cases hvf13
            refine hr_bipush (v := (nI 10)) (q := 38) X dX0_judge_36 rfl rfl ?_
            refine hr_isub (v := ((-6) - (nI 10))) (q := 39) X dX0_judge_38 rfl rfl ?_
            have hq14 : sq_judge a1 a2 A = (((-6) - (nI 10)), (sq_no (-6) A).2) := by
              rw [sq_judge, hb, if_neg (by decide)]; rfl
            exact hr_iret X hr dX0_judge_39 (by rw [hq14]; exact ⟨rfl, ca, rfl, hhf13⟩)
        · obtain ⟨hgn12, hrn12, hGn12⟩ | ⟨hgn12, qn12, hrn12, htn12⟩ := hpn12
          · cases hgn12
          · cases hrn12
      · have hz6 : a2 ≤ nI 40 := by
          rw [ea2]
          exact (nI_leI ma2 (by decide)).mpr (by omega)
        have hb : sq_barsOf a1 a2 A = 0 := (sq_bars_0 hin h18).trans ((if_pos hz4).trans ((if_pos hz5).trans (if_pos hz6)))
        refine hr_iconst (v := (bI true)) (q := 14) X dX0_judge_13 rfl rfl ?_
        refine hr_goto (tgt := 18) X dX0_judge_14 (by decide) ?_
        refine hr_bipush (v := (-6)) (q := 20) X dX0_judge_18 rfl rfl ?_
        refine hr_call (kr := 29) (nr := 1493) (q := 23) (hc_S (n := 2) (As := [.int (bI true), .int (-6)]) X dX0_judge_20 rfl (tc_need X.tr (g := true) (w := (-6))) q383 cs_X0_need ⟨Nat.le_of_ble_eq_true rfl, Nat.le_of_ble_eq_true rfl⟩ rfl (Nat.le_of_ble_eq_true rfl)) rfl (fun qxn15 E Gxn15 hpn15 _ => ?_) (fun r Gn15 hpn15 _ => ?_)
        · obtain ⟨hgn15, hrn15, -⟩ | ⟨hgn15, qn15, hrn15, htn15⟩ := hpn15
          · cases hrn15
          · cases hgn15
        · obtain ⟨hgn15, hrn15, hGn15⟩ | ⟨hgn15, qn15, hrn15, htn15⟩ := hpn15
          · cases hrn15
            have hGn15 := hGn15.symm
            subst hGn15
            refine hr_aload0 (q := 24) X dX0_judge_23 rfl ?_
            refine hr_aload3 (q := 25) X dX0_judge_24 rfl ?_
            refine hr_iload2 (q := 26) X dX0_judge_25 rfl ?_
            refine hr_call0 (q := 29) (hc_V (n := 2) (ci := 0) (As := [.ref (ca (31 + iN a1)), .int (nI (iN a2))]) X dX0_judge_26 rfl (tc_wrongIn X.tr h hW (s9 := iN a1) (n9 := iN a2) (by omega) h18 (by omega) (by omega)) q1227 cv_X0_wrongIn ⟨Nat.le_of_ble_eq_true rfl, Nat.le_of_ble_eq_true rfl⟩ rfl (Nat.le_of_ble_eq_true rfl) h.o.1 rfl rfl) rfl (fun qx E G' hp => by cases hp.1) (fun r Gwr16 hp _ => ?_)
            obtain ⟨hvwr16, hwr16, hxwr16⟩ := hp
            cases hvwr16
            have hbd := sq_bad_le (A := A) (s := iN a1) (n := iN a2) 41 0
            have hq17 : sq_judge a1 a2 A = ((oI (sq_bad A (iN a1) (iN a2) 41 0)), A) := by
              rw [sq_judge, if_pos hb]
            exact hr_iret X hr dX0_judge_29 (by rw [hq17]; exact ⟨rfl, ca, rfl, hwr16⟩)
          · cases hrn15
    · cases hrn1
    · cases hrn1
    · cases hrn1
    · cases hrn1
    · cases hrn1

abbrev rk_X0_done : Room := { frames := 15, cells := 40, slots := 3000, locals := 10388 }
theorem tc_done {l : Launch} {D : hg_D} {lo : Nat} (htr : l.stackTraces = false) {G : hg_G} {ca : Nat → Nat} {A : ab_S} (h : cp_R G ca A) (hW : ab_wf A) {a1 a2 : Int32} :
    hg_M l D lo yX0_done (wsW_ yX0_done cX0_done 4 ((some FieldType.int)) [(0, 81, 82, 21)]) rk_X0_done [.ref (ca 0), .int a1, .int a2] G (cp_Po ca (sq_done a1 a2 A)) := by
  refine hg_M.ofH htr (by decide) [some (.ref (ca 0)), some (.int a1), some (.int a2), none] rfl (Nat.le_of_ble_eq_true rfl) ?_
  intro p e s m args below meth c X hr hnm htab
  have X : hg_X p l s m args meth c D lo "TaxOnLooks" cX0_done 4 := X
  refine hr_room (kr' := 40) (nr' := 3000) (Nat.le_of_ble_eq_true rfl) (Nat.le_of_ble_eq_true rfl) ?_
  have hw := hW.w; have w0 := hw.b0; have w1 := hw.b1; have w2 := hw.b2; have w3 := hw.b3; have w36 := hW.b36; have w43 := hW.b43
  have hpw := sp_wpk hw; have hpb := sp_bpk hw
  obtain ⟨K, hK, hKs, hKb⟩ := h.w.sk
  refine hr_aload0 (q := 1) X dX0_done_0 rfl ?_
  refine hr_iload1 (q := 2) X dX0_done_1 rfl ?_
  refine hr_iload2 (q := 3) X dX0_done_2 rfl ?_
  refine hr_call (kr := 30) (nr := 1500) (q := 6) (hc_V (n := 2) (ci := 0) (As := [.int a1, .int a2]) X dX0_done_3 rfl (tc_toldAt X.tr h hW (a1 := a1) (a2 := a2)) q1223 cv_X0_toldAt ⟨Nat.le_of_ble_eq_true rfl, Nat.le_of_ble_eq_true rfl⟩ rfl (Nat.le_of_ble_eq_true rfl) h.o.1 rfl rfl) rfl (fun qxn1 E Gxn1 hpn1 _ => ?_) (fun r Gn1 hpn1 _ => ?_)
  · obtain ⟨hgn1, hrn1, hGn1⟩ | ⟨hgn1, qn1, hrn1, htn1⟩ | ⟨hgn1, qn1, hrn1, htn1⟩ | ⟨hgn1, qn1, hrn1, htn1⟩ | ⟨hgn1, qn1, hrn1, htn1⟩ | ⟨hgn1, qn1, hrn1, htn1⟩ := hpn1
    · cases hrn1
    · cases hrn1
      have hxn1 := h.T htn1
      refine hx_catch (name := "TaxOnLooks$Refused") X [] ⟨0, 81, 82, 21⟩ [] htab (fun _ h => absurd h List.not_mem_nil) (by decide) (by decide) q277 (by decide) ?_
      refine hr_astore3 (q := 83) X dX0_done_82 rfl rfl (Nat.le_of_ble_eq_true rfl) ?_
      refine hr_aload0 (q := 84) X dX0_done_83 rfl ?_
      refine hr_aload3 (q := 85) X dX0_done_84 rfl ?_
      refine hr_call0 (q := 88) (hc_V (n := 1) (ci := 0) (As := [.ref qxn1]) X dX0_done_85 rfl (tc_refused X.tr hxn1 hW (q := qxn1) htn1.2.1 htn1.2.2.1 (k := 1) (by decide) (by decide) (by decide)) q452 cv_X0_refused ⟨Nat.le_of_ble_eq_true rfl, Nat.le_of_ble_eq_true rfl⟩ rfl (Nat.le_of_ble_eq_true rfl) hxn1.o.1 rfl rfl) rfl (fun qx E G' hp => by cases hp.1) (fun r Gf2 hp _ => ?_)
      obtain ⟨hvf2, hhf2⟩ := hp
      cases hvf2
      have hq3 : sq_done a1 a2 A = ((-1), (sq_no (-1) A).2) := by
        have hb : sq_barsOf a1 a2 A = -1 := sq_bars_1 hgn1
        rw [sq_done, hb, if_neg (by decide)]; rfl
      exact hr_iret X hr dX0_done_88 (by rw [hq3]; exact ⟨rfl, ca, rfl, hhf2⟩)
    · cases hrn1
      have hxn1 := h.T htn1
      refine hx_catch (name := "TaxOnLooks$Refused") X [] ⟨0, 81, 82, 21⟩ [] htab (fun _ h => absurd h List.not_mem_nil) (by decide) (by decide) q277 (by decide) ?_
      refine hr_astore3 (q := 83) X dX0_done_82 rfl rfl (Nat.le_of_ble_eq_true rfl) ?_
      refine hr_aload0 (q := 84) X dX0_done_83 rfl ?_
      refine hr_aload3 (q := 85) X dX0_done_84 rfl ?_
      refine hr_call0 (q := 88) (hc_V (n := 1) (ci := 0) (As := [.ref qxn1]) X dX0_done_85 rfl (tc_refused X.tr hxn1 hW (q := qxn1) htn1.2.1 htn1.2.2.1 (k := 2) (by decide) (by decide) (by decide)) q452 cv_X0_refused ⟨Nat.le_of_ble_eq_true rfl, Nat.le_of_ble_eq_true rfl⟩ rfl (Nat.le_of_ble_eq_true rfl) hxn1.o.1 rfl rfl) rfl (fun qx E G' hp => by cases hp.1) (fun r Gf4 hp _ => ?_)
      obtain ⟨hvf4, hhf4⟩ := hp
      cases hvf4
      have hq5 : sq_done a1 a2 A = ((-2), (sq_no (-2) A).2) := by
        have hb : sq_barsOf a1 a2 A = -2 := sq_bars_2 hgn1.1 hgn1.2
        rw [sq_done, hb, if_neg (by decide)]; rfl
      exact hr_iret X hr dX0_done_88 (by rw [hq5]; exact ⟨rfl, ca, rfl, hhf4⟩)
    · cases hrn1
      have hxn1 := h.T htn1
      refine hx_catch (name := "TaxOnLooks$Refused") X [] ⟨0, 81, 82, 21⟩ [] htab (fun _ h => absurd h List.not_mem_nil) (by decide) (by decide) q277 (by decide) ?_
      refine hr_astore3 (q := 83) X dX0_done_82 rfl rfl (Nat.le_of_ble_eq_true rfl) ?_
      refine hr_aload0 (q := 84) X dX0_done_83 rfl ?_
      refine hr_aload3 (q := 85) X dX0_done_84 rfl ?_
      refine hr_call0 (q := 88) (hc_V (n := 1) (ci := 0) (As := [.ref qxn1]) X dX0_done_85 rfl (tc_refused X.tr hxn1 hW (q := qxn1) htn1.2.1 htn1.2.2.1 (k := 3) (by decide) (by decide) (by decide)) q452 cv_X0_refused ⟨Nat.le_of_ble_eq_true rfl, Nat.le_of_ble_eq_true rfl⟩ rfl (Nat.le_of_ble_eq_true rfl) hxn1.o.1 rfl rfl) rfl (fun qx E G' hp => by cases hp.1) (fun r Gf6 hp _ => ?_)
      obtain ⟨hvf6, hhf6⟩ := hp
      cases hvf6
      have hq7 : sq_done a1 a2 A = ((-3), (sq_no (-3) A).2) := by
        have hb : sq_barsOf a1 a2 A = -3 := sq_bars_3 hgn1.1 hgn1.2
        rw [sq_done, hb, if_neg (by decide)]; rfl
      exact hr_iret X hr dX0_done_88 (by rw [hq7]; exact ⟨rfl, ca, rfl, hhf6⟩)
    · cases hrn1
      have hxn1 := h.T htn1
      refine hx_catch (name := "TaxOnLooks$Refused") X [] ⟨0, 81, 82, 21⟩ [] htab (fun _ h => absurd h List.not_mem_nil) (by decide) (by decide) q277 (by decide) ?_
      refine hr_astore3 (q := 83) X dX0_done_82 rfl rfl (Nat.le_of_ble_eq_true rfl) ?_
      refine hr_aload0 (q := 84) X dX0_done_83 rfl ?_
      refine hr_aload3 (q := 85) X dX0_done_84 rfl ?_
      refine hr_call0 (q := 88) (hc_V (n := 1) (ci := 0) (As := [.ref qxn1]) X dX0_done_85 rfl (tc_refused X.tr hxn1 hW (q := qxn1) htn1.2.1 htn1.2.2.1 (k := 4) (by decide) (by decide) (by decide)) q452 cv_X0_refused ⟨Nat.le_of_ble_eq_true rfl, Nat.le_of_ble_eq_true rfl⟩ rfl (Nat.le_of_ble_eq_true rfl) hxn1.o.1 rfl rfl) rfl (fun qx E G' hp => by cases hp.1) (fun r Gf8 hp _ => ?_)
      obtain ⟨hvf8, hhf8⟩ := hp
      cases hvf8
      have hq9 : sq_done a1 a2 A = ((-4), (sq_no (-4) A).2) := by
        have hb : sq_barsOf a1 a2 A = -4 := (sq_bars_0 hgn1.1 hgn1.2.1).trans (if_neg hgn1.2.2)
        rw [sq_done, hb, if_neg (by decide)]; rfl
      exact hr_iret X hr dX0_done_88 (by rw [hq9]; exact ⟨rfl, ca, rfl, hhf8⟩)
    · cases hrn1
      have hxn1 := h.T htn1
      refine hx_catch (name := "TaxOnLooks$Refused") X [] ⟨0, 81, 82, 21⟩ [] htab (fun _ h => absurd h List.not_mem_nil) (by decide) (by decide) q277 (by decide) ?_
      refine hr_astore3 (q := 83) X dX0_done_82 rfl rfl (Nat.le_of_ble_eq_true rfl) ?_
      refine hr_aload0 (q := 84) X dX0_done_83 rfl ?_
      refine hr_aload3 (q := 85) X dX0_done_84 rfl ?_
      refine hr_call0 (q := 88) (hc_V (n := 1) (ci := 0) (As := [.ref qxn1]) X dX0_done_85 rfl (tc_refused X.tr hxn1 hW (q := qxn1) htn1.2.1 htn1.2.2.1 (k := 5) (by decide) (by decide) (by decide)) q452 cv_X0_refused ⟨Nat.le_of_ble_eq_true rfl, Nat.le_of_ble_eq_true rfl⟩ rfl (Nat.le_of_ble_eq_true rfl) hxn1.o.1 rfl rfl) rfl (fun qx E G' hp => by cases hp.1) (fun r Gf10 hp _ => ?_)
      obtain ⟨hvf10, hhf10⟩ := hp
      cases hvf10
      have hq11 : sq_done a1 a2 A = ((-5), (sq_no (-5) A).2) := by
        have hb : sq_barsOf a1 a2 A = -5 := (sq_bars_0 hgn1.1 hgn1.2.1).trans ((if_pos hgn1.2.2.1).trans (if_neg hgn1.2.2.2))
        rw [sq_done, hb, if_neg (by decide)]; rfl
      exact hr_iret X hr dX0_done_88 (by rw [hq11]; exact ⟨rfl, ca, rfl, hhf10⟩)
  · obtain ⟨hgn1, hrn1, hGn1⟩ | ⟨hgn1, qn1, hrn1, htn1⟩ | ⟨hgn1, qn1, hrn1, htn1⟩ | ⟨hgn1, qn1, hrn1, htn1⟩ | ⟨hgn1, qn1, hrn1, htn1⟩ | ⟨hgn1, qn1, hrn1, htn1⟩ := hpn1
    · cases hrn1
      have hGn1 := hGn1.symm
      subst hGn1
      obtain ⟨hin, h18, hz4, hz5⟩ := hgn1
      have h19w := hW.b20 (j := iN a1) (by have := (sp_in_n hin (by decide)).2; omega)
      have lin := (sp_in_n hin (by decide)).2
      obtain ⟨ea2, ma2⟩ := sp_geN (Int32.not_lt.mpr hz4)
      have la2 : iN a2 ≤ (A.1.1 20 (iN a1)) := by
        have e := hz5
        rw [ea2] at e
        exact (nI_leI ma2 (by omega)).mp e
      refine hr_L (L' := [some (.ref (ca 0)), some (.int a1), some (.int (nI (iN a2))), none]) (by rw [← ea2]) ?_
      refine hr_astore3 (q := 7) X dX0_done_6 rfl rfl (Nat.le_of_ble_eq_true rfl) ?_
      refine hr_iload2 (q := 8) X dX0_done_7 rfl ?_
      refine hr_bipush (v := (nI 40)) (q := 10) X dX0_done_8 rfl rfl ?_
      refine hr_icmpN_gt (q := 13) (tgt := 27) X dX0_done_10 rfl (by decide) (by omega) (by omega) (fun c10 => ?_) (fun c10 => ?_)
      · have hz6 : ¬ a2 ≤ nI 40 := fun g => by
          rw [ea2] at g
          have := (nI_leI ma2 (by decide)).mp g
          omega
        have hb : sq_barsOf a1 a2 A = -6 := (sq_bars_0 hin h18).trans ((if_pos hz4).trans ((if_pos hz5).trans (if_neg hz6)))
        refine hr_iconst (v := (bI false)) (q := 28) X dX0_done_27 rfl rfl ?_
        refine hr_bipush (v := (-6)) (q := 30) X dX0_done_28 rfl rfl ?_
        refine hr_call (kr := 29) (nr := 1493) (q := 33) (hc_S (n := 2) (As := [.int (bI false), .int (-6)]) X dX0_done_30 rfl (tc_need X.tr (g := false) (w := (-6))) q383 cs_X0_need ⟨Nat.le_of_ble_eq_true rfl, Nat.le_of_ble_eq_true rfl⟩ rfl (Nat.le_of_ble_eq_true rfl)) rfl (fun qxn12 E Gxn12 hpn12 _ => ?_) (fun r Gn12 hpn12 _ => ?_)
        · obtain ⟨hgn12, hrn12, -⟩ | ⟨hgn12, qn12, hrn12, htn12⟩ := hpn12
          · cases hrn12
          · cases hrn12
            have hxn12 := h.T htn12
            refine hx_catch (name := "TaxOnLooks$Refused") X [] ⟨0, 81, 82, 21⟩ [] htab (fun _ h => absurd h List.not_mem_nil) (by decide) (by decide) q277 (by decide) ?_
            refine hr_astore3 (q := 83) X dX0_done_82 rfl rfl (Nat.le_of_ble_eq_true rfl) ?_
            refine hr_aload0 (q := 84) X dX0_done_83 rfl ?_
            refine hr_aload3 (q := 85) X dX0_done_84 rfl ?_
            refine hr_call0 (q := 88) (hc_V (n := 1) (ci := 0) (As := [.ref qxn12]) X dX0_done_85 rfl (tc_refused X.tr hxn12 hW (q := qxn12) htn12.2.1 htn12.2.2.1 (k := 6) (by decide) (by decide) (by decide)) q452 cv_X0_refused ⟨Nat.le_of_ble_eq_true rfl, Nat.le_of_ble_eq_true rfl⟩ rfl (Nat.le_of_ble_eq_true rfl) hxn12.o.1 rfl rfl) rfl (fun qx E G' hp => by cases hp.1) (fun r Gf13 hp _ => ?_)
            obtain ⟨hvf13, hhf13⟩ := hp
            cases hvf13
            have hq14 : sq_done a1 a2 A = ((-6), (sq_no (-6) A).2) := by
              rw [sq_done, hb, if_neg (by decide)]; rfl
            exact hr_iret X hr dX0_done_88 (by rw [hq14]; exact ⟨rfl, ca, rfl, hhf13⟩)
        · obtain ⟨hgn12, hrn12, hGn12⟩ | ⟨hgn12, qn12, hrn12, htn12⟩ := hpn12
          · cases hgn12
          · cases hrn12
      · have hz6 : a2 ≤ nI 40 := by
          rw [ea2]
          exact (nI_leI ma2 (by decide)).mpr (by omega)
        have hb : sq_barsOf a1 a2 A = 0 := (sq_bars_0 hin h18).trans ((if_pos hz4).trans ((if_pos hz5).trans (if_pos hz6)))
        refine hr_aload0 (q := 14) X dX0_done_13 rfl ?_
        refine hr_aload3 (q := 15) X dX0_done_14 rfl ?_
        refine hr_iload2 (q := 16) X dX0_done_15 rfl ?_
        refine hr_call0 (q := 19) (hc_V (n := 2) (ci := 0) (As := [.ref (ca (31 + iN a1)), .int (nI (iN a2))]) X dX0_done_16 rfl (tc_wrongIn X.tr h hW (s9 := iN a1) (n9 := iN a2) (by omega) h18 (by omega) (by omega)) q1227 cv_X0_wrongIn ⟨Nat.le_of_ble_eq_true rfl, Nat.le_of_ble_eq_true rfl⟩ rfl (Nat.le_of_ble_eq_true rfl) h.o.1 rfl rfl) rfl (fun qx E G' hp => by cases hp.1) (fun r Gwr15 hp _ => ?_)
        obtain ⟨hvwr15, hwr15, hxwr15⟩ := hp
        cases hvwr15
        have hbd := sq_bad_le (A := A) (s := iN a1) (n := iN a2) 41 0
        refine hr_iconst (v := (-1)) (q := 20) X dX0_done_19 rfl rfl ?_
        refine hr_icmpO_ne (q := 23) (tgt := 27) X dX0_done_20 rfl (by decide) (by omega) (fun c20 => ?_) (fun c20 => ?_)
        · refine hr_iconst (v := (bI false)) (q := 28) X dX0_done_27 rfl rfl ?_
          refine hr_bipush (v := (-6)) (q := 30) X dX0_done_28 rfl rfl ?_
          refine hr_call (kr := 29) (nr := 1493) (q := 33) (hc_S (n := 2) (As := [.int (bI false), .int (-6)]) X dX0_done_30 rfl (tc_need X.tr (g := false) (w := (-6))) q383 cs_X0_need ⟨Nat.le_of_ble_eq_true rfl, Nat.le_of_ble_eq_true rfl⟩ rfl (Nat.le_of_ble_eq_true rfl)) rfl (fun qxn16 E Gxn16 hpn16 _ => ?_) (fun r Gn16 hpn16 _ => ?_)
          · obtain ⟨hgn16, hrn16, -⟩ | ⟨hgn16, qn16, hrn16, htn16⟩ := hpn16
            · cases hrn16
            · cases hrn16
              have hxn16 := hwr15.T htn16
              refine hx_catch (name := "TaxOnLooks$Refused") X [] ⟨0, 81, 82, 21⟩ [] htab (fun _ h => absurd h List.not_mem_nil) (by decide) (by decide) q277 (by decide) ?_
              refine hr_astore3 (q := 83) X dX0_done_82 rfl rfl (Nat.le_of_ble_eq_true rfl) ?_
              refine hr_aload0 (q := 84) X dX0_done_83 rfl ?_
              refine hr_aload3 (q := 85) X dX0_done_84 rfl ?_
              refine hr_call0 (q := 88) (hc_V (n := 1) (ci := 0) (As := [.ref qxn16]) X dX0_done_85 rfl (tc_refused X.tr hxn16 hW (q := qxn16) htn16.2.1 htn16.2.2.1 (k := 6) (by decide) (by decide) (by decide)) q452 cv_X0_refused ⟨Nat.le_of_ble_eq_true rfl, Nat.le_of_ble_eq_true rfl⟩ rfl (Nat.le_of_ble_eq_true rfl) hxn16.o.1 rfl rfl) rfl (fun qx E G' hp => by cases hp.1) (fun r Gf17 hp _ => ?_)
              obtain ⟨hvf17, hhf17⟩ := hp
              cases hvf17
              have hq18 : sq_done a1 a2 A = ((-6), (sq_no (-6) A).2) := by
                rw [sq_done, if_pos hb, if_neg (by omega)]; rfl
              exact hr_iret X hr dX0_done_88 (by rw [hq18]; exact ⟨rfl, ca, rfl, hhf17⟩)
          · obtain ⟨hgn16, hrn16, hGn16⟩ | ⟨hgn16, qn16, hrn16, htn16⟩ := hpn16
            · cases hgn16
            · cases hrn16
        · refine hr_iconst (v := (bI true)) (q := 24) X dX0_done_23 rfl rfl ?_
          refine hr_goto (tgt := 28) X dX0_done_24 (by decide) ?_
          refine hr_bipush (v := (-6)) (q := 30) X dX0_done_28 rfl rfl ?_
          refine hr_call (kr := 29) (nr := 1493) (q := 33) (hc_S (n := 2) (As := [.int (bI true), .int (-6)]) X dX0_done_30 rfl (tc_need X.tr (g := true) (w := (-6))) q383 cs_X0_need ⟨Nat.le_of_ble_eq_true rfl, Nat.le_of_ble_eq_true rfl⟩ rfl (Nat.le_of_ble_eq_true rfl)) rfl (fun qxn19 E Gxn19 hpn19 _ => ?_) (fun r Gn19 hpn19 _ => ?_)
          · obtain ⟨hgn19, hrn19, -⟩ | ⟨hgn19, qn19, hrn19, htn19⟩ := hpn19
            · cases hrn19
            · cases hgn19
          · obtain ⟨hgn19, hrn19, hGn19⟩ | ⟨hgn19, qn19, hrn19, htn19⟩ := hpn19
            · cases hrn19
              have hGn19 := hGn19.symm
              subst hGn19
              refine hr_aload0 (q := 34) X dX0_done_33 rfl ?_
              refine hr_getR (v := (cp_w ca 0)) (q := 37) X dX0_done_34 rfl fr_q250_0 rfl hwr15.o.1 hwr15.o.2.2.2.2.2.2.1 ?_
              refine hr_aload0 (q := 38) X dX0_done_37 rfl ?_
              refine hr_getR (v := (cp_d ca 0)) (q := 41) X dX0_done_38 rfl fr_q248_0 rfl hwr15.o.1 hwr15.o.2.2.2.2.1 ?_
              obtain ⟨hTd, hpd, hpe⟩ := hxwr15 (by omega)
              have hWn : ab_wf (sq_str A (iN a1) (iN a2)).1 := by
                have := ab_wf.after hW (iN a1) (iN a2) (by omega)
                rwa [sq_after, sq_upto, if_pos (by omega)] at this
              obtain ⟨eq1, eq2, eq3⟩ := sq_str_eq0 A (iN a1) (iN a2)
              refine hr_call0 (q := 44) (hc_V (n := 1) (ci := 2) (As := [.ref (cp_d ca 0)]) X dX0_done_41 rfl (tn_take_c X.tr (ta := cp_w ca) hTd hWn.w.b0 hWn.w.b3 (fun p hp => hWn.w.b9 hp) hwr15.w.K hwr15.wD hwr15.wd) q816 cv_X2_take ⟨Nat.le_of_ble_eq_true rfl, Nat.le_of_ble_eq_true rfl⟩ rfl (Nat.le_of_ble_eq_true rfl) hwr15.w.ob rfl rfl) rfl (fun qx E G' hp => by cases hp.1) (fun r Gk hp _ => ?_)
              obtain ⟨hvk, hTk, -, hfk, hpk⟩ := hp
              cases hvk
              rw [sp_set_99 hWn.b36] at hTk
              have hmany : (sq_str A (iN a1) (iN a2)).1.1.1 0 0 = A.1.1 0 0 := sq_str_n _ _ _
              have hk : cp_R Gk ca ((sq_str A (iN a1) (iN a2)).1.1, A.2) := hwr15.town2 hW (cp_Ww hfk) (fun p hp => (hpk p (by omega)).trans (hpe p hp)) hTk (fun a h1 _ => eq1 a (by omega) (by omega)) (by rw [eq2]) (by rw [eq2])
              rw [show ((sq_str A (iN a1) (iN a2)).1.1, A.2) = (sq_str A (iN a1) (iN a2)).1 from by rw [← eq3]] at hk
              have hp0 : Gk.2.1 (ca 0) 8 = nI (sq_str A (iN a1) (iN a2)).2 := (hfk _ (fun ⟨i, hi, e⟩ => by have := hwr15.j 0 (21 + i) (.w (by decide)) (.w (by omega)) e; omega)).2.1 8 |>.trans hpd
              generalize hB : (sq_str A (iN a1) (iN a2)) = Z at hk hp0 hWn
              refine hr_pop (q := 45) X dX0_done_44 rfl rfl ?_
              refine hr_aload0 (q := 46) X dX0_done_45 rfl ?_
              refine hr_getR (v := (cp_w ca 0)) (q := 49) X dX0_done_46 rfl fr_q250_0 rfl hk.o.1 hk.o.2.2.2.2.2.2.1 ?_
              refine hr_dup (q := 50) X dX0_done_49 rfl rfl ?_
              refine hr_getI (v := (Z.1.1.2 5)) (q := 53) X dX0_done_50 rfl fr_q166_2 rfl hk.w.ob hk.w.f5 ?_
              refine hr_aload0 (q := 54) X dX0_done_53 rfl ?_
              refine hr_getI (v := (nI Z.2)) (q := 57) X dX0_done_54 rfl fr_q253_0 rfl hk.o.1 hp0 ?_
              refine hr_iadd (v := ((Z.1.1.2 5) + (nI Z.2))) (q := 58) X dX0_done_57 rfl rfl ?_
              refine hr_putI (q := 61) X dX0_done_58 rfl fw_q166_2 (fun h => nomatch h) rfl rfl rfl hk.w.ob ?_
              have z20 : cp_R (hs_I Gk (cp_w ca 0) 5 ((Z.1.1.2 5) + (nI Z.2))) ca (ab_i Z.1 5 ((Z.1.1.2 5) + (nI Z.2))) := hk.town (hg_fr.rf.I ⟨21, .w (by decide), ⟨by decide, by decide, by decide⟩, rfl⟩) (hk.w.seti hk.wD (k := 5) (by decide) _) (fun a h1 h2 => funext fun i => by first | rfl | exact sp_set_o (by omega)) rfl rfl
              refine hr_aload0 (q := 62) X dX0_done_61 rfl ?_
              refine hr_getR (v := (cp_w ca 0)) (q := 65) X dX0_done_62 rfl fr_q250_0 rfl z20.o.1 z20.o.2.2.2.2.2.2.1 ?_
              refine hr_dup (q := 66) X dX0_done_65 rfl rfl ?_
              refine hr_getI (v := ((ab_i Z.1 5 ((Z.1.1.2 5) + (nI Z.2))).1.2 4)) (q := 69) X dX0_done_66 rfl fr_q164_2 rfl z20.w.ob z20.w.f4 ?_
              refine hr_iconst (v := (nI 1)) (q := 70) X dX0_done_69 rfl rfl ?_
              refine hr_iadd (v := (((ab_i Z.1 5 ((Z.1.1.2 5) + (nI Z.2))).1.2 4) + (nI 1))) (q := 71) X dX0_done_70 rfl rfl ?_
              refine hr_putI (q := 74) X dX0_done_71 rfl fw_q164_2 (fun h => nomatch h) rfl rfl rfl z20.w.ob ?_
              have z21 : cp_R (hs_I (hs_I Gk (cp_w ca 0) 5 ((Z.1.1.2 5) + (nI Z.2))) (cp_w ca 0) 4 (((ab_i Z.1 5 ((Z.1.1.2 5) + (nI Z.2))).1.2 4) + (nI 1))) ca (ab_i (ab_i Z.1 5 ((Z.1.1.2 5) + (nI Z.2))) 4 (((ab_i Z.1 5 ((Z.1.1.2 5) + (nI Z.2))).1.2 4) + (nI 1))) := z20.town (hg_fr.rf.I ⟨21, .w (by decide), ⟨by decide, by decide, by decide⟩, rfl⟩) (z20.w.seti z20.wD (k := 4) (by decide) _) (fun a h1 h2 => funext fun i => by first | rfl | exact sp_set_o (by omega)) rfl rfl
              refine hr_aload0 (q := 75) X dX0_done_74 rfl ?_
              refine hr_getR (v := (cp_w ca 0)) (q := 78) X dX0_done_75 rfl fr_q250_0 rfl z21.o.1 z21.o.2.2.2.2.2.2.1 ?_
              refine hr_getI (v := ((ab_i (ab_i Z.1 5 ((Z.1.1.2 5) + (nI Z.2))) 4 (((ab_i Z.1 5 ((Z.1.1.2 5) + (nI Z.2))).1.2 4) + (nI 1))).1.2 5)) (q := 81) X dX0_done_78 rfl fr_q166_2 rfl z21.w.ob z21.w.f5 ?_
              have hq22 : sq_done a1 a2 A = (((ab_i (ab_i Z.1 5 ((Z.1.1.2 5) + (nI Z.2))) 4 (((ab_i Z.1 5 ((Z.1.1.2 5) + (nI Z.2))).1.2 4) + (nI 1))).1.2 5), (ab_i (ab_i Z.1 5 ((Z.1.1.2 5) + (nI Z.2))) 4 (((ab_i Z.1 5 ((Z.1.1.2 5) + (nI Z.2))).1.2 4) + (nI 1)))) := by
                rw [sq_done, if_pos hb, if_pos (by omega), sq_after, sq_upto, if_pos (by omega), hB]; rfl
              exact hr_iret X hr dX0_done_81 (by rw [hq22]; exact ⟨rfl, ca, rfl, z21⟩)
            · cases hrn19
    · cases hrn1
    · cases hrn1
    · cases hrn1
    · cases hrn1
    · cases hrn1

theorem tc_emptyPurses {l : Launch} {D : hg_D} {lo : Nat} (htr : l.stackTraces = false) {G : hg_G} {ca : Nat → Nat} {A : ab_S} (h : cp_R G ca A) (hW : ab_wf A) {t : sp_S} (hT : tn_R G (cp_d ca) t) (ht : sp_wf t) :
    hg_M l D lo yX0_emptyPurses (ws_ yX0_emptyPurses cX0_emptyPurses 3 ((some FieldType.int))) rm_X0_emptyPurses [.ref (ca 0)] G (hg_Pv G (.int (nI (sp_empty t)))) := by
  refine hg_M.of htr (by decide) [some (.ref (ca 0)), none, none] rfl (Nat.le_of_ble_eq_true rfl) ?_
  intro p e s m args below meth c X hr hnm htab
  have X : hg_X p l s m args meth c D lo "TaxOnLooks" cX0_emptyPurses 3 := X
  have hw := hW.w; have w0 := hw.b0; have w1 := hw.b1; have w2 := hw.b2; have w3 := hw.b3; have w36 := hW.b36; have w43 := hW.b43
  have hpw := sp_wpk hw; have hpb := sp_bpk hw
  have wt0 := ht.b0
  obtain ⟨K2, hK2, hK2s, hK2b⟩ := hT.sk
  refine hr_iconst (v := (nI 0)) (q := 1) X dX0_emptyPurses_0 rfl rfl ?_
  refine hr_istore1 (q := 2) X dX0_emptyPurses_1 rfl rfl (Nat.le_of_ble_eq_true rfl) ?_
  refine hr_iconst (v := (nI 0)) (q := 3) X dX0_emptyPurses_2 rfl rfl ?_
  refine hr_istore2 (q := 4) X dX0_emptyPurses_3 rfl rfl (Nat.le_of_ble_eq_true rfl) ?_
  have loop4 : ∀ (kr nr n : Nat) (i S : Nat), (i ≤ t.1 0 0) → (t.1 0 0 + 1 ≤ i + n) → (S = sp_sum (fun x => if (t.1 13 x == 0) = true then 1 else 0) i) → hg_W p l e rm_X0_emptyPurses s m args below meth c (hg_Q below D lo args s rm_X0_emptyPurses G (hg_Pv G (.int (nI (sp_empty t))))) D lo G.1 3 kr nr G 4 [some (.ref (ca 0)), some (.int (nI S)), some (.int (nI i))] [] := by
    intro kr nr n
    induction n with
    | zero =>
      intro i S h4_0 h4_1 h4_2
      omega
    | succ n ih =>
      intro i S h4_0 h4_1 h4_2
      refine hr_iload2 (q := 5) X dX0_emptyPurses_4 rfl ?_
      refine hr_aload0 (q := 6) X dX0_emptyPurses_5 rfl ?_
      refine hr_getR (v := (cp_d ca 0)) (q := 9) X dX0_emptyPurses_6 rfl fr_q248_0 rfl h.o.1 h.o.2.2.2.2.1 ?_
      refine hr_getI (v := (nI (t.1 0 0))) (q := 12) X dX0_emptyPurses_9 rfl fr_q154_2 rfl hT.ob hT.f0 ?_
      refine hr_icmpN_ge (q := 15) (tgt := 41) X dX0_emptyPurses_12 rfl (by decide) (by omega) (by omega) (fun c12 => ?_) (fun c12 => ?_)
      · refine hr_iload1 (q := 42) X dX0_emptyPurses_41 rfl ?_
        exact hr_iret X hr dX0_emptyPurses_42 ⟨hz_i (congrArg nI (by rw [h4_2, show i = t.1 0 0 by omega]; rfl)), rfl⟩
      · refine hr_iload1 (q := 16) X dX0_emptyPurses_15 rfl ?_
        refine hr_aload0 (q := 17) X dX0_emptyPurses_16 rfl ?_
        refine hr_getR (v := (cp_d ca 0)) (q := 20) X dX0_emptyPurses_17 rfl fr_q248_0 rfl h.o.1 h.o.2.2.2.2.1 ?_
        refine hr_getR (v := (cp_d ca 3)) (q := 23) X dX0_emptyPurses_20 rfl fr_q186_2 rfl hT.ob hT.f13 ?_
        refine hr_iload2 (q := 24) X dX0_emptyPurses_23 rfl ?_
        have b1 := ht.b13 (p := i) (by omega)
        refine hr_ialdN (v := (nI (t.1 13 i))) (q := 25) X dX0_emptyPurses_24 rfl hT.k3 (Or.inl rfl) (by omega) (by decide) (hT.e3 (by omega)) ?_
        refine hr_ifN_ne (q := 28) (tgt := 32) X dX0_emptyPurses_25 rfl (by decide) (by omega) (fun c25 => ?_) (fun c25 => ?_)
        · refine hr_iconst (v := (nI 0)) (q := 33) X dX0_emptyPurses_32 rfl rfl ?_
          refine hr_iadd (v := (nI (S + 0))) (q := 34) X dX0_emptyPurses_33 rfl (nI_add _ _) ?_
          refine hr_istore1 (q := 35) X dX0_emptyPurses_34 rfl rfl (Nat.le_of_ble_eq_true rfl) ?_
          refine hr_iinc2 (v := (nI (i + 1))) (q := 38) X dX0_emptyPurses_35 rfl (nI_add _ _) rfl (Nat.le_of_ble_eq_true rfl) ?_
          refine hr_goto (tgt := 4) X dX0_emptyPurses_38 (by decide) ?_
          exact ih (i + 1) (S + 0) (by omega) (by omega) (by simpa using sp_sum_f (f := fun x => t.1 13 x == 0) h4_2 (beq_eq_false_iff_ne.mpr (by omega)))
        · refine hr_iconst (v := (nI 1)) (q := 29) X dX0_emptyPurses_28 rfl rfl ?_
          refine hr_goto (tgt := 33) X dX0_emptyPurses_29 (by decide) ?_
          refine hr_iadd (v := (nI (S + 1))) (q := 34) X dX0_emptyPurses_33 rfl (nI_add _ _) ?_
          refine hr_istore1 (q := 35) X dX0_emptyPurses_34 rfl rfl (Nat.le_of_ble_eq_true rfl) ?_
          refine hr_iinc2 (v := (nI (i + 1))) (q := 38) X dX0_emptyPurses_35 rfl (nI_add _ _) rfl (Nat.le_of_ble_eq_true rfl) ?_
          refine hr_goto (tgt := 4) X dX0_emptyPurses_38 (by decide) ?_
          exact ih (i + 1) (S + 1) (by omega) (by omega) (by simpa using sp_sum_t (f := fun x => t.1 13 x == 0) h4_2 (beq_iff_eq.mpr (by omega)))
  exact loop4 _ _ (t.1 0 0 + 1) 0 0 (by omega) (by omega) rfl

abbrev rk_X0_behind : Room := { frames := 15, cells := 40, slots := 3000, locals := 10388 }
theorem tc_behind {l : Launch} {D : hg_D} {lo : Nat} (htr : l.stackTraces = false) {G : hg_G} {ca : Nat → Nat} {A : ab_S} (h : cp_R G ca A) (hW : ab_wf A) {a1 a2 a3 : Int32} :
    hg_M l D lo yX0_behind (wsW_ yX0_behind cX0_behind 5 ((some FieldType.int)) [(0, 129, 130, 21)]) rk_X0_behind [.ref (ca 0), .int a1, .int a2, .int a3] G (cp_Po ca (sq_behind a1 a2 a3 A)) := by
  refine hg_M.ofH htr (by decide) [some (.ref (ca 0)), some (.int a1), some (.int a2), some (.int a3), none] rfl (Nat.le_of_ble_eq_true rfl) ?_
  intro p e s m args below meth c X hr hnm htab
  have X : hg_X p l s m args meth c D lo "TaxOnLooks" cX0_behind 5 := X
  refine hr_room (kr' := 40) (nr' := 3000) (Nat.le_of_ble_eq_true rfl) (Nat.le_of_ble_eq_true rfl) ?_
  have hw := hW.w; have w0 := hw.b0; have w1 := hw.b1; have w2 := hw.b2; have w3 := hw.b3; have w36 := hW.b36; have w43 := hW.b43
  have hpw := sp_wpk hw; have hpb := sp_bpk hw
  obtain ⟨K, hK, hKs, hKb⟩ := h.w.sk
  refine hr_aload0 (q := 1) X dX0_behind_0 rfl ?_
  refine hr_iload1 (q := 2) X dX0_behind_1 rfl ?_
  refine hr_call (kr := 36) (nr := 2771) (q := 5) (hc_VX (n := 1) (ci := 0) (As := [.int a1]) X dX0_behind_2 rfl (tc_shelf X.tr h (x := a1)) q278 cv_X0_shelf ⟨Nat.le_of_ble_eq_true rfl, Nat.le_of_ble_eq_true rfl⟩ rfl (Nat.le_of_ble_eq_true rfl) h.o.1 rfl rfl) rfl (fun qxn1 E Gxn1 hpn1 _ => ?_) (fun r Gn1 hpn1 _ => ?_)
  · obtain ⟨hgn1, hrn1, hGn1⟩ | ⟨hgn1, qn1, hrn1, htn1⟩ := hpn1
    · cases hrn1
    · cases hrn1
      have hxn1 := h.T htn1
      refine hx_catch (name := "TaxOnLooks$Refused") X [] ⟨0, 129, 130, 21⟩ [] htab (fun _ h => absurd h List.not_mem_nil) (by decide) (by decide) q277 (by decide) ?_
      refine hr_astore4 (q := 132) X dX0_behind_130 rfl rfl (Nat.le_of_ble_eq_true rfl) ?_
      refine hr_aload0 (q := 133) X dX0_behind_132 rfl ?_
      refine hr_aload4 (q := 135) X dX0_behind_133 rfl ?_
      refine hr_call0 (q := 138) (hc_V (n := 1) (ci := 0) (As := [.ref qxn1]) X dX0_behind_135 rfl (tc_refused X.tr hxn1 hW (q := qxn1) htn1.2.1 htn1.2.2.1 (k := 1) (by decide) (by decide) (by decide)) q452 cv_X0_refused ⟨Nat.le_of_ble_eq_true rfl, Nat.le_of_ble_eq_true rfl⟩ rfl (Nat.le_of_ble_eq_true rfl) hxn1.o.1 rfl rfl) rfl (fun qx E G' hp => by cases hp.1) (fun r Gf2 hp _ => ?_)
      obtain ⟨hvf2, hhf2⟩ := hp
      cases hvf2
      have hq3 : sq_behind a1 a2 a3 A = ((-1), (sq_no (-1) A).2) := by
        have hb : sq_barsOf a1 a2 A = -1 := sq_bars_1 hgn1
        rw [sq_behind, hb, if_neg (by decide), if_neg (by decide)]; rfl
      exact hr_iret X hr dX0_behind_138 (by rw [hq3]; exact ⟨rfl, ca, rfl, hhf2⟩)
  · obtain ⟨hgn1, hrn1, hGn1⟩ | ⟨hgn1, qn1, hrn1, htn1⟩ := hpn1
    · cases hrn1
      have hGn1 := hGn1.symm
      subst hGn1
      obtain ⟨ea1, la1⟩ := sp_in_n hgn1 (by omega)
      refine hr_L (L' := [some (.ref (ca 0)), some (.int (nI (iN a1))), some (.int a2), some (.int a3), none]) (by rw [← ea1]) ?_
      refine hr_call (kr := 32) (nr := 1754) (q := 8) (hc_VX (n := 0) (ci := 4) (As := []) X dX0_behind_5 rfl (tc_row X.tr h hW (i := iN a1) (by omega)) q460 cv_X4_row ⟨Nat.le_of_ble_eq_true rfl, Nat.le_of_ble_eq_true rfl⟩ rfl (Nat.le_of_ble_eq_true rfl) (h.s.2 (iN a1) (by omega)).2.1 rfl rfl) rfl (fun qxn4 E Gxn4 hpn4 _ => ?_) (fun r Gn4 hpn4 _ => ?_)
      · obtain ⟨hgn4, hrn4, hGn4⟩ | ⟨hgn4, qn4, hrn4, htn4⟩ | ⟨hgn4, qn4, hrn4, htn4⟩ := hpn4
        · cases hrn4
        · cases hrn4
          have hxn4 := h.T htn4
          refine hx_catch (name := "TaxOnLooks$Refused") X [] ⟨0, 129, 130, 21⟩ [] htab (fun _ h => absurd h List.not_mem_nil) (by decide) (by decide) q277 (by decide) ?_
          refine hr_astore4 (q := 132) X dX0_behind_130 rfl rfl (Nat.le_of_ble_eq_true rfl) ?_
          refine hr_aload0 (q := 133) X dX0_behind_132 rfl ?_
          refine hr_aload4 (q := 135) X dX0_behind_133 rfl ?_
          refine hr_call0 (q := 138) (hc_V (n := 1) (ci := 0) (As := [.ref qxn4]) X dX0_behind_135 rfl (tc_refused X.tr hxn4 hW (q := qxn4) htn4.2.1 htn4.2.2.1 (k := 2) (by decide) (by decide) (by decide)) q452 cv_X0_refused ⟨Nat.le_of_ble_eq_true rfl, Nat.le_of_ble_eq_true rfl⟩ rfl (Nat.le_of_ble_eq_true rfl) hxn4.o.1 rfl rfl) rfl (fun qx E G' hp => by cases hp.1) (fun r Gf5 hp _ => ?_)
          obtain ⟨hvf5, hhf5⟩ := hp
          cases hvf5
          have hq6 : sq_behind a1 a2 a3 A = ((-2), (sq_no (-2) A).2) := by
            have hb : sq_barsOf a1 a2 A = -2 := sq_bars_2 hgn1 hgn4
            rw [sq_behind, hb, if_neg (by decide), if_neg (by decide)]; rfl
          exact hr_iret X hr dX0_behind_138 (by rw [hq6]; exact ⟨rfl, ca, rfl, hhf5⟩)
        · cases hrn4
          have hxn4 := h.T htn4
          refine hx_catch (name := "TaxOnLooks$Refused") X [] ⟨0, 129, 130, 21⟩ [] htab (fun _ h => absurd h List.not_mem_nil) (by decide) (by decide) q277 (by decide) ?_
          refine hr_astore4 (q := 132) X dX0_behind_130 rfl rfl (Nat.le_of_ble_eq_true rfl) ?_
          refine hr_aload0 (q := 133) X dX0_behind_132 rfl ?_
          refine hr_aload4 (q := 135) X dX0_behind_133 rfl ?_
          refine hr_call0 (q := 138) (hc_V (n := 1) (ci := 0) (As := [.ref qxn4]) X dX0_behind_135 rfl (tc_refused X.tr hxn4 hW (q := qxn4) htn4.2.1 htn4.2.2.1 (k := 3) (by decide) (by decide) (by decide)) q452 cv_X0_refused ⟨Nat.le_of_ble_eq_true rfl, Nat.le_of_ble_eq_true rfl⟩ rfl (Nat.le_of_ble_eq_true rfl) hxn4.o.1 rfl rfl) rfl (fun qx E G' hp => by cases hp.1) (fun r Gf7 hp _ => ?_)
          obtain ⟨hvf7, hhf7⟩ := hp
          cases hvf7
          have hq8 : sq_behind a1 a2 a3 A = ((-3), (sq_no (-3) A).2) := by
            have hb : sq_barsOf a1 a2 A = -3 := sq_bars_3 hgn1 hgn4
            rw [sq_behind, hb, if_neg (by decide), if_neg (by decide)]; rfl
          exact hr_iret X hr dX0_behind_138 (by rw [hq8]; exact ⟨rfl, ca, rfl, hhf7⟩)
      · obtain ⟨hgn4, hrn4, hGn4⟩ | ⟨hgn4, qn4, hrn4, htn4⟩ | ⟨hgn4, qn4, hrn4, htn4⟩ := hpn4
        · cases hrn4
          have hGn4 := hGn4.symm
          subst hGn4
          refine hr_astore4 (q := 10) X dX0_behind_8 rfl rfl (Nat.le_of_ble_eq_true rfl) ?_
          refine hr_iload2 (q := 11) X dX0_behind_10 rfl ?_
          refine hr_if_lt (q := 14) (tgt := 18) X dX0_behind_11 rfl (by decide) (fun c11 => ?_) (fun c11 => ?_)
          · have hz4 : ¬ 0 ≤ a2 := Int32.not_le.mpr c11
            refine hr_iconst (v := (bI false)) (q := 19) X dX0_behind_18 rfl rfl ?_
            refine hr_bipush (v := (-4)) (q := 21) X dX0_behind_19 rfl rfl ?_
            refine hr_call (kr := 31) (nr := 1747) (q := 24) (hc_S (n := 2) (As := [.int (bI false), .int (-4)]) X dX0_behind_21 rfl (tc_need X.tr (g := false) (w := (-4))) q383 cs_X0_need ⟨Nat.le_of_ble_eq_true rfl, Nat.le_of_ble_eq_true rfl⟩ rfl (Nat.le_of_ble_eq_true rfl)) rfl (fun qxn9 E Gxn9 hpn9 _ => ?_) (fun r Gn9 hpn9 _ => ?_)
            · obtain ⟨hgn9, hrn9, -⟩ | ⟨hgn9, qn9, hrn9, htn9⟩ := hpn9
              · cases hrn9
              · cases hrn9
                have hxn9 := h.T htn9
                refine hx_catch (name := "TaxOnLooks$Refused") X [] ⟨0, 129, 130, 21⟩ [] htab (fun _ h => absurd h List.not_mem_nil) (by decide) (by decide) q277 (by decide) ?_
                refine hr_astore4 (q := 132) X dX0_behind_130 rfl rfl (Nat.le_of_ble_eq_true rfl) ?_
                refine hr_aload0 (q := 133) X dX0_behind_132 rfl ?_
                refine hr_aload4 (q := 135) X dX0_behind_133 rfl ?_
                refine hr_call0 (q := 138) (hc_V (n := 1) (ci := 0) (As := [.ref qxn9]) X dX0_behind_135 rfl (tc_refused X.tr hxn9 hW (q := qxn9) htn9.2.1 htn9.2.2.1 (k := 4) (by decide) (by decide) (by decide)) q452 cv_X0_refused ⟨Nat.le_of_ble_eq_true rfl, Nat.le_of_ble_eq_true rfl⟩ rfl (Nat.le_of_ble_eq_true rfl) hxn9.o.1 rfl rfl) rfl (fun qx E G' hp => by cases hp.1) (fun r Gf10 hp _ => ?_)
                obtain ⟨hvf10, hhf10⟩ := hp
                cases hvf10
                have hq11 : sq_behind a1 a2 a3 A = ((-4), (sq_no (-4) A).2) := by
                  have hb : sq_barsOf a1 a2 A = -4 := (sq_bars_0 hgn1 hgn4).trans (if_neg hz4)
                  rw [sq_behind, hb, if_neg (by decide), if_neg (by decide)]; rfl
                exact hr_iret X hr dX0_behind_138 (by rw [hq11]; exact ⟨rfl, ca, rfl, hhf10⟩)
            · obtain ⟨hgn9, hrn9, hGn9⟩ | ⟨hgn9, qn9, hrn9, htn9⟩ := hpn9
              · cases hgn9
              · cases hrn9
          · have hz4 : 0 ≤ a2 := Int32.not_lt.mp c11
            refine hr_iconst (v := (bI true)) (q := 15) X dX0_behind_14 rfl rfl ?_
            refine hr_goto (tgt := 19) X dX0_behind_15 (by decide) ?_
            refine hr_bipush (v := (-4)) (q := 21) X dX0_behind_19 rfl rfl ?_
            refine hr_call (kr := 31) (nr := 1747) (q := 24) (hc_S (n := 2) (As := [.int (bI true), .int (-4)]) X dX0_behind_21 rfl (tc_need X.tr (g := true) (w := (-4))) q383 cs_X0_need ⟨Nat.le_of_ble_eq_true rfl, Nat.le_of_ble_eq_true rfl⟩ rfl (Nat.le_of_ble_eq_true rfl)) rfl (fun qxn12 E Gxn12 hpn12 _ => ?_) (fun r Gn12 hpn12 _ => ?_)
            · obtain ⟨hgn12, hrn12, -⟩ | ⟨hgn12, qn12, hrn12, htn12⟩ := hpn12
              · cases hrn12
              · cases hgn12
            · obtain ⟨hgn12, hrn12, hGn12⟩ | ⟨hgn12, qn12, hrn12, htn12⟩ := hpn12
              · cases hrn12
                have hGn12 := hGn12.symm
                subst hGn12
                have h20w := hW.b20 (j := iN a1) (by omega)
                refine hr_iload2 (q := 25) X dX0_behind_24 rfl ?_
                refine hr_aload4 (q := 27) X dX0_behind_25 rfl ?_
                refine hr_callP (q := 30) (hcR_length (h.r (iN a1) (by omega) hgn4).1 X dX0_behind_27 q1195 ⟨Nat.le_of_ble_eq_true rfl, Nat.le_of_ble_eq_true rfl⟩ (Nat.le_of_ble_eq_true rfl)) rfl ?_
                refine hr_icmp_gt (q := 33) (tgt := 64) X dX0_behind_30 rfl (by decide) (fun c30 => ?_) (fun c30 => ?_)
                · have hz5 : ¬ a2 ≤ nI (A.1.1 20 (iN a1)) := Int32.not_le.mpr c30
                  refine hr_iconst (v := (bI false)) (q := 65) X dX0_behind_64 rfl rfl ?_
                  refine hr_bipush (v := (-5)) (q := 67) X dX0_behind_65 rfl rfl ?_
                  refine hr_call (kr := 30) (nr := 1740) (q := 70) (hc_S (n := 2) (As := [.int (bI false), .int (-5)]) X dX0_behind_67 rfl (tc_need X.tr (g := false) (w := (-5))) q383 cs_X0_need ⟨Nat.le_of_ble_eq_true rfl, Nat.le_of_ble_eq_true rfl⟩ rfl (Nat.le_of_ble_eq_true rfl)) rfl (fun qxn13 E Gxn13 hpn13 _ => ?_) (fun r Gn13 hpn13 _ => ?_)
                  · obtain ⟨hgn13, hrn13, -⟩ | ⟨hgn13, qn13, hrn13, htn13⟩ := hpn13
                    · cases hrn13
                    · cases hrn13
                      have hxn13 := h.T htn13
                      refine hx_catch (name := "TaxOnLooks$Refused") X [] ⟨0, 129, 130, 21⟩ [] htab (fun _ h => absurd h List.not_mem_nil) (by decide) (by decide) q277 (by decide) ?_
                      refine hr_astore4 (q := 132) X dX0_behind_130 rfl rfl (Nat.le_of_ble_eq_true rfl) ?_
                      refine hr_aload0 (q := 133) X dX0_behind_132 rfl ?_
                      refine hr_aload4 (q := 135) X dX0_behind_133 rfl ?_
                      refine hr_call0 (q := 138) (hc_V (n := 1) (ci := 0) (As := [.ref qxn13]) X dX0_behind_135 rfl (tc_refused X.tr hxn13 hW (q := qxn13) htn13.2.1 htn13.2.2.1 (k := 5) (by decide) (by decide) (by decide)) q452 cv_X0_refused ⟨Nat.le_of_ble_eq_true rfl, Nat.le_of_ble_eq_true rfl⟩ rfl (Nat.le_of_ble_eq_true rfl) hxn13.o.1 rfl rfl) rfl (fun qx E G' hp => by cases hp.1) (fun r Gf14 hp _ => ?_)
                      obtain ⟨hvf14, hhf14⟩ := hp
                      cases hvf14
                      have hq15 : sq_behind a1 a2 a3 A = ((-5), (sq_no (-5) A).2) := by
                        have hb : sq_barsOf a1 a2 A = -5 := (sq_bars_0 hgn1 hgn4).trans ((if_pos hz4).trans (if_neg hz5))
                        rw [sq_behind, hb, if_neg (by decide), if_neg (by decide)]; rfl
                      exact hr_iret X hr dX0_behind_138 (by rw [hq15]; exact ⟨rfl, ca, rfl, hhf14⟩)
                  · obtain ⟨hgn13, hrn13, hGn13⟩ | ⟨hgn13, qn13, hrn13, htn13⟩ := hpn13
                    · cases hgn13
                    · cases hrn13
                · have hz5 : a2 ≤ nI (A.1.1 20 (iN a1)) := Int32.not_lt.mp c30
                  obtain ⟨ea2, ma2⟩ := sp_geN (Int32.not_lt.mpr hz4)
                  have la2 : iN a2 ≤ (A.1.1 20 (iN a1)) := by
                    have e := hz5
                    rw [ea2] at e
                    exact (nI_leI ma2 (by have := hW.b20 (j := iN a1) (by omega); omega)).mp e
                  refine hr_iload3 (q := 34) X dX0_behind_33 rfl ?_
                  refine hr_i2l (v := a3.toInt64) (q := 35) X dX0_behind_34 rfl rfl ?_
                  refine hr_lconst (v := (lN 0)) (q := 36) X dX0_behind_35 rfl rfl ?_
                  refine hr_ldc2 (q := 39) X dX0_behind_36 rfl q1118 ?_
                  refine hr_callP (v := .int (bI (sp_fr a3 (nI 0) (nI 2)))) (q := 42) (hc_S (n := 3) (As := [.long a3.toInt64, .long (lN 0), .long 2]) X dX0_behind_39 rfl (tc_in X.tr (x := a3) (b := 0) (z := 2) (by decide) (by decide)) q387 cs_X0_in ⟨Nat.le_of_ble_eq_true rfl, Nat.le_of_ble_eq_true rfl⟩ rfl (Nat.le_of_ble_eq_true rfl)) rfl ?_
                  refine hr_ifB_eq (q := 45) (tgt := 64) X dX0_behind_42 rfl (by decide) (fun c42 => ?_) (fun c42 => ?_)
                  · have fc42 : a3 < (0 : Int32) ∨ (¬ a3 < (0 : Int32) ∧ ¬ a3 ≤ nI 2) := sp_fr_f c42
                    refine hr_iconst (v := (bI false)) (q := 65) X dX0_behind_64 rfl rfl ?_
                    refine hr_bipush (v := (-5)) (q := 67) X dX0_behind_65 rfl rfl ?_
                    refine hr_call (kr := 30) (nr := 1740) (q := 70) (hc_S (n := 2) (As := [.int (bI false), .int (-5)]) X dX0_behind_67 rfl (tc_need X.tr (g := false) (w := (-5))) q383 cs_X0_need ⟨Nat.le_of_ble_eq_true rfl, Nat.le_of_ble_eq_true rfl⟩ rfl (Nat.le_of_ble_eq_true rfl)) rfl (fun qxn16 E Gxn16 hpn16 _ => ?_) (fun r Gn16 hpn16 _ => ?_)
                    · obtain ⟨hgn16, hrn16, -⟩ | ⟨hgn16, qn16, hrn16, htn16⟩ := hpn16
                      · cases hrn16
                      · cases hrn16
                        have hxn16 := h.T htn16
                        refine hx_catch (name := "TaxOnLooks$Refused") X [] ⟨0, 129, 130, 21⟩ [] htab (fun _ h => absurd h List.not_mem_nil) (by decide) (by decide) q277 (by decide) ?_
                        refine hr_astore4 (q := 132) X dX0_behind_130 rfl rfl (Nat.le_of_ble_eq_true rfl) ?_
                        refine hr_aload0 (q := 133) X dX0_behind_132 rfl ?_
                        refine hr_aload4 (q := 135) X dX0_behind_133 rfl ?_
                        refine hr_call0 (q := 138) (hc_V (n := 1) (ci := 0) (As := [.ref qxn16]) X dX0_behind_135 rfl (tc_refused X.tr hxn16 hW (q := qxn16) htn16.2.1 htn16.2.2.1 (k := 5) (by decide) (by decide) (by decide)) q452 cv_X0_refused ⟨Nat.le_of_ble_eq_true rfl, Nat.le_of_ble_eq_true rfl⟩ rfl (Nat.le_of_ble_eq_true rfl) hxn16.o.1 rfl rfl) rfl (fun qx E G' hp => by cases hp.1) (fun r Gf17 hp _ => ?_)
                        obtain ⟨hvf17, hhf17⟩ := hp
                        cases hvf17
                        have hq18 : sq_behind a1 a2 a3 A = ((-5), (sq_no (-5) A).2) := by
                          have hb : sq_barsOf a1 a2 A = 0 ∨ sq_barsOf a1 a2 A = -6 := by
                            rw [sq_bars_0 hgn1 hgn4, if_pos hz4, if_pos hz5]
                            by_cases g : a2 ≤ nI 40
                            · rw [if_pos g]; exact Or.inl rfl
                            · rw [if_neg g]; exact Or.inr rfl
                          rcases hb with hb | hb <;> rcases fc42 with g | ⟨g, g2⟩
                          · rw [sq_behind, if_pos hb, if_pos g]; rfl
                          · rw [sq_behind, if_pos hb, if_neg g, if_pos (Int32.not_le.mp g2)]; rfl
                          · rw [sq_behind, hb, if_neg (by decide), if_pos rfl, if_pos g]; rfl
                          · rw [sq_behind, hb, if_neg (by decide), if_pos rfl, if_neg g, if_pos (Int32.not_le.mp g2)]; rfl
                        exact hr_iret X hr dX0_behind_138 (by rw [hq18]; exact ⟨rfl, ca, rfl, hhf17⟩)
                    · obtain ⟨hgn16, hrn16, hGn16⟩ | ⟨hgn16, qn16, hrn16, htn16⟩ := hpn16
                      · cases hgn16
                      · cases hrn16
                  · have fc42 : ¬ a3 < (0 : Int32) ∧ a3 ≤ nI 2 := sp_fr_t c42
                    refine hr_iload3 (q := 46) X dX0_behind_45 rfl ?_
                    refine hr_iconst (v := (nI 1)) (q := 47) X dX0_behind_46 rfl rfl ?_
                    refine hr_icmp_ne (q := 50) (tgt := 60) X dX0_behind_47 rfl (by decide) (fun c47 => ?_) (fun c47 => ?_)
                    · refine hr_iconst (v := (bI true)) (q := 61) X dX0_behind_60 rfl rfl ?_
                      refine hr_goto (tgt := 65) X dX0_behind_61 (by decide) ?_
                      refine hr_bipush (v := (-5)) (q := 67) X dX0_behind_65 rfl rfl ?_
                      refine hr_call (kr := 30) (nr := 1740) (q := 70) (hc_S (n := 2) (As := [.int (bI true), .int (-5)]) X dX0_behind_67 rfl (tc_need X.tr (g := true) (w := (-5))) q383 cs_X0_need ⟨Nat.le_of_ble_eq_true rfl, Nat.le_of_ble_eq_true rfl⟩ rfl (Nat.le_of_ble_eq_true rfl)) rfl (fun qxn19 E Gxn19 hpn19 _ => ?_) (fun r Gn19 hpn19 _ => ?_)
                      · obtain ⟨hgn19, hrn19, -⟩ | ⟨hgn19, qn19, hrn19, htn19⟩ := hpn19
                        · cases hrn19
                        · cases hgn19
                      · obtain ⟨hgn19, hrn19, hGn19⟩ | ⟨hgn19, qn19, hrn19, htn19⟩ := hpn19
                        · cases hrn19
                          have hGn19 := hGn19.symm
                          subst hGn19
                          refine hr_L (L' := [some (.ref (ca 0)), some (.int (nI (iN a1))), some (.int (nI (iN a2))), some (.int a3), some (.ref (ca (31 + iN a1)))]) (by rw [← ea2]) ?_
                          refine hr_iload2 (q := 71) X dX0_behind_70 rfl ?_
                          refine hr_bipush (v := (nI 40)) (q := 73) X dX0_behind_71 rfl rfl ?_
                          refine hr_icmpN_gt (q := 76) (tgt := 91) X dX0_behind_73 rfl (by decide) (by omega) (by omega) (fun c73 => ?_) (fun c73 => ?_)
                          · have hz6 : ¬ a2 ≤ nI 40 := fun g => by
                              rw [ea2] at g
                              have := (nI_leI ma2 (by decide)).mp g
                              omega
                            have hb : sq_barsOf a1 a2 A = -6 := (sq_bars_0 hgn1 hgn4).trans ((if_pos hz4).trans ((if_pos hz5).trans (if_neg hz6)))
                            refine hr_iconst (v := (bI false)) (q := 92) X dX0_behind_91 rfl rfl ?_
                            refine hr_bipush (v := (-6)) (q := 94) X dX0_behind_92 rfl rfl ?_
                            refine hr_call (kr := 29) (nr := 1733) (q := 97) (hc_S (n := 2) (As := [.int (bI false), .int (-6)]) X dX0_behind_94 rfl (tc_need X.tr (g := false) (w := (-6))) q383 cs_X0_need ⟨Nat.le_of_ble_eq_true rfl, Nat.le_of_ble_eq_true rfl⟩ rfl (Nat.le_of_ble_eq_true rfl)) rfl (fun qxn20 E Gxn20 hpn20 _ => ?_) (fun r Gn20 hpn20 _ => ?_)
                            · obtain ⟨hgn20, hrn20, -⟩ | ⟨hgn20, qn20, hrn20, htn20⟩ := hpn20
                              · cases hrn20
                              · cases hrn20
                                have hxn20 := h.T htn20
                                refine hx_catch (name := "TaxOnLooks$Refused") X [] ⟨0, 129, 130, 21⟩ [] htab (fun _ h => absurd h List.not_mem_nil) (by decide) (by decide) q277 (by decide) ?_
                                refine hr_astore4 (q := 132) X dX0_behind_130 rfl rfl (Nat.le_of_ble_eq_true rfl) ?_
                                refine hr_aload0 (q := 133) X dX0_behind_132 rfl ?_
                                refine hr_aload4 (q := 135) X dX0_behind_133 rfl ?_
                                refine hr_call0 (q := 138) (hc_V (n := 1) (ci := 0) (As := [.ref qxn20]) X dX0_behind_135 rfl (tc_refused X.tr hxn20 hW (q := qxn20) htn20.2.1 htn20.2.2.1 (k := 6) (by decide) (by decide) (by decide)) q452 cv_X0_refused ⟨Nat.le_of_ble_eq_true rfl, Nat.le_of_ble_eq_true rfl⟩ rfl (Nat.le_of_ble_eq_true rfl) hxn20.o.1 rfl rfl) rfl (fun qx E G' hp => by cases hp.1) (fun r Gf21 hp _ => ?_)
                                obtain ⟨hvf21, hhf21⟩ := hp
                                cases hvf21
                                have hq22 : sq_behind a1 a2 a3 A = ((-6), (sq_no (-6) A).2) := by
                                  rw [sq_behind, hb, if_neg (by decide), if_pos rfl, if_neg fc42.1, if_neg (Int32.not_lt.mpr fc42.2), if_neg c47]; rfl
                                exact hr_iret X hr dX0_behind_138 (by rw [hq22]; exact ⟨rfl, ca, rfl, hhf21⟩)
                            · obtain ⟨hgn20, hrn20, hGn20⟩ | ⟨hgn20, qn20, hrn20, htn20⟩ := hpn20
                              · cases hgn20
                              · cases hrn20
                          · have hz6 : a2 ≤ nI 40 := by
                              rw [ea2]
                              exact (nI_leI ma2 (by decide)).mpr (by omega)
                            have hb : sq_barsOf a1 a2 A = 0 := (sq_bars_0 hgn1 hgn4).trans ((if_pos hz4).trans ((if_pos hz5).trans (if_pos hz6)))
                            refine hr_aload0 (q := 77) X dX0_behind_76 rfl ?_
                            refine hr_aload4 (q := 79) X dX0_behind_77 rfl ?_
                            refine hr_iload2 (q := 80) X dX0_behind_79 rfl ?_
                            refine hr_call0 (q := 83) (hc_V (n := 2) (ci := 0) (As := [.ref (ca (31 + iN a1)), .int (nI (iN a2))]) X dX0_behind_80 rfl (tc_wrongIn X.tr h hW (s9 := iN a1) (n9 := iN a2) (by omega) hgn4 (by omega) (by omega)) q1227 cv_X0_wrongIn ⟨Nat.le_of_ble_eq_true rfl, Nat.le_of_ble_eq_true rfl⟩ rfl (Nat.le_of_ble_eq_true rfl) h.o.1 rfl rfl) rfl (fun qx E G' hp => by cases hp.1) (fun r Gwr23 hp _ => ?_)
                            obtain ⟨hvwr23, hwr23, hxwr23⟩ := hp
                            cases hvwr23
                            have hbd := sq_bad_le (A := A) (s := iN a1) (n := iN a2) 41 0
                            refine hr_iconst (v := (-1)) (q := 84) X dX0_behind_83 rfl rfl ?_
                            refine hr_icmpO_ne (q := 87) (tgt := 91) X dX0_behind_84 rfl (by decide) (by omega) (fun c84 => ?_) (fun c84 => ?_)
                            · refine hr_iconst (v := (bI false)) (q := 92) X dX0_behind_91 rfl rfl ?_
                              refine hr_bipush (v := (-6)) (q := 94) X dX0_behind_92 rfl rfl ?_
                              refine hr_call (kr := 29) (nr := 1733) (q := 97) (hc_S (n := 2) (As := [.int (bI false), .int (-6)]) X dX0_behind_94 rfl (tc_need X.tr (g := false) (w := (-6))) q383 cs_X0_need ⟨Nat.le_of_ble_eq_true rfl, Nat.le_of_ble_eq_true rfl⟩ rfl (Nat.le_of_ble_eq_true rfl)) rfl (fun qxn24 E Gxn24 hpn24 _ => ?_) (fun r Gn24 hpn24 _ => ?_)
                              · obtain ⟨hgn24, hrn24, -⟩ | ⟨hgn24, qn24, hrn24, htn24⟩ := hpn24
                                · cases hrn24
                                · cases hrn24
                                  have hxn24 := hwr23.T htn24
                                  refine hx_catch (name := "TaxOnLooks$Refused") X [] ⟨0, 129, 130, 21⟩ [] htab (fun _ h => absurd h List.not_mem_nil) (by decide) (by decide) q277 (by decide) ?_
                                  refine hr_astore4 (q := 132) X dX0_behind_130 rfl rfl (Nat.le_of_ble_eq_true rfl) ?_
                                  refine hr_aload0 (q := 133) X dX0_behind_132 rfl ?_
                                  refine hr_aload4 (q := 135) X dX0_behind_133 rfl ?_
                                  refine hr_call0 (q := 138) (hc_V (n := 1) (ci := 0) (As := [.ref qxn24]) X dX0_behind_135 rfl (tc_refused X.tr hxn24 hW (q := qxn24) htn24.2.1 htn24.2.2.1 (k := 6) (by decide) (by decide) (by decide)) q452 cv_X0_refused ⟨Nat.le_of_ble_eq_true rfl, Nat.le_of_ble_eq_true rfl⟩ rfl (Nat.le_of_ble_eq_true rfl) hxn24.o.1 rfl rfl) rfl (fun qx E G' hp => by cases hp.1) (fun r Gf25 hp _ => ?_)
                                  obtain ⟨hvf25, hhf25⟩ := hp
                                  cases hvf25
                                  have hq26 : sq_behind a1 a2 a3 A = ((-6), (sq_no (-6) A).2) := by
                                    rw [sq_behind, if_pos hb, if_neg fc42.1, if_neg (Int32.not_lt.mpr fc42.2), if_neg c47]
                                    by_cases k0 : a3 = 0
                                    · rw [if_pos k0, if_neg (by omega)]; rfl
                                    · rw [if_neg k0]
                                      by_cases k1 : a3 = nI 1
                                      · rw [if_pos k1, if_neg (by omega)]; rfl
                                      · rw [if_neg k1, if_neg (by omega)]; rfl
                                  exact hr_iret X hr dX0_behind_138 (by rw [hq26]; exact ⟨rfl, ca, rfl, hhf25⟩)
                              · obtain ⟨hgn24, hrn24, hGn24⟩ | ⟨hgn24, qn24, hrn24, htn24⟩ := hpn24
                                · cases hgn24
                                · cases hrn24
                            · refine hr_iconst (v := (bI true)) (q := 88) X dX0_behind_87 rfl rfl ?_
                              refine hr_goto (tgt := 92) X dX0_behind_88 (by decide) ?_
                              refine hr_bipush (v := (-6)) (q := 94) X dX0_behind_92 rfl rfl ?_
                              refine hr_call (kr := 29) (nr := 1733) (q := 97) (hc_S (n := 2) (As := [.int (bI true), .int (-6)]) X dX0_behind_94 rfl (tc_need X.tr (g := true) (w := (-6))) q383 cs_X0_need ⟨Nat.le_of_ble_eq_true rfl, Nat.le_of_ble_eq_true rfl⟩ rfl (Nat.le_of_ble_eq_true rfl)) rfl (fun qxn27 E Gxn27 hpn27 _ => ?_) (fun r Gn27 hpn27 _ => ?_)
                              · obtain ⟨hgn27, hrn27, -⟩ | ⟨hgn27, qn27, hrn27, htn27⟩ := hpn27
                                · cases hrn27
                                · cases hgn27
                              · obtain ⟨hgn27, hrn27, hGn27⟩ | ⟨hgn27, qn27, hrn27, htn27⟩ := hpn27
                                · cases hrn27
                                  have hGn27 := hGn27.symm
                                  subst hGn27
                                  obtain ⟨hTd, hpd, hpe⟩ := hxwr23 (by omega)
                                  have hWn : ab_wf (sq_str A (iN a1) (iN a2)).1 := by
                                    have := ab_wf.after hW (iN a1) (iN a2) (by omega)
                                    rwa [sq_after, sq_upto, if_pos (by omega)] at this
                                  have hmn := sq_str_n A (iN a1) (iN a2)
                                  obtain ⟨K2, hK2, hK2s, hK2b⟩ := hTd.sk
                                  have haf : sq_after A (iN a1) (iN a2) = sq_str A (iN a1) (iN a2) := by rw [sq_after, sq_upto, if_pos (by omega)]
                                  refine hr_iload3 (q := 98) X dX0_behind_97 rfl ?_
                                  refine hr_if_ne (q := 101) (tgt := 108) X dX0_behind_98 rfl (by decide) (fun c98 => ?_) (fun c98 => ?_)
                                  · refine hr_iload3 (q := 109) X dX0_behind_108 rfl ?_
                                    refine hr_iconst (v := (nI 1)) (q := 110) X dX0_behind_109 rfl rfl ?_
                                    refine hr_icmp_ne (q := 113) (tgt := 125) X dX0_behind_110 rfl (by decide) (fun c110 => ?_) (fun c110 => ?_)
                                    · refine hr_aload0 (q := 126) X dX0_behind_125 rfl ?_
                                      refine hr_callP (q := 129) (hc_V (n := 0) (ci := 0) (As := []) X dX0_behind_126 rfl (tc_emptyPurses X.tr hwr23 hW hTd hWn.w) q1240 cv_X0_emptyPurses ⟨Nat.le_of_ble_eq_true rfl, Nat.le_of_ble_eq_true rfl⟩ rfl (Nat.le_of_ble_eq_true rfl) hwr23.o.1 rfl rfl) rfl ?_
                                      have hq28 : sq_behind a1 a2 a3 A = ((nI (sp_empty (sq_str A (iN a1) (iN a2)).1.1)), A) := by
                                        rw [sq_behind, if_pos hb, if_neg fc42.1, if_neg (Int32.not_lt.mpr fc42.2), if_neg c47, if_neg c98, if_neg c110, if_pos (by omega), haf]
                                      exact hr_iret X hr dX0_behind_129 (by rw [hq28]; exact ⟨rfl, ca, rfl, hwr23⟩)
                                    · exact absurd c110 c47
                                  · refine hr_aload0 (q := 102) X dX0_behind_101 rfl ?_
                                    refine hr_getI (v := (nI ((sq_str A (iN a1) (iN a2)).2))) (q := 105) X dX0_behind_102 rfl fr_q253_0 rfl hwr23.o.1 hpd ?_
                                    refine hr_goto (tgt := 129) X dX0_behind_105 (by decide) ?_
                                    have hq29 : sq_behind a1 a2 a3 A = ((nI ((sq_str A (iN a1) (iN a2)).2)), A) := by
                                      rw [sq_behind, if_pos hb, if_neg fc42.1, if_neg (Int32.not_lt.mpr fc42.2), if_neg c47, if_pos c98, if_pos (by omega), haf]
                                    exact hr_iret X hr dX0_behind_129 (by rw [hq29]; exact ⟨rfl, ca, rfl, hwr23⟩)
                                · cases hrn27
                        · cases hrn19
                    · refine hr_aload0 (q := 51) X dX0_behind_50 rfl ?_
                      refine hr_getR (v := (cp_w ca 0)) (q := 54) X dX0_behind_51 rfl fr_q250_0 rfl h.o.1 h.o.2.2.2.2.2.2.1 ?_
                      refine hr_getI (v := (nI (A.1.1 0 0))) (q := 57) X dX0_behind_54 rfl fr_q154_2 rfl h.w.ob h.w.f0 ?_
                      refine hr_ifN_le (q := 60) (tgt := 64) X dX0_behind_57 rfl (by decide) (by omega) (fun c57 => ?_) (fun c57 => ?_)
                      · refine hr_iconst (v := (bI false)) (q := 65) X dX0_behind_64 rfl rfl ?_
                        refine hr_bipush (v := (-5)) (q := 67) X dX0_behind_65 rfl rfl ?_
                        refine hr_call (kr := 30) (nr := 1740) (q := 70) (hc_S (n := 2) (As := [.int (bI false), .int (-5)]) X dX0_behind_67 rfl (tc_need X.tr (g := false) (w := (-5))) q383 cs_X0_need ⟨Nat.le_of_ble_eq_true rfl, Nat.le_of_ble_eq_true rfl⟩ rfl (Nat.le_of_ble_eq_true rfl)) rfl (fun qxn30 E Gxn30 hpn30 _ => ?_) (fun r Gn30 hpn30 _ => ?_)
                        · obtain ⟨hgn30, hrn30, -⟩ | ⟨hgn30, qn30, hrn30, htn30⟩ := hpn30
                          · cases hrn30
                          · cases hrn30
                            have hxn30 := h.T htn30
                            refine hx_catch (name := "TaxOnLooks$Refused") X [] ⟨0, 129, 130, 21⟩ [] htab (fun _ h => absurd h List.not_mem_nil) (by decide) (by decide) q277 (by decide) ?_
                            refine hr_astore4 (q := 132) X dX0_behind_130 rfl rfl (Nat.le_of_ble_eq_true rfl) ?_
                            refine hr_aload0 (q := 133) X dX0_behind_132 rfl ?_
                            refine hr_aload4 (q := 135) X dX0_behind_133 rfl ?_
                            refine hr_call0 (q := 138) (hc_V (n := 1) (ci := 0) (As := [.ref qxn30]) X dX0_behind_135 rfl (tc_refused X.tr hxn30 hW (q := qxn30) htn30.2.1 htn30.2.2.1 (k := 5) (by decide) (by decide) (by decide)) q452 cv_X0_refused ⟨Nat.le_of_ble_eq_true rfl, Nat.le_of_ble_eq_true rfl⟩ rfl (Nat.le_of_ble_eq_true rfl) hxn30.o.1 rfl rfl) rfl (fun qx E G' hp => by cases hp.1) (fun r Gf31 hp _ => ?_)
                            obtain ⟨hvf31, hhf31⟩ := hp
                            cases hvf31
                            have hq32 : sq_behind a1 a2 a3 A = ((-5), (sq_no (-5) A).2) := by
                              have hb : sq_barsOf a1 a2 A = 0 ∨ sq_barsOf a1 a2 A = -6 := by
                                rw [sq_bars_0 hgn1 hgn4, if_pos hz4, if_pos hz5]
                                by_cases g : a2 ≤ nI 40
                                · rw [if_pos g]; exact Or.inl rfl
                                · rw [if_neg g]; exact Or.inr rfl
                              rcases hb with hb | hb
                              · rw [sq_behind, if_pos hb, if_neg fc42.1, if_neg (Int32.not_lt.mpr fc42.2), if_pos c47, if_pos (by omega)]; rfl
                              · rw [sq_behind, hb, if_neg (by decide), if_pos rfl, if_neg fc42.1, if_neg (Int32.not_lt.mpr fc42.2), if_pos c47, if_pos (by omega)]; rfl
                            exact hr_iret X hr dX0_behind_138 (by rw [hq32]; exact ⟨rfl, ca, rfl, hhf31⟩)
                        · obtain ⟨hgn30, hrn30, hGn30⟩ | ⟨hgn30, qn30, hrn30, htn30⟩ := hpn30
                          · cases hgn30
                          · cases hrn30
                      · refine hr_iconst (v := (bI true)) (q := 61) X dX0_behind_60 rfl rfl ?_
                        refine hr_goto (tgt := 65) X dX0_behind_61 (by decide) ?_
                        refine hr_bipush (v := (-5)) (q := 67) X dX0_behind_65 rfl rfl ?_
                        refine hr_call (kr := 30) (nr := 1740) (q := 70) (hc_S (n := 2) (As := [.int (bI true), .int (-5)]) X dX0_behind_67 rfl (tc_need X.tr (g := true) (w := (-5))) q383 cs_X0_need ⟨Nat.le_of_ble_eq_true rfl, Nat.le_of_ble_eq_true rfl⟩ rfl (Nat.le_of_ble_eq_true rfl)) rfl (fun qxn33 E Gxn33 hpn33 _ => ?_) (fun r Gn33 hpn33 _ => ?_)
                        · obtain ⟨hgn33, hrn33, -⟩ | ⟨hgn33, qn33, hrn33, htn33⟩ := hpn33
                          · cases hrn33
                          · cases hgn33
                        · obtain ⟨hgn33, hrn33, hGn33⟩ | ⟨hgn33, qn33, hrn33, htn33⟩ := hpn33
                          · cases hrn33
                            have hGn33 := hGn33.symm
                            subst hGn33
                            refine hr_L (L' := [some (.ref (ca 0)), some (.int (nI (iN a1))), some (.int (nI (iN a2))), some (.int a3), some (.ref (ca (31 + iN a1)))]) (by rw [← ea2]) ?_
                            refine hr_iload2 (q := 71) X dX0_behind_70 rfl ?_
                            refine hr_bipush (v := (nI 40)) (q := 73) X dX0_behind_71 rfl rfl ?_
                            refine hr_icmpN_gt (q := 76) (tgt := 91) X dX0_behind_73 rfl (by decide) (by omega) (by omega) (fun c73 => ?_) (fun c73 => ?_)
                            · have hz6 : ¬ a2 ≤ nI 40 := fun g => by
                                rw [ea2] at g
                                have := (nI_leI ma2 (by decide)).mp g
                                omega
                              have hb : sq_barsOf a1 a2 A = -6 := (sq_bars_0 hgn1 hgn4).trans ((if_pos hz4).trans ((if_pos hz5).trans (if_neg hz6)))
                              refine hr_iconst (v := (bI false)) (q := 92) X dX0_behind_91 rfl rfl ?_
                              refine hr_bipush (v := (-6)) (q := 94) X dX0_behind_92 rfl rfl ?_
                              refine hr_call (kr := 29) (nr := 1733) (q := 97) (hc_S (n := 2) (As := [.int (bI false), .int (-6)]) X dX0_behind_94 rfl (tc_need X.tr (g := false) (w := (-6))) q383 cs_X0_need ⟨Nat.le_of_ble_eq_true rfl, Nat.le_of_ble_eq_true rfl⟩ rfl (Nat.le_of_ble_eq_true rfl)) rfl (fun qxn34 E Gxn34 hpn34 _ => ?_) (fun r Gn34 hpn34 _ => ?_)
                              · obtain ⟨hgn34, hrn34, -⟩ | ⟨hgn34, qn34, hrn34, htn34⟩ := hpn34
                                · cases hrn34
                                · cases hrn34
                                  have hxn34 := h.T htn34
                                  refine hx_catch (name := "TaxOnLooks$Refused") X [] ⟨0, 129, 130, 21⟩ [] htab (fun _ h => absurd h List.not_mem_nil) (by decide) (by decide) q277 (by decide) ?_
                                  refine hr_astore4 (q := 132) X dX0_behind_130 rfl rfl (Nat.le_of_ble_eq_true rfl) ?_
                                  refine hr_aload0 (q := 133) X dX0_behind_132 rfl ?_
                                  refine hr_aload4 (q := 135) X dX0_behind_133 rfl ?_
                                  refine hr_call0 (q := 138) (hc_V (n := 1) (ci := 0) (As := [.ref qxn34]) X dX0_behind_135 rfl (tc_refused X.tr hxn34 hW (q := qxn34) htn34.2.1 htn34.2.2.1 (k := 6) (by decide) (by decide) (by decide)) q452 cv_X0_refused ⟨Nat.le_of_ble_eq_true rfl, Nat.le_of_ble_eq_true rfl⟩ rfl (Nat.le_of_ble_eq_true rfl) hxn34.o.1 rfl rfl) rfl (fun qx E G' hp => by cases hp.1) (fun r Gf35 hp _ => ?_)
                                  obtain ⟨hvf35, hhf35⟩ := hp
                                  cases hvf35
                                  have hq36 : sq_behind a1 a2 a3 A = ((-6), (sq_no (-6) A).2) := by
                                    rw [sq_behind, hb, if_neg (by decide), if_pos rfl, if_neg fc42.1, if_neg (Int32.not_lt.mpr fc42.2), if_pos c47, if_neg (by omega)]; rfl
                                  exact hr_iret X hr dX0_behind_138 (by rw [hq36]; exact ⟨rfl, ca, rfl, hhf35⟩)
                              · obtain ⟨hgn34, hrn34, hGn34⟩ | ⟨hgn34, qn34, hrn34, htn34⟩ := hpn34
                                · cases hgn34
                                · cases hrn34
                            · have hz6 : a2 ≤ nI 40 := by
                                rw [ea2]
                                exact (nI_leI ma2 (by decide)).mpr (by omega)
                              have hb : sq_barsOf a1 a2 A = 0 := (sq_bars_0 hgn1 hgn4).trans ((if_pos hz4).trans ((if_pos hz5).trans (if_pos hz6)))
                              refine hr_aload0 (q := 77) X dX0_behind_76 rfl ?_
                              refine hr_aload4 (q := 79) X dX0_behind_77 rfl ?_
                              refine hr_iload2 (q := 80) X dX0_behind_79 rfl ?_
                              refine hr_call0 (q := 83) (hc_V (n := 2) (ci := 0) (As := [.ref (ca (31 + iN a1)), .int (nI (iN a2))]) X dX0_behind_80 rfl (tc_wrongIn X.tr h hW (s9 := iN a1) (n9 := iN a2) (by omega) hgn4 (by omega) (by omega)) q1227 cv_X0_wrongIn ⟨Nat.le_of_ble_eq_true rfl, Nat.le_of_ble_eq_true rfl⟩ rfl (Nat.le_of_ble_eq_true rfl) h.o.1 rfl rfl) rfl (fun qx E G' hp => by cases hp.1) (fun r Gwr37 hp _ => ?_)
                              obtain ⟨hvwr37, hwr37, hxwr37⟩ := hp
                              cases hvwr37
                              have hbd := sq_bad_le (A := A) (s := iN a1) (n := iN a2) 41 0
                              refine hr_iconst (v := (-1)) (q := 84) X dX0_behind_83 rfl rfl ?_
                              refine hr_icmpO_ne (q := 87) (tgt := 91) X dX0_behind_84 rfl (by decide) (by omega) (fun c84 => ?_) (fun c84 => ?_)
                              · refine hr_iconst (v := (bI false)) (q := 92) X dX0_behind_91 rfl rfl ?_
                                refine hr_bipush (v := (-6)) (q := 94) X dX0_behind_92 rfl rfl ?_
                                refine hr_call (kr := 29) (nr := 1733) (q := 97) (hc_S (n := 2) (As := [.int (bI false), .int (-6)]) X dX0_behind_94 rfl (tc_need X.tr (g := false) (w := (-6))) q383 cs_X0_need ⟨Nat.le_of_ble_eq_true rfl, Nat.le_of_ble_eq_true rfl⟩ rfl (Nat.le_of_ble_eq_true rfl)) rfl (fun qxn38 E Gxn38 hpn38 _ => ?_) (fun r Gn38 hpn38 _ => ?_)
                                · obtain ⟨hgn38, hrn38, -⟩ | ⟨hgn38, qn38, hrn38, htn38⟩ := hpn38
                                  · cases hrn38
                                  · cases hrn38
                                    have hxn38 := hwr37.T htn38
                                    refine hx_catch (name := "TaxOnLooks$Refused") X [] ⟨0, 129, 130, 21⟩ [] htab (fun _ h => absurd h List.not_mem_nil) (by decide) (by decide) q277 (by decide) ?_
                                    refine hr_astore4 (q := 132) X dX0_behind_130 rfl rfl (Nat.le_of_ble_eq_true rfl) ?_
                                    refine hr_aload0 (q := 133) X dX0_behind_132 rfl ?_
                                    refine hr_aload4 (q := 135) X dX0_behind_133 rfl ?_
                                    refine hr_call0 (q := 138) (hc_V (n := 1) (ci := 0) (As := [.ref qxn38]) X dX0_behind_135 rfl (tc_refused X.tr hxn38 hW (q := qxn38) htn38.2.1 htn38.2.2.1 (k := 6) (by decide) (by decide) (by decide)) q452 cv_X0_refused ⟨Nat.le_of_ble_eq_true rfl, Nat.le_of_ble_eq_true rfl⟩ rfl (Nat.le_of_ble_eq_true rfl) hxn38.o.1 rfl rfl) rfl (fun qx E G' hp => by cases hp.1) (fun r Gf39 hp _ => ?_)
                                    obtain ⟨hvf39, hhf39⟩ := hp
                                    cases hvf39
                                    have hq40 : sq_behind a1 a2 a3 A = ((-6), (sq_no (-6) A).2) := by
                                      rw [sq_behind, if_pos hb, if_neg fc42.1, if_neg (Int32.not_lt.mpr fc42.2), if_pos c47, if_neg (by omega)]
                                      by_cases k0 : a3 = 0
                                      · rw [if_pos k0, if_neg (by omega)]; rfl
                                      · rw [if_neg k0]
                                        by_cases k1 : a3 = nI 1
                                        · rw [if_pos k1, if_neg (by omega)]; rfl
                                        · rw [if_neg k1, if_neg (by omega)]; rfl
                                    exact hr_iret X hr dX0_behind_138 (by rw [hq40]; exact ⟨rfl, ca, rfl, hhf39⟩)
                                · obtain ⟨hgn38, hrn38, hGn38⟩ | ⟨hgn38, qn38, hrn38, htn38⟩ := hpn38
                                  · cases hgn38
                                  · cases hrn38
                              · refine hr_iconst (v := (bI true)) (q := 88) X dX0_behind_87 rfl rfl ?_
                                refine hr_goto (tgt := 92) X dX0_behind_88 (by decide) ?_
                                refine hr_bipush (v := (-6)) (q := 94) X dX0_behind_92 rfl rfl ?_
                                refine hr_call (kr := 29) (nr := 1733) (q := 97) (hc_S (n := 2) (As := [.int (bI true), .int (-6)]) X dX0_behind_94 rfl (tc_need X.tr (g := true) (w := (-6))) q383 cs_X0_need ⟨Nat.le_of_ble_eq_true rfl, Nat.le_of_ble_eq_true rfl⟩ rfl (Nat.le_of_ble_eq_true rfl)) rfl (fun qxn41 E Gxn41 hpn41 _ => ?_) (fun r Gn41 hpn41 _ => ?_)
                                · obtain ⟨hgn41, hrn41, -⟩ | ⟨hgn41, qn41, hrn41, htn41⟩ := hpn41
                                  · cases hrn41
                                  · cases hgn41
                                · obtain ⟨hgn41, hrn41, hGn41⟩ | ⟨hgn41, qn41, hrn41, htn41⟩ := hpn41
                                  · cases hrn41
                                    have hGn41 := hGn41.symm
                                    subst hGn41
                                    obtain ⟨hTd, hpd, hpe⟩ := hxwr37 (by omega)
                                    have hWn : ab_wf (sq_str A (iN a1) (iN a2)).1 := by
                                      have := ab_wf.after hW (iN a1) (iN a2) (by omega)
                                      rwa [sq_after, sq_upto, if_pos (by omega)] at this
                                    have hmn := sq_str_n A (iN a1) (iN a2)
                                    obtain ⟨K2, hK2, hK2s, hK2b⟩ := hTd.sk
                                    have haf : sq_after A (iN a1) (iN a2) = sq_str A (iN a1) (iN a2) := by rw [sq_after, sq_upto, if_pos (by omega)]
                                    refine hr_iload3 (q := 98) X dX0_behind_97 rfl ?_
                                    refine hr_if_ne (q := 101) (tgt := 108) X dX0_behind_98 rfl (by decide) (fun c98 => ?_) (fun c98 => ?_)
                                    · refine hr_iload3 (q := 109) X dX0_behind_108 rfl ?_
                                      refine hr_iconst (v := (nI 1)) (q := 110) X dX0_behind_109 rfl rfl ?_
                                      refine hr_icmp_ne (q := 113) (tgt := 125) X dX0_behind_110 rfl (by decide) (fun c110 => ?_) (fun c110 => ?_)
                                      · refine hr_aload0 (q := 126) X dX0_behind_125 rfl ?_
                                        refine hr_callP (q := 129) (hc_V (n := 0) (ci := 0) (As := []) X dX0_behind_126 rfl (tc_emptyPurses X.tr hwr37 hW hTd hWn.w) q1240 cv_X0_emptyPurses ⟨Nat.le_of_ble_eq_true rfl, Nat.le_of_ble_eq_true rfl⟩ rfl (Nat.le_of_ble_eq_true rfl) hwr37.o.1 rfl rfl) rfl ?_
                                        have hq42 : sq_behind a1 a2 a3 A = ((nI (sp_empty (sq_str A (iN a1) (iN a2)).1.1)), A) := by
                                          exact absurd c47 c110
                                        exact hr_iret X hr dX0_behind_129 (by rw [hq42]; exact ⟨rfl, ca, rfl, hwr37⟩)
                                      · refine hr_aload0 (q := 114) X dX0_behind_113 rfl ?_
                                        refine hr_getR (v := (cp_d ca 0)) (q := 117) X dX0_behind_114 rfl fr_q248_0 rfl hwr37.o.1 hwr37.o.2.2.2.2.1 ?_
                                        refine hr_getR (v := (cp_d ca 4)) (q := 120) X dX0_behind_117 rfl fr_q190_2 rfl hTd.ob hTd.f14 ?_
                                        refine hr_iconst (v := (nI 0)) (q := 121) X dX0_behind_120 rfl rfl ?_
                                        have b43 := hWn.w.b14 (p := 0) (by omega)
                                        refine hr_ialdN (v := (nI ((sq_str A (iN a1) (iN a2)).1.1.1 14 0))) (q := 122) X dX0_behind_121 rfl hTd.k4 (Or.inl rfl) (by omega) (by decide) (hTd.e4 (by omega)) ?_
                                        refine hr_goto (tgt := 129) X dX0_behind_122 (by decide) ?_
                                        have hq44 : sq_behind a1 a2 a3 A = ((nI ((sq_str A (iN a1) (iN a2)).1.1.1 14 0)), A) := by
                                          rw [sq_behind, if_pos hb, if_neg fc42.1, if_neg (Int32.not_lt.mpr fc42.2), if_pos c47, if_neg (by omega), if_neg c98, if_pos c110, if_pos (by omega), haf]
                                        exact hr_iret X hr dX0_behind_129 (by rw [hq44]; exact ⟨rfl, ca, rfl, hwr37⟩)
                                    · refine hr_aload0 (q := 102) X dX0_behind_101 rfl ?_
                                      refine hr_getI (v := (nI ((sq_str A (iN a1) (iN a2)).2))) (q := 105) X dX0_behind_102 rfl fr_q253_0 rfl hwr37.o.1 hpd ?_
                                      refine hr_goto (tgt := 129) X dX0_behind_105 (by decide) ?_
                                      have hq45 : sq_behind a1 a2 a3 A = ((nI ((sq_str A (iN a1) (iN a2)).2)), A) := by
                                        exact absurd (c98.symm.trans c47) (by decide)
                                      exact hr_iret X hr dX0_behind_129 (by rw [hq45]; exact ⟨rfl, ca, rfl, hwr37⟩)
                                  · cases hrn41
                          · cases hrn33
              · cases hrn12
        · cases hrn4
        · cases hrn4
    · cases hrn1

