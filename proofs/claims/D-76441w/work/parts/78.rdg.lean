def hg_up (G G' : hg_G) : Prop := ∀ a v, G.1 a = some v → G'.1 a = some v
section RD12
variable {G G1 G' : hg_G} {a o : Nat} {ta : Nat → Nat} {kd : Nat × Nat}
theorem hg_up.nn (h : hg_up G G1) (hn : G1.1 a = none) : G.1 a = none := by
  cases g : G.1 a with
  | none => rfl
  | some v => rw [h a v g] at hn; cases hn
theorem hg_up.N (h : hg_up G G1) (hn : G1.1 a = none) : hg_up G (hs_N G1 a kd) := fun b v hb => by
  have g := h b v hb
  rw [hs_N1, if_neg (fun e => by rw [e, hn] at g; cases g)]
  exact g
theorem hg_up.tr {G2 : hg_G} (h : hg_up G G1) (h' : hg_up G1 G2) : hg_up G G2 := fun b v hb => h' b v (h b v hb)
theorem nf_Wf (hf : hg_fr (fun a => G.1 a = none) G G1) (hu : hg_up G G1) (ho : G.1 o = none) (hta : ∀ i, i < 5 → G.1 (ta i) = none) (h' : hg_fr (rd_Wf G1 o ta) G1 G') : hg_fr (fun a => G.1 a = none) G G' := hf.tr (h'.mono (fun a e => by
  rcases e with e | ⟨i, hi, e⟩ | e
  · rw [e]; exact ho
  · rw [e]; exact hta i hi
  · exact hu.nn e))
end RD12
abbrev rk_X0_town : Room := { frames := 20, cells := 3800, slots := 30000, locals := 10540 }
theorem tc_town {l : Launch} {D : hg_D} {lo : Nat} (htr : l.stackTraces = false) {G : hg_G} {ca : Nat → Nat} {A : ab_S} (h : cp_R G ca A) (hW : ab_wf A) (hStr : rd_Str D G) {a1 : Int32} :
    hg_M l D lo yX0_town (wsW_ yX0_town cX0_town 5 ((some FieldType.int)) [(29, 50, 51, 277), (0, 50, 72, 21), (51, 72, 72, 21)]) rk_X0_town [.ref (ca 0), .int a1] G (cp_Po ca (sq_town a1 A)) := by
  refine hg_M.ofH htr (by decide) [some (.ref (ca 0)), some (.int a1), none, none, none] rfl (Nat.le_of_ble_eq_true rfl) ?_
  intro p e s m args below meth c X hr hnm htab
  have X : hg_X p l s m args meth c D lo "TaxOnLooks" cX0_town 5 := X
  refine hr_room (kr' := 3800) (nr' := 30000) (Nat.le_of_ble_eq_true rfl) (Nat.le_of_ble_eq_true rfl) ?_
  have hw := hW.w; have w0 := hw.b0; have w1 := hw.b1; have w2 := hw.b2; have w3 := hw.b3; have w36 := hW.b36; have w43 := hW.b43
  have hpw := sp_wpk hw; have hpb := sp_bpk hw
  obtain ⟨K, hK, hKs, hKb⟩ := h.w.sk
  refine hr_aload0 (q := 1) X dX0_town_0 rfl ?_
  refine hr_iload1 (q := 2) X dX0_town_1 rfl ?_
  refine hr_call (kr := 3796) (nr := 29771) (q := 5) (hc_VX (n := 1) (ci := 0) (As := [.int a1]) X dX0_town_2 rfl (tc_shelf X.tr h (x := a1)) q278 cv_X0_shelf ⟨Nat.le_of_ble_eq_true rfl, Nat.le_of_ble_eq_true rfl⟩ rfl (Nat.le_of_ble_eq_true rfl) h.o.1 rfl rfl) rfl (fun qxn1 E Gxn1 hpn1 _ => ?_) (fun r Gn1 hpn1 _ => ?_)
  · obtain ⟨hgn1, hrn1, hGn1⟩ | ⟨hgn1, qn1, hrn1, htn1⟩ := hpn1
    · cases hrn1
    · cases hrn1
      have hxn1 := h.T htn1
      refine hx_catch (name := "TaxOnLooks$Refused") X [⟨29, 50, 51, 277⟩] ⟨0, 50, 72, 21⟩ [⟨51, 72, 72, 21⟩] htab (List.forall_mem_cons.mpr ⟨Or.inl (by decide), fun _ h => absurd h List.not_mem_nil⟩) (by decide) (by decide) q277 (by decide) ?_
      refine hr_astore2 (q := 73) X dX0_town_72 rfl rfl (Nat.le_of_ble_eq_true rfl) ?_
      refine hr_aload0 (q := 74) X dX0_town_73 rfl ?_
      refine hr_aload2 (q := 75) X dX0_town_74 rfl ?_
      refine hr_call0 (q := 78) (hc_V (n := 1) (ci := 0) (As := [.ref qxn1]) X dX0_town_75 rfl (tc_refused X.tr hxn1 hW (q := qxn1) htn1.2.1 htn1.2.2.1 (k := 1) (by decide) (by decide) (by decide)) q452 cv_X0_refused ⟨Nat.le_of_ble_eq_true rfl, Nat.le_of_ble_eq_true rfl⟩ rfl (Nat.le_of_ble_eq_true rfl) hxn1.o.1 rfl rfl) rfl (fun qx E G' hp => by cases hp.1) (fun r Gf2 hp _ => ?_)
      obtain ⟨hvf2, hhf2⟩ := hp
      cases hvf2
      have hq3 : sq_town a1 A = ((-1), (sq_no (-1) A).2) := by
        have hwt : sq_wanted a1 A = -1 := by rw [sq_wanted, if_neg (by rw [hgn1]; decide)]
        rw [sq_town, hwt, if_neg (by decide)]; rfl
      exact hr_iret X hr dX0_town_78 (by rw [hq3]; exact ⟨rfl, ca, rfl, hhf2⟩)
  · obtain ⟨hgn1, hrn1, hGn1⟩ | ⟨hgn1, qn1, hrn1, htn1⟩ := hpn1
    · cases hrn1
      have hGn1 := hGn1.symm
      subst hGn1
      obtain ⟨ea1, la1⟩ := sp_in_n hgn1 (by omega)
      refine hr_L (L' := [some (.ref (ca 0)), some (.int (nI (iN a1))), none, none, none]) (by rw [← ea1]) ?_
      refine hr_call (kr := 3792) (nr := 28754) (q := 8) (hc_VX (n := 0) (ci := 4) (As := []) X dX0_town_5 rfl (tc_row X.tr h hW (i := iN a1) (by omega)) q460 cv_X4_row ⟨Nat.le_of_ble_eq_true rfl, Nat.le_of_ble_eq_true rfl⟩ rfl (Nat.le_of_ble_eq_true rfl) (h.s.2 (iN a1) (by omega)).2.1 rfl rfl) rfl (fun qxn4 E Gxn4 hpn4 _ => ?_) (fun r Gn4 hpn4 _ => ?_)
      · obtain ⟨hgn4, hrn4, hGn4⟩ | ⟨hgn4, qn4, hrn4, htn4⟩ | ⟨hgn4, qn4, hrn4, htn4⟩ := hpn4
        · cases hrn4
        · cases hrn4
          have hxn4 := h.T htn4
          refine hx_catch (name := "TaxOnLooks$Refused") X [⟨29, 50, 51, 277⟩] ⟨0, 50, 72, 21⟩ [⟨51, 72, 72, 21⟩] htab (List.forall_mem_cons.mpr ⟨Or.inl (by decide), fun _ h => absurd h List.not_mem_nil⟩) (by decide) (by decide) q277 (by decide) ?_
          refine hr_astore2 (q := 73) X dX0_town_72 rfl rfl (Nat.le_of_ble_eq_true rfl) ?_
          refine hr_aload0 (q := 74) X dX0_town_73 rfl ?_
          refine hr_aload2 (q := 75) X dX0_town_74 rfl ?_
          refine hr_call0 (q := 78) (hc_V (n := 1) (ci := 0) (As := [.ref qxn4]) X dX0_town_75 rfl (tc_refused X.tr hxn4 hW (q := qxn4) htn4.2.1 htn4.2.2.1 (k := 2) (by decide) (by decide) (by decide)) q452 cv_X0_refused ⟨Nat.le_of_ble_eq_true rfl, Nat.le_of_ble_eq_true rfl⟩ rfl (Nat.le_of_ble_eq_true rfl) hxn4.o.1 rfl rfl) rfl (fun qx E G' hp => by cases hp.1) (fun r Gf5 hp _ => ?_)
          obtain ⟨hvf5, hhf5⟩ := hp
          cases hvf5
          have hq6 : sq_town a1 A = ((-2), (sq_no (-2) A).2) := by
            have hwt : sq_wanted a1 A = -2 := by rw [sq_wanted, if_pos hgn1, if_pos hgn4]
            rw [sq_town, hwt, if_neg (by decide)]; rfl
          exact hr_iret X hr dX0_town_78 (by rw [hq6]; exact ⟨rfl, ca, rfl, hhf5⟩)
        · cases hrn4
          have hxn4 := h.T htn4
          refine hx_catch (name := "TaxOnLooks$Refused") X [⟨29, 50, 51, 277⟩] ⟨0, 50, 72, 21⟩ [⟨51, 72, 72, 21⟩] htab (List.forall_mem_cons.mpr ⟨Or.inl (by decide), fun _ h => absurd h List.not_mem_nil⟩) (by decide) (by decide) q277 (by decide) ?_
          refine hr_astore2 (q := 73) X dX0_town_72 rfl rfl (Nat.le_of_ble_eq_true rfl) ?_
          refine hr_aload0 (q := 74) X dX0_town_73 rfl ?_
          refine hr_aload2 (q := 75) X dX0_town_74 rfl ?_
          refine hr_call0 (q := 78) (hc_V (n := 1) (ci := 0) (As := [.ref qxn4]) X dX0_town_75 rfl (tc_refused X.tr hxn4 hW (q := qxn4) htn4.2.1 htn4.2.2.1 (k := 3) (by decide) (by decide) (by decide)) q452 cv_X0_refused ⟨Nat.le_of_ble_eq_true rfl, Nat.le_of_ble_eq_true rfl⟩ rfl (Nat.le_of_ble_eq_true rfl) hxn4.o.1 rfl rfl) rfl (fun qx E G' hp => by cases hp.1) (fun r Gf7 hp _ => ?_)
          obtain ⟨hvf7, hhf7⟩ := hp
          cases hvf7
          have hq8 : sq_town a1 A = ((-3), (sq_no (-3) A).2) := by
            have hwt : sq_wanted a1 A = -3 := by rw [sq_wanted, if_pos hgn1, if_neg (by omega), if_pos hgn4]
            rw [sq_town, hwt, if_neg (by decide)]; rfl
          exact hr_iret X hr dX0_town_78 (by rw [hq8]; exact ⟨rfl, ca, rfl, hhf7⟩)
      · obtain ⟨hgn4, hrn4, hGn4⟩ | ⟨hgn4, qn4, hrn4, htn4⟩ | ⟨hgn4, qn4, hrn4, htn4⟩ := hpn4
        · cases hrn4
          have hGn4 := hGn4.symm
          subst hGn4
          refine hr_astore2 (q := 9) X dX0_town_8 rfl rfl (Nat.le_of_ble_eq_true rfl) ?_
          refine hr_aload0 (q := 10) X dX0_town_9 rfl ?_
          refine hr_iconst (v := (-1)) (q := 11) X dX0_town_10 rfl rfl ?_
          refine hr_putI (q := 14) X dX0_town_11 rfl fw_q252_0 (fun h => nomatch h) rfl rfl rfl h.o.1 ?_
          have hlf9 : cp_R (hs_I G (ca 0) 7 (-1)) ca (ab_i A 7 (-1)) := h.fault
          have hW1 : ab_wf (ab_i A 7 (-1)) := hW.i _ _
          have hs1 : rd_Str D (hs_I G (ca 0) 7 (-1)) := hStr.nw (hg_fr.rf.I (W := fun a => a = ca 0) rfl) (fun b e => by
            have e : b = ca 0 := e
            rw [e, h.o.1]
            exact ⟨fun z => (by cases z), fun n z => (by cases z)⟩)
          have h1 := hlf9
          refine hr_new (kr := 3791) (nr := 28739) (q := 17) (ci := 2) (T := TX2) (N := 15) (ty := tyX2) X dX0_town_14 rfl q144 q145 q84 rfl in_X2 tyX2_ok (by decide) (fun x10 hlx10 hnx10 => ?_)
          refine hr_dup (q := 18) X dX0_town_17 rfl rfl ?_
          refine hr_call (kr := 3787) (nr := 28711) (q := 21) (hc_I (n := 0) (As := []) X dX0_town_18 rfl (tn_init X.tr (o := x10) (if_pos rfl) (fun k => if_pos rfl) (fun k => if_pos rfl)) q146 cj_X2_init ⟨Nat.le_of_ble_eq_true rfl, Nat.le_of_ble_eq_true rfl⟩ rfl (Nat.le_of_ble_eq_true rfl)) rfl (fun qx E G' hp _ => by cases hp.1) (fun r Gi hp hEi => ?_)
          obtain ⟨hvi, ta9, h09, hT9, hD9, hn9, hf9⟩ := hp
          cases hvi
          subst h09
          have hfr9 : hg_fr (fun a => (hs_I G (ca 0) 7 (-1)).1 a = none) (hs_I G (ca 0) 7 (-1)) Gi := ((hg_fr.rf (W := fun a => (hs_I G (ca 0) 7 (-1)).1 a = none)).N hnx10).tr (hf9.mono (fun a z => z.elim (fun e => by rw [e]; exact hnx10) (fun z => (hs_Nn z).2)))
          have hta9 : ∀ i, i < 5 → (hs_I G (ca 0) 7 (-1)).1 (ta9 i) = none := fun i hi => by
            by_cases e : i = 0
            · rw [e]; exact hnx10
            · exact (hs_Nn (hn9 i (by omega) hi)).2
          have hu9 : hg_up (hs_I G (ca 0) 7 (-1)) Gi := (hg_up.N (fun _ _ h => h) hnx10).tr hEi
          have hi9 := h1.nf hfr9
          refine hr_aload0 (q := 22) X dX0_town_21 rfl ?_
          refine hr_getR (v := (cp_w ca 0)) (q := 25) X dX0_town_22 rfl fr_q250_0 rfl hi9.o.1 hi9.o.2.2.2.2.2.2.1 ?_
          have hX9 : tn_X ta9 (cp_w ca) := fun i j hi hj e => by
            have := hta9 i hi
            rw [e] at this
            exact h1.ex (r := 21 + j) (.w (by omega)) this
          refine hr_call0 (q := 28) (hc_V (n := 1) (ci := 2) (As := [.ref (cp_w ca 0)]) X dX0_town_25 rfl (tn_take_c X.tr (ta := ta9) (tb := cp_w ca) hi9.w hW1.w.b0 hW1.w.b3 (fun p hp => hW1.w.b9 hp) hT9.K hD9 hX9) q816 cv_X2_take ⟨Nat.le_of_ble_eq_true rfl, Nat.le_of_ble_eq_true rfl⟩ rfl (Nat.le_of_ble_eq_true rfl) hT9.ob rfl rfl) rfl (fun qx E G' hp => by cases hp.1) (fun r Gk hp _ => ?_)
          obtain ⟨hvk, hTk, hkk, hfk, hpk⟩ := hp
          cases hvk
          rw [sp_set_99 hW1.b36] at hTk
          have hfrk : hg_fr (fun a => (hs_I G (ca 0) 7 (-1)).1 a = none) (hs_I G (ca 0) 7 (-1)) Gk := hfr9.tr (hfk.mono (fun a ⟨i, hi, e⟩ => by rw [e]; exact hta9 i hi))
          have huk : hg_up (hs_I G (ca 0) 7 (-1)) Gk := fun a v g => by rw [hkk]; exact hu9 a v g
          have hk9 := h1.nf hfrk
          have hx9 : ∀ i, i < 5 → ∀ r, cp_pr (ab_i A 7 (-1)) r → ca r ≠ ta9 i := fun i hi r hr e => h1.ex hr (by rw [e]; exact hta9 i hi)
          refine hr_astore3 (q := 29) X dX0_town_28 rfl rfl (Nat.le_of_ble_eq_true rfl) ?_
          refine hr_new (kr := 3786) (nr := 28707) (q := 32) (ci := 19) (T := TX19) (N := 4) (ty := tyX19) X dX0_town_29 rfl q821 q822 q111 rfl in_X19 tyX19_ok (by decide) (fun x11 hlx11 hnx11 => ?_)
          refine hr_dup (q := 33) X dX0_town_32 rfl rfl ?_
          refine hr_aload2 (q := 34) X dX0_town_33 rfl ?_
          refine hr_aload3 (q := 35) X dX0_town_34 rfl ?_
          refine hr_call0 (q := 38) (hc_I (n := 2) (As := [.ref (ca (31 + iN a1)), .ref (ta9 0)]) X dX0_town_35 rfl (rx_init X.tr (o := x11) (x := ca (31 + iN a1)) (y := ta9 0) (if_pos rfl)) q823 cj_X19_init ⟨Nat.le_of_ble_eq_true rfl, Nat.le_of_ble_eq_true rfl⟩ rfl (Nat.le_of_ble_eq_true rfl)) rfl (fun qx E G' hp => by cases hp.1) (fun r Gr hp _ => ?_)
          obtain ⟨hvr, hGr⟩ := hp
          cases hvr
          have hno : (hs_I G (ca 0) 7 (-1)).1 x11 = none := huk.nn hnx11
          have hfo : hg_fr (fun a => a = x11) Gk Gr := by rw [hGr]; exact (((hg_fr.rf (W := fun a => a = x11)).N rfl).R rfl).R rfl
          have hfrr : hg_fr (fun a => (hs_I G (ca 0) 7 (-1)).1 a = none) (hs_I G (ca 0) 7 (-1)) Gr := hfrk.tr (hfo.mono (fun a e => by have e : a = x11 := e; rw [e]; exact hno))
          have hur : hg_up (hs_I G (ca 0) 7 (-1)) Gr := by rw [hGr]; exact huk.N hnx11
          have hr9 := h1.nf hfrr
          have hrow := hr9.r (iN a1) (by omega) hgn4
          have hE160 := hrow.1.2.1
          have hTr : rd_T D Gr x11 (ca (31 + iN a1)) (ca (39 + iN a1)) (A.1.1 19 (iN a1)) (A.1.1 20 (iN a1)) (rd_f A (iN a1)) ta9 (ab_i A 7 (-1)).1 0 := by
            refine ⟨⟨by rw [hGr]; exact if_pos rfl, ?_, ?_, hrow.1, fun j hj => congrArg Int64.toInt32 (hrow.2 j hj)⟩, ?_, Nat.zero_le _, hTk.bt hnx11 hfo, hD9, fun i hi => ⟨fun e => hx9 i hi _ (.r (by omega) hgn4) e.symm, fun e => hx9 i hi _ (.e (by omega) hgn4) e.symm⟩, hs1.nw hfrr (fun b e => ⟨fun z => (nomatch (z.symm.trans e)), fun n z => (nomatch (z.symm.trans e))⟩)⟩
            · rw [hGr, hs_Rnj (by decide), hs_Req]
            · rw [hGr, hs_Req]
            · rw [hGr]; exact if_pos rfl
          refine hr_call (kr := 186) (nr := 2207) (q := 41) (hc_V (n := 0) (ci := 19) (As := []) X dX0_town_38 rfl (rx_items X.tr hTr hW1 rfl) q840 cv_X19_items ⟨Nat.le_of_ble_eq_true rfl, Nat.le_of_ble_eq_true rfl⟩ rfl (Nat.le_of_ble_eq_true rfl) hTr.1.1 rfl rfl) rfl (fun qx E' Gx hp _ => ?_) (fun r Gs hp _ => ?_)
          · obtain ⟨-, hr5, -⟩ | ⟨hz5, q5, hr5, hk5, ha5, hf5⟩ := hp
            · cases hr5
            · cases hr5
              change (sq_townZ (iN a1) A).1 = false at hz5
              change Gx.2.1 qx 6 = nI (sq_townZ (iN a1) A).2.1 at ha5
              have hx5 := h1.nf (nf_Wf hfrr hur hno hta9 hf5)
              refine hx_catch (name := "TaxOnLooks$Faulty") X [] ⟨29, 50, 51, 277⟩ [⟨0, 50, 72, 21⟩, ⟨51, 72, 72, 21⟩] htab (fun _ h => absurd h List.not_mem_nil) (by decide) (by decide) q815 (by decide) ?_
              refine hr_astore4 (q := 53) X dX0_town_51 rfl rfl (Nat.le_of_ble_eq_true rfl) ?_
              refine hr_aload0 (q := 54) X dX0_town_53 rfl ?_
              refine hr_aload4 (q := 56) X dX0_town_54 rfl ?_
              refine hr_getI (v := (nI (sq_townZ (iN a1) A).2.1)) (q := 59) X dX0_town_56 rfl fr_q955_7 rfl hk5 ha5 ?_
              refine hr_putI (q := 62) X dX0_town_59 rfl fw_q252_0 (fun h => nomatch h) rfl rfl rfl hx5.o.1 ?_
              have hlf12 : cp_R (hs_I Gx (ca 0) 7 (nI (sq_townZ (iN a1) A).2.1)) ca (ab_i (ab_i A 7 (-1)) 7 (nI (sq_townZ (iN a1) A).2.1)) := hx5.fault
              refine hr_new (kr := 185) (nr := 2200) (q := 65) (ci := 6) (T := TX6) (N := 7) (ty := tyX6) X dX0_town_62 rfl q277 q360 q94 rfl in_X6 tyX6_ok (by decide) (fun x13 hlx13 hnx13 => ?_)
              refine hr_dup (q := 66) X dX0_town_65 rfl rfl ?_
              refine hr_bipush (v := (-6)) (q := 68) X dX0_town_66 rfl rfl ?_
              refine hr_call0 (q := 71) (hc_I (n := 1) (As := [.int (-6)]) X dX0_town_68 rfl (tx_new6 X.tr (b := x13) (if_pos rfl) (w := (-6))) q368 cj_X6_init ⟨Nat.le_of_ble_eq_true rfl, Nat.le_of_ble_eq_true rfl⟩ rfl (Nat.le_of_ble_eq_true rfl)) rfl (fun qx E G' hp => by cases hp.1) (fun r Gw14 hp _ => ?_)
              obtain ⟨hvw14, hkw14, hww14, hbtw14⟩ := hp
              cases hvw14
              have htw14 : tx_T 6 x13 (-6) (hs_I Gx (ca 0) 7 (nI (sq_townZ (iN a1) A).2.1)) Gw14 := ⟨hnx13, by rw [hkw14]; exact if_pos rfl, hww14, hg_bt.N.tr hbtw14⟩
              have hxw14 := hlf12.T htw14
              refine hr_athrow X dX0_town_71 (ci := 6) htw14.2.1 rfl rfl ?_
              refine hx_catch (name := "TaxOnLooks$Refused") X [⟨29, 50, 51, 277⟩, ⟨0, 50, 72, 21⟩] ⟨51, 72, 72, 21⟩ [] htab (List.forall_mem_cons.mpr ⟨Or.inl (by decide), List.forall_mem_cons.mpr ⟨Or.inl (by decide), fun _ h => absurd h List.not_mem_nil⟩⟩) (by decide) (by decide) q277 (by decide) ?_
              refine hr_astore2 (q := 73) X dX0_town_72 rfl rfl (Nat.le_of_ble_eq_true rfl) ?_
              refine hr_aload0 (q := 74) X dX0_town_73 rfl ?_
              refine hr_aload2 (q := 75) X dX0_town_74 rfl ?_
              refine hr_call0 (q := 78) (hc_V (n := 1) (ci := 0) (As := [.ref x13]) X dX0_town_75 rfl (tc_refused X.tr hxw14 hW (q := x13) htw14.2.1 htw14.2.2.1 (k := 6) (by decide) (by decide) (by decide)) q452 cv_X0_refused ⟨Nat.le_of_ble_eq_true rfl, Nat.le_of_ble_eq_true rfl⟩ rfl (Nat.le_of_ble_eq_true rfl) hxw14.o.1 rfl rfl) rfl (fun qx E G' hp => by cases hp.1) (fun r Gf15 hp _ => ?_)
              obtain ⟨hvf15, hhf15⟩ := hp
              cases hvf15
              have hq16 : sq_town a1 A = ((-6), (sq_no (-6) (ab_i (ab_i A 7 (-1)) 7 (nI (sq_townZ (iN a1) A).2.1))).2) := by
                have hwt : sq_wanted a1 A = 0 := by rw [sq_wanted, if_pos hgn1, if_neg (by omega), if_neg (by omega)]; rfl
                rw [sq_town, if_pos hwt, if_neg (by rw [hz5]; decide)]; rfl
              exact hr_iret X hr dX0_town_78 (by rw [hq16]; exact ⟨rfl, ca, rfl, hhf15⟩)
          · obtain ⟨hz5, hr5, ⟨p5, hT5⟩, hf5, hP5⟩ | ⟨-, q5, hr5, -⟩ := hp
            · cases hr5
              change (sq_townZ (iN a1) A).1 = true at hz5
              have hfs := nf_Wf hfrr hur hno hta9 hf5
              have hs5 := h1.nf hfs
              have hTt : tn_R Gs ta9 (sq_townZ (iN a1) A).2.2.1 := hT5.2.2.2.1
              have htw9 : ab_tw (ab_i A 7 (-1)) (sq_townZ (iN a1) A).2.2 := (rd_items_W (f := rd_f A (iN a1)) (E := A.1.1 20 (iN a1)) 200 (ab_i A 7 (-1)) 0 1 hW1 (Nat.zero_le _)).2
              have hpp9 : ∀ p, p < (ab_i A 7 (-1)).1.1 0 0 → Gs.2.2.2 (ta9 1) p = Gs.2.2.2 (ca 22) p := fun p hp => by
                have e1 := hP5 p hp
                have e2 : Gr.2.2.2 (ta9 1) p = Gk.2.2.2 (ta9 1) p := (hfo (ta9 1) (fun e => by
                  have e : ta9 1 = x11 := e
                  have g := hTk.k1
                  rw [e, hnx11] at g
                  cases g)).2.2.2 p
                have e3 := hpk p hp
                have e4 : Gi.2.2.2 (ca 22) p = (hs_I G (ca 0) 7 (-1)).2.2.2 (ca 22) p := (hfr9 (ca 22) (h1.ex (.w (by decide)))).2.2.2 p
                have e5 : Gs.2.2.2 (ca 22) p = (hs_I G (ca 0) 7 (-1)).2.2.2 (ca 22) p := (hfs (ca 22) (h1.ex (.w (by decide)))).2.2.2 p
                rw [e1, e2, e3, e5]
                exact e4
              refine hr_istore4 (q := 43) X dX0_town_41 rfl rfl (Nat.le_of_ble_eq_true rfl) ?_
              refine hr_aload0 (q := 44) X dX0_town_43 rfl ?_
              refine hr_aload3 (q := 45) X dX0_town_44 rfl ?_
              refine hr_putR (q := 48) X dX0_town_45 rfl fw_q250_0 (fun h => nomatch h) rfl rfl hs5.o.1 ?_
              have hE := hs5.told hW1 hTt hD9 hx9 htw9 hpp9
              refine hr_iload4 (q := 50) X dX0_town_48 rfl ?_
              have hq18 : sq_town a1 A = ((nI (sq_townZ (iN a1) A).2.1), (sq_townZ (iN a1) A).2.2) := by
                have hwt : sq_wanted a1 A = 0 := by rw [sq_wanted, if_pos hgn1, if_neg (by omega), if_neg (by omega)]; rfl
                rw [sq_town, if_pos hwt, if_pos hz5]
              exact hr_iret X hr dX0_town_50 (by rw [hq18]; exact ⟨rfl, (cp_ci ca 21 ta9), (cp_ci_o (by decide)), hE⟩)
            · cases hr5
        · cases hrn4
        · cases hrn4
    · cases hrn1

