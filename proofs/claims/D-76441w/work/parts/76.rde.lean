theorem rd_so_3r {A : ab_S} {i v M : Nat} (hi : i ≠ 5) (hM : sp_mosts.getD i 0 = M) (hM2 : M < 2 ^ 31) (hv : v ≤ 99) {b : Bool} (h : decide (nI 0 ≤ nI v ∧ nI v ≤ nI M) = b) : rd_so A 3 i v = b := by
  rw [rg_dec (by decide) hM2 hv] at h
  rw [← h]
  show decide (v ≤ sp_mosts.getD i 0 ∧ (i = 5 → _)) = _
  rw [hM]
  by_cases g : v ≤ M
  · rw [decide_eq_true ⟨g, fun z => absurd z hi⟩, decide_eq_true ⟨Nat.zero_le _, g⟩]
  · rw [decide_eq_false (fun z => g z.1), decide_eq_false (fun z => g z.2)]
theorem rd_so_35f {A : ab_S} {v : Nat} (hv : v ≤ 99) (h : decide (nI 0 ≤ nI v ∧ nI v ≤ nI 35) = false) : rd_so A 3 5 v = false := by
  rw [rg_dec (by decide) (by decide) hv] at h
  have h := of_decide_eq_false h
  exact decide_eq_false (fun z => h ⟨Nat.zero_le _, z.1⟩)
theorem rd_so_35n {A : ab_S} {v : Nat} (h : A.1.1 16 v = 1) : rd_so A 3 5 v = false := decide_eq_false (fun z => by have := z.2 rfl; omega)
theorem rd_so_35t {A : ab_S} {v : Nat} (hv : v < 36) (h : A.1.1 16 v = 0) : rd_so A 3 5 v = true := decide_eq_true ⟨show v ≤ 35 by omega, fun _ => h⟩
abbrev rk_X19_person : Room := { frames := 17, cells := 36, slots := 260, locals := 10448 }
theorem rx_person {l : Launch} {D : hg_D} {lo : Nat} (htr : l.stackTraces = false) {G : hg_G} {o x y k E : Nat} {f : Nat → Int32} {ta : Nat → Nat} {B : ab_S} {p9 : Nat} (hT : rd_T D G o x y k E f ta B.1 p9) (hB : ab_wf B) :
    hg_M l D lo yX19_person (ws_ yX19_person cX19_person 8 (none)) rk_X19_person [.ref o, .int (nI p9)] G (rd_IP D G o x y k E f ta (B.1.1 0 0) (rd_iw f E B 3 p9)) := by
  refine hg_M.of htr (by decide) [some (.ref o), some (.int (nI p9)), none, none, none, none, none, none] rfl (Nat.le_of_ble_eq_true rfl) ?_
  intro p e s m args below meth c X hr hnm htab
  have X : hg_X p l s m args meth c D lo "TaxOnLooks$Reader" cX19_person 8 := X
  refine hr_room (kr' := 36) (nr' := 260) (Nat.le_of_ble_eq_true rfl) (Nat.le_of_ble_eq_true rfl) ?_
  have hE9 := hT.1.2.2.2.1.2.1
  have hw := hB.w
  have w0 := hw.b0; have w1 := hw.b1; have w2 := hw.b2; have w3 := hw.b3; have w36 := hB.b36
  have F0 : hg_fr (rd_Wf G o ta) G G := hg_fr.rf
  have P0 : ∀ p, p < B.1.1 0 0 → G.2.2.2 (ta 1) p = G.2.2.2 (ta 1) p := fun _ _ => rfl
  refine hr_aload0 (q := 1) X dX19_person_0 rfl ?_
  refine hr_ldcS (n := 0) (tx := "person") (q := 3) X dX19_person_1 rfl (by decide) ?_
  refine hr_call (kr := 26) (nr := 190) (q := 6) (hc_V (n := 1) (ci := 19) (As := [.ref (D.2.2 0)]) X dX19_person_3 rfl (rx_word X.tr hT.1 (p9 := p9) hT.2.1 hT.2.2.1 (l9 := rd_w 3) hT.2.2.2.2.2.2.1) q885 cv_X19_word ⟨Nat.le_of_ble_eq_true rfl, Nat.le_of_ble_eq_true rfl⟩ rfl (Nat.le_of_ble_eq_true rfl) hT.1.1 rfl rfl) rfl (fun qxn1 E' Gxn1 hpn1 _ => ?_) (fun r Gn1 hpn1 _ => ?_)
  · obtain ⟨-, hrn1, -⟩ | ⟨hgn1, qn1, hrn1, htn1⟩ := hpn1
    · cases hrn1
    · cases hrn1
      exact hx_out X (fun z hz => absurd hz (htab z)) (rd_IP.bad (rd_iw_n hgn1) F0 rfl (rd_thr.of (hg_fr.rf.I rfl) rfl htn1))
  · obtain ⟨hgn1, hrn1, hGn1⟩ | ⟨-, qn1, hrn1, -⟩ := hpn1
    · cases hrn1
      have hGn1 := hGn1.symm
      subst hGn1
      have hmn1 := (rd_mat_le f E (rd_w 3) p9).2.2 hT.2.2.1
      rw [hgn1] at hmn1
      have Tn1 := hT.o' hw (hg_fr.rf.I rfl) rfl rfl (hs_Ieq (G := G) (a := o) (k := 2) (v := nI (p9 + (rd_w 3).length))) hmn1
      have Fn1 : hg_fr (rd_Wf G o ta) G (hs_I G o 2 (nI (p9 + (rd_w 3).length))) := F0.I (Or.inl rfl)
      refine hr_aload0 (q := 7) X dX19_person_6 rfl ?_
      refine hr_aload0 (q := 8) X dX19_person_7 rfl ?_
      refine hr_getR (v := (ta 0)) (q := 11) X dX19_person_8 rfl fr_q828_19 rfl Tn1.1.1 Tn1.1.2.2.1 ?_
      refine hr_getI (v := (nI (B.1.1 0 0))) (q := 14) X dX19_person_11 rfl fr_q153_2 rfl Tn1.2.2.2.1.ob Tn1.2.2.2.1.f0 ?_
      refine hr_bipush (v := (nI 7)) (q := 16) X dX19_person_14 rfl rfl ?_
      refine hr_icmpN_ge (q := 19) (tgt := 23) X dX19_person_16 rfl (by decide) (by omega) (by omega) (fun c16 => ?_) (fun c16 => ?_)
      · refine hr_iconst (v := (bI false)) (q := 24) X dX19_person_23 rfl rfl ?_
        refine hr_iload1 (q := 25) X dX19_person_24 rfl ?_
        refine hr_call (kr := 25) (nr := 183) (q := 28) (hc_V (n := 2) (ci := 19) (As := [.int (bI false), .int (nI p9)]) X dX19_person_25 rfl (rx_room X.tr (o := o) (g9 := false) (w9 := (nI p9))) q973 cv_X19_hasRoom ⟨Nat.le_of_ble_eq_true rfl, Nat.le_of_ble_eq_true rfl⟩ rfl (Nat.le_of_ble_eq_true rfl) Tn1.1.1 rfl rfl) rfl (fun qxn2 E' Gxn2 hpn2 _ => ?_) (fun r Gn2 hpn2 _ => ?_)
        · obtain ⟨-, hrn2, -⟩ | ⟨hgn2, qn2, hrn2, htn2⟩ := hpn2
          · cases hrn2
          · cases hrn2
            exact hx_out X (fun z hz => absurd hz (htab z)) (rd_IP.badT (rd_iw_7 hgn1 (by omega)) Fn1 rfl htn2)
        · obtain ⟨hgn2, hrn2, hGn2⟩ | ⟨-, qn2, hrn2, -⟩ := hpn2
          · cases hgn2
          · cases hrn2
      · refine hr_iconst (v := (bI true)) (q := 20) X dX19_person_19 rfl rfl ?_
        refine hr_goto (tgt := 24) X dX19_person_20 (by decide) ?_
        refine hr_iload1 (q := 25) X dX19_person_24 rfl ?_
        refine hr_call (kr := 25) (nr := 183) (q := 28) (hc_V (n := 2) (ci := 19) (As := [.int (bI true), .int (nI p9)]) X dX19_person_25 rfl (rx_room X.tr (o := o) (g9 := true) (w9 := (nI p9))) q973 cv_X19_hasRoom ⟨Nat.le_of_ble_eq_true rfl, Nat.le_of_ble_eq_true rfl⟩ rfl (Nat.le_of_ble_eq_true rfl) Tn1.1.1 rfl rfl) rfl (fun qxn3 E' Gxn3 hpn3 _ => ?_) (fun r Gn3 hpn3 _ => ?_)
        · obtain ⟨-, hrn3, -⟩ | ⟨hgn3, qn3, hrn3, htn3⟩ := hpn3
          · cases hrn3
          · cases hgn3
        · obtain ⟨hgn3, hrn3, hGn3⟩ | ⟨-, qn3, hrn3, -⟩ := hpn3
          · cases hrn3
            have hGn3 := hGn3.symm
            subst hGn3
            have hm79 : ¬ B.1.1 0 0 = 7 := by omega
            have N0 : rd_ns f E B 3 (sp_nums.getD 3 0) 0 (p9 + (rd_w 3).length + 1) (fun _ => 0) = rd_ns f E B 3 6 0 (p9 + (rd_w 3).length + 1) (fun _ => 0) := rfl
            refine hr_aload0 (q := 29) X dX19_person_28 rfl ?_
            refine hr_iconst (v := (nI 0)) (q := 30) X dX19_person_29 rfl rfl ?_
            refine hr_bipush (v := (nI 6)) (q := 32) X dX19_person_30 rfl rfl ?_
            refine hr_call (kr := 22) (nr := 162) (q := 35) (hc_V (n := 2) (ci := 19) (As := [.int (nI 0), .int (nI 6)]) X dX19_person_32 rfl (rx_number X.tr Tn1.1 (p9 := p9 + (rd_w 3).length) Tn1.2.1 Tn1.2.2.1 (b9 := (nI 0)) (z9 := (nI 6))) q964 cv_X19_number ⟨Nat.le_of_ble_eq_true rfl, Nat.le_of_ble_eq_true rfl⟩ rfl (Nat.le_of_ble_eq_true rfl) Tn1.1.1 rfl rfl) rfl (fun qxn4 E' Gxn4 hpn4 _ => ?_) (fun r Gn4 hpn4 _ => ?_)
            · obtain ⟨hrn4, -⟩ | ⟨qn4, hrn4, wn4, htn4, hnon4⟩ := hpn4
              · cases hrn4
              · cases hrn4
                rcases hnon4 with ⟨hisn4, rfl⟩ | ⟨hisn4, rfl, hdgn4 | ⟨hdgn4, hrgn4⟩⟩
                · exact hx_out X (fun z hz => absurd hz (htab z)) (rd_IP.bad (rd_iw_b hgn1 (fun z => hm79 z.2) hisn4) Fn1 rfl htn4)
                · exact hx_out X (fun z hz => absurd hz (htab z)) (rd_IP.bad (rd_iw_N hgn1 (fun z => hm79 z.2) hisn4 (N0.trans (rd_ns_d (by decide) (Or.inl ⟨rfl, rfl⟩) hdgn4))) Fn1 rfl htn4)
                · exact hx_out X (fun z hz => absurd hz (htab z)) (rd_IP.bad (rd_iw_N hgn1 (fun z => hm79 z.2) hisn4 (N0.trans (rd_ns_o (by decide) (Or.inl ⟨rfl, rfl⟩) hdgn4 (rd_so_3r (A := B) (i := 0) (M := 6) (by decide) rfl (by decide) (rd_num_le hdgn4) hrgn4)))) Fn1 rfl htn4)
            · obtain ⟨hrn4, hisn4, hdgn4, hrgn4, hfrn4, hkn4, hrefn4, hatn4, hpln4⟩ | ⟨qn4, hrn4, -⟩ := hpn4
              · cases hrn4
                have hlen4 := rd_end_le hdgn4
                have hvn4 := rd_num_le hdgn4
                have Tn4 := Tn1.o' hw hfrn4 hkn4 hrefn4 hatn4 hlen4.2
                have Fn4 : hg_fr (rd_Wf G o ta) G Gn4 := Fn1.tr (hfrn4.mono (fun a e => Or.inl e))
                have Kn4 : Gn4.1 = G.1 := hkn4.trans rfl
                have Pn4 : ∀ p, p < B.1.1 0 0 → Gn4.2.2.2 (ta 1) p = G.2.2.2 (ta 1) p := fun p hp => (by rw [hrefn4]; exact P0 p hp)
                have hso0 : rd_so B 3 0 (rd_num f E (p9 + (rd_w 3).length + 1)) = true := rd_so_3r (A := B) (i := 0) (M := 6) (by decide) rfl (by decide) (rd_num_le hdgn4) hrgn4
                have N1 := N0.trans (rd_ns_s (Or.inl ⟨rfl, rfl⟩) hdgn4 hso0)
                have hmx0 := (rd_so_3 hso0).1
                have hmx0 : rd_num f E (p9 + (rd_w 3).length + 1) ≤ 6 := hmx0
                refine hr_istore2 (q := 36) X dX19_person_35 rfl rfl (Nat.le_of_ble_eq_true rfl) ?_
                refine hr_aload0 (q := 37) X dX19_person_36 rfl ?_
                refine hr_iconst (v := (nI 0)) (q := 38) X dX19_person_37 rfl rfl ?_
                refine hr_bipush (v := (nI 9)) (q := 40) X dX19_person_38 rfl rfl ?_
                refine hr_call (kr := 19) (nr := 141) (q := 43) (hc_V (n := 2) (ci := 19) (As := [.int (nI 0), .int (nI 9)]) X dX19_person_40 rfl (rx_number X.tr Tn4.1 (p9 := rd_end f E (p9 + (rd_w 3).length + 1)) Tn4.2.1 Tn4.2.2.1 (b9 := (nI 0)) (z9 := (nI 9))) q964 cv_X19_number ⟨Nat.le_of_ble_eq_true rfl, Nat.le_of_ble_eq_true rfl⟩ rfl (Nat.le_of_ble_eq_true rfl) Tn4.1.1 rfl rfl) rfl (fun qxn5 E' Gxn5 hpn5 _ => ?_) (fun r Gn5 hpn5 _ => ?_)
                · obtain ⟨hrn5, -⟩ | ⟨qn5, hrn5, wn5, htn5, hnon5⟩ := hpn5
                  · cases hrn5
                  · cases hrn5
                    rcases hnon5 with ⟨hisn5, rfl⟩ | ⟨hisn5, rfl, hdgn5 | ⟨hdgn5, hrgn5⟩⟩
                    · exact hx_out X (fun z hz => absurd hz (htab z)) (rd_IP.bad (rd_iw_N hgn1 (fun z => hm79 z.2) hisn4 (N1.trans (rd_ns_b (by decide) (by decide) hisn5))) Fn4 Kn4 htn5)
                    · exact hx_out X (fun z hz => absurd hz (htab z)) (rd_IP.bad (rd_iw_N hgn1 (fun z => hm79 z.2) hisn4 (N1.trans (rd_ns_d (by decide) (Or.inr ⟨by decide, rfl, hisn5⟩) hdgn5))) Fn4 Kn4 htn5)
                    · exact hx_out X (fun z hz => absurd hz (htab z)) (rd_IP.bad (rd_iw_N hgn1 (fun z => hm79 z.2) hisn4 (N1.trans (rd_ns_o (by decide) (Or.inr ⟨by decide, rfl, hisn5⟩) hdgn5 (rd_so_3r (A := B) (i := 1) (M := 9) (by decide) rfl (by decide) (rd_num_le hdgn5) hrgn5)))) Fn4 Kn4 htn5)
                · obtain ⟨hrn5, hisn5, hdgn5, hrgn5, hfrn5, hkn5, hrefn5, hatn5, hpln5⟩ | ⟨qn5, hrn5, -⟩ := hpn5
                  · cases hrn5
                    have hlen5 := rd_end_le hdgn5
                    have hvn5 := rd_num_le hdgn5
                    have Tn5 := Tn4.o' hw hfrn5 hkn5 hrefn5 hatn5 hlen5.2
                    have Fn5 : hg_fr (rd_Wf G o ta) G Gn5 := Fn4.tr (hfrn5.mono (fun a e => Or.inl e))
                    have Kn5 : Gn5.1 = G.1 := hkn5.trans Kn4
                    have Pn5 : ∀ p, p < B.1.1 0 0 → Gn5.2.2.2 (ta 1) p = G.2.2.2 (ta 1) p := fun p hp => (by rw [hrefn5]; exact Pn4 p hp)
                    have hso1 : rd_so B 3 1 (rd_num f E (rd_end f E (p9 + (rd_w 3).length + 1) + 1)) = true := rd_so_3r (A := B) (i := 1) (M := 9) (by decide) rfl (by decide) (rd_num_le hdgn5) hrgn5
                    have N2 := N1.trans (rd_ns_s (Or.inr ⟨by decide, rfl, hisn5⟩) hdgn5 hso1)
                    have hmx1 := (rd_so_3 hso1).1
                    have hmx1 : rd_num f E (rd_end f E (p9 + (rd_w 3).length + 1) + 1) ≤ 9 := hmx1
                    refine hr_istore3 (q := 44) X dX19_person_43 rfl rfl (Nat.le_of_ble_eq_true rfl) ?_
                    refine hr_aload0 (q := 45) X dX19_person_44 rfl ?_
                    refine hr_iconst (v := (nI 0)) (q := 46) X dX19_person_45 rfl rfl ?_
                    refine hr_bipush (v := (nI 20)) (q := 48) X dX19_person_46 rfl rfl ?_
                    refine hr_call (kr := 16) (nr := 120) (q := 51) (hc_V (n := 2) (ci := 19) (As := [.int (nI 0), .int (nI 20)]) X dX19_person_48 rfl (rx_number X.tr Tn5.1 (p9 := rd_end f E (rd_end f E (p9 + (rd_w 3).length + 1) + 1)) Tn5.2.1 Tn5.2.2.1 (b9 := (nI 0)) (z9 := (nI 20))) q964 cv_X19_number ⟨Nat.le_of_ble_eq_true rfl, Nat.le_of_ble_eq_true rfl⟩ rfl (Nat.le_of_ble_eq_true rfl) Tn5.1.1 rfl rfl) rfl (fun qxn6 E' Gxn6 hpn6 _ => ?_) (fun r Gn6 hpn6 _ => ?_)
                    · obtain ⟨hrn6, -⟩ | ⟨qn6, hrn6, wn6, htn6, hnon6⟩ := hpn6
                      · cases hrn6
                      · cases hrn6
                        rcases hnon6 with ⟨hisn6, rfl⟩ | ⟨hisn6, rfl, hdgn6 | ⟨hdgn6, hrgn6⟩⟩
                        · exact hx_out X (fun z hz => absurd hz (htab z)) (rd_IP.bad (rd_iw_N hgn1 (fun z => hm79 z.2) hisn4 (N2.trans (rd_ns_b (by decide) (by decide) hisn6))) Fn5 Kn5 htn6)
                        · exact hx_out X (fun z hz => absurd hz (htab z)) (rd_IP.bad (rd_iw_N hgn1 (fun z => hm79 z.2) hisn4 (N2.trans (rd_ns_d (by decide) (Or.inr ⟨by decide, rfl, hisn6⟩) hdgn6))) Fn5 Kn5 htn6)
                        · exact hx_out X (fun z hz => absurd hz (htab z)) (rd_IP.bad (rd_iw_N hgn1 (fun z => hm79 z.2) hisn4 (N2.trans (rd_ns_o (by decide) (Or.inr ⟨by decide, rfl, hisn6⟩) hdgn6 (rd_so_3r (A := B) (i := 2) (M := 20) (by decide) rfl (by decide) (rd_num_le hdgn6) hrgn6)))) Fn5 Kn5 htn6)
                    · obtain ⟨hrn6, hisn6, hdgn6, hrgn6, hfrn6, hkn6, hrefn6, hatn6, hpln6⟩ | ⟨qn6, hrn6, -⟩ := hpn6
                      · cases hrn6
                        have hlen6 := rd_end_le hdgn6
                        have hvn6 := rd_num_le hdgn6
                        have Tn6 := Tn5.o' hw hfrn6 hkn6 hrefn6 hatn6 hlen6.2
                        have Fn6 : hg_fr (rd_Wf G o ta) G Gn6 := Fn5.tr (hfrn6.mono (fun a e => Or.inl e))
                        have Kn6 : Gn6.1 = G.1 := hkn6.trans Kn5
                        have Pn6 : ∀ p, p < B.1.1 0 0 → Gn6.2.2.2 (ta 1) p = G.2.2.2 (ta 1) p := fun p hp => (by rw [hrefn6]; exact Pn5 p hp)
                        have hso2 : rd_so B 3 2 (rd_num f E (rd_end f E (rd_end f E (p9 + (rd_w 3).length + 1) + 1) + 1)) = true := rd_so_3r (A := B) (i := 2) (M := 20) (by decide) rfl (by decide) (rd_num_le hdgn6) hrgn6
                        have N3 := N2.trans (rd_ns_s (Or.inr ⟨by decide, rfl, hisn6⟩) hdgn6 hso2)
                        have hmx2 := (rd_so_3 hso2).1
                        have hmx2 : rd_num f E (rd_end f E (rd_end f E (p9 + (rd_w 3).length + 1) + 1) + 1) ≤ 20 := hmx2
                        refine hr_istore4 (q := 53) X dX19_person_51 rfl rfl (Nat.le_of_ble_eq_true rfl) ?_
                        refine hr_aload0 (q := 54) X dX19_person_53 rfl ?_
                        refine hr_iconst (v := (nI 0)) (q := 55) X dX19_person_54 rfl rfl ?_
                        refine hr_bipush (v := (nI 9)) (q := 57) X dX19_person_55 rfl rfl ?_
                        refine hr_call (kr := 13) (nr := 99) (q := 60) (hc_V (n := 2) (ci := 19) (As := [.int (nI 0), .int (nI 9)]) X dX19_person_57 rfl (rx_number X.tr Tn6.1 (p9 := rd_end f E (rd_end f E (rd_end f E (p9 + (rd_w 3).length + 1) + 1) + 1)) Tn6.2.1 Tn6.2.2.1 (b9 := (nI 0)) (z9 := (nI 9))) q964 cv_X19_number ⟨Nat.le_of_ble_eq_true rfl, Nat.le_of_ble_eq_true rfl⟩ rfl (Nat.le_of_ble_eq_true rfl) Tn6.1.1 rfl rfl) rfl (fun qxn7 E' Gxn7 hpn7 _ => ?_) (fun r Gn7 hpn7 _ => ?_)
                        · obtain ⟨hrn7, -⟩ | ⟨qn7, hrn7, wn7, htn7, hnon7⟩ := hpn7
                          · cases hrn7
                          · cases hrn7
                            rcases hnon7 with ⟨hisn7, rfl⟩ | ⟨hisn7, rfl, hdgn7 | ⟨hdgn7, hrgn7⟩⟩
                            · exact hx_out X (fun z hz => absurd hz (htab z)) (rd_IP.bad (rd_iw_N hgn1 (fun z => hm79 z.2) hisn4 (N3.trans (rd_ns_b (by decide) (by decide) hisn7))) Fn6 Kn6 htn7)
                            · exact hx_out X (fun z hz => absurd hz (htab z)) (rd_IP.bad (rd_iw_N hgn1 (fun z => hm79 z.2) hisn4 (N3.trans (rd_ns_d (by decide) (Or.inr ⟨by decide, rfl, hisn7⟩) hdgn7))) Fn6 Kn6 htn7)
                            · exact hx_out X (fun z hz => absurd hz (htab z)) (rd_IP.bad (rd_iw_N hgn1 (fun z => hm79 z.2) hisn4 (N3.trans (rd_ns_o (by decide) (Or.inr ⟨by decide, rfl, hisn7⟩) hdgn7 (rd_so_3r (A := B) (i := 3) (M := 9) (by decide) rfl (by decide) (rd_num_le hdgn7) hrgn7)))) Fn6 Kn6 htn7)
                        · obtain ⟨hrn7, hisn7, hdgn7, hrgn7, hfrn7, hkn7, hrefn7, hatn7, hpln7⟩ | ⟨qn7, hrn7, -⟩ := hpn7
                          · cases hrn7
                            have hlen7 := rd_end_le hdgn7
                            have hvn7 := rd_num_le hdgn7
                            have Tn7 := Tn6.o' hw hfrn7 hkn7 hrefn7 hatn7 hlen7.2
                            have Fn7 : hg_fr (rd_Wf G o ta) G Gn7 := Fn6.tr (hfrn7.mono (fun a e => Or.inl e))
                            have Kn7 : Gn7.1 = G.1 := hkn7.trans Kn6
                            have Pn7 : ∀ p, p < B.1.1 0 0 → Gn7.2.2.2 (ta 1) p = G.2.2.2 (ta 1) p := fun p hp => (by rw [hrefn7]; exact Pn6 p hp)
                            have hso3 : rd_so B 3 3 (rd_num f E (rd_end f E (rd_end f E (rd_end f E (p9 + (rd_w 3).length + 1) + 1) + 1) + 1)) = true := rd_so_3r (A := B) (i := 3) (M := 9) (by decide) rfl (by decide) (rd_num_le hdgn7) hrgn7
                            have N4 := N3.trans (rd_ns_s (Or.inr ⟨by decide, rfl, hisn7⟩) hdgn7 hso3)
                            have hmx3 := (rd_so_3 hso3).1
                            have hmx3 : rd_num f E (rd_end f E (rd_end f E (rd_end f E (p9 + (rd_w 3).length + 1) + 1) + 1) + 1) ≤ 9 := hmx3
                            refine hr_istore5 (q := 62) X dX19_person_60 rfl rfl (Nat.le_of_ble_eq_true rfl) ?_
                            refine hr_aload0 (q := 63) X dX19_person_62 rfl ?_
                            refine hr_iconst (v := (nI 0)) (q := 64) X dX19_person_63 rfl rfl ?_
                            refine hr_bipush (v := (nI 99)) (q := 66) X dX19_person_64 rfl rfl ?_
                            refine hr_call (kr := 10) (nr := 78) (q := 69) (hc_V (n := 2) (ci := 19) (As := [.int (nI 0), .int (nI 99)]) X dX19_person_66 rfl (rx_number X.tr Tn7.1 (p9 := rd_end f E (rd_end f E (rd_end f E (rd_end f E (p9 + (rd_w 3).length + 1) + 1) + 1) + 1)) Tn7.2.1 Tn7.2.2.1 (b9 := (nI 0)) (z9 := (nI 99))) q964 cv_X19_number ⟨Nat.le_of_ble_eq_true rfl, Nat.le_of_ble_eq_true rfl⟩ rfl (Nat.le_of_ble_eq_true rfl) Tn7.1.1 rfl rfl) rfl (fun qxn8 E' Gxn8 hpn8 _ => ?_) (fun r Gn8 hpn8 _ => ?_)
                            · obtain ⟨hrn8, -⟩ | ⟨qn8, hrn8, wn8, htn8, hnon8⟩ := hpn8
                              · cases hrn8
                              · cases hrn8
                                rcases hnon8 with ⟨hisn8, rfl⟩ | ⟨hisn8, rfl, hdgn8 | ⟨hdgn8, hrgn8⟩⟩
                                · exact hx_out X (fun z hz => absurd hz (htab z)) (rd_IP.bad (rd_iw_N hgn1 (fun z => hm79 z.2) hisn4 (N4.trans (rd_ns_b (by decide) (by decide) hisn8))) Fn7 Kn7 htn8)
                                · exact hx_out X (fun z hz => absurd hz (htab z)) (rd_IP.bad (rd_iw_N hgn1 (fun z => hm79 z.2) hisn4 (N4.trans (rd_ns_d (by decide) (Or.inr ⟨by decide, rfl, hisn8⟩) hdgn8))) Fn7 Kn7 htn8)
                                · exact hx_out X (fun z hz => absurd hz (htab z)) (rd_IP.bad (rd_iw_N hgn1 (fun z => hm79 z.2) hisn4 (N4.trans (rd_ns_o (by decide) (Or.inr ⟨by decide, rfl, hisn8⟩) hdgn8 (rd_so_3r (A := B) (i := 4) (M := 99) (by decide) rfl (by decide) (rd_num_le hdgn8) hrgn8)))) Fn7 Kn7 htn8)
                            · obtain ⟨hrn8, hisn8, hdgn8, hrgn8, hfrn8, hkn8, hrefn8, hatn8, hpln8⟩ | ⟨qn8, hrn8, -⟩ := hpn8
                              · cases hrn8
                                have hlen8 := rd_end_le hdgn8
                                have hvn8 := rd_num_le hdgn8
                                have Tn8 := Tn7.o' hw hfrn8 hkn8 hrefn8 hatn8 hlen8.2
                                have Fn8 : hg_fr (rd_Wf G o ta) G Gn8 := Fn7.tr (hfrn8.mono (fun a e => Or.inl e))
                                have Kn8 : Gn8.1 = G.1 := hkn8.trans Kn7
                                have Pn8 : ∀ p, p < B.1.1 0 0 → Gn8.2.2.2 (ta 1) p = G.2.2.2 (ta 1) p := fun p hp => (by rw [hrefn8]; exact Pn7 p hp)
                                have hso4 : rd_so B 3 4 (rd_num f E (rd_end f E (rd_end f E (rd_end f E (rd_end f E (p9 + (rd_w 3).length + 1) + 1) + 1) + 1) + 1)) = true := rd_so_3r (A := B) (i := 4) (M := 99) (by decide) rfl (by decide) (rd_num_le hdgn8) hrgn8
                                have N5 := N4.trans (rd_ns_s (Or.inr ⟨by decide, rfl, hisn8⟩) hdgn8 hso4)
                                have hmx4 := (rd_so_3 hso4).1
                                have hmx4 : rd_num f E (rd_end f E (rd_end f E (rd_end f E (rd_end f E (p9 + (rd_w 3).length + 1) + 1) + 1) + 1) + 1) ≤ 99 := hmx4
                                refine hr_istore6 (q := 71) X dX19_person_69 rfl rfl (Nat.le_of_ble_eq_true rfl) ?_
                                refine hr_aload0 (q := 72) X dX19_person_71 rfl ?_
                                refine hr_call (kr := 7) (nr := 57) (q := 75) (hc_V (n := 0) (ci := 19) (As := []) X dX19_person_72 rfl (rx_square X.tr Tn8.1 (p9 := rd_end f E (rd_end f E (rd_end f E (rd_end f E (rd_end f E (p9 + (rd_w 3).length + 1) + 1) + 1) + 1) + 1)) Tn8.2.1 Tn8.2.2.1) q960 cv_X19_square ⟨Nat.le_of_ble_eq_true rfl, Nat.le_of_ble_eq_true rfl⟩ rfl (Nat.le_of_ble_eq_true rfl) Tn8.1.1 rfl rfl) rfl (fun qxn9 E' Gxn9 hpn9 _ => ?_) (fun r Gn9 hpn9 _ => ?_)
                                · obtain ⟨hrn9, -⟩ | ⟨qn9, hrn9, wn9, htn9, hnon9⟩ := hpn9
                                  · cases hrn9
                                  · cases hrn9
                                    rcases hnon9 with ⟨hisn9, rfl⟩ | ⟨hisn9, rfl, hdgn9 | ⟨hdgn9, hrgn9⟩⟩
                                    · exact hx_out X (fun z hz => absurd hz (htab z)) (rd_IP.bad (rd_iw_N hgn1 (fun z => hm79 z.2) hisn4 (N5.trans (rd_ns_b (by decide) (by decide) hisn9))) Fn8 Kn8 htn9)
                                    · exact hx_out X (fun z hz => absurd hz (htab z)) (rd_IP.bad (rd_iw_N hgn1 (fun z => hm79 z.2) hisn4 (N5.trans (rd_ns_d (by decide) (Or.inr ⟨by decide, rfl, hisn9⟩) hdgn9))) Fn8 Kn8 htn9)
                                    · exact hx_out X (fun z hz => absurd hz (htab z)) (rd_IP.bad (rd_iw_N hgn1 (fun z => hm79 z.2) hisn4 (N5.trans (rd_ns_o (by decide) (Or.inr ⟨by decide, rfl, hisn9⟩) hdgn9 (rd_so_35f (A := B) (rd_num_le hdgn9) hrgn9)))) Fn8 Kn8 htn9)
                                · obtain ⟨hrn9, hisn9, hdgn9, hrgn9, hfrn9, hkn9, hrefn9, hatn9, hpln9⟩ | ⟨qn9, hrn9, -⟩ := hpn9
                                  · cases hrn9
                                    have hlen9 := rd_end_le hdgn9
                                    have hvn9 := rd_num_le hdgn9
                                    have Tn9 := Tn8.o' hw hfrn9 hkn9 hrefn9 hatn9 hlen9.2
                                    have Fn9 : hg_fr (rd_Wf G o ta) G Gn9 := Fn8.tr (hfrn9.mono (fun a e => Or.inl e))
                                    have Kn9 : Gn9.1 = G.1 := hkn9.trans Kn8
                                    have Pn9 : ∀ p, p < B.1.1 0 0 → Gn9.2.2.2 (ta 1) p = G.2.2.2 (ta 1) p := fun p hp => (by rw [hrefn9]; exact Pn8 p hp)
                                    have h36 := of_decide_eq_true (rg_35 hvn9 hrgn9)
                                    refine hr_istore7 (q := 77) X dX19_person_75 rfl rfl (Nat.le_of_ble_eq_true rfl) ?_
                                    refine hr_aload0 (q := 78) X dX19_person_77 rfl ?_
                                    refine hr_aload0 (q := 79) X dX19_person_78 rfl ?_
                                    refine hr_getR (v := (ta 0)) (q := 82) X dX19_person_79 rfl fr_q828_19 rfl Tn9.1.1 Tn9.1.2.2.1 ?_
                                    refine hr_iload7 (q := 84) X dX19_person_82 rfl ?_
                                    refine hr_callP (q := 87) (hc_V (n := 1) (ci := 2) (As := [.int (nI (rd_num f E (rd_end f E (rd_end f E (rd_end f E (rd_end f E (rd_end f E (p9 + (rd_w 3).length + 1) + 1) + 1) + 1) + 1) + 1)))]) X dX19_person_84 rfl (tn_isFreeN X.tr Tn9.2.2.2.1 hw (z := rd_num f E (rd_end f E (rd_end f E (rd_end f E (rd_end f E (rd_end f E (p9 + (rd_w 3).length + 1) + 1) + 1) + 1) + 1) + 1)) (by omega)) q986 cv_X2_isFree ⟨Nat.le_of_ble_eq_true rfl, Nat.le_of_ble_eq_true rfl⟩ rfl (Nat.le_of_ble_eq_true rfl) Tn9.2.2.2.1.ob rfl rfl) rfl ?_
                                    refine hr_aload0 (q := 88) X dX19_person_87 rfl ?_
                                    refine hr_getI (v := (nI (rd_end f E (rd_end f E (rd_end f E (rd_end f E (rd_end f E (p9 + (rd_w 3).length + 1) + 1) + 1) + 1) + 1) + 1))) (q := 91) X dX19_person_88 rfl fr_q830_19 rfl Tn9.1.1 hpln9 ?_
                                    refine hr_call (kr := 6) (nr := 50) (q := 94) (hc_V (n := 2) (ci := 19) (As := [.int (bI (!(B.1.1 16 (rd_num f E (rd_end f E (rd_end f E (rd_end f E (rd_end f E (rd_end f E (p9 + (rd_w 3).length + 1) + 1) + 1) + 1) + 1) + 1)) == 1))), .int (nI (rd_end f E (rd_end f E (rd_end f E (rd_end f E (rd_end f E (p9 + (rd_w 3).length + 1) + 1) + 1) + 1) + 1) + 1))]) X dX19_person_91 rfl (rx_room X.tr (o := o) (g9 := !(B.1.1 16 (rd_num f E (rd_end f E (rd_end f E (rd_end f E (rd_end f E (rd_end f E (p9 + (rd_w 3).length + 1) + 1) + 1) + 1) + 1) + 1)) == 1)) (w9 := (nI (rd_end f E (rd_end f E (rd_end f E (rd_end f E (rd_end f E (p9 + (rd_w 3).length + 1) + 1) + 1) + 1) + 1) + 1)))) q973 cv_X19_hasRoom ⟨Nat.le_of_ble_eq_true rfl, Nat.le_of_ble_eq_true rfl⟩ rfl (Nat.le_of_ble_eq_true rfl) Tn9.1.1 rfl rfl) rfl (fun qxn10 E' Gxn10 hpn10 _ => ?_) (fun r Gn10 hpn10 _ => ?_)
                                    · obtain ⟨-, hrn10, -⟩ | ⟨hgn10, qn10, hrn10, htn10⟩ := hpn10
                                      · cases hrn10
                                      · cases hrn10
                                        have hso5 : rd_so B 3 5 (rd_num f E (rd_end f E (rd_end f E (rd_end f E (rd_end f E (rd_end f E (p9 + (rd_w 3).length + 1) + 1) + 1) + 1) + 1) + 1)) = false := rd_so_35n (by simpa using hgn10)
                                        exact hx_out X (fun z hz => absurd hz (htab z)) (rd_IP.badT (rd_iw_N hgn1 (fun z => hm79 z.2) hisn4 (N5.trans (rd_ns_o (by decide) (Or.inr ⟨by decide, rfl, hisn9⟩) hdgn9 hso5))) Fn9 Kn9 htn10)
                                    · obtain ⟨hgn10, hrn10, hGn10⟩ | ⟨-, qn10, hrn10, -⟩ := hpn10
                                      · cases hrn10
                                        have hGn10 := hGn10.symm
                                        subst hGn10
                                        have h16 : B.1.1 16 (rd_num f E (rd_end f E (rd_end f E (rd_end f E (rd_end f E (rd_end f E (p9 + (rd_w 3).length + 1) + 1) + 1) + 1) + 1) + 1)) = 0 := by have h8 := hw.b16 h36; have h9 : ¬ B.1.1 16 (rd_num f E (rd_end f E (rd_end f E (rd_end f E (rd_end f E (rd_end f E (p9 + (rd_w 3).length + 1) + 1) + 1) + 1) + 1) + 1)) = 1 := (by simpa using hgn10); omega
                                        have hso5 : rd_so B 3 5 (rd_num f E (rd_end f E (rd_end f E (rd_end f E (rd_end f E (rd_end f E (p9 + (rd_w 3).length + 1) + 1) + 1) + 1) + 1) + 1)) = true := rd_so_35t h36 h16
                                        have N6 := N5.trans (rd_ns_s (Or.inr ⟨by decide, rfl, hisn9⟩) hdgn9 hso5)
                                        have hm7 : B.1.1 0 0 < 7 := by omega
                                        refine hr_aload0 (q := 95) X dX19_person_94 rfl ?_
                                        refine hr_getR (v := (ta 0)) (q := 98) X dX19_person_95 rfl fr_q828_19 rfl Tn9.1.1 Tn9.1.2.2.1 ?_
                                        refine hr_iload2 (q := 99) X dX19_person_98 rfl ?_
                                        refine hr_aload0 (q := 100) X dX19_person_99 rfl ?_
                                        refine hr_getR (v := (ta 0)) (q := 103) X dX19_person_100 rfl fr_q828_19 rfl Tn9.1.1 Tn9.1.2.2.1 ?_
                                        refine hr_getI (v := (nI (B.1.1 0 0))) (q := 106) X dX19_person_103 rfl fr_q153_2 rfl Tn9.2.2.2.1.ob Tn9.2.2.2.1.f0 ?_
                                        refine hr_iload3 (q := 107) X dX19_person_106 rfl ?_
                                        refine hr_iload5 (q := 109) X dX19_person_107 rfl ?_
                                        refine hr_call (kr := 5) (nr := 47) (q := 112) (hc_S (n := 4) (As := [.int (nI (rd_num f E (p9 + (rd_w 3).length + 1))), .int (nI (B.1.1 0 0)), .int (nI (rd_num f E (rd_end f E (p9 + (rd_w 3).length + 1) + 1))), .int (nI (rd_num f E (rd_end f E (rd_end f E (rd_end f E (p9 + (rd_w 3).length + 1) + 1) + 1) + 1)))]) X dX19_person_109 rfl (tc_person X.tr (k := rd_num f E (p9 + (rd_w 3).length + 1)) (by omega) (x := (nI (B.1.1 0 0))) (y := (nI (rd_num f E (rd_end f E (p9 + (rd_w 3).length + 1) + 1)))) (z := (nI (rd_num f E (rd_end f E (rd_end f E (rd_end f E (p9 + (rd_w 3).length + 1) + 1) + 1) + 1))))) q987 cs_X0_personOfKind ⟨Nat.le_of_ble_eq_true rfl, Nat.le_of_ble_eq_true rfl⟩ rfl (Nat.le_of_ble_eq_true rfl)) rfl (fun qx E G' hp _ => by obtain ⟨b, hb, -⟩ := hp; cases hb) (fun r Gp hp _ => ?_)
                                        obtain ⟨b9, hv9, hb9, hG9⟩ := hp
                                        cases hv9
                                        have hbt9 : hg_bt b9 Gn9 Gp := by rw [hG9]; exact hg_bt.N.tr (hg_bt.I.tr (hg_bt.I.tr hg_bt.I))
                                        have hnf9 : hg_fr (fun a => Gn9.1 a = none) Gn9 Gp := fun a ha => hbt9 a (fun e => ha (by rw [e]; exact hb9))
                                        have Tp := Tn9.w (hnf9.mono (fun a e => Or.inr e)) (Tn9.2.2.2.1.bt hb9 hbt9)
                                        have Fp : hg_fr (rd_Wf G o ta) G Gp := Fn9.tr (hnf9.mono (fun a e => Or.inr (Or.inr (by rw [← Kn9]; exact e))))
                                        have hk9 : Gp.1 b9 = some (0, 12 + rd_num f E (p9 + (rd_w 3).length + 1)) := by rw [hG9]; exact if_pos rfl
                                        have h09 : Gp.2.1 b9 0 = nI (B.1.1 0 0) := by rw [hG9]; simp [hs_II]
                                        have h19 : Gp.2.1 b9 1 = nI (rd_num f E (rd_end f E (p9 + (rd_w 3).length + 1) + 1)) := by rw [hG9]; simp [hs_II]
                                        have h29 : Gp.2.1 b9 2 = nI (rd_num f E (rd_end f E (rd_end f E (rd_end f E (p9 + (rd_w 3).length + 1) + 1) + 1) + 1)) := by rw [hG9]; simp [hs_II]
                                        have Pp : ∀ p, p < B.1.1 0 0 → Gp.2.2.2 (ta 1) p = G.2.2.2 (ta 1) p := fun p hp => ((hnf9 (ta 1) (fun e => nomatch (Tn9.2.2.2.1.k1.symm.trans e))).2.2.2 p).trans (Pn9 p hp)
                                        refine hr_iload4 (q := 114) X dX19_person_112 rfl ?_
                                        refine hr_iload6 (q := 116) X dX19_person_114 rfl ?_
                                        refine hr_iload7 (q := 118) X dX19_person_116 rfl ?_
                                        refine hr_call0 (q := 121) (hc_V (n := 4) (ci := 2) (As := [.ref b9, .int (nI (rd_num f E (rd_end f E (rd_end f E (p9 + (rd_w 3).length + 1) + 1) + 1))), .int (nI (rd_num f E (rd_end f E (rd_end f E (rd_end f E (rd_end f E (p9 + (rd_w 3).length + 1) + 1) + 1) + 1) + 1))), .int (nI (rd_num f E (rd_end f E (rd_end f E (rd_end f E (rd_end f E (rd_end f E (p9 + (rd_w 3).length + 1) + 1) + 1) + 1) + 1) + 1)))]) X dX19_person_118 rfl (tn_addPerson X.tr Tp.2.2.2.1 hw Tp.2.2.2.2.1 hm7 (q := b9) (k := rd_num f E (p9 + (rd_w 3).length + 1)) (b1 := rd_num f E (rd_end f E (p9 + (rd_w 3).length + 1) + 1)) (s1 := rd_num f E (rd_end f E (rd_end f E (rd_end f E (p9 + (rd_w 3).length + 1) + 1) + 1) + 1)) (l1 := rd_num f E (rd_end f E (rd_end f E (p9 + (rd_w 3).length + 1) + 1) + 1)) (m1 := rd_num f E (rd_end f E (rd_end f E (rd_end f E (rd_end f E (p9 + (rd_w 3).length + 1) + 1) + 1) + 1) + 1)) (c1 := rd_num f E (rd_end f E (rd_end f E (rd_end f E (rd_end f E (rd_end f E (p9 + (rd_w 3).length + 1) + 1) + 1) + 1) + 1) + 1)) (by omega) hk9 h09 h19 h29) q988 cv_X2_addPerson ⟨Nat.le_of_ble_eq_true rfl, Nat.le_of_ble_eq_true rfl⟩ rfl (Nat.le_of_ble_eq_true rfl) Tp.2.2.2.1.ob rfl rfl) rfl (fun qx E G' hp => by cases hp.1.1) (fun r Gq hp _ => ?_)
                                        obtain ⟨⟨hvq, hTq, -, hfq, hPq⟩, -⟩ := hp
                                        cases hvq
                                        have Tq := Tp.w (hfq.mono (fun a e => Or.inl e)) hTq
                                        have Fq : hg_fr (rd_Wf G o ta) G Gq := Fp.tr (hfq.mono (fun a e => Or.inr (Or.inl e)))
                                        exact hr_vret X hr dX19_person_121 (rd_IP.ok (rd_iw_N hgn1 (fun z => hm79 z.2) hisn4 N6) Fq Tq (fun p hp => (hPq p hp).trans (Pp p hp)))
                                      · cases hrn10
                                  · cases hrn9
                              · cases hrn8
                          · cases hrn7
                      · cases hrn6
                  · cases hrn5
              · cases hrn4
          · cases hrn3
    · cases hrn1

abbrev rk_X19_item : Room := { frames := 18, cells := 40, slots := 300, locals := 10475 }
theorem rx_item {l : Launch} {D : hg_D} {lo : Nat} (htr : l.stackTraces = false) {G : hg_G} {o x y k E : Nat} {f : Nat → Int32} {ta : Nat → Nat} {B : ab_S} {p9 : Nat} (hT : rd_T D G o x y k E f ta B.1 p9) (hB : ab_wf B) :
    hg_M l D lo yX19_item (ws_ yX19_item cX19_item 2 (none)) rk_X19_item [.ref o] G (rd_IP D G o x y k E f ta (B.1.1 0 0) (rd_item f E B p9)) := by
  refine hg_M.of htr (by decide) [some (.ref o), none] rfl (Nat.le_of_ble_eq_true rfl) ?_
  intro p e s m args below meth c X hr hnm htab
  have X : hg_X p l s m args meth c D lo "TaxOnLooks$Reader" cX19_item 2 := X
  refine hr_room (kr' := 40) (nr' := 300) (Nat.le_of_ble_eq_true rfl) (Nat.le_of_ble_eq_true rfl) ?_
  have hE9 := hT.1.2.2.2.1.2.1
  have hw := hB.w
  have w0 := hw.b0; have w1 := hw.b1; have w2 := hw.b2; have w3 := hw.b3; have w36 := hB.b36
  have F0 : hg_fr (rd_Wf G o ta) G G := hg_fr.rf
  have P0 : ∀ p, p < B.1.1 0 0 → G.2.2.2 (ta 1) p = G.2.2.2 (ta 1) p := fun _ _ => rfl
  refine hr_aload0 (q := 1) X dX19_item_0 rfl ?_
  refine hr_getI (v := (nI p9)) (q := 4) X dX19_item_1 rfl fr_q829_19 rfl hT.1.1 hT.2.1 ?_
  refine hr_istore1 (q := 5) X dX19_item_4 rfl rfl (Nat.le_of_ble_eq_true rfl) ?_
  refine hr_aload0 (q := 6) X dX19_item_5 rfl ?_
  refine hr_bipush (v := (nI 119)) (q := 8) X dX19_item_6 rfl rfl ?_
  refine hr_callP (q := 11) (hc_V (n := 1) (ci := 19) (As := [.int (nI 119)]) X dX19_item_8 rfl (rx_sees X.tr hT.1 (p9 := p9) hT.2.1 hT.2.2.1 (c9 := 119) (by decide)) q848 cv_X19_sees ⟨Nat.le_of_ble_eq_true rfl, Nat.le_of_ble_eq_true rfl⟩ rfl (Nat.le_of_ble_eq_true rfl) hT.1.1 rfl rfl) rfl ?_
  refine hr_ifB_eq (q := 14) (tgt := 21) X dX19_item_11 rfl (by decide) (fun c11 => ?_) (fun c11 => ?_)
  · refine hr_aload0 (q := 22) X dX19_item_21 rfl ?_
    refine hr_bipush (v := (nI 103)) (q := 24) X dX19_item_22 rfl rfl ?_
    refine hr_callP (q := 27) (hc_V (n := 1) (ci := 19) (As := [.int (nI 103)]) X dX19_item_24 rfl (rx_sees X.tr hT.1 (p9 := p9) hT.2.1 hT.2.2.1 (c9 := 103) (by decide)) q848 cv_X19_sees ⟨Nat.le_of_ble_eq_true rfl, Nat.le_of_ble_eq_true rfl⟩ rfl (Nat.le_of_ble_eq_true rfl) hT.1.1 rfl rfl) rfl ?_
    refine hr_ifB_eq (q := 30) (tgt := 61) X dX19_item_27 rfl (by decide) (fun c27 => ?_) (fun c27 => ?_)
    · refine hr_aload0 (q := 62) X dX19_item_61 rfl ?_
      refine hr_bipush (v := (nI 98)) (q := 64) X dX19_item_62 rfl rfl ?_
      refine hr_callP (q := 67) (hc_V (n := 1) (ci := 19) (As := [.int (nI 98)]) X dX19_item_64 rfl (rx_sees X.tr hT.1 (p9 := p9) hT.2.1 hT.2.2.1 (c9 := 98) (by decide)) q848 cv_X19_sees ⟨Nat.le_of_ble_eq_true rfl, Nat.le_of_ble_eq_true rfl⟩ rfl (Nat.le_of_ble_eq_true rfl) hT.1.1 rfl rfl) rfl ?_
      refine hr_ifB_eq (q := 70) (tgt := 97) X dX19_item_67 rfl (by decide) (fun c67 => ?_) (fun c67 => ?_)
      · refine hr_aload0 (q := 98) X dX19_item_97 rfl ?_
        refine hr_bipush (v := (nI 112)) (q := 100) X dX19_item_98 rfl rfl ?_
        refine hr_callP (q := 103) (hc_V (n := 1) (ci := 19) (As := [.int (nI 112)]) X dX19_item_100 rfl (rx_sees X.tr hT.1 (p9 := p9) hT.2.1 hT.2.2.1 (c9 := 112) (by decide)) q848 cv_X19_sees ⟨Nat.le_of_ble_eq_true rfl, Nat.le_of_ble_eq_true rfl⟩ rfl (Nat.le_of_ble_eq_true rfl) hT.1.1 rfl rfl) rfl ?_
        refine hr_ifB_eq (q := 106) (tgt := 114) X dX19_item_103 rfl (by decide) (fun c103 => ?_) (fun c103 => ?_)
        · refine hr_aload0 (q := 115) X dX19_item_114 rfl ?_
          refine hr_bipush (v := (nI 115)) (q := 117) X dX19_item_115 rfl rfl ?_
          refine hr_callP (q := 120) (hc_V (n := 1) (ci := 19) (As := [.int (nI 115)]) X dX19_item_117 rfl (rx_sees X.tr hT.1 (p9 := p9) hT.2.1 hT.2.2.1 (c9 := 115) (by decide)) q848 cv_X19_sees ⟨Nat.le_of_ble_eq_true rfl, Nat.le_of_ble_eq_true rfl⟩ rfl (Nat.le_of_ble_eq_true rfl) hT.1.1 rfl rfl) rfl ?_
          refine hr_ifB_eq (q := 123) (tgt := 160) X dX19_item_120 rfl (by decide) (fun c120 => ?_) (fun c120 => ?_)
          · refine hr_aload0 (q := 161) X dX19_item_160 rfl ?_
            refine hr_bipush (v := (nI 109)) (q := 163) X dX19_item_161 rfl rfl ?_
            refine hr_callP (q := 166) (hc_V (n := 1) (ci := 19) (As := [.int (nI 109)]) X dX19_item_163 rfl (rx_sees X.tr hT.1 (p9 := p9) hT.2.1 hT.2.2.1 (c9 := 109) (by decide)) q848 cv_X19_sees ⟨Nat.le_of_ble_eq_true rfl, Nat.le_of_ble_eq_true rfl⟩ rfl (Nat.le_of_ble_eq_true rfl) hT.1.1 rfl rfl) rfl ?_
            refine hr_ifB_eq (q := 169) (tgt := 192) X dX19_item_166 rfl (by decide) (fun c166 => ?_) (fun c166 => ?_)
            · have hs9 : rd_item f E B p9 = rd_iw f E B 6 p9 := by rw [rd_item_iw, show rd_sel f E p9 = 6 by rw [rd_sel, if_neg (by rw [c11]; decide), if_neg (by rw [c27]; decide), if_neg (by rw [c67]; decide), if_neg (by rw [c103]; decide), if_neg (by rw [c120]; decide), if_neg (by rw [c166]; decide)]]
              refine hr_aload0 (q := 193) X dX19_item_192 rfl ?_
              refine hr_ldcS (n := 6) (tx := "reach") (q := 195) X dX19_item_193 rfl (by decide) ?_
              refine hr_call (kr := 30) (nr := 230) (q := 198) (hc_V (n := 1) (ci := 19) (As := [.ref (D.2.2 6)]) X dX19_item_195 rfl (rx_word X.tr hT.1 (p9 := p9) hT.2.1 hT.2.2.1 (l9 := rd_w 6) hT.2.2.2.2.2.2.2.2.2.2.2.2) q885 cv_X19_word ⟨Nat.le_of_ble_eq_true rfl, Nat.le_of_ble_eq_true rfl⟩ rfl (Nat.le_of_ble_eq_true rfl) hT.1.1 rfl rfl) rfl (fun qxn1 E' Gxn1 hpn1 _ => ?_) (fun r Gn1 hpn1 _ => ?_)
              · obtain ⟨-, hrn1, -⟩ | ⟨hgn1, qn1, hrn1, htn1⟩ := hpn1
                · cases hrn1
                · cases hrn1
                  exact hx_out X (fun z hz => absurd hz (htab z)) (rd_IP.bad (hs9.trans (rd_iw_n hgn1)) F0 rfl (rd_thr.of (hg_fr.rf.I rfl) rfl htn1))
              · obtain ⟨hgn1, hrn1, hGn1⟩ | ⟨-, qn1, hrn1, -⟩ := hpn1
                · cases hrn1
                  have hGn1 := hGn1.symm
                  subst hGn1
                  have hmn1 := (rd_mat_le f E (rd_w 6) p9).2.2 hT.2.2.1
                  rw [hgn1] at hmn1
                  have Tn1 := hT.o' hw (hg_fr.rf.I rfl) rfl rfl (hs_Ieq (G := G) (a := o) (k := 2) (v := nI (p9 + (rd_w 6).length))) hmn1
                  have Fn1 : hg_fr (rd_Wf G o ta) G (hs_I G o 2 (nI (p9 + (rd_w 6).length))) := F0.I (Or.inl rfl)
                  refine hr_aload0 (q := 199) X dX19_item_198 rfl ?_
                  refine hr_getR (v := (ta 0)) (q := 202) X dX19_item_199 rfl fr_q828_19 rfl Tn1.1.1 Tn1.1.2.2.1 ?_
                  refine hr_aload0 (q := 203) X dX19_item_202 rfl ?_
                  refine hr_iconst (v := (nI 1)) (q := 204) X dX19_item_203 rfl rfl ?_
                  refine hr_iconst (v := (nI 5)) (q := 205) X dX19_item_204 rfl rfl ?_
                  refine hr_call (kr := 27) (nr := 209) (q := 208) (hc_V (n := 2) (ci := 19) (As := [.int (nI 1), .int (nI 5)]) X dX19_item_205 rfl (rx_number X.tr Tn1.1 (p9 := p9 + (rd_w 6).length) Tn1.2.1 Tn1.2.2.1 (b9 := (nI 1)) (z9 := (nI 5))) q964 cv_X19_number ⟨Nat.le_of_ble_eq_true rfl, Nat.le_of_ble_eq_true rfl⟩ rfl (Nat.le_of_ble_eq_true rfl) Tn1.1.1 rfl rfl) rfl (fun qxn2 E' Gxn2 hpn2 _ => ?_) (fun r Gn2 hpn2 _ => ?_)
                  · obtain ⟨hrn2, -⟩ | ⟨qn2, hrn2, wn2, htn2, hnon2⟩ := hpn2
                    · cases hrn2
                    · cases hrn2
                      rcases hnon2 with ⟨hisn2, rfl⟩ | ⟨hisn2, rfl, hdgn2 | ⟨hdgn2, hrgn2⟩⟩
                      · exact hx_out X (fun z hz => absurd hz (htab z)) (rd_IP.bad (hs9.trans (rd_iw_b hgn1 (fun z => absurd z.1 (by decide)) hisn2)) Fn1 rfl htn2)
                      · exact hx_out X (fun z hz => absurd hz (htab z)) (rd_IP.bad (hs9.trans ((rd_iw_1 (w := 6) (by decide) (by decide) hgn1 hisn2 hdgn2).trans (if_neg (by decide)))) Fn1 rfl htn2)
                      · exact hx_out X (fun z hz => absurd hz (htab z)) (rd_IP.bad (hs9.trans ((rd_iw_1 (w := 6) (by decide) (by decide) hgn1 hisn2 hdgn2).trans ((if_pos rfl).trans (if_neg (by rw [show rd_so B 6 0 (rd_num f E (p9 + (rd_w 6).length + 1)) = false from hrgn2]; decide))))) Fn1 rfl htn2)
                  · obtain ⟨hrn2, hisn2, hdgn2, hrgn2, hfrn2, hkn2, hrefn2, hatn2, hpln2⟩ | ⟨qn2, hrn2, -⟩ := hpn2
                    · cases hrn2
                      have hlen2 := rd_end_le hdgn2
                      have hvn2 := rd_num_le hdgn2
                      have Tn2 := Tn1.o' hw hfrn2 hkn2 hrefn2 hatn2 hlen2.2
                      have Fn2 : hg_fr (rd_Wf G o ta) G Gn2 := Fn1.tr (hfrn2.mono (fun a e => Or.inl e))
                      have Kn2 : Gn2.1 = G.1 := hkn2.trans rfl
                      have Pn2 : ∀ p, p < B.1.1 0 0 → Gn2.2.2.2 (ta 1) p = G.2.2.2 (ta 1) p := fun p hp => (by rw [hrefn2]; exact P0 p hp)
                      have hso : rd_so B 6 0 (rd_num f E (p9 + (rd_w 6).length + 1)) = true := hrgn2
                      refine hr_putI (q := 211) X dX19_item_208 rfl fw_q159_2 (fun h => nomatch h) rfl rfl rfl Tn2.2.2.2.1.ob ?_
                      have tu3 : tn_R (hs_I Gn2 (ta 0) 2 (nI (rd_num f E (p9 + (rd_w 6).length + 1)))) ta (sp_set B.1 2 0 (rd_num f E (p9 + (rd_w 6).length + 1))) := Tn2.2.2.2.1.setn Tn2.2.2.2.2.1 (k := 2) (by decide) (rd_num f E (p9 + (rd_w 6).length + 1))
                      have Tu3 := Tn2.w (hg_fr.rf.I (Or.inl ⟨0, by decide, rfl⟩)) tu3
                      have Fu3 : hg_fr (rd_Wf G o ta) G (hs_I Gn2 (ta 0) 2 (nI (rd_num f E (p9 + (rd_w 6).length + 1)))) := Fn2.I (Or.inr (Or.inl ⟨0, by decide, rfl⟩))
                      exact hr_vret X hr dX19_item_211 (rd_IP.ok (hs9.trans ((rd_iw_1 (w := 6) (by decide) (by decide) hgn1 hisn2 hdgn2).trans ((if_pos rfl).trans (if_pos hso)))) Fu3 Tu3 Pn2)
                    · cases hrn2
                · cases hrn1
            · have hs9 : rd_item f E B p9 = rd_iw f E B 5 p9 := by rw [rd_item_iw, show rd_sel f E p9 = 5 by rw [rd_sel, if_neg (by rw [c11]; decide), if_neg (by rw [c27]; decide), if_neg (by rw [c67]; decide), if_neg (by rw [c103]; decide), if_neg (by rw [c120]; decide), if_pos c166]]
              refine hr_aload0 (q := 170) X dX19_item_169 rfl ?_
              refine hr_ldcS (n := 5) (tx := "mite") (q := 172) X dX19_item_170 rfl (by decide) ?_
              refine hr_call (kr := 30) (nr := 230) (q := 175) (hc_V (n := 1) (ci := 19) (As := [.ref (D.2.2 5)]) X dX19_item_172 rfl (rx_word X.tr hT.1 (p9 := p9) hT.2.1 hT.2.2.1 (l9 := rd_w 5) hT.2.2.2.2.2.2.2.2.2.2.2.1) q885 cv_X19_word ⟨Nat.le_of_ble_eq_true rfl, Nat.le_of_ble_eq_true rfl⟩ rfl (Nat.le_of_ble_eq_true rfl) hT.1.1 rfl rfl) rfl (fun qxn4 E' Gxn4 hpn4 _ => ?_) (fun r Gn4 hpn4 _ => ?_)
              · obtain ⟨-, hrn4, -⟩ | ⟨hgn4, qn4, hrn4, htn4⟩ := hpn4
                · cases hrn4
                · cases hrn4
                  exact hx_out X (fun z hz => absurd hz (htab z)) (rd_IP.bad (hs9.trans (rd_iw_n hgn4)) F0 rfl (rd_thr.of (hg_fr.rf.I rfl) rfl htn4))
              · obtain ⟨hgn4, hrn4, hGn4⟩ | ⟨-, qn4, hrn4, -⟩ := hpn4
                · cases hrn4
                  have hGn4 := hGn4.symm
                  subst hGn4
                  have hmn4 := (rd_mat_le f E (rd_w 5) p9).2.2 hT.2.2.1
                  rw [hgn4] at hmn4
                  have Tn4 := hT.o' hw (hg_fr.rf.I rfl) rfl rfl (hs_Ieq (G := G) (a := o) (k := 2) (v := nI (p9 + (rd_w 5).length))) hmn4
                  have Fn4 : hg_fr (rd_Wf G o ta) G (hs_I G o 2 (nI (p9 + (rd_w 5).length))) := F0.I (Or.inl rfl)
                  refine hr_aload0 (q := 176) X dX19_item_175 rfl ?_
                  refine hr_getR (v := (ta 0)) (q := 179) X dX19_item_176 rfl fr_q828_19 rfl Tn4.1.1 Tn4.1.2.2.1 ?_
                  refine hr_aload0 (q := 180) X dX19_item_179 rfl ?_
                  refine hr_iconst (v := (nI 1)) (q := 181) X dX19_item_180 rfl rfl ?_
                  refine hr_bipush (v := (nI 9)) (q := 183) X dX19_item_181 rfl rfl ?_
                  refine hr_call (kr := 27) (nr := 209) (q := 186) (hc_V (n := 2) (ci := 19) (As := [.int (nI 1), .int (nI 9)]) X dX19_item_183 rfl (rx_number X.tr Tn4.1 (p9 := p9 + (rd_w 5).length) Tn4.2.1 Tn4.2.2.1 (b9 := (nI 1)) (z9 := (nI 9))) q964 cv_X19_number ⟨Nat.le_of_ble_eq_true rfl, Nat.le_of_ble_eq_true rfl⟩ rfl (Nat.le_of_ble_eq_true rfl) Tn4.1.1 rfl rfl) rfl (fun qxn5 E' Gxn5 hpn5 _ => ?_) (fun r Gn5 hpn5 _ => ?_)
                  · obtain ⟨hrn5, -⟩ | ⟨qn5, hrn5, wn5, htn5, hnon5⟩ := hpn5
                    · cases hrn5
                    · cases hrn5
                      rcases hnon5 with ⟨hisn5, rfl⟩ | ⟨hisn5, rfl, hdgn5 | ⟨hdgn5, hrgn5⟩⟩
                      · exact hx_out X (fun z hz => absurd hz (htab z)) (rd_IP.bad (hs9.trans (rd_iw_b hgn4 (fun z => absurd z.1 (by decide)) hisn5)) Fn4 rfl htn5)
                      · exact hx_out X (fun z hz => absurd hz (htab z)) (rd_IP.bad (hs9.trans ((rd_iw_1 (w := 5) (by decide) (by decide) hgn4 hisn5 hdgn5).trans (if_neg (by decide)))) Fn4 rfl htn5)
                      · exact hx_out X (fun z hz => absurd hz (htab z)) (rd_IP.bad (hs9.trans ((rd_iw_1 (w := 5) (by decide) (by decide) hgn4 hisn5 hdgn5).trans ((if_pos rfl).trans (if_neg (by rw [show rd_so B 5 0 (rd_num f E (p9 + (rd_w 5).length + 1)) = false from hrgn5]; decide))))) Fn4 rfl htn5)
                  · obtain ⟨hrn5, hisn5, hdgn5, hrgn5, hfrn5, hkn5, hrefn5, hatn5, hpln5⟩ | ⟨qn5, hrn5, -⟩ := hpn5
                    · cases hrn5
                      have hlen5 := rd_end_le hdgn5
                      have hvn5 := rd_num_le hdgn5
                      have Tn5 := Tn4.o' hw hfrn5 hkn5 hrefn5 hatn5 hlen5.2
                      have Fn5 : hg_fr (rd_Wf G o ta) G Gn5 := Fn4.tr (hfrn5.mono (fun a e => Or.inl e))
                      have Kn5 : Gn5.1 = G.1 := hkn5.trans rfl
                      have Pn5 : ∀ p, p < B.1.1 0 0 → Gn5.2.2.2 (ta 1) p = G.2.2.2 (ta 1) p := fun p hp => (by rw [hrefn5]; exact P0 p hp)
                      have hso : rd_so B 5 0 (rd_num f E (p9 + (rd_w 5).length + 1)) = true := hrgn5
                      refine hr_putI (q := 189) X dX19_item_186 rfl fw_q156_2 (fun h => nomatch h) rfl rfl rfl Tn5.2.2.2.1.ob ?_
                      have tu6 : tn_R (hs_I Gn5 (ta 0) 1 (nI (rd_num f E (p9 + (rd_w 5).length + 1)))) ta (sp_set B.1 1 0 (rd_num f E (p9 + (rd_w 5).length + 1))) := Tn5.2.2.2.1.setn Tn5.2.2.2.2.1 (k := 1) (by decide) (rd_num f E (p9 + (rd_w 5).length + 1))
                      have Tu6 := Tn5.w (hg_fr.rf.I (Or.inl ⟨0, by decide, rfl⟩)) tu6
                      have Fu6 : hg_fr (rd_Wf G o ta) G (hs_I Gn5 (ta 0) 1 (nI (rd_num f E (p9 + (rd_w 5).length + 1)))) := Fn5.I (Or.inr (Or.inl ⟨0, by decide, rfl⟩))
                      refine hr_goto (tgt := 211) X dX19_item_189 (by decide) ?_
                      exact hr_vret X hr dX19_item_211 (rd_IP.ok (hs9.trans ((rd_iw_1 (w := 5) (by decide) (by decide) hgn4 hisn5 hdgn5).trans ((if_pos rfl).trans (if_pos hso)))) Fu6 Tu6 Pn5)
                    · cases hrn5
                · cases hrn4
          · have hs9 : rd_item f E B p9 = rd_iw f E B 4 p9 := by rw [rd_item_iw, show rd_sel f E p9 = 4 by rw [rd_sel, if_neg (by rw [c11]; decide), if_neg (by rw [c27]; decide), if_neg (by rw [c67]; decide), if_neg (by rw [c103]; decide), if_pos c120]]
            refine hr_aload0 (q := 124) X dX19_item_123 rfl ?_
            refine hr_ldcS (n := 4) (tx := "sack") (q := 126) X dX19_item_124 rfl (by decide) ?_
            refine hr_call (kr := 30) (nr := 230) (q := 129) (hc_V (n := 1) (ci := 19) (As := [.ref (D.2.2 4)]) X dX19_item_126 rfl (rx_word X.tr hT.1 (p9 := p9) hT.2.1 hT.2.2.1 (l9 := rd_w 4) hT.2.2.2.2.2.2.2.2.2.2.1) q885 cv_X19_word ⟨Nat.le_of_ble_eq_true rfl, Nat.le_of_ble_eq_true rfl⟩ rfl (Nat.le_of_ble_eq_true rfl) hT.1.1 rfl rfl) rfl (fun qxn7 E' Gxn7 hpn7 _ => ?_) (fun r Gn7 hpn7 _ => ?_)
            · obtain ⟨-, hrn7, -⟩ | ⟨hgn7, qn7, hrn7, htn7⟩ := hpn7
              · cases hrn7
              · cases hrn7
                exact hx_out X (fun z hz => absurd hz (htab z)) (rd_IP.bad (hs9.trans (rd_iw_n hgn7)) F0 rfl (rd_thr.of (hg_fr.rf.I rfl) rfl htn7))
            · obtain ⟨hgn7, hrn7, hGn7⟩ | ⟨-, qn7, hrn7, -⟩ := hpn7
              · cases hrn7
                have hGn7 := hGn7.symm
                subst hGn7
                have hmn7 := (rd_mat_le f E (rd_w 4) p9).2.2 hT.2.2.1
                rw [hgn7] at hmn7
                have Tn7 := hT.o' hw (hg_fr.rf.I rfl) rfl rfl (hs_Ieq (G := G) (a := o) (k := 2) (v := nI (p9 + (rd_w 4).length))) hmn7
                have Fn7 : hg_fr (rd_Wf G o ta) G (hs_I G o 2 (nI (p9 + (rd_w 4).length))) := F0.I (Or.inl rfl)
                obtain ⟨K9, hK9, hKs, hKb⟩ := Tn7.2.2.2.1.sk
                refine hr_aload0 (q := 130) X dX19_item_129 rfl ?_
                refine hr_getR (v := (ta 0)) (q := 133) X dX19_item_130 rfl fr_q828_19 rfl Tn7.1.1 Tn7.1.2.2.1 ?_
                refine hr_dup (q := 134) X dX19_item_133 rfl rfl ?_
                refine hr_getI (v := (nI K9)) (q := 137) X dX19_item_134 rfl fr_q176_2 rfl Tn7.2.2.2.1.ob hKs ?_
                refine hr_iconst (v := (nI 1)) (q := 138) X dX19_item_137 rfl rfl ?_
                refine hr_aload0 (q := 139) X dX19_item_138 rfl ?_
                refine hr_iconst (v := (nI 0)) (q := 140) X dX19_item_139 rfl rfl ?_
                refine hr_aload0 (q := 141) X dX19_item_140 rfl ?_
                refine hr_getR (v := (ta 0)) (q := 144) X dX19_item_141 rfl fr_q828_19 rfl Tn7.1.1 Tn7.1.2.2.1 ?_
                refine hr_getI (v := (nI (B.1.1 0 0))) (q := 147) X dX19_item_144 rfl fr_q153_2 rfl Tn7.2.2.2.1.ob Tn7.2.2.2.1.f0 ?_
                refine hr_iconst (v := (nI 1)) (q := 148) X dX19_item_147 rfl rfl ?_
                refine hr_isub (v := (nI (B.1.1 0 0) - nI 1)) (q := 149) X dX19_item_148 rfl rfl ?_
                refine hr_call (kr := 27) (nr := 209) (q := 152) (hc_V (n := 2) (ci := 19) (As := [.int (nI 0), .int (nI (B.1.1 0 0) - nI 1)]) X dX19_item_149 rfl (rx_number X.tr Tn7.1 (p9 := p9 + (rd_w 4).length) Tn7.2.1 Tn7.2.2.1 (b9 := (nI 0)) (z9 := (nI (B.1.1 0 0) - nI 1))) q964 cv_X19_number ⟨Nat.le_of_ble_eq_true rfl, Nat.le_of_ble_eq_true rfl⟩ rfl (Nat.le_of_ble_eq_true rfl) Tn7.1.1 rfl rfl) rfl (fun qxn8 E' Gxn8 hpn8 _ => ?_) (fun r Gn8 hpn8 _ => ?_)
                · obtain ⟨hrn8, -⟩ | ⟨qn8, hrn8, wn8, htn8, hnon8⟩ := hpn8
                  · cases hrn8
                  · cases hrn8
                    rcases hnon8 with ⟨hisn8, rfl⟩ | ⟨hisn8, rfl, hdgn8 | ⟨hdgn8, hrgn8⟩⟩
                    · exact hx_out X (fun z hz => absurd hz (htab z)) (rd_IP.bad (hs9.trans (rd_iw_b hgn7 (fun z => absurd z.1 (by decide)) hisn8)) Fn7 rfl htn8)
                    · exact hx_out X (fun z hz => absurd hz (htab z)) (rd_IP.bad (hs9.trans ((rd_iw_1 (w := 4) (by decide) (by decide) hgn7 hisn8 hdgn8).trans (if_neg (by decide)))) Fn7 rfl htn8)
                    · exact hx_out X (fun z hz => absurd hz (htab z)) (rd_IP.bad (hs9.trans ((rd_iw_1 (w := 4) (by decide) (by decide) hgn7 hisn8 hdgn8).trans ((if_pos rfl).trans (if_neg (by rw [show rd_so B 4 0 (rd_num f E (p9 + (rd_w 4).length + 1)) = false from (rg_dec1 (by omega) (rd_num_le hdgn8)).symm.trans hrgn8]; decide))))) Fn7 rfl htn8)
                · obtain ⟨hrn8, hisn8, hdgn8, hrgn8, hfrn8, hkn8, hrefn8, hatn8, hpln8⟩ | ⟨qn8, hrn8, -⟩ := hpn8
                  · cases hrn8
                    have hlen8 := rd_end_le hdgn8
                    have hvn8 := rd_num_le hdgn8
                    have Tn8 := Tn7.o' hw hfrn8 hkn8 hrefn8 hatn8 hlen8.2
                    have Fn8 : hg_fr (rd_Wf G o ta) G Gn8 := Fn7.tr (hfrn8.mono (fun a e => Or.inl e))
                    have Kn8 : Gn8.1 = G.1 := hkn8.trans rfl
                    have Pn8 : ∀ p, p < B.1.1 0 0 → Gn8.2.2.2 (ta 1) p = G.2.2.2 (ta 1) p := fun p hp => (by rw [hrefn8]; exact P0 p hp)
                    have hvm := of_decide_eq_true ((rg_dec1 (by omega) hvn8).symm.trans hrgn8)
                    have hso : rd_so B 4 0 (rd_num f E (p9 + (rd_w 4).length + 1)) = true := (rg_dec1 (by omega) hvn8).symm.trans hrgn8
                    refine hr_ishl (v := (nI 1 <<< (nI (rd_num f E (p9 + (rd_w 4).length + 1)) &&& 31))) (q := 153) X dX19_item_152 rfl rfl ?_
                    refine hr_ior (v := (nI (sk_put K9 (rd_num f E (p9 + (rd_w 4).length + 1))))) (q := 154) X dX19_item_153 rfl (sk_put_1 K9 hK9 _ (by omega)).1 ?_
                    refine hr_putI (q := 157) X dX19_item_154 rfl fw_q176_2 (fun h => nomatch h) rfl rfl rfl Tn8.2.2.2.1.ob ?_
                    have tu9 : tn_R (hs_I Gn8 (ta 0) 9 (nI (sk_put K9 (rd_num f E (p9 + (rd_w 4).length + 1))))) ta (sp_set B.1 15 (rd_num f E (p9 + (rd_w 4).length + 1)) 1) := cp_sk Tn8.2.2.2.1 Tn8.2.2.2.2.1 (sk_put_1 K9 hK9 _ (by omega)).2.1 (fun p hp => by by_cases e : p = rd_num f E (p9 + (rd_w 4).length + 1) <;> first | (rw [if_pos e, e]; exact (sk_put_1 K9 hK9 _ (by omega)).2.2) | (rw [if_neg e]; exact (sk_put_2 K9 hK9 _ (by omega) p (by omega) e).trans (hKb p hp)))
                    have Tu9 := Tn8.w (hg_fr.rf.I (Or.inl ⟨0, by decide, rfl⟩)) tu9
                    have Fu9 : hg_fr (rd_Wf G o ta) G (hs_I Gn8 (ta 0) 9 (nI (sk_put K9 (rd_num f E (p9 + (rd_w 4).length + 1))))) := Fn8.I (Or.inr (Or.inl ⟨0, by decide, rfl⟩))
                    refine hr_goto (tgt := 211) X dX19_item_157 (by decide) ?_
                    exact hr_vret X hr dX19_item_211 (rd_IP.ok (hs9.trans ((rd_iw_1 (w := 4) (by decide) (by decide) hgn7 hisn8 hdgn8).trans ((if_pos rfl).trans (if_pos hso)))) Fu9 Tu9 Pn8)
                  · cases hrn8
              · cases hrn7
        · have hs9 : rd_item f E B p9 = rd_iw f E B 3 p9 := by rw [rd_item_iw, show rd_sel f E p9 = 3 by rw [rd_sel, if_neg (by rw [c11]; decide), if_neg (by rw [c27]; decide), if_neg (by rw [c67]; decide), if_pos c103]]
          refine hr_aload0 (q := 107) X dX19_item_106 rfl ?_
          refine hr_iload1 (q := 108) X dX19_item_107 rfl ?_
          refine hr_call (kr := 4) (nr := 40) (q := 111) (hc_V (n := 1) (ci := 19) (As := [.int (nI p9)]) X dX19_item_108 rfl (rx_person X.tr hT hB) q981 cv_X19_person ⟨Nat.le_of_ble_eq_true rfl, Nat.le_of_ble_eq_true rfl⟩ rfl (Nat.le_of_ble_eq_true rfl) hT.1.1 rfl rfl) rfl (fun qx E' Gx hp _ => ?_) (fun r Gr hp _ => ?_)
          · exact hx_out X (fun z hz => absurd hz (htab z)) (by rw [hs9]; exact hp)
          · obtain ⟨hz9, hr9, hT9, hF9, hP9⟩ | ⟨-, q9, hr9, -⟩ := hp
            · cases hr9
              refine hr_goto (tgt := 211) X dX19_item_111 (by decide) ?_
              exact hr_vret X hr dX19_item_211 (by rw [hs9]; exact Or.inl ⟨hz9, rfl, hT9, hF9, hP9⟩)
            · cases hr9
      · have hs9 : rd_item f E B p9 = rd_iw f E B 2 p9 := by rw [rd_item_iw, show rd_sel f E p9 = 2 by rw [rd_sel, if_neg (by rw [c11]; decide), if_neg (by rw [c27]; decide), if_pos c67]]
        refine hr_aload0 (q := 71) X dX19_item_70 rfl ?_
        refine hr_ldcS (n := 3) (tx := "balcony") (q := 73) X dX19_item_71 rfl (by decide) ?_
        refine hr_call (kr := 30) (nr := 230) (q := 76) (hc_V (n := 1) (ci := 19) (As := [.ref (D.2.2 3)]) X dX19_item_73 rfl (rx_word X.tr hT.1 (p9 := p9) hT.2.1 hT.2.2.1 (l9 := rd_w 2) hT.2.2.2.2.2.2.2.2.2.1) q885 cv_X19_word ⟨Nat.le_of_ble_eq_true rfl, Nat.le_of_ble_eq_true rfl⟩ rfl (Nat.le_of_ble_eq_true rfl) hT.1.1 rfl rfl) rfl (fun qxn10 E' Gxn10 hpn10 _ => ?_) (fun r Gn10 hpn10 _ => ?_)
        · obtain ⟨-, hrn10, -⟩ | ⟨hgn10, qn10, hrn10, htn10⟩ := hpn10
          · cases hrn10
          · cases hrn10
            exact hx_out X (fun z hz => absurd hz (htab z)) (rd_IP.bad (hs9.trans (rd_iw_n hgn10)) F0 rfl (rd_thr.of (hg_fr.rf.I rfl) rfl htn10))
        · obtain ⟨hgn10, hrn10, hGn10⟩ | ⟨-, qn10, hrn10, -⟩ := hpn10
          · cases hrn10
            have hGn10 := hGn10.symm
            subst hGn10
            have hmn10 := (rd_mat_le f E (rd_w 2) p9).2.2 hT.2.2.1
            rw [hgn10] at hmn10
            have Tn10 := hT.o' hw (hg_fr.rf.I rfl) rfl rfl (hs_Ieq (G := G) (a := o) (k := 2) (v := nI (p9 + (rd_w 2).length))) hmn10
            have Fn10 : hg_fr (rd_Wf G o ta) G (hs_I G o 2 (nI (p9 + (rd_w 2).length))) := F0.I (Or.inl rfl)
            refine hr_aload0 (q := 77) X dX19_item_76 rfl ?_
            refine hr_getR (v := (ta 0)) (q := 80) X dX19_item_77 rfl fr_q828_19 rfl Tn10.1.1 Tn10.1.2.2.1 ?_
            refine hr_dup (q := 81) X dX19_item_80 rfl rfl ?_
            refine hr_getJ (v := (lN (sp_pk (B.1.1 17) 36))) (q := 84) X dX19_item_81 rfl fr_q173_2 rfl Tn10.2.2.2.1.ob Tn10.2.2.2.1.f8 ?_
            refine hr_lconst (v := (lN 1)) (q := 85) X dX19_item_84 rfl rfl ?_
            refine hr_aload0 (q := 86) X dX19_item_85 rfl ?_
            refine hr_call (kr := 27) (nr := 209) (q := 89) (hc_V (n := 0) (ci := 19) (As := []) X dX19_item_86 rfl (rx_square X.tr Tn10.1 (p9 := p9 + (rd_w 2).length) Tn10.2.1 Tn10.2.2.1) q960 cv_X19_square ⟨Nat.le_of_ble_eq_true rfl, Nat.le_of_ble_eq_true rfl⟩ rfl (Nat.le_of_ble_eq_true rfl) Tn10.1.1 rfl rfl) rfl (fun qxn11 E' Gxn11 hpn11 _ => ?_) (fun r Gn11 hpn11 _ => ?_)
            · obtain ⟨hrn11, -⟩ | ⟨qn11, hrn11, wn11, htn11, hnon11⟩ := hpn11
              · cases hrn11
              · cases hrn11
                rcases hnon11 with ⟨hisn11, rfl⟩ | ⟨hisn11, rfl, hdgn11 | ⟨hdgn11, hrgn11⟩⟩
                · exact hx_out X (fun z hz => absurd hz (htab z)) (rd_IP.bad (hs9.trans (rd_iw_b hgn10 (fun z => absurd z.1 (by decide)) hisn11)) Fn10 rfl htn11)
                · exact hx_out X (fun z hz => absurd hz (htab z)) (rd_IP.bad (hs9.trans ((rd_iw_1 (w := 2) (by decide) (by decide) hgn10 hisn11 hdgn11).trans (if_neg (by decide)))) Fn10 rfl htn11)
                · exact hx_out X (fun z hz => absurd hz (htab z)) (rd_IP.bad (hs9.trans ((rd_iw_1 (w := 2) (by decide) (by decide) hgn10 hisn11 hdgn11).trans ((if_pos rfl).trans (if_neg (by rw [show rd_so B 2 0 (rd_num f E (p9 + (rd_w 2).length + 1)) = false from (rd_so_12 (Or.inr rfl)).trans (rg_35 (rd_num_le hdgn11) hrgn11)]; decide))))) Fn10 rfl htn11)
            · obtain ⟨hrn11, hisn11, hdgn11, hrgn11, hfrn11, hkn11, hrefn11, hatn11, hpln11⟩ | ⟨qn11, hrn11, -⟩ := hpn11
              · cases hrn11
                have hlen11 := rd_end_le hdgn11
                have hvn11 := rd_num_le hdgn11
                have Tn11 := Tn10.o' hw hfrn11 hkn11 hrefn11 hatn11 hlen11.2
                have Fn11 : hg_fr (rd_Wf G o ta) G Gn11 := Fn10.tr (hfrn11.mono (fun a e => Or.inl e))
                have Kn11 : Gn11.1 = G.1 := hkn11.trans rfl
                have Pn11 : ∀ p, p < B.1.1 0 0 → Gn11.2.2.2 (ta 1) p = G.2.2.2 (ta 1) p := fun p hp => (by rw [hrefn11]; exact P0 p hp)
                have h36 := of_decide_eq_true (rg_35 hvn11 hrgn11)
                have hso : rd_so B 2 0 (rd_num f E (p9 + (rd_w 2).length + 1)) = true := (rd_so_12 (Or.inr rfl)).trans (rg_35 hvn11 hrgn11)
                refine hr_lshl (v := (lN (2 ^ (rd_num f E (p9 + (rd_w 2).length + 1))))) (q := 90) X dX19_item_89 rfl (lN_shl h36) ?_
                refine hr_lor (v := (lN (sp_pk (fun i => if i = rd_num f E (p9 + (rd_w 2).length + 1) then 1 else B.1.1 17 i) 36))) (q := 91) X dX19_item_90 rfl (lN_pk_or (fun c hc => hw.b17 hc) h36) ?_
                refine hr_putJ (q := 94) X dX19_item_91 rfl fw_q173_2 (fun h => nomatch h) rfl Tn11.2.2.2.1.ob ?_
                have tu12 : tn_R (hs_J Gn11 (ta 0) 8 (lN (sp_pk (fun i => if i = rd_num f E (p9 + (rd_w 2).length + 1) then 1 else B.1.1 17 i) 36))) ta (sp_set B.1 17 (rd_num f E (p9 + (rd_w 2).length + 1)) 1) := Tn11.2.2.2.1.setw (k := 8) (c := rd_num f E (p9 + (rd_w 2).length + 1)) (n := 1) (Or.inr rfl)
                have Tu12 := Tn11.w (hg_fr.rf.J (Or.inl ⟨0, by decide, rfl⟩)) tu12
                have Fu12 : hg_fr (rd_Wf G o ta) G (hs_J Gn11 (ta 0) 8 (lN (sp_pk (fun i => if i = rd_num f E (p9 + (rd_w 2).length + 1) then 1 else B.1.1 17 i) 36))) := Fn11.J (Or.inr (Or.inl ⟨0, by decide, rfl⟩))
                refine hr_goto (tgt := 211) X dX19_item_94 (by decide) ?_
                exact hr_vret X hr dX19_item_211 (rd_IP.ok (hs9.trans ((rd_iw_1 (w := 2) (by decide) (by decide) hgn10 hisn11 hdgn11).trans ((if_pos rfl).trans (if_pos hso)))) Fu12 Tu12 Pn11)
              · cases hrn11
          · cases hrn10
    · have hs9 : rd_item f E B p9 = rd_iw f E B 1 p9 := by rw [rd_item_iw, show rd_sel f E p9 = 1 by rw [rd_sel, if_neg (by rw [c11]; decide), if_pos c27]]
      refine hr_aload0 (q := 31) X dX19_item_30 rfl ?_
      refine hr_ldcS (n := 2) (tx := "gap") (q := 33) X dX19_item_31 rfl (by decide) ?_
      refine hr_call (kr := 30) (nr := 230) (q := 36) (hc_V (n := 1) (ci := 19) (As := [.ref (D.2.2 2)]) X dX19_item_33 rfl (rx_word X.tr hT.1 (p9 := p9) hT.2.1 hT.2.2.1 (l9 := rd_w 1) hT.2.2.2.2.2.2.2.2.1) q885 cv_X19_word ⟨Nat.le_of_ble_eq_true rfl, Nat.le_of_ble_eq_true rfl⟩ rfl (Nat.le_of_ble_eq_true rfl) hT.1.1 rfl rfl) rfl (fun qxn13 E' Gxn13 hpn13 _ => ?_) (fun r Gn13 hpn13 _ => ?_)
      · obtain ⟨-, hrn13, -⟩ | ⟨hgn13, qn13, hrn13, htn13⟩ := hpn13
        · cases hrn13
        · cases hrn13
          exact hx_out X (fun z hz => absurd hz (htab z)) (rd_IP.bad (hs9.trans (rd_iw_n hgn13)) F0 rfl (rd_thr.of (hg_fr.rf.I rfl) rfl htn13))
      · obtain ⟨hgn13, hrn13, hGn13⟩ | ⟨-, qn13, hrn13, -⟩ := hpn13
        · cases hrn13
          have hGn13 := hGn13.symm
          subst hGn13
          have hmn13 := (rd_mat_le f E (rd_w 1) p9).2.2 hT.2.2.1
          rw [hgn13] at hmn13
          have Tn13 := hT.o' hw (hg_fr.rf.I rfl) rfl rfl (hs_Ieq (G := G) (a := o) (k := 2) (v := nI (p9 + (rd_w 1).length))) hmn13
          have Fn13 : hg_fr (rd_Wf G o ta) G (hs_I G o 2 (nI (p9 + (rd_w 1).length))) := F0.I (Or.inl rfl)
          refine hr_aload0 (q := 37) X dX19_item_36 rfl ?_
          refine hr_getR (v := (ta 0)) (q := 40) X dX19_item_37 rfl fr_q828_19 rfl Tn13.1.1 Tn13.1.2.2.1 ?_
          refine hr_dup (q := 41) X dX19_item_40 rfl rfl ?_
          refine hr_getJ (v := (lN (sp_pk (B.1.1 16) 36))) (q := 44) X dX19_item_41 rfl fr_q170_2 rfl Tn13.2.2.2.1.ob Tn13.2.2.2.1.f7 ?_
          refine hr_lconst (v := (lN 1)) (q := 45) X dX19_item_44 rfl rfl ?_
          refine hr_aload0 (q := 46) X dX19_item_45 rfl ?_
          refine hr_call (kr := 27) (nr := 209) (q := 49) (hc_V (n := 0) (ci := 19) (As := []) X dX19_item_46 rfl (rx_square X.tr Tn13.1 (p9 := p9 + (rd_w 1).length) Tn13.2.1 Tn13.2.2.1) q960 cv_X19_square ⟨Nat.le_of_ble_eq_true rfl, Nat.le_of_ble_eq_true rfl⟩ rfl (Nat.le_of_ble_eq_true rfl) Tn13.1.1 rfl rfl) rfl (fun qxn14 E' Gxn14 hpn14 _ => ?_) (fun r Gn14 hpn14 _ => ?_)
          · obtain ⟨hrn14, -⟩ | ⟨qn14, hrn14, wn14, htn14, hnon14⟩ := hpn14
            · cases hrn14
            · cases hrn14
              rcases hnon14 with ⟨hisn14, rfl⟩ | ⟨hisn14, rfl, hdgn14 | ⟨hdgn14, hrgn14⟩⟩
              · exact hx_out X (fun z hz => absurd hz (htab z)) (rd_IP.bad (hs9.trans (rd_iw_b hgn13 (fun z => absurd z.1 (by decide)) hisn14)) Fn13 rfl htn14)
              · exact hx_out X (fun z hz => absurd hz (htab z)) (rd_IP.bad (hs9.trans ((rd_iw_1 (w := 1) (by decide) (by decide) hgn13 hisn14 hdgn14).trans (if_neg (by decide)))) Fn13 rfl htn14)
              · exact hx_out X (fun z hz => absurd hz (htab z)) (rd_IP.bad (hs9.trans ((rd_iw_1 (w := 1) (by decide) (by decide) hgn13 hisn14 hdgn14).trans ((if_pos rfl).trans (if_neg (by rw [show rd_so B 1 0 (rd_num f E (p9 + (rd_w 1).length + 1)) = false from (rd_so_12 (Or.inl rfl)).trans (rg_35 (rd_num_le hdgn14) hrgn14)]; decide))))) Fn13 rfl htn14)
          · obtain ⟨hrn14, hisn14, hdgn14, hrgn14, hfrn14, hkn14, hrefn14, hatn14, hpln14⟩ | ⟨qn14, hrn14, -⟩ := hpn14
            · cases hrn14
              have hlen14 := rd_end_le hdgn14
              have hvn14 := rd_num_le hdgn14
              have Tn14 := Tn13.o' hw hfrn14 hkn14 hrefn14 hatn14 hlen14.2
              have Fn14 : hg_fr (rd_Wf G o ta) G Gn14 := Fn13.tr (hfrn14.mono (fun a e => Or.inl e))
              have Kn14 : Gn14.1 = G.1 := hkn14.trans rfl
              have Pn14 : ∀ p, p < B.1.1 0 0 → Gn14.2.2.2 (ta 1) p = G.2.2.2 (ta 1) p := fun p hp => (by rw [hrefn14]; exact P0 p hp)
              have h36 := of_decide_eq_true (rg_35 hvn14 hrgn14)
              have hso : rd_so B 1 0 (rd_num f E (p9 + (rd_w 1).length + 1)) = true := (rd_so_12 (Or.inl rfl)).trans (rg_35 hvn14 hrgn14)
              refine hr_lshl (v := (lN (2 ^ (rd_num f E (p9 + (rd_w 1).length + 1))))) (q := 50) X dX19_item_49 rfl (lN_shl h36) ?_
              refine hr_ldc2 (q := 53) X dX19_item_50 rfl q979 ?_
              refine hr_lxor (v := (lN (2 ^ (rd_num f E (p9 + (rd_w 1).length + 1))) ^^^ (-1))) (q := 54) X dX19_item_53 rfl rfl ?_
              refine hr_land (v := (lN (sp_pk (fun i => if i = rd_num f E (p9 + (rd_w 1).length + 1) then 0 else B.1.1 16 i) 36))) (q := 55) X dX19_item_54 rfl (lN_pk_clr (fun c hc => hw.b16 hc)) ?_
              refine hr_putJ (q := 58) X dX19_item_55 rfl fw_q170_2 (fun h => nomatch h) rfl Tn14.2.2.2.1.ob ?_
              have tu15 : tn_R (hs_J Gn14 (ta 0) 7 (lN (sp_pk (fun i => if i = rd_num f E (p9 + (rd_w 1).length + 1) then 0 else B.1.1 16 i) 36))) ta (sp_set B.1 16 (rd_num f E (p9 + (rd_w 1).length + 1)) 0) := Tn14.2.2.2.1.setw (k := 7) (c := rd_num f E (p9 + (rd_w 1).length + 1)) (n := 0) (Or.inl rfl)
              have Tu15 := Tn14.w (hg_fr.rf.J (Or.inl ⟨0, by decide, rfl⟩)) tu15
              have Fu15 : hg_fr (rd_Wf G o ta) G (hs_J Gn14 (ta 0) 7 (lN (sp_pk (fun i => if i = rd_num f E (p9 + (rd_w 1).length + 1) then 0 else B.1.1 16 i) 36))) := Fn14.J (Or.inr (Or.inl ⟨0, by decide, rfl⟩))
              refine hr_goto (tgt := 211) X dX19_item_58 (by decide) ?_
              exact hr_vret X hr dX19_item_211 (rd_IP.ok (hs9.trans ((rd_iw_1 (w := 1) (by decide) (by decide) hgn13 hisn14 hdgn14).trans ((if_pos rfl).trans (if_pos hso)))) Fu15 Tu15 Pn14)
            · cases hrn14
        · cases hrn13
  · have hs9 : rd_item f E B p9 = rd_iw f E B 0 p9 := by rw [rd_item_iw, show rd_sel f E p9 = 0 by rw [rd_sel, if_pos c11]]
    refine hr_aload0 (q := 15) X dX19_item_14 rfl ?_
    refine hr_call (kr := 24) (nr := 190) (q := 18) (hc_V (n := 0) (ci := 19) (As := []) X dX19_item_15 rfl (rx_wall X.tr hT hB) q880 cv_X19_wall ⟨Nat.le_of_ble_eq_true rfl, Nat.le_of_ble_eq_true rfl⟩ rfl (Nat.le_of_ble_eq_true rfl) hT.1.1 rfl rfl) rfl (fun qx E' Gx hp _ => ?_) (fun r Gr hp _ => ?_)
    · exact hx_out X (fun z hz => absurd hz (htab z)) (by rw [hs9]; exact hp)
    · obtain ⟨hz9, hr9, hT9, hF9, hP9⟩ | ⟨-, q9, hr9, -⟩ := hp
      · cases hr9
        refine hr_goto (tgt := 211) X dX19_item_18 (by decide) ?_
        exact hr_vret X hr dX19_item_211 (by rw [hs9]; exact Or.inl ⟨hz9, rfl, hT9, hF9, hP9⟩)
      · cases hr9

