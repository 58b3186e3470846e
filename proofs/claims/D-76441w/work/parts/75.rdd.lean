def rd_IP (D : hg_D) (G : hg_G) (o x y k E : Nat) (f : Nat → Int32) (ta : Nat → Nat) (N : Nat) (Z : Bool × Nat × ab_S) : hg_Po := fun r G' =>
  (Z.1 = true ∧ r = .inl none ∧ rd_T D G' o x y k E f ta Z.2.2.1 Z.2.1 ∧ hg_fr (rd_Wf G o ta) G G' ∧ ∀ p, p < N → G'.2.2.2 (ta 1) p = G.2.2.2 (ta 1) p) ∨ (Z.1 = false ∧ ∃ q, r = .inr (q, "TaxOnLooks$Faulty") ∧ G'.1 q = some (0, 7) ∧ G'.2.1 q 6 = nI Z.2.1 ∧ hg_fr (rd_Wf G o ta) G G')
section RD9
variable {D : hg_D} {G G1 G' : hg_G} {o x y k E p q w N : Nat} {f : Nat → Int32} {ta : Nat → Nat} {Z : Bool × Nat × ab_S} {A : ab_S}
theorem rd_IP.bad (hZ : Z = (false, w, A)) (hF : hg_fr (rd_Wf G o ta) G G1) (hK : G1.1 = G.1) (ht : rd_thr G1 G' o q w) : rd_IP D G o x y k E f ta N Z (.inr (q, "TaxOnLooks$Faulty")) G' := by
  rw [hZ]
  exact Or.inr ⟨rfl, q, rfl, ht.1, ht.2.1, hF.tr (ht.2.2.mono (fun a e => e.elim Or.inl (fun e => Or.inr (Or.inr (by rw [← hK]; exact e)))))⟩
theorem rd_IP.badT (hZ : Z = (false, w, A)) (hF : hg_fr (rd_Wf G o ta) G G1) (hK : G1.1 = G.1) (ht : tx_T 7 q (nI w) G1 G') : rd_IP D G o x y k E f ta N Z (.inr (q, "TaxOnLooks$Faulty")) G' := rd_IP.bad hZ hF hK (rd_thr.of hg_fr.rf rfl ht)
theorem rd_IP.ok (hZ : Z = (true, p, A)) (hF : hg_fr (rd_Wf G o ta) G G') (hT : rd_T D G' o x y k E f ta A.1 p) (hP : ∀ p, p < N → G'.2.2.2 (ta 1) p = G.2.2.2 (ta 1) p) : rd_IP D G o x y k E f ta N Z (.inl none) G' := by
  rw [hZ]
  exact Or.inl ⟨rfl, rfl, hT, hF, hP⟩
end RD9
theorem rd_so_0f {A : ab_S} {v : Nat} (h : ¬ (v < 36 ∧ sp_there A.1 v = 0)) : rd_so A 0 0 v = false := decide_eq_false (fun z => h ⟨z.1, z.2 rfl⟩)
theorem rd_so_0t {A : ab_S} {v : Nat} (h1 : v < 36) (h : sp_there A.1 v = 0) : rd_so A 0 0 v = true := decide_eq_true ⟨h1, fun _ => h⟩
theorem rd_so_12 {A : ab_S} {w v : Nat} (hw : w = 1 ∨ w = 2) : rd_so A w 0 v = decide (v < 36) := by
  rcases hw with rfl | rfl
  · show decide (v < 36 ∧ (1 = 0 → _)) = _
    simp
  · show decide (v < 36 ∧ (2 = 0 → _)) = _
    simp
theorem rg_35 {v : Nat} (hv : v ≤ 99) {b : Bool} (h : decide (nI 0 ≤ nI v ∧ nI v ≤ nI 35) = b) : decide (v < 36) = b := by
  rw [rg_dec (by decide) (by decide) hv] at h
  rw [← h]
  by_cases g : v < 36
  · rw [decide_eq_true g, decide_eq_true (by omega)]
  · rw [decide_eq_false g, decide_eq_false (by omega)]
abbrev rk_X19_square : Room := { frames := 16, cells := 3, slots := 21, locals := 10428 }
theorem rx_square {l : Launch} {D : hg_D} {lo : Nat} (htr : l.stackTraces = false) {G : hg_G} {o x y k E : Nat} {f : Nat → Int32} {tw : Nat} (hO : rd_O G o x y k E f tw) {p9 : Nat} (hp : G.2.1 o 2 = nI p9) (hpE : p9 ≤ E) :
    hg_M l D lo yX19_square (ws_ yX19_square cX19_square 1 ((some FieldType.int))) rk_X19_square [.ref o] G (fun r G' => (r = .inl (some (.int (nI (rd_num f E (p9 + 1))))) ∧ rd_Nok G G' o f E p9 (nI 0) (nI 35)) ∨ (∃ q, r = .inr (q, "TaxOnLooks$Faulty") ∧ rd_Nno G G' o q f E p9 (nI 0) (nI 35))) := by
  refine hg_M.of htr (by decide) [some (.ref o)] rfl (Nat.le_of_ble_eq_true rfl) ?_
  intro p e s m args below meth c X hr hnm htab
  have X : hg_X p l s m args meth c D lo "TaxOnLooks$Reader" cX19_square 1 := X
  refine hr_room (kr' := 3) (nr' := 21) (Nat.le_of_ble_eq_true rfl) (Nat.le_of_ble_eq_true rfl) ?_
  have hE9 := hO.2.2.2.1.2.1
  refine hr_aload0 (q := 1) X dX19_square_0 rfl ?_
  refine hr_iconst (v := (nI 0)) (q := 2) X dX19_square_1 rfl rfl ?_
  refine hr_bipush (v := (nI 35)) (q := 4) X dX19_square_2 rfl rfl ?_
  refine hr_call (kr := 0) (nr := 0) (q := 7) (hc_V (n := 2) (ci := 19) (As := [.int (nI 0), .int (nI 35)]) X dX19_square_4 rfl (rx_number X.tr hO (p9 := p9) hp hpE (b9 := nI 0) (z9 := nI 35)) q964 cv_X19_number ⟨Nat.le_of_ble_eq_true rfl, Nat.le_of_ble_eq_true rfl⟩ rfl (Nat.le_of_ble_eq_true rfl) hO.1 rfl rfl) rfl (fun qx E' Gx hp _ => ?_) (fun r G1 hp _ => ?_)
  · exact hx_out X (fun z hz => absurd hz (htab z)) (hp.elim (fun z => by cases z.1) (fun z => Or.inr z))
  · obtain ⟨hr9, hok⟩ | ⟨q9, hr9, -⟩ := hp
    · cases hr9
      exact hr_iret X hr dX19_square_7 (Or.inl ⟨rfl, hok⟩)
    · cases hr9

abbrev rk_X19_wall : Room := { frames := 17, cells := 16, slots := 110, locals := 10448 }
theorem rx_wall {l : Launch} {D : hg_D} {lo : Nat} (htr : l.stackTraces = false) {G : hg_G} {o x y k E : Nat} {f : Nat → Int32} {ta : Nat → Nat} {B : ab_S} {p9 : Nat} (hT : rd_T D G o x y k E f ta B.1 p9) (hB : ab_wf B) :
    hg_M l D lo yX19_wall (ws_ yX19_wall cX19_wall 2 (none)) rk_X19_wall [.ref o] G (rd_IP D G o x y k E f ta (B.1.1 0 0) (rd_iw f E B 0 p9)) := by
  refine hg_M.of htr (by decide) [some (.ref o), none] rfl (Nat.le_of_ble_eq_true rfl) ?_
  intro p e s m args below meth c X hr hnm htab
  have X : hg_X p l s m args meth c D lo "TaxOnLooks$Reader" cX19_wall 2 := X
  refine hr_room (kr' := 16) (nr' := 110) (Nat.le_of_ble_eq_true rfl) (Nat.le_of_ble_eq_true rfl) ?_
  have hE9 := hT.1.2.2.2.1.2.1
  have hw := hB.w
  have w0 := hw.b0; have w1 := hw.b1; have w2 := hw.b2; have w3 := hw.b3; have w36 := hB.b36
  have F0 : hg_fr (rd_Wf G o ta) G G := hg_fr.rf
  have P0 : ∀ p, p < B.1.1 0 0 → G.2.2.2 (ta 1) p = G.2.2.2 (ta 1) p := fun _ _ => rfl
  refine hr_aload0 (q := 1) X dX19_wall_0 rfl ?_
  refine hr_ldcS (n := 1) (tx := "wall") (q := 3) X dX19_wall_1 rfl (by decide) ?_
  refine hr_call (kr := 6) (nr := 40) (q := 6) (hc_V (n := 1) (ci := 19) (As := [.ref (D.2.2 1)]) X dX19_wall_3 rfl (rx_word X.tr hT.1 (p9 := p9) hT.2.1 hT.2.2.1 (l9 := rd_w 0) hT.2.2.2.2.2.2.2.1) q885 cv_X19_word ⟨Nat.le_of_ble_eq_true rfl, Nat.le_of_ble_eq_true rfl⟩ rfl (Nat.le_of_ble_eq_true rfl) hT.1.1 rfl rfl) rfl (fun qxn1 E' Gxn1 hpn1 _ => ?_) (fun r Gn1 hpn1 _ => ?_)
  · obtain ⟨-, hrn1, -⟩ | ⟨hgn1, qn1, hrn1, htn1⟩ := hpn1
    · cases hrn1
    · cases hrn1
      exact hx_out X (fun z hz => absurd hz (htab z)) (rd_IP.bad (rd_iw_n hgn1) F0 rfl (rd_thr.of (hg_fr.rf.I rfl) rfl htn1))
  · obtain ⟨hgn1, hrn1, hGn1⟩ | ⟨-, qn1, hrn1, -⟩ := hpn1
    · cases hrn1
      have hGn1 := hGn1.symm
      subst hGn1
      have hmn1 := (rd_mat_le f E (rd_w 0) p9).2.2 hT.2.2.1
      rw [hgn1] at hmn1
      have Tn1 := hT.o' hw (hg_fr.rf.I rfl) rfl rfl (hs_Ieq (G := G) (a := o) (k := 2) (v := nI (p9 + (rd_w 0).length))) hmn1
      have Fn1 : hg_fr (rd_Wf G o ta) G (hs_I G o 2 (nI (p9 + (rd_w 0).length))) := F0.I (Or.inl rfl)
      refine hr_aload0 (q := 7) X dX19_wall_6 rfl ?_
      refine hr_call (kr := 3) (nr := 19) (q := 10) (hc_V (n := 0) (ci := 19) (As := []) X dX19_wall_7 rfl (rx_square X.tr Tn1.1 (p9 := p9 + (rd_w 0).length) Tn1.2.1 Tn1.2.2.1) q960 cv_X19_square ⟨Nat.le_of_ble_eq_true rfl, Nat.le_of_ble_eq_true rfl⟩ rfl (Nat.le_of_ble_eq_true rfl) Tn1.1.1 rfl rfl) rfl (fun qxn2 E' Gxn2 hpn2 _ => ?_) (fun r Gn2 hpn2 _ => ?_)
      · obtain ⟨hrn2, -⟩ | ⟨qn2, hrn2, wn2, htn2, hnon2⟩ := hpn2
        · cases hrn2
        · cases hrn2
          rcases hnon2 with ⟨hisn2, rfl⟩ | ⟨hisn2, rfl, hdgn2 | ⟨hdgn2, hrgn2⟩⟩
          · exact hx_out X (fun z hz => absurd hz (htab z)) (rd_IP.bad (rd_iw_b hgn1 (fun z => absurd z.1 (by decide)) hisn2) Fn1 rfl htn2)
          · exact hx_out X (fun z hz => absurd hz (htab z)) (rd_IP.bad ((rd_iw_1 (w := 0) (by decide) (by decide) hgn1 hisn2 hdgn2).trans (if_neg (by decide))) Fn1 rfl htn2)
          · exact hx_out X (fun z hz => absurd hz (htab z)) (rd_IP.bad ((rd_iw_1 (w := 0) (by decide) (by decide) hgn1 hisn2 hdgn2).trans ((if_pos rfl).trans (if_neg (by rw [show rd_so B 0 0 (rd_num f E (p9 + (rd_w 0).length + 1)) = false from rd_so_0f (fun z => by have := rg_35 (rd_num_le hdgn2) hrgn2; rw [decide_eq_true z.1] at this; cases this)]; decide)))) Fn1 rfl htn2)
      · obtain ⟨hrn2, hisn2, hdgn2, hrgn2, hfrn2, hkn2, hrefn2, hatn2, hpln2⟩ | ⟨qn2, hrn2, -⟩ := hpn2
        · cases hrn2
          have hlen2 := rd_end_le hdgn2
          have hvn2 := rd_num_le hdgn2
          have Tn2 := Tn1.o' hw hfrn2 hkn2 hrefn2 hatn2 hlen2.2
          have Fn2 : hg_fr (rd_Wf G o ta) G Gn2 := Fn1.tr (hfrn2.mono (fun a e => Or.inl e))
          have Kn2 : Gn2.1 = G.1 := hkn2.trans rfl
          have Pn2 : ∀ p, p < B.1.1 0 0 → Gn2.2.2.2 (ta 1) p = G.2.2.2 (ta 1) p := fun p hp => (by rw [hrefn2]; exact P0 p hp)
          have h36 := of_decide_eq_true (rg_35 hvn2 hrgn2)
          refine hr_istore1 (q := 11) X dX19_wall_10 rfl rfl (Nat.le_of_ble_eq_true rfl) ?_
          refine hr_aload0 (q := 12) X dX19_wall_11 rfl ?_
          refine hr_aload0 (q := 13) X dX19_wall_12 rfl ?_
          refine hr_getR (v := (ta 0)) (q := 16) X dX19_wall_13 rfl fr_q828_19 rfl Tn2.1.1 Tn2.1.2.2.1 ?_
          refine hr_iload1 (q := 17) X dX19_wall_16 rfl ?_
          refine hr_callP (q := 20) (hc_V (n := 1) (ci := 2) (As := [.int (nI (rd_num f E (p9 + (rd_w 0).length + 1)))]) X dX19_wall_17 rfl (tn_standAt X.tr Tn2.2.2.2.1 hw (z := rd_num f E (p9 + (rd_w 0).length + 1)) (by omega)) q977 cv_X2_standAt ⟨Nat.le_of_ble_eq_true rfl, Nat.le_of_ble_eq_true rfl⟩ rfl (Nat.le_of_ble_eq_true rfl) Tn2.2.2.2.1.ob rfl rfl) rfl ?_
          have := sp_there_lt (t := B.1) hw (rd_num f E (p9 + (rd_w 0).length + 1))
          refine hr_ifN_ne (q := 23) (tgt := 27) X dX19_wall_20 rfl (by decide) (by omega) (fun c20 => ?_) (fun c20 => ?_)
          · refine hr_iconst (v := (bI false)) (q := 28) X dX19_wall_27 rfl rfl ?_
            refine hr_aload0 (q := 29) X dX19_wall_28 rfl ?_
            refine hr_getI (v := (nI (p9 + (rd_w 0).length + 1))) (q := 32) X dX19_wall_29 rfl fr_q830_19 rfl Tn2.1.1 hpln2 ?_
            refine hr_call (kr := 2) (nr := 12) (q := 35) (hc_V (n := 2) (ci := 19) (As := [.int (bI false), .int (nI (p9 + (rd_w 0).length + 1))]) X dX19_wall_32 rfl (rx_room X.tr (o := o) (g9 := false) (w9 := (nI (p9 + (rd_w 0).length + 1)))) q973 cv_X19_hasRoom ⟨Nat.le_of_ble_eq_true rfl, Nat.le_of_ble_eq_true rfl⟩ rfl (Nat.le_of_ble_eq_true rfl) Tn2.1.1 rfl rfl) rfl (fun qxn3 E' Gxn3 hpn3 _ => ?_) (fun r Gn3 hpn3 _ => ?_)
            · obtain ⟨-, hrn3, -⟩ | ⟨hgn3, qn3, hrn3, htn3⟩ := hpn3
              · cases hrn3
              · cases hrn3
                exact hx_out X (fun z hz => absurd hz (htab z)) (rd_IP.badT ((rd_iw_1 (w := 0) (by decide) (by decide) hgn1 hisn2 hdgn2).trans ((if_pos rfl).trans (if_neg (by rw [show rd_so B 0 0 (rd_num f E (p9 + (rd_w 0).length + 1)) = false from rd_so_0f (fun z => by omega)]; decide)))) Fn2 Kn2 htn3)
            · obtain ⟨hgn3, hrn3, hGn3⟩ | ⟨-, qn3, hrn3, -⟩ := hpn3
              · cases hgn3
              · cases hrn3
          · refine hr_iconst (v := (bI true)) (q := 24) X dX19_wall_23 rfl rfl ?_
            refine hr_goto (tgt := 28) X dX19_wall_24 (by decide) ?_
            refine hr_aload0 (q := 29) X dX19_wall_28 rfl ?_
            refine hr_getI (v := (nI (p9 + (rd_w 0).length + 1))) (q := 32) X dX19_wall_29 rfl fr_q830_19 rfl Tn2.1.1 hpln2 ?_
            refine hr_call (kr := 2) (nr := 12) (q := 35) (hc_V (n := 2) (ci := 19) (As := [.int (bI true), .int (nI (p9 + (rd_w 0).length + 1))]) X dX19_wall_32 rfl (rx_room X.tr (o := o) (g9 := true) (w9 := (nI (p9 + (rd_w 0).length + 1)))) q973 cv_X19_hasRoom ⟨Nat.le_of_ble_eq_true rfl, Nat.le_of_ble_eq_true rfl⟩ rfl (Nat.le_of_ble_eq_true rfl) Tn2.1.1 rfl rfl) rfl (fun qxn4 E' Gxn4 hpn4 _ => ?_) (fun r Gn4 hpn4 _ => ?_)
            · obtain ⟨-, hrn4, -⟩ | ⟨hgn4, qn4, hrn4, htn4⟩ := hpn4
              · cases hrn4
              · cases hgn4
            · obtain ⟨hgn4, hrn4, hGn4⟩ | ⟨-, qn4, hrn4, -⟩ := hpn4
              · cases hrn4
                have hGn4 := hGn4.symm
                subst hGn4
                have hso : rd_so B 0 0 (rd_num f E (p9 + (rd_w 0).length + 1)) = true := rd_so_0t h36 (by omega)
                refine hr_aload0 (q := 36) X dX19_wall_35 rfl ?_
                refine hr_getR (v := (ta 0)) (q := 39) X dX19_wall_36 rfl fr_q828_19 rfl Tn2.1.1 Tn2.1.2.2.1 ?_
                refine hr_dup (q := 40) X dX19_wall_39 rfl rfl ?_
                refine hr_getJ (v := (lN (sp_pk (B.1.1 16) 36))) (q := 43) X dX19_wall_40 rfl fr_q170_2 rfl Tn2.2.2.2.1.ob Tn2.2.2.2.1.f7 ?_
                refine hr_lconst (v := (lN 1)) (q := 44) X dX19_wall_43 rfl rfl ?_
                refine hr_iload1 (q := 45) X dX19_wall_44 rfl ?_
                refine hr_lshl (v := (lN (2 ^ (rd_num f E (p9 + (rd_w 0).length + 1))))) (q := 46) X dX19_wall_45 rfl (lN_shl h36) ?_
                refine hr_lor (v := (lN (sp_pk (fun i => if i = rd_num f E (p9 + (rd_w 0).length + 1) then 1 else B.1.1 16 i) 36))) (q := 47) X dX19_wall_46 rfl (lN_pk_or (fun c hc => hw.b16 hc) h36) ?_
                refine hr_putJ (q := 50) X dX19_wall_47 rfl fw_q170_2 (fun h => nomatch h) rfl Tn2.2.2.2.1.ob ?_
                have tu5 : tn_R (hs_J Gn2 (ta 0) 7 (lN (sp_pk (fun i => if i = rd_num f E (p9 + (rd_w 0).length + 1) then 1 else B.1.1 16 i) 36))) ta (sp_set B.1 16 (rd_num f E (p9 + (rd_w 0).length + 1)) 1) := Tn2.2.2.2.1.setw (k := 7) (c := rd_num f E (p9 + (rd_w 0).length + 1)) (n := 1) (Or.inl rfl)
                have Tu5 := Tn2.w (hg_fr.rf.J (Or.inl ⟨0, by decide, rfl⟩)) tu5
                have Fu5 : hg_fr (rd_Wf G o ta) G (hs_J Gn2 (ta 0) 7 (lN (sp_pk (fun i => if i = rd_num f E (p9 + (rd_w 0).length + 1) then 1 else B.1.1 16 i) 36))) := Fn2.J (Or.inr (Or.inl ⟨0, by decide, rfl⟩))
                exact hr_vret X hr dX19_wall_50 (rd_IP.ok ((rd_iw_1 (w := 0) (by decide) (by decide) hgn1 hisn2 hdgn2).trans ((if_pos rfl).trans (if_pos hso))) Fu5 Tu5 Pn2)
              · cases hrn4
        · cases hrn2
    · cases hrn1

