/-! items; the town told -/
theorem rd_cont_bound {f : Nat → Int32} {E p : Nat} {B : ab_S} (hB : ab_wf B) (hp : p ≤ E) (h : (rd_item f E B p).1 = true) : p < (rd_item f E B p).2.1 ∧ (rd_item f E B p).2.1 ≤ E ∧ ab_wf (rd_item f E B p).2.2 ∧ B.1.1 0 0 ≤ (rd_item f E B p).2.2.1.1 0 0 := by
  obtain ⟨g1, g2, g3⟩ := rd_item_wf (f := f) (E := E) hB hp
  refine ⟨(g3 h).1, (g3 h).2, g1, ?_⟩
  have hd : ∀ w v, B.1.1 0 0 ≤ (rd_do B w v).1.1 0 0 := fun w v => by
    unfold rd_do
    (repeat' split) <;> first | exact Nat.le_refl _ | (show B.1.1 0 0 ≤ (sp_add B.1 _ _ _ _ _ _).1 0 0; rw [sp_add_0]; omega) | (unfold sq_asks; (repeat' split) <;> exact Nat.le_refl _)
  unfold rd_item at h ⊢
  (repeat' split at h) <;> first | cases h | skip
  all_goals ((repeat' split) <;> first | exact Nat.le_refl _ | exact hd _ _)
theorem cp_R.fault {G : hg_G} {ca : Nat → Nat} {A : ab_S} (h : cp_R G ca A) {v : Int32} : cp_R (hs_I G (ca 0) 7 v) ca (ab_i A 7 v) := by
  have hf : hg_fr (cp_W ca A (fun r => r = 0)) G (hs_I G (ca 0) 7 v) := hg_fr.rf.I ⟨0, .w (by decide), rfl, rfl⟩
  have st : ∀ r, cp_pr A r → ¬ r = 0 → hg_st G (hs_I G (ca 0) 7 v) (ca r) := fun r hr hs => h.fw hf hr hs
  have o := h.o
  have t := h.t.st (st 3 (.w (by decide)) (by omega)) (st 4 (.w (by decide)) (by omega))
  have w := h.tw hf h.w (n := 21) (fun i hi => ⟨rfl, .w (by omega), fun z => by omega⟩)
  refine ⟨⟨o.1, o.2.1, o.2.2.1, o.2.2.2.1, o.2.2.2.2.1, o.2.2.2.2.2.1, o.2.2.2.2.2.2.1, o.2.2.2.2.2.2.2.1, hs_Ieq⟩, h.s.st (st 1 (.w (by decide)) (by omega)) (fun i hi => st _ (.w (by omega)) (by omega)) (st 22 (.w (by decide)) (by omega)).2.2.2, h.r.st (fun i hi h1 => ⟨st _ (.r hi h1) (by omega), st _ (.e hi h1) (by omega)⟩), h.f.st (st 2 (.w (by decide)) (by omega)),
    ⟨t.1, t.2.1, t.2.2.1, t.2.2.2.1.trans (show A.1.2 42 = if 42 = 7 then v else A.1.2 42 from (if_neg (by decide)).symm), t.2.2.2.2⟩, h.a.stt (st 5 (.w (by decide)) (by omega)) (st 6 (.w (by decide)) (by omega)) (st 7 (.w (by decide)) (by omega)), h.d.st (fun i hi => st _ (.w (by omega)) (by omega)), w,
    fun h1 => ⟨h.tw hf (h.i h1).1 (n := 26) (fun i hi => ⟨rfl, .im h1 (by omega) (by omega), fun z => by omega⟩), (h.i h1).2⟩, h.j⟩
theorem cp_R.told {G : hg_G} {ca : Nat → Nat} {A B : ab_S} (h : cp_R G ca A) (hW : ab_wf A) {ta : Nat → Nat} (hT : tn_R G ta B.1) (hD : tn_D ta) (hx : ∀ i, i < 5 → ∀ r, cp_pr A r → ca r ≠ ta i) (htw : ab_tw A B) (hP : ∀ p, p < A.1.1 0 0 → G.2.2.2 (ta 1) p = G.2.2.2 (ca 22) p) :
    cp_R (hs_R G (ca 0) 5 (some (ta 0))) (cp_ci ca 21 ta) B := by
  obtain ⟨st, tw⟩ := h.z0 (k := 5) (v := some (ta 0))
  have c : ∀ r, r < 21 ∨ 26 ≤ r → cp_ci ca 21 ta r = ca r := fun r hr => cp_ci_o (by omega)
  have c22 : cp_ci ca 21 ta 22 = ta 1 := by rw [show (22 : Nat) = 21 + 1 from rfl, cp_ci_i (by decide)]
  obtain ⟨e1, e2, e3⟩ := htw
  have n0 : ∀ i, i < 5 → ta i ≠ ca 0 := fun i hi e => hx i hi 0 (.w (by decide)) e.symm
  have o := h.o
  refine ⟨?_, ?_, ?_, ?_, ?_, ?_, ?_, ?_, ?_, ?_⟩
  · unfold cp_0
    rw [c 0 (by omega), c 1 (by omega), c 2 (by omega), c 3 (by omega), c 16 (by omega), c 5 (by omega), c 26 (by omega), e1 43 (by omega), e2]
    refine ⟨o.1, (hs_Rnj (by decide)).trans o.2.1, (hs_Rnj (by decide)).trans o.2.2.1, (hs_Rnj (by decide)).trans o.2.2.2.1, (hs_Rnj (by decide)).trans o.2.2.2.2.1, (hs_Rnj (by decide)).trans o.2.2.2.2.2.1, ?_, (hs_Rnj (by decide)).trans o.2.2.2.2.2.2.2.1, o.2.2.2.2.2.2.2.2⟩
    rw [hs_Req, show (21 : Nat) = 21 + 0 from rfl, cp_ci_i (by decide)]
  · have s := h.s.st (st 1 (.w (by decide)) (by omega)) (fun i hi => st _ (.w (by omega)) (by omega)) (st 22 (.w (by decide)) (by omega)).2.2.2
    unfold cp_1 at s ⊢
    rw [c 1 (by omega)]
    refine ⟨s.1, fun i hi => ?_⟩
    obtain ⟨g1, g2, g3⟩ := s.2 i hi
    rw [c (8 + i) (by omega)]
    refine ⟨g1, g2, g3.trans ?_⟩
    unfold cp_held
    rw [c (31 + i) (by omega), c22, e1 18 (by omega), e1 21 (by omega)]
    by_cases h0 : A.1.1 18 i = 0
    · rw [if_pos h0, if_pos h0]
    · rw [if_neg h0, if_neg h0]
      by_cases h1 : A.1.1 18 i = 1
      · rw [if_pos h1, if_pos h1]
      · rw [if_neg h1, if_neg h1]
        have b := hW.b18 hi
        rw [hs_Rne (n0 1 (by decide)), hs_Rne (fun e => by have := h.j 22 0 (.w (by decide)) (.w (by decide)) e; omega)]
        exact (hP _ (hW.b21 hi (by omega))).symm
  · intro i hi h1
    rw [e1 18 (by omega)] at h1
    have g := h.r.st (G' := hs_R G (ca 0) 5 (some (ta 0))) (fun i hi h1 => ⟨st _ (.r hi h1) (by omega), st _ (.e hi h1) (by omega)⟩) i hi h1
    rw [c (31 + i) (by omega), c (39 + i) (by omega), e1 19 (by omega), e1 20 (by omega), e3]
    exact g
  · have g := h.f.st (st 2 (.w (by decide)) (by omega))
    unfold cp_3 at g ⊢
    rw [c 2 (by omega), e3]
    exact g
  · have g := h.t.st (st 3 (.w (by decide)) (by omega)) (st 4 (.w (by decide)) (by omega))
    rw [c 3 (by omega), c 4 (by omega)]
    unfold tr_R at g ⊢
    rw [e2, e3]
    exact g
  · rw [c 5 (by omega), c 6 (by omega), c 7 (by omega)]
    exact h.a.stt (st 5 (.w (by decide)) (by omega)) (st 6 (.w (by decide)) (by omega)) (st 7 (.w (by decide)) (by omega))
  · exact (h.d.st (G' := hs_R G (ca 0) 5 (some (ta 0))) (fun i hi => st _ (.w (by omega)) (by omega))).co (by decide)
  · exact tn_R.ci (tw _ _ n0 hT)
  · intro g
    rw [e1 43 (by omega)] at g
    have q := tw _ _ (fun i hi e => by have := h.j (26 + i) 0 (.im g (by omega) (by omega)) (.w (by decide)) e; omega) (h.i g).1
    rw [e3]
    exact ⟨tn_R.co (ta := ta) q (by decide), (h.i g).2⟩
  · refine cp_ij.ci h.j (Or.inl rfl) hD hx (fun r hr hn => ?_)
    rcases hr with hb | ⟨a1, a2, a3⟩ | ⟨a1, a2, a3⟩ | ⟨a1, a2, a3⟩
    · exact Or.inl hb
    · exact Or.inr (Or.inl ⟨a1, a2, by rw [← e1 43 (by omega)]; exact a3⟩)
    · exact Or.inr (Or.inr (Or.inl ⟨a1, a2, by rw [← e1 18 (by omega)]; exact a3⟩))
    · exact Or.inr (Or.inr (Or.inr ⟨a1, a2, by rw [← e1 18 (by omega)]; exact a3⟩))
abbrev rk_X19_items : Room := { frames := 19, cells := 3600, slots := 26500, locals := 10496 }
theorem rx_items {l : Launch} {D : hg_D} {lo : Nat} (htr : l.stackTraces = false) {G : hg_G} {o x y k E : Nat} {f : Nat → Int32} {ta : Nat → Nat} {B : ab_S} {p9 : Nat} (hT : rd_T D G o x y k E f ta B.1 p9) (hB : ab_wf B) (hp0 : p9 = 0) :
    hg_M l D lo yX19_items (ws_ yX19_items cX19_items 2 ((some FieldType.int))) rk_X19_items [.ref o] G (fun r G' => ((rd_items f E 200 B 0 1).1 = true ∧ r = .inl (some (.int (nI (rd_items f E 200 B 0 1).2.1))) ∧ (∃ p', rd_T D G' o x y k E f ta (rd_items f E 200 B 0 1).2.2.1 p') ∧ hg_fr (rd_Wf G o ta) G G' ∧ ∀ p, p < B.1.1 0 0 → G'.2.2.2 (ta 1) p = G.2.2.2 (ta 1) p) ∨ ((rd_items f E 200 B 0 1).1 = false ∧ ∃ q, r = .inr (q, "TaxOnLooks$Faulty") ∧ G'.1 q = some (0, 7) ∧ G'.2.1 q 6 = nI (rd_items f E 200 B 0 1).2.1 ∧ hg_fr (rd_Wf G o ta) G G')) := by
  refine hg_M.of htr (by decide) [some (.ref o), none] rfl (Nat.le_of_ble_eq_true rfl) ?_
  intro p e s m args below meth c X hr hnm htab
  have X : hg_X p l s m args meth c D lo "TaxOnLooks$Reader" cX19_items 2 := X
  refine hr_room (kr' := 3600) (nr' := 26500) (Nat.le_of_ble_eq_true rfl) (Nat.le_of_ble_eq_true rfl) ?_
  have hE9 := hT.1.2.2.2.1.2.1
  have hw := hB.w
  have w0 := hw.b0; have w1 := hw.b1; have w2 := hw.b2; have w3 := hw.b3; have w36 := hB.b36
  have F0 : hg_fr (rd_Wf G o ta) G G := hg_fr.rf
  have P0 : ∀ p, p < B.1.1 0 0 → G.2.2.2 (ta 1) p = G.2.2.2 (ta 1) p := fun _ _ => rfl
  subst hp0
  refine hr_iconst (v := (nI 1)) (q := 1) X dX19_items_0 rfl rfl ?_
  refine hr_istore1 (q := 2) X dX19_items_1 rfl rfl (Nat.le_of_ble_eq_true rfl) ?_
  refine hr_aload0 (q := 3) X dX19_items_2 rfl ?_
  refine hr_call (kr := 3560) (nr := 26200) (q := 6) (hc_V (n := 0) (ci := 19) (As := []) X dX19_items_3 rfl (rx_item X.tr (p9 := 0) hT hB) q844 cv_X19_item ⟨Nat.le_of_ble_eq_true rfl, Nat.le_of_ble_eq_true rfl⟩ rfl (Nat.le_of_ble_eq_true rfl) hT.1.1 rfl rfl) rfl (fun qxn1 E' Gxn1 hpn1 hEn1 => ?_) (fun r Gn1 hpn1 hEn1 => ?_)
  · obtain ⟨-, hrn1, -⟩ | ⟨hzn1, qn1, hrn1, hkn1, han1, hfn1⟩ := hpn1
    · cases hrn1
    · cases hrn1
      have hzz : rd_items f E 200 B 0 1 = (false, (rd_item f E B (0)).2.1, (rd_item f E B (0)).2.2) := rd_items_n hzn1
      exact hx_out X (fun z hz => absurd hz (htab z)) (Or.inr ⟨by rw [hzz], qxn1, rfl, hkn1, by rw [hzz]; exact han1, hfn1⟩)
  · obtain ⟨hzn1, hrn1, hTn1, hfn1, hPn1⟩ | ⟨-, qn1, hrn1, -⟩ := hpn1
    · cases hrn1
      obtain ⟨b1n1, b2n1, b3n1, b4n1⟩ := rd_cont_bound (f := f) (E := E) (p := 0) hB (by omega) hzn1
      have hcn1 : rd_items f E 200 B 0 1 = rd_cont f E 199 (rd_item f E B (0)).2.2 (rd_item f E B (0)).2.1 1 := rd_items_s hzn1
      have Fn1 : hg_fr (rd_Wf G o ta) G Gn1 := hfn1
      have En1 : ∀ a v, G.1 a = some v → Gn1.1 a = some v := fun a v h => hEn1 a v ((fun _ _ h => h) a v h)
      have Pn1 : ∀ p, p < B.1.1 0 0 → Gn1.2.2.2 (ta 1) p = G.2.2.2 (ta 1) p := fun p hp => (hPn1 p (by omega)).trans ((fun _ _ => rfl) p hp)
      have loop6 : ∀ (n kr nr : Nat) (m9 K : Nat) (C : ab_S) (p8 : Nat) (G9 : hg_G), (m9 ≤ 81) → (83 ≤ m9 + n) → (rd_T D G9 o x y k E f ta C.1 p8) → (hg_fr (rd_Wf G o ta) G G9) → (∀ a v, G.1 a = some v → G9.1 a = some v) → (rd_cont f E K C p8 m9 = rd_items f E 200 B 0 1) → (ab_wf C) → (∀ p, p < B.1.1 0 0 → G9.2.2.2 (ta 1) p = G.2.2.2 (ta 1) p) → (B.1.1 0 0 ≤ C.1.1 0 0) → (m9 + K = 200) → (2 * m9 ≤ p8 + 1) → hg_W p l e rk_X19_items s m args below meth c (hg_Q below D lo args s rk_X19_items G (fun r G' => ((rd_items f E 200 B 0 1).1 = true ∧ r = .inl (some (.int (nI (rd_items f E 200 B 0 1).2.1))) ∧ (∃ p', rd_T D G' o x y k E f ta (rd_items f E 200 B 0 1).2.2.1 p') ∧ hg_fr (rd_Wf G o ta) G G' ∧ ∀ p, p < B.1.1 0 0 → G'.2.2.2 (ta 1) p = G.2.2.2 (ta 1) p) ∨ ((rd_items f E 200 B 0 1).1 = false ∧ ∃ q, r = .inr (q, "TaxOnLooks$Faulty") ∧ G'.1 q = some (0, 7) ∧ G'.2.1 q 6 = nI (rd_items f E 200 B 0 1).2.1 ∧ hg_fr (rd_Wf G o ta) G G'))) D lo G.1 2 (kr + 41 * n) (nr + 307 * n) G9 6 [some (.ref o), some (.int (nI m9))] [] := by
        intro n kr nr
        induction n with
        | zero =>
          intro m9 K C p8 G9 h6_0 h6_1 h6_2 h6_3 h6_4 h6_5 h6_6 h6_7 h6_8 h6_9 h6_10
          omega
        | succ n ih =>
          intro m9 K C p8 G9 h6_0 h6_1 h6_2 h6_3 h6_4 h6_5 h6_6 h6_7 h6_8 h6_9 h6_10
          refine hr_room (kr' := kr + 41 * n + 41) (nr' := nr + 307 * n + 307) (by omega) (by omega) ?_
          refine hr_aload0 (q := 7) X dX19_items_6 rfl ?_
          have hCw := h6_6
          have hpE := h6_2.2.2.1
          refine hr_callP (q := 10) (hc_V (n := 0) (ci := 19) (As := []) X dX19_items_7 rfl (rx_ends X.tr h6_2.1 (p9 := p8) h6_2.2.1 h6_2.2.2.1) q852 cv_X19_ends ⟨Nat.le_of_ble_eq_true rfl, Nat.le_of_ble_eq_true rfl⟩ rfl (Nat.le_of_ble_eq_true rfl) h6_2.1.1 rfl rfl) rfl ?_
          refine hr_ifB_ne (q := 13) (tgt := 29) X dX19_items_10 rfl (by decide) (fun c10 => ?_) (fun c10 => ?_)
          · have hpe := of_decide_eq_true c10
            refine hr_iload1 (q := 30) X dX19_items_29 rfl ?_
            have hzz : rd_items f E 200 B 0 1 = (true, m9, C) := h6_5.symm.trans (rd_cont_e (by omega))
            exact hr_iret X hr dX19_items_30 (Or.inl ⟨by rw [hzz], by rw [hzz], ⟨p8, by rw [hzz]; exact h6_2⟩, h6_3, h6_7⟩)
          · have hpe := of_decide_eq_false c10
            refine hr_aload0 (q := 14) X dX19_items_13 rfl ?_
            refine hr_bipush (v := (nI 59)) (q := 16) X dX19_items_14 rfl rfl ?_
            refine hr_call (kr := kr + 41 * n + 40) (nr := nr + 307 * n + 300) (q := 19) (hc_V (n := 1) (ci := 19) (As := [.int (nI 59)]) X dX19_items_16 rfl (rx_must X.tr h6_2.1 (p9 := p8) h6_2.2.1 h6_2.2.2.1 (c9 := 59) (by decide)) q937 cv_X19_must ⟨Nat.le_of_ble_eq_true rfl, Nat.le_of_ble_eq_true rfl⟩ rfl (Nat.le_of_ble_eq_true rfl) h6_2.1.1 rfl rfl) rfl (fun qxn2 E' Gxn2 hpn2 _ => ?_) (fun r Gn2 hpn2 _ => ?_)
            · obtain ⟨-, hrn2, -⟩ | ⟨hgn2, qn2, hrn2, htn2⟩ := hpn2
              · cases hrn2
              · cases hrn2
                have hzz : rd_items f E 200 B 0 1 = (false, p8, C) := h6_5.symm.trans (rd_cont_w (by omega) (fun z => by have := of_decide_eq_false hgn2; exact this ⟨by omega, z⟩))
                have ttn2 := rd_thr.of (hg_fr.rf (G := G9)) rfl htn2 (o := o)
                exact hx_out X (fun z hz => absurd hz (htab z)) (Or.inr ⟨by rw [hzz], qxn2, rfl, ttn2.1, by rw [hzz]; exact ttn2.2.1, rd_Wf.tr h6_3 h6_4 (rd_Wf.thr ttn2)⟩)
            · obtain ⟨hgn2, hrn2, hGn2⟩ | ⟨-, qn2, hrn2, -⟩ := hpn2
              · cases hrn2
                have hGn2 := hGn2.symm
                subst hGn2
                have hgi := of_decide_eq_true hgn2
                have Tm := h6_2.o' hCw.w (hg_fr.rf.I rfl) rfl rfl (hs_Ieq (G := G9) (a := o) (k := 2) (v := nI (p8 + 1))) (by omega)
                have Fm : hg_fr (rd_Wf G o ta) G (hs_I G9 o 2 (nI (p8 + 1))) := h6_3.I (Or.inl rfl)
                obtain ⟨K1, rfl⟩ : ∃ K1, K = K1 + 1 := ⟨K - 1, by omega⟩
                refine hr_aload0 (q := 20) X dX19_items_19 rfl ?_
                refine hr_call (kr := kr + 41 * n) (nr := nr + 307 * n) (q := 23) (hc_V (n := 0) (ci := 19) (As := []) X dX19_items_20 rfl (rx_item X.tr (p9 := p8 + 1) Tm hCw) q844 cv_X19_item ⟨Nat.le_of_ble_eq_true rfl, Nat.le_of_ble_eq_true rfl⟩ rfl (Nat.le_of_ble_eq_true rfl) Tm.1.1 rfl rfl) rfl (fun qxn3 E' Gxn3 hpn3 hEn3 => ?_) (fun r Gn3 hpn3 hEn3 => ?_)
                · obtain ⟨-, hrn3, -⟩ | ⟨hzn3, qn3, hrn3, hkn3, han3, hfn3⟩ := hpn3
                  · cases hrn3
                  · cases hrn3
                    have hzz : rd_items f E 200 B 0 1 = (false, (rd_item f E C (p8 + 1)).2.1, (rd_item f E C (p8 + 1)).2.2) := h6_5.symm.trans ((rd_cont_s (by omega) hgi.2).trans (rd_items_n hzn3))
                    exact hx_out X (fun z hz => absurd hz (htab z)) (Or.inr ⟨by rw [hzz], qxn3, rfl, hkn3, by rw [hzz]; exact han3, rd_Wf.tr Fm h6_4 hfn3⟩)
                · obtain ⟨hzn3, hrn3, hTn3, hfn3, hPn3⟩ | ⟨-, qn3, hrn3, -⟩ := hpn3
                  · cases hrn3
                    obtain ⟨b1n3, b2n3, b3n3, b4n3⟩ := rd_cont_bound (f := f) (E := E) (p := p8 + 1) hCw (by omega) hzn3
                    have hcn3 : rd_items f E 200 B 0 1 = rd_cont f E K1 (rd_item f E C (p8 + 1)).2.2 (rd_item f E C (p8 + 1)).2.1 (m9 + 1) := h6_5.symm.trans ((rd_cont_s (by omega) hgi.2).trans (rd_items_s hzn3))
                    have Fn3 : hg_fr (rd_Wf G o ta) G Gn3 := rd_Wf.tr Fm h6_4 hfn3
                    have En3 : ∀ a v, G.1 a = some v → Gn3.1 a = some v := fun a v h => hEn3 a v (h6_4 a v h)
                    have Pn3 : ∀ p, p < B.1.1 0 0 → Gn3.2.2.2 (ta 1) p = G.2.2.2 (ta 1) p := fun p hp => (hPn3 p (by omega)).trans (h6_7 p hp)
                    refine hr_iinc1 (v := (nI (m9 + 1))) (q := 26) X dX19_items_23 rfl (nI_add _ _) rfl (Nat.le_of_ble_eq_true rfl) ?_
                    refine hr_goto (tgt := 6) X dX19_items_26 (by decide) ?_
                    exact ih (m9 + 1) K1 (rd_item f E C (p8 + 1)).2.2 (rd_item f E C (p8 + 1)).2.1 Gn3 (by omega) (by omega) hTn3 Fn3 En3 hcn3.symm b3n3 Pn3 (by omega) (by omega) (by omega)
                  · cases hrn3
              · cases hrn2
      exact hr_room (kr' := 0 + 41 * 82) (nr' := 0 + 307 * 82) (by omega) (by omega) (loop6 82 0 0 1 199 (rd_item f E B (0)).2.2 (rd_item f E B (0)).2.1 Gn1 (by omega) (by omega) hTn1 Fn1 En1 hcn1.symm b3n1 Pn1 (by omega) (by omega) (by omega))
    · cases hrn1

theorem rx_init {l : Launch} {D : hg_D} {lo : Nat} (htr : l.stackTraces = false) {G : hg_G} {o x y : Nat} (ho : G.1 o = some (0, 19)) :
    hg_M l D lo yX19_init (ws_ yX19_init cX19_init 3 (none)) rm_X19_init [.ref o, .ref x, .ref y] G (fun r G' => r = .inl none ∧ G' = hs_R (hs_R G o 0 (some x)) o 1 (some y)) := by
  refine hg_M.of htr (by decide) [some (.ref o), some (.ref x), some (.ref y)] rfl (Nat.le_of_ble_eq_true rfl) ?_
  intro p e s m args below meth c X hr hnm htab
  have X : hg_X p l s m args meth c D lo "TaxOnLooks$Reader" cX19_init 3 := X
  have hnm : meth.name = "<init>" := hnm
  refine hr_aload0 (q := 1) X dX19_init_0 rfl ?_
  refine hr_objInit (q := 4) X dX19_init_1 rfl q826 (by decide) (by decide) ?_
  refine hr_aload0 (q := 5) X dX19_init_4 rfl ?_
  refine hr_aload1 (q := 6) X dX19_init_5 rfl ?_
  refine hr_putR (q := 9) X dX19_init_6 rfl fw_q827_19 (fun _ => hnm) rfl rfl ho ?_
  refine hr_aload0 (q := 10) X dX19_init_9 rfl ?_
  refine hr_aload2 (q := 11) X dX19_init_10 rfl ?_
  refine hr_putR (q := 14) X dX19_init_11 rfl fw_q828_19 (fun _ => hnm) rfl rfl ho ?_
  exact hr_vret X hr dX19_init_14 ⟨rfl, rfl⟩

