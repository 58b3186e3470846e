/-! strolls told -/
theorem sq_bars_1 {a1 a2 : Int32} {A : ab_S} (h : sp_in a1 8 = false) : sq_barsOf a1 a2 A = -1 := by
  have : sq_wanted a1 A = -1 := by rw [sq_wanted, if_neg (by rw [h]; decide)]
  rw [sq_barsOf, this, if_neg (by decide)]
theorem sq_bars_2 {a1 a2 : Int32} {A : ab_S} (h : sp_in a1 8 = true) (h2 : A.1.1 18 (iN a1) = 2) : sq_barsOf a1 a2 A = -2 := by
  have : sq_wanted a1 A = -2 := by rw [sq_wanted, if_pos h, if_pos h2]
  rw [sq_barsOf, this, if_neg (by decide)]
theorem sq_bars_3 {a1 a2 : Int32} {A : ab_S} (h : sp_in a1 8 = true) (h2 : A.1.1 18 (iN a1) = 0) : sq_barsOf a1 a2 A = -3 := by
  have : sq_wanted a1 A = -3 := by rw [sq_wanted, if_pos h, if_neg (by omega), if_pos h2]
  rw [sq_barsOf, this, if_neg (by decide)]
theorem sq_bars_0 {a1 a2 : Int32} {A : ab_S} (h : sp_in a1 8 = true) (h2 : A.1.1 18 (iN a1) = 1) : sq_barsOf a1 a2 A = if 0 ≤ a2 then if a2 ≤ nI (A.1.1 20 (iN a1)) then if a2 ≤ nI 40 then nI 0 else -6 else -5 else -4 := by
  have : sq_wanted a1 A = nI 0 := by rw [sq_wanted, if_pos h, if_neg (by omega), if_neg (by omega)]
  rw [sq_barsOf, this, if_pos (show nI 0 = 0 from rfl)]
theorem str_neg {t : sp_S} {v : Int32} (h : v < 0) : sp_strOk t v = false := decide_eq_false (fun g => g.1 (if_pos h))
theorem str_np {t : sp_S} {v : Int32} (h0 : ¬ v < 0) (h : ¬ iN v / 10 < t.1 0 0) : sp_strOk t v = false := decide_eq_false (fun g => g.1 (by rw [sp_strTo, if_neg h0, if_neg h]))
theorem str_nw {t : sp_S} {v : Int32} (h0 : ¬ v < 0) (h : iN v / 10 < t.1 0 0) (h4 : ¬ iN v % 10 ≤ 3) : sp_strOk t v = false := decide_eq_false (fun g => g.1 (by rw [sp_strTo, if_neg h0, if_pos h, if_neg h4]))
theorem str_b {t : sp_S} {v : Int32} (h0 : ¬ v < 0) (h : iN v / 10 < t.1 0 0) (h4 : iN v % 10 ≤ 3) : (sp_bes t (t.1 14 (iN v / 10)) (iN v % 10) = 99 → sp_strOk t v = false) ∧ (¬ sp_bes t (t.1 14 (iN v / 10)) (iN v % 10) = 99 → sp_strOk t v = true ∧ sp_strTo t v = sp_bes t (t.1 14 (iN v / 10)) (iN v % 10)) := by
  have e : sp_strTo t v = sp_beside (t.1 14 (iN v / 10)) (iN v % 10) := by rw [sp_strTo, if_neg h0, if_pos h, if_pos h4]
  unfold sp_bes sp_strOk
  rw [e]
  generalize sp_beside (t.1 14 (iN v / 10)) (iN v % 10) = z
  by_cases h9 : z = 99
  · rw [if_pos h9]
    exact ⟨fun _ => decide_eq_false (fun g => g.1 h9), fun g => absurd rfl g⟩
  · rw [if_neg h9]
    by_cases h1 : t.1 16 z = 1
    · rw [if_pos h1]
      exact ⟨fun _ => decide_eq_false (fun g => g.2 h1), fun g => absurd rfl g⟩
    · rw [if_neg h1]
      exact ⟨fun g => absurd g h9, fun _ => ⟨decide_eq_true ⟨h9, h1⟩, rfl⟩⟩
theorem sq_str_n (A : ab_S) (s i : Nat) : (sq_str A s i).1.1.1 0 0 = A.1.1 0 0 := by rw [(sq_str_eq0 A s i).1 0 (by decide) (by decide)]
theorem sq_str_wf {A : ab_S} (hW : ab_wf A) {s n : Nat} (hn : n ≤ 40) : ∀ i, i ≤ n → sq_bad A s n (41 - i) i = sq_bad A s n 41 0 → (∀ j, j < i → sp_strOk (sq_str A s j).1.1 (A.2.2.2 (160 * s + j)).toInt32 = true) → ab_wf (sq_str A s i).1
  | 0, _, _, _ => hW
  | i + 1, hi, hb, hj => by
    have h1 := hj i (Nat.lt_succ_self i)
    have hb' : sq_bad A s n (41 - i) i = sq_bad A s n 41 0 := by
      rw [← hb, show 41 - i = (41 - (i + 1)) + 1 by omega, sq_bad_s (by omega) h1]
    have g := sq_str_wf hW hn i (by omega) hb' (fun j h => hj j (by omega))
    exact (g.strGo h1).1
theorem cp_R.paid {G : hg_G} {ca : Nat → Nat} {A : ab_S} (h : cp_R G ca A) {v : Int32} : cp_R (hs_I G (ca 0) 8 v) ca A := by
  have hf : hg_fr (cp_W ca A (fun r => r = 0)) G (hs_I G (ca 0) 8 v) := hg_fr.rf.I ⟨0, .w (by decide), rfl, rfl⟩
  have st : ∀ r, cp_pr A r → ¬ r = 0 → hg_st G (hs_I G (ca 0) 8 v) (ca r) := fun r hr hs => h.fw hf hr hs
  have o := h.o
  refine ⟨⟨o.1, o.2.1, o.2.2.1, o.2.2.2.1, o.2.2.2.2.1, o.2.2.2.2.2.1, o.2.2.2.2.2.2.1, o.2.2.2.2.2.2.2.1, (hs_Inj (by decide)).trans o.2.2.2.2.2.2.2.2⟩, h.s.st (st 1 (.w (by decide)) (by omega)) (fun i hi => st _ (.w (by omega)) (by omega)) (st 22 (.w (by decide)) (by omega)).2.2.2, h.r.st (fun i hi h1 => ⟨st _ (.r hi h1) (by omega), st _ (.e hi h1) (by omega)⟩), h.f.st (st 2 (.w (by decide)) (by omega)),
    h.t.st (st 3 (.w (by decide)) (by omega)) (st 4 (.w (by decide)) (by omega)), h.a.stt (st 5 (.w (by decide)) (by omega)) (st 6 (.w (by decide)) (by omega)) (st 7 (.w (by decide)) (by omega)), h.d.st (fun i hi => st _ (.w (by omega)) (by omega)), h.tw hf h.w (n := 21) (fun i hi => ⟨rfl, .w (by omega), fun z => by omega⟩),
    fun h1 => ⟨h.tw hf (h.i h1).1 (n := 26) (fun i hi => ⟨rfl, .im h1 (by omega) (by omega), fun z => by omega⟩), (h.i h1).2⟩, h.j⟩
theorem cp_R.d0 {G G' : hg_G} {ca : Nat → Nat} {A : ab_S} (h : cp_R G ca A) (hf : hg_fr (tn_W (cp_d ca)) G G') {r : Nat} (hr : cp_pr A r) (h16 : ¬ (16 ≤ r ∧ r < 21)) : hg_st G G' (ca r) := hf _ (fun ⟨i, hi, e⟩ => by
  have := h.j r (16 + i) hr (.w (by omega)) e
  omega)
theorem cp_R.dpaid {G : hg_G} {ca : Nat → Nat} {A : ab_S} (h : cp_R G ca A) {t : sp_S} (hT : tn_R G (cp_d ca) t) {v : Int32} : tn_R (hs_I G (ca 0) 8 v) (cp_d ca) t :=
  hT.fr (W := fun a => a = ca 0) (hg_fr.rf.I rfl) (fun j hj e => by
    have := h.j (16 + j) 0 (.w (by omega)) (.w (by decide)) e
    omega) (fun p q hp hq e => by
    obtain ⟨q2, h1, h2, -⟩ := hT.pe hp
    cases hq.symm.trans h1
    exact h.np (r := 0) (.w (by decide)) (by rw [← e]; exact h2))
abbrev rk_X0_toldAt : Room := { frames := 13, cells := 10, slots := 1500, locals := 10342 }
theorem tc_toldAt {l : Launch} {D : hg_D} {lo : Nat} (htr : l.stackTraces = false) {G : hg_G} {ca : Nat → Nat} {A : ab_S} (h : cp_R G ca A) (hW : ab_wf A) {a1 a2 : Int32} :
    hg_M l D lo yX0_toldAt (ws_ yX0_toldAt cX0_toldAt 4 ((some (FieldType.object "TaxOnLooks$Row")))) rk_X0_toldAt [.ref (ca 0), .int a1, .int a2] G (fun r G' => ((sp_in a1 8 = true ∧ A.1.1 18 (iN a1) = 1 ∧ 0 ≤ a2 ∧ a2 ≤ nI (A.1.1 20 (iN a1))) ∧ r = .inl (some (.ref (ca (31 + iN a1)))) ∧ G' = G) ∨ (sp_in a1 8 = false ∧ ∃ q, r = .inr (q, "TaxOnLooks$Refused") ∧ tx_T 6 q (-1) G G') ∨ ((sp_in a1 8 = true ∧ A.1.1 18 (iN a1) = 2) ∧ ∃ q, r = .inr (q, "TaxOnLooks$Refused") ∧ tx_T 6 q (-2) G G') ∨ ((sp_in a1 8 = true ∧ A.1.1 18 (iN a1) = 0) ∧ ∃ q, r = .inr (q, "TaxOnLooks$Refused") ∧ tx_T 6 q (-3) G G') ∨ ((sp_in a1 8 = true ∧ A.1.1 18 (iN a1) = 1 ∧ ¬ 0 ≤ a2) ∧ ∃ q, r = .inr (q, "TaxOnLooks$Refused") ∧ tx_T 6 q (-4) G G') ∨ ((sp_in a1 8 = true ∧ A.1.1 18 (iN a1) = 1 ∧ 0 ≤ a2 ∧ ¬ a2 ≤ nI (A.1.1 20 (iN a1))) ∧ ∃ q, r = .inr (q, "TaxOnLooks$Refused") ∧ tx_T 6 q (-5) G G')) := by
  refine hg_M.of htr (by decide) [some (.ref (ca 0)), some (.int a1), some (.int a2), none] rfl (Nat.le_of_ble_eq_true rfl) ?_
  intro p e s m args below meth c X hr hnm htab
  have X : hg_X p l s m args meth c D lo "TaxOnLooks" cX0_toldAt 4 := X
  refine hr_room (kr' := 10) (nr' := 1500) (Nat.le_of_ble_eq_true rfl) (Nat.le_of_ble_eq_true rfl) ?_
  have hw := hW.w; have w0 := hw.b0; have w1 := hw.b1; have w2 := hw.b2; have w3 := hw.b3; have w36 := hW.b36; have w43 := hW.b43
  have hpw := sp_wpk hw; have hpb := sp_bpk hw
  obtain ⟨K, hK, hKs, hKb⟩ := h.w.sk
  refine hr_aload0 (q := 1) X dX0_toldAt_0 rfl ?_
  refine hr_iload1 (q := 2) X dX0_toldAt_1 rfl ?_
  refine hr_call (kr := 6) (nr := 1271) (q := 5) (hc_VX (n := 1) (ci := 0) (As := [.int a1]) X dX0_toldAt_2 rfl (tc_shelf X.tr h (x := a1)) q278 cv_X0_shelf ⟨Nat.le_of_ble_eq_true rfl, Nat.le_of_ble_eq_true rfl⟩ rfl (Nat.le_of_ble_eq_true rfl) h.o.1 rfl rfl) rfl (fun qxn1 E Gxn1 hpn1 _ => ?_) (fun r Gn1 hpn1 _ => ?_)
  · obtain ⟨hgn1, hrn1, hGn1⟩ | ⟨hgn1, qn1, hrn1, htn1⟩ := hpn1
    · cases hrn1
    · cases hrn1
      exact hx_out X (fun z hz => absurd hz (htab z)) (Or.inr (Or.inl ⟨hgn1, qxn1, rfl, htn1⟩))
  · obtain ⟨hgn1, hrn1, hGn1⟩ | ⟨hgn1, qn1, hrn1, htn1⟩ := hpn1
    · cases hrn1
      have hGn1 := hGn1.symm
      subst hGn1
      obtain ⟨ea1, la1⟩ := sp_in_n hgn1 (by omega)
      refine hr_L (L' := [some (.ref (ca 0)), some (.int (nI (iN a1))), some (.int a2), none]) (by rw [← ea1]) ?_
      refine hr_call (kr := 2) (nr := 254) (q := 8) (hc_VX (n := 0) (ci := 4) (As := []) X dX0_toldAt_5 rfl (tc_row X.tr h hW (i := iN a1) (by omega)) q460 cv_X4_row ⟨Nat.le_of_ble_eq_true rfl, Nat.le_of_ble_eq_true rfl⟩ rfl (Nat.le_of_ble_eq_true rfl) (h.s.2 (iN a1) (by omega)).2.1 rfl rfl) rfl (fun qxn2 E Gxn2 hpn2 _ => ?_) (fun r Gn2 hpn2 _ => ?_)
      · obtain ⟨hgn2, hrn2, hGn2⟩ | ⟨hgn2, qn2, hrn2, htn2⟩ | ⟨hgn2, qn2, hrn2, htn2⟩ := hpn2
        · cases hrn2
        · cases hrn2
          exact hx_out X (fun z hz => absurd hz (htab z)) (Or.inr (Or.inr (Or.inl ⟨⟨hgn1, hgn2⟩, qxn2, rfl, htn2⟩)))
        · cases hrn2
          exact hx_out X (fun z hz => absurd hz (htab z)) (Or.inr (Or.inr (Or.inr (Or.inl ⟨⟨hgn1, hgn2⟩, qxn2, rfl, htn2⟩))))
      · obtain ⟨hgn2, hrn2, hGn2⟩ | ⟨hgn2, qn2, hrn2, htn2⟩ | ⟨hgn2, qn2, hrn2, htn2⟩ := hpn2
        · cases hrn2
          have hGn2 := hGn2.symm
          subst hGn2
          refine hr_astore3 (q := 9) X dX0_toldAt_8 rfl rfl (Nat.le_of_ble_eq_true rfl) ?_
          refine hr_iload2 (q := 10) X dX0_toldAt_9 rfl ?_
          refine hr_if_lt (q := 13) (tgt := 17) X dX0_toldAt_10 rfl (by decide) (fun c10 => ?_) (fun c10 => ?_)
          · have hz4 : ¬ 0 ≤ a2 := Int32.not_le.mpr c10
            refine hr_iconst (v := (bI false)) (q := 18) X dX0_toldAt_17 rfl rfl ?_
            refine hr_bipush (v := (-4)) (q := 20) X dX0_toldAt_18 rfl rfl ?_
            refine hr_call (kr := 1) (nr := 247) (q := 23) (hc_S (n := 2) (As := [.int (bI false), .int (-4)]) X dX0_toldAt_20 rfl (tc_need X.tr (g := false) (w := (-4))) q383 cs_X0_need ⟨Nat.le_of_ble_eq_true rfl, Nat.le_of_ble_eq_true rfl⟩ rfl (Nat.le_of_ble_eq_true rfl)) rfl (fun qxn3 E Gxn3 hpn3 _ => ?_) (fun r Gn3 hpn3 _ => ?_)
            · obtain ⟨hgn3, hrn3, -⟩ | ⟨hgn3, qn3, hrn3, htn3⟩ := hpn3
              · cases hrn3
              · cases hrn3
                exact hx_out X (fun z hz => absurd hz (htab z)) (Or.inr (Or.inr (Or.inr (Or.inr (Or.inl ⟨⟨hgn1, hgn2, hz4⟩, qxn3, rfl, htn3⟩)))))
            · obtain ⟨hgn3, hrn3, hGn3⟩ | ⟨hgn3, qn3, hrn3, htn3⟩ := hpn3
              · cases hgn3
              · cases hrn3
          · have hz4 : 0 ≤ a2 := Int32.not_lt.mp c10
            refine hr_iconst (v := (bI true)) (q := 14) X dX0_toldAt_13 rfl rfl ?_
            refine hr_goto (tgt := 18) X dX0_toldAt_14 (by decide) ?_
            refine hr_bipush (v := (-4)) (q := 20) X dX0_toldAt_18 rfl rfl ?_
            refine hr_call (kr := 1) (nr := 247) (q := 23) (hc_S (n := 2) (As := [.int (bI true), .int (-4)]) X dX0_toldAt_20 rfl (tc_need X.tr (g := true) (w := (-4))) q383 cs_X0_need ⟨Nat.le_of_ble_eq_true rfl, Nat.le_of_ble_eq_true rfl⟩ rfl (Nat.le_of_ble_eq_true rfl)) rfl (fun qxn4 E Gxn4 hpn4 _ => ?_) (fun r Gn4 hpn4 _ => ?_)
            · obtain ⟨hgn4, hrn4, -⟩ | ⟨hgn4, qn4, hrn4, htn4⟩ := hpn4
              · cases hrn4
              · cases hgn4
            · obtain ⟨hgn4, hrn4, hGn4⟩ | ⟨hgn4, qn4, hrn4, htn4⟩ := hpn4
              · cases hrn4
                have hGn4 := hGn4.symm
                subst hGn4
                refine hr_iload2 (q := 24) X dX0_toldAt_23 rfl ?_
                refine hr_aload3 (q := 25) X dX0_toldAt_24 rfl ?_
                refine hr_callP (q := 28) (hcR_length (h.r (iN a1) (by omega) hgn2).1 X dX0_toldAt_25 q1195 ⟨Nat.le_of_ble_eq_true rfl, Nat.le_of_ble_eq_true rfl⟩ (Nat.le_of_ble_eq_true rfl)) rfl ?_
                refine hr_icmp_gt (q := 31) (tgt := 35) X dX0_toldAt_28 rfl (by decide) (fun c28 => ?_) (fun c28 => ?_)
                · have hz5 : ¬ a2 ≤ nI (A.1.1 20 (iN a1)) := Int32.not_le.mpr c28
                  refine hr_iconst (v := (bI false)) (q := 36) X dX0_toldAt_35 rfl rfl ?_
                  refine hr_bipush (v := (-5)) (q := 38) X dX0_toldAt_36 rfl rfl ?_
                  refine hr_call (kr := 0) (nr := 240) (q := 41) (hc_S (n := 2) (As := [.int (bI false), .int (-5)]) X dX0_toldAt_38 rfl (tc_need X.tr (g := false) (w := (-5))) q383 cs_X0_need ⟨Nat.le_of_ble_eq_true rfl, Nat.le_of_ble_eq_true rfl⟩ rfl (Nat.le_of_ble_eq_true rfl)) rfl (fun qxn5 E Gxn5 hpn5 _ => ?_) (fun r Gn5 hpn5 _ => ?_)
                  · obtain ⟨hgn5, hrn5, -⟩ | ⟨hgn5, qn5, hrn5, htn5⟩ := hpn5
                    · cases hrn5
                    · cases hrn5
                      exact hx_out X (fun z hz => absurd hz (htab z)) (Or.inr (Or.inr (Or.inr (Or.inr (Or.inr (⟨⟨hgn1, hgn2, hz4, hz5⟩, qxn5, rfl, htn5⟩))))))
                  · obtain ⟨hgn5, hrn5, hGn5⟩ | ⟨hgn5, qn5, hrn5, htn5⟩ := hpn5
                    · cases hgn5
                    · cases hrn5
                · have hz5 : a2 ≤ nI (A.1.1 20 (iN a1)) := Int32.not_lt.mp c28
                  refine hr_iconst (v := (bI true)) (q := 32) X dX0_toldAt_31 rfl rfl ?_
                  refine hr_goto (tgt := 36) X dX0_toldAt_32 (by decide) ?_
                  refine hr_bipush (v := (-5)) (q := 38) X dX0_toldAt_36 rfl rfl ?_
                  refine hr_call (kr := 0) (nr := 240) (q := 41) (hc_S (n := 2) (As := [.int (bI true), .int (-5)]) X dX0_toldAt_38 rfl (tc_need X.tr (g := true) (w := (-5))) q383 cs_X0_need ⟨Nat.le_of_ble_eq_true rfl, Nat.le_of_ble_eq_true rfl⟩ rfl (Nat.le_of_ble_eq_true rfl)) rfl (fun qxn6 E Gxn6 hpn6 _ => ?_) (fun r Gn6 hpn6 _ => ?_)
                  · obtain ⟨hgn6, hrn6, -⟩ | ⟨hgn6, qn6, hrn6, htn6⟩ := hpn6
                    · cases hrn6
                    · cases hgn6
                  · obtain ⟨hgn6, hrn6, hGn6⟩ | ⟨hgn6, qn6, hrn6, htn6⟩ := hpn6
                    · cases hrn6
                      have hGn6 := hGn6.symm
                      subst hGn6
                      refine hr_aload3 (q := 42) X dX0_toldAt_41 rfl ?_
                      exact hr_aret X hr rfl dX0_toldAt_42 (Or.inl ⟨⟨hgn1, hgn2, hz4, hz5⟩, rfl, rfl⟩)
                    · cases hrn6
              · cases hrn4
        · cases hrn2
        · cases hrn2
    · cases hrn1

theorem tc_wrongIn {l : Launch} {D : hg_D} {lo : Nat} (htr : l.stackTraces = false) {G : hg_G} {ca : Nat → Nat} {A : ab_S} (h : cp_R G ca A) (hW : ab_wf A) {s9 n9 : Nat} (hs9 : s9 < 8) (h18 : A.1.1 18 s9 = 1) (hn9 : n9 ≤ 40) (hl9 : n9 ≤ A.1.1 20 s9) :
    hg_M l D lo yX0_wrongIn (ws_ yX0_wrongIn cX0_wrongIn 7 ((some FieldType.int))) rm_X0_wrongIn [.ref (ca 0), .ref (ca (31 + s9)), .int (nI n9)] G (fun r G' => r = .inl (some (.int (oI (sq_bad A s9 n9 41 0)))) ∧ cp_R G' ca A ∧ (sq_bad A s9 n9 41 0 = 99 → tn_R G' (cp_d ca) (sq_str A s9 n9).1.1 ∧ G'.2.1 (ca 0) 8 = nI (sq_str A s9 n9).2 ∧ ∀ p, p < A.1.1 0 0 → G'.2.2.2 (cp_d ca 1) p = G'.2.2.2 (cp_w ca 1) p)) := by
  refine hg_M.of htr (by decide) [some (.ref (ca 0)), some (.ref (ca (31 + s9))), some (.int (nI n9)), none, none, none, none] rfl (Nat.le_of_ble_eq_true rfl) ?_
  intro p e s m args below meth c X hr hnm htab
  have X : hg_X p l s m args meth c D lo "TaxOnLooks" cX0_wrongIn 7 := X
  have hw := hW.w; have w0 := hw.b0; have w1 := hw.b1; have w2 := hw.b2; have w3 := hw.b3; have w36 := hW.b36; have w43 := hW.b43
  have hpw := sp_wpk hw; have hpb := sp_bpk hw
  have hl160 := hW.b20 hs9
  refine hr_aload0 (q := 1) X dX0_wrongIn_0 rfl ?_
  refine hr_getR (v := (cp_d ca 0)) (q := 4) X dX0_wrongIn_1 rfl fr_q248_0 rfl h.o.1 h.o.2.2.2.2.1 ?_
  refine hr_aload0 (q := 5) X dX0_wrongIn_4 rfl ?_
  refine hr_getR (v := (cp_w ca 0)) (q := 8) X dX0_wrongIn_5 rfl fr_q250_0 rfl h.o.1 h.o.2.2.2.2.2.2.1 ?_
  refine hr_call0 (q := 11) (hc_V (n := 1) (ci := 2) (As := [.ref (cp_w ca 0)]) X dX0_wrongIn_8 rfl (tn_take_c X.tr (ta := cp_d ca) h.w w0 w3 (fun p hp => hw.b9 hp) h.d h.dD h.dw) q816 cv_X2_take ⟨Nat.le_of_ble_eq_true rfl, Nat.le_of_ble_eq_true rfl⟩ rfl (Nat.le_of_ble_eq_true rfl) h.d.1.1 rfl rfl) rfl (fun qx E G' hp => by cases hp.1) (fun r Gt1 hp _ => ?_)
  obtain ⟨hvt1, hTt1, hkt1, hft1, hpp⟩ := hp
  cases hvt1
  rw [sp_set_99 w36] at hTt1
  have ht1 := h.takes hft1 hTt1
  obtain ⟨K2, hK2, hK2s, hK2b⟩ := hTt1.sk
  have hpe : ∀ p, p < A.1.1 0 0 → Gt1.2.2.2 (cp_d ca 1) p = Gt1.2.2.2 (cp_w ca 1) p := fun p hp => (hpp p hp).trans ((h.d0 hft1 (r := 22) (.w (by decide)) (by omega)).2.2.2 p).symm
  refine hr_pop (q := 12) X dX0_wrongIn_11 rfl rfl ?_
  refine hr_aload0 (q := 13) X dX0_wrongIn_12 rfl ?_
  refine hr_iconst (v := (nI 0)) (q := 14) X dX0_wrongIn_13 rfl rfl ?_
  refine hr_putI (q := 17) X dX0_wrongIn_14 rfl fw_q253_0 (fun h => nomatch h) rfl rfl rfl ht1.o.1 ?_
  have hpd2 : cp_R (hs_I Gt1 (ca 0) 8 (nI 0)) ca A := ht1.paid
  have Tpd2 : tn_R (hs_I Gt1 (ca 0) 8 (nI 0)) (cp_d ca) A.1 := ht1.dpaid hTt1
  have vpd2 : (hs_I Gt1 (ca 0) 8 (nI 0)).2.1 (ca 0) 8 = (nI 0) := hs_Ieq
  refine hr_iconst (v := (nI 0)) (q := 18) X dX0_wrongIn_17 rfl rfl ?_
  refine hr_istore3 (q := 19) X dX0_wrongIn_18 rfl rfl (Nat.le_of_ble_eq_true rfl) ?_
  have hpe0 : ∀ p, p < A.1.1 0 0 → (hs_I Gt1 (ca 0) 8 (nI 0)).2.2.2 (cp_d ca 1) p = (hs_I Gt1 (ca 0) 8 (nI 0)).2.2.2 (cp_w ca 1) p := hpe
  have loop19 : ∀ (kr nr n : Nat) (i : Nat) (G9 : hg_G), (i ≤ n9) → (n9 + 1 ≤ i + n) → (cp_R G9 ca A) → (tn_R G9 (cp_d ca) (sq_str A s9 i).1.1) → (G9.2.1 (ca 0) 8 = nI (sq_str A s9 i).2) → (∀ p, p < A.1.1 0 0 → G9.2.2.2 (cp_d ca 1) p = G9.2.2.2 (cp_w ca 1) p) → (sq_bad A s9 n9 (41 - i) i = sq_bad A s9 n9 41 0) → (∀ j, j < i → sp_strOk (sq_str A s9 j).1.1 (A.2.2.2 (160 * s9 + j)).toInt32 = true) → hg_W p l e rm_X0_wrongIn s m args below meth c (hg_Q below D lo args s rm_X0_wrongIn G (fun r G' => r = .inl (some (.int (oI (sq_bad A s9 n9 41 0)))) ∧ cp_R G' ca A ∧ (sq_bad A s9 n9 41 0 = 99 → tn_R G' (cp_d ca) (sq_str A s9 n9).1.1 ∧ G'.2.1 (ca 0) 8 = nI (sq_str A s9 n9).2 ∧ ∀ p, p < A.1.1 0 0 → G'.2.2.2 (cp_d ca 1) p = G'.2.2.2 (cp_w ca 1) p))) D lo G.1 7 kr nr G9 19 [some (.ref (ca 0)), some (.ref (ca (31 + s9))), some (.int (nI n9)), some (.int (nI i)), none, none, none] [] := by
    intro kr nr n
    induction n with
    | zero =>
      intro i G9 h19_0 h19_1 h19_2 h19_3 h19_4 h19_5 h19_6 h19_7
      omega
    | succ n ih =>
      intro i G9 h19_0 h19_1 h19_2 h19_3 h19_4 h19_5 h19_6 h19_7
      refine hr_iload3 (q := 20) X dX0_wrongIn_19 rfl ?_
      have hWZ := sq_str_wf hW hn9 i h19_0 h19_6 h19_7
      have hZn := sq_str_n A s9 i
      have wZ0 := hWZ.w.b0; have wZ1 := hWZ.w.b1; have wZ2 := hWZ.w.b2; have wZ3 := hWZ.w.b3; have wZ36 := hWZ.b36
      obtain ⟨K2, hK2, hK2s, hK2b⟩ := h19_3.sk
      refine hr_iload2 (q := 21) X dX0_wrongIn_20 rfl ?_
      refine hr_icmpN_ge (q := 24) (tgt := 153) X dX0_wrongIn_21 rfl (by decide) (by omega) (by omega) (fun c21 => ?_) (fun c21 => ?_)
      · refine hr_iconst (v := (-1)) (q := 154) X dX0_wrongIn_153 rfl rfl ?_
        have hin : i = n9 := by omega
        have hbd : sq_bad A s9 n9 41 0 = 99 := by rw [← h19_6]; exact sq_bad_e (by omega)
        exact hr_iret X hr dX0_wrongIn_154 ⟨by rw [hbd]; rfl, h19_2, fun _ => ⟨by rw [← hin]; exact h19_3, by rw [← hin]; exact h19_4, h19_5⟩⟩
      · refine hr_aload1 (q := 25) X dX0_wrongIn_24 rfl ?_
        refine hr_iload3 (q := 26) X dX0_wrongIn_25 rfl ?_
        refine hr_callP (v := .int ((rr_el G9 (ca (39 + s9)) (A.1.1 19 (s9)) (iN (nI i))).toInt32)) (q := 29) (hcR_asInt (h19_2.r s9 (by omega) h18).1 (i := nI i) (vp_in_nI (by omega) (by omega)) X dX0_wrongIn_26 q1200 ⟨Nat.le_of_ble_eq_true rfl, Nat.le_of_ble_eq_true rfl⟩ (Nat.le_of_ble_eq_true rfl)) rfl ?_
        refine hr_st1 (v' := .int ((A.2.2.2 (160 * s9 + i)).toInt32)) (congrArg Value.int (congrArg Int64.toInt32 (by rw [iN_nI (by omega)]; exact (h19_2.r s9 (by omega) h18).2 _ (by omega)))) ?_
        generalize hv9 : (A.2.2.2 (160 * s9 + i)).toInt32 = v9
        refine hr_istore4 (q := 31) X dX0_wrongIn_29 rfl rfl (Nat.le_of_ble_eq_true rfl) ?_
        refine hr_iload4 (q := 33) X dX0_wrongIn_31 rfl ?_
        refine hr_if_lt (q := 36) (tgt := 64) X dX0_wrongIn_33 rfl (by decide) (fun c33 => ?_) (fun c33 => ?_)
        · have hok : sp_strOk (sq_str A s9 i).1.1 v9 = false := str_neg c33
          refine hr_iconst (v := (nI 0)) (q := 65) X dX0_wrongIn_64 rfl rfl ?_
          refine hr_istore5 (q := 67) X dX0_wrongIn_65 rfl rfl (Nat.le_of_ble_eq_true rfl) ?_
          refine hr_iload5 (q := 69) X dX0_wrongIn_67 rfl ?_
          refine hr_if_eq (q := 72) (tgt := 100) X dX0_wrongIn_69 rfl (by decide) (fun _ => ?_) (fun z => absurd z (by decide))
          refine hr_iconst (v := (-1)) (q := 101) X dX0_wrongIn_100 rfl rfl ?_
          refine hr_st1 (v' := .int (oI 99)) (congrArg Value.int rfl) ?_
          refine hr_istore6 (q := 103) X dX0_wrongIn_101 rfl rfl (Nat.le_of_ble_eq_true rfl) ?_
          refine hr_iload6 (q := 105) X dX0_wrongIn_103 rfl ?_
          refine hr_iconst (v := (-1)) (q := 106) X dX0_wrongIn_105 rfl rfl ?_
          refine hr_icmpO_ne (q := 109) (tgt := 111) X dX0_wrongIn_106 rfl (by decide) (by omega) (fun c106 => ?_) (fun c106 => ?_)
          · exact False.elim (by omega)
          · refine hr_iload3 (q := 110) X dX0_wrongIn_109 rfl ?_
            have hbd : sq_bad A s9 n9 41 0 = i := by rw [← h19_6, show 41 - i = (40 - i) + 1 by omega]; exact sq_bad_b (by omega) (by rw [hv9]; exact hok)
            exact hr_iret X hr dX0_wrongIn_110 ⟨by rw [hbd, oI_of (by omega)], h19_2, fun z => by omega⟩
        · obtain ⟨ev9, lv9⟩ := sp_geN c33
          refine hr_L (L' := [some (.ref (ca 0)), some (.ref (ca (31 + s9))), some (.int (nI n9)), some (.int (nI i)), some (.int (nI (iN v9))), none, none]) (by rw [← ev9]) ?_
          refine hr_aload0 (q := 37) X dX0_wrongIn_36 rfl ?_
          refine hr_getR (v := (cp_w ca 0)) (q := 40) X dX0_wrongIn_37 rfl fr_q250_0 rfl h19_2.o.1 h19_2.o.2.2.2.2.2.2.1 ?_
          refine hr_iload4 (q := 42) X dX0_wrongIn_40 rfl ?_
          refine hr_bipush (v := (nI 10)) (q := 44) X dX0_wrongIn_42 rfl rfl ?_
          refine hr_idiv (v := (nI ((iN v9) / 10))) (q := 45) X dX0_wrongIn_44 rfl (by decide) (pk_div (by omega) (by decide) (by decide)) ?_
          refine hr_callP (q := 48) (hc_V (n := 1) (ci := 2) (As := [.int (nI ((iN v9) / 10))]) X dX0_wrongIn_45 rfl (tn_isPerson X.tr h19_2.w hw (x := (nI ((iN v9) / 10)))) q567 cv_X2_isPerson ⟨Nat.le_of_ble_eq_true rfl, Nat.le_of_ble_eq_true rfl⟩ rfl (Nat.le_of_ble_eq_true rfl) h19_2.w.ob rfl rfl) rfl ?_
          refine hr_ifB_eq (q := 51) (tgt := 64) X dX0_wrongIn_48 rfl (by decide) (fun c48 => ?_) (fun c48 => ?_)
          · have hnp : ¬ iN v9 / 10 < A.1.1 0 0 := fun g => by rw [sp_in_t g (by omega)] at c48; cases c48
            have hok : sp_strOk (sq_str A s9 i).1.1 v9 = false := str_np c33 (by omega)
            refine hr_iconst (v := (nI 0)) (q := 65) X dX0_wrongIn_64 rfl rfl ?_
            refine hr_istore5 (q := 67) X dX0_wrongIn_65 rfl rfl (Nat.le_of_ble_eq_true rfl) ?_
            refine hr_iload5 (q := 69) X dX0_wrongIn_67 rfl ?_
            refine hr_if_eq (q := 72) (tgt := 100) X dX0_wrongIn_69 rfl (by decide) (fun _ => ?_) (fun z => absurd z (by decide))
            refine hr_iconst (v := (-1)) (q := 101) X dX0_wrongIn_100 rfl rfl ?_
            refine hr_st1 (v' := .int (oI 99)) (congrArg Value.int rfl) ?_
            refine hr_istore6 (q := 103) X dX0_wrongIn_101 rfl rfl (Nat.le_of_ble_eq_true rfl) ?_
            refine hr_iload6 (q := 105) X dX0_wrongIn_103 rfl ?_
            refine hr_iconst (v := (-1)) (q := 106) X dX0_wrongIn_105 rfl rfl ?_
            refine hr_icmpO_ne (q := 109) (tgt := 111) X dX0_wrongIn_106 rfl (by decide) (by omega) (fun c106 => ?_) (fun c106 => ?_)
            · exact False.elim (by omega)
            · refine hr_iload3 (q := 110) X dX0_wrongIn_109 rfl ?_
              have hbd : sq_bad A s9 n9 41 0 = i := by rw [← h19_6, show 41 - i = (40 - i) + 1 by omega]; exact sq_bad_b (by omega) (by rw [hv9]; exact hok)
              exact hr_iret X hr dX0_wrongIn_110 ⟨by rw [hbd, oI_of (by omega)], h19_2, fun z => by omega⟩
          · have hnp := (sp_inN (by omega) c48).2
            rw [iN_nI (by omega)] at hnp
            refine hr_iload4 (q := 53) X dX0_wrongIn_51 rfl ?_
            refine hr_bipush (v := (nI 10)) (q := 55) X dX0_wrongIn_53 rfl rfl ?_
            refine hr_irem (v := (nI ((iN v9) % 10))) (q := 56) X dX0_wrongIn_55 rfl (by decide) (pk_rem (by omega) (by decide) (by decide)) ?_
            refine hr_iconst (v := (nI 4)) (q := 57) X dX0_wrongIn_56 rfl rfl ?_
            refine hr_icmpN_ge (q := 60) (tgt := 64) X dX0_wrongIn_57 rfl (by decide) (by omega) (by omega) (fun c57 => ?_) (fun c57 => ?_)
            · have hok : sp_strOk (sq_str A s9 i).1.1 v9 = false := str_nw c33 (by omega) (by omega)
              refine hr_iconst (v := (nI 0)) (q := 65) X dX0_wrongIn_64 rfl rfl ?_
              refine hr_istore5 (q := 67) X dX0_wrongIn_65 rfl rfl (Nat.le_of_ble_eq_true rfl) ?_
              refine hr_iload5 (q := 69) X dX0_wrongIn_67 rfl ?_
              refine hr_if_eq (q := 72) (tgt := 100) X dX0_wrongIn_69 rfl (by decide) (fun _ => ?_) (fun z => absurd z (by decide))
              refine hr_iconst (v := (-1)) (q := 101) X dX0_wrongIn_100 rfl rfl ?_
              refine hr_st1 (v' := .int (oI 99)) (congrArg Value.int rfl) ?_
              refine hr_istore6 (q := 103) X dX0_wrongIn_101 rfl rfl (Nat.le_of_ble_eq_true rfl) ?_
              refine hr_iload6 (q := 105) X dX0_wrongIn_103 rfl ?_
              refine hr_iconst (v := (-1)) (q := 106) X dX0_wrongIn_105 rfl rfl ?_
              refine hr_icmpO_ne (q := 109) (tgt := 111) X dX0_wrongIn_106 rfl (by decide) (by omega) (fun c106 => ?_) (fun c106 => ?_)
              · exact False.elim (by omega)
              · refine hr_iload3 (q := 110) X dX0_wrongIn_109 rfl ?_
                have hbd : sq_bad A s9 n9 41 0 = i := by rw [← h19_6, show 41 - i = (40 - i) + 1 by omega]; exact sq_bad_b (by omega) (by rw [hv9]; exact hok)
                exact hr_iret X hr dX0_wrongIn_110 ⟨by rw [hbd, oI_of (by omega)], h19_2, fun z => by omega⟩
            · have hsb := str_b (t := (sq_str A s9 i).1.1) c33 (by omega) (show iN v9 % 10 ≤ 3 by omega)
              refine hr_iconst (v := (nI 1)) (q := 61) X dX0_wrongIn_60 rfl rfl ?_
              refine hr_goto (tgt := 65) X dX0_wrongIn_61 (by decide) ?_
              refine hr_istore5 (q := 67) X dX0_wrongIn_65 rfl rfl (Nat.le_of_ble_eq_true rfl) ?_
              refine hr_iload5 (q := 69) X dX0_wrongIn_67 rfl ?_
              refine hr_if_eq (q := 72) (tgt := 100) X dX0_wrongIn_69 rfl (by decide) (fun z => absurd z (by decide)) (fun _ => ?_)
              have h14 := hWZ.w.b14 (p := iN v9 / 10) (by omega)
              have hbl := sp_bes_lt (t := (sq_str A s9 i).1.1) (w := iN v9 % 10) h14
              refine hr_aload0 (q := 73) X dX0_wrongIn_72 rfl ?_
              refine hr_getR (v := (cp_d ca 0)) (q := 76) X dX0_wrongIn_73 rfl fr_q248_0 rfl h19_2.o.1 h19_2.o.2.2.2.2.1 ?_
              refine hr_aload0 (q := 77) X dX0_wrongIn_76 rfl ?_
              refine hr_getR (v := (cp_d ca 0)) (q := 80) X dX0_wrongIn_77 rfl fr_q248_0 rfl h19_2.o.1 h19_2.o.2.2.2.2.1 ?_
              refine hr_getR (v := (cp_d ca 4)) (q := 83) X dX0_wrongIn_80 rfl fr_q190_2 rfl h19_3.ob h19_3.f14 ?_
              refine hr_iload4 (q := 85) X dX0_wrongIn_83 rfl ?_
              refine hr_bipush (v := (nI 10)) (q := 87) X dX0_wrongIn_85 rfl rfl ?_
              refine hr_idiv (v := (nI ((iN v9) / 10))) (q := 88) X dX0_wrongIn_87 rfl (by decide) (pk_div (by omega) (by decide) (by decide)) ?_
              have b3 := hWZ.w.b14 (p := (iN v9) / 10) (by omega)
              refine hr_ialdN (v := (nI ((sq_str A s9 i).1.1.1 14 ((iN v9) / 10)))) (q := 89) X dX0_wrongIn_88 rfl h19_3.k4 (Or.inl rfl) (by omega) (by decide) (h19_3.e4 (by omega)) ?_
              refine hr_iload4 (q := 91) X dX0_wrongIn_89 rfl ?_
              refine hr_bipush (v := (nI 10)) (q := 93) X dX0_wrongIn_91 rfl rfl ?_
              refine hr_irem (v := (nI ((iN v9) % 10))) (q := 94) X dX0_wrongIn_93 rfl (by decide) (pk_rem (by omega) (by decide) (by decide)) ?_
              refine hr_callP (q := 97) (hc_V (n := 2) (ci := 2) (As := [.int (nI ((sq_str A s9 i).1.1.1 14 ((iN v9) / 10))), .int (nI ((iN v9) % 10))]) X dX0_wrongIn_94 rfl (tn_beside X.tr h19_3 hWZ.w (z := (sq_str A s9 i).1.1.1 14 ((iN v9) / 10)) (v := (iN v9) % 10) (by omega) (by omega)) q1231 cv_X2_beside ⟨Nat.le_of_ble_eq_true rfl, Nat.le_of_ble_eq_true rfl⟩ rfl (Nat.le_of_ble_eq_true rfl) h19_3.ob rfl rfl) rfl ?_
              refine hr_goto (tgt := 101) X dX0_wrongIn_97 (by decide) ?_
              refine hr_istore6 (q := 103) X dX0_wrongIn_101 rfl rfl (Nat.le_of_ble_eq_true rfl) ?_
              refine hr_iload6 (q := 105) X dX0_wrongIn_103 rfl ?_
              refine hr_iconst (v := (-1)) (q := 106) X dX0_wrongIn_105 rfl rfl ?_
              refine hr_icmpO_ne (q := 109) (tgt := 111) X dX0_wrongIn_106 rfl (by decide) (by omega) (fun c106 => ?_) (fun c106 => ?_)
              · obtain ⟨hok, hto⟩ := hsb.2 (by omega)
                refine hr_aload0 (q := 112) X dX0_wrongIn_111 rfl ?_
                refine hr_getR (v := (cp_d ca 0)) (q := 115) X dX0_wrongIn_112 rfl fr_q248_0 rfl h19_2.o.1 h19_2.o.2.2.2.2.1 ?_
                refine hr_getR (v := (cp_d ca 4)) (q := 118) X dX0_wrongIn_115 rfl fr_q190_2 rfl h19_3.ob h19_3.f14 ?_
                refine hr_iload4 (q := 120) X dX0_wrongIn_118 rfl ?_
                refine hr_bipush (v := (nI 10)) (q := 122) X dX0_wrongIn_120 rfl rfl ?_
                refine hr_idiv (v := (nI ((iN v9) / 10))) (q := 123) X dX0_wrongIn_122 rfl (by decide) (pk_div (by omega) (by decide) (by decide)) ?_
                refine hr_iload6 (q := 125) X dX0_wrongIn_123 rfl ?_
                refine hr_st1 (v' := .int (nI (sp_bes (sq_str A s9 i).1.1 ((sq_str A s9 i).1.1.1 14 ((iN v9) / 10)) ((iN v9) % 10)))) (congrArg Value.int (oI_of (by omega))) ?_
                refine hr_iastN (q := 126) X dX0_wrongIn_125 rfl h19_3.k4 (by omega) (by decide) ?_
                have Tu4 : tn_R (hs_I G9 (cp_d ca 4) ((iN v9) / 10) ((nI (sp_bes (sq_str A s9 i).1.1 ((sq_str A s9 i).1.1.1 14 ((iN v9) / 10)) ((iN v9) % 10))))) (cp_d ca) (sp_set (sq_str A s9 i).1.1 14 (iN v9 / 10) (sp_bes (sq_str A s9 i).1.1 ((sq_str A s9 i).1.1.1 14 (iN v9 / 10)) (iN v9 % 10))) := h19_3.putA h19_2.dD (i := 4) (a := 14) (Or.inr (Or.inr ⟨rfl, rfl⟩))
                have Wu4 : sp_wf (sp_set (sq_str A s9 i).1.1 14 (iN v9 / 10) (sp_bes (sq_str A s9 i).1.1 ((sq_str A s9 i).1.1.1 14 (iN v9 / 10)) (iN v9 % 10))) := (sp_wf_at hWZ.w (by omega) (by have := hWZ.w.b16 (c := sp_bes (sq_str A s9 i).1.1 ((sq_str A s9 i).1.1.1 14 (iN v9 / 10)) (iN v9 % 10)) (by omega); have hk := of_decide_eq_true hok; rw [hto] at hk; omega))
                have hu4 := h19_2.takes (hg_fr.rf.I ⟨4, by decide, rfl⟩) Tu4
                refine hr_aload0 (q := 127) X dX0_wrongIn_126 rfl ?_
                refine hr_dup (q := 128) X dX0_wrongIn_127 rfl rfl ?_
                refine hr_getI (v := (nI ((sq_str A s9 i).2))) (q := 131) X dX0_wrongIn_128 rfl fr_q253_0 rfl hu4.o.1 ((hs_Ine (fun e => by have := h19_2.j 0 20 (.w (by decide)) (.w (by decide)) e; omega)).trans h19_4) ?_
                refine hr_aload0 (q := 132) X dX0_wrongIn_131 rfl ?_
                refine hr_getR (v := (cp_d ca 0)) (q := 135) X dX0_wrongIn_132 rfl fr_q248_0 rfl hu4.o.1 hu4.o.2.2.2.2.1 ?_
                refine hr_iload4 (q := 137) X dX0_wrongIn_135 rfl ?_
                refine hr_bipush (v := (nI 10)) (q := 139) X dX0_wrongIn_137 rfl rfl ?_
                refine hr_idiv (v := (nI ((iN v9) / 10))) (q := 140) X dX0_wrongIn_139 rfl (by decide) (pk_div (by omega) (by decide) (by decide)) ?_
                have hT1n : (sp_set (sq_str A s9 i).1.1 14 (iN v9 / 10) (sp_bes (sq_str A s9 i).1.1 ((sq_str A s9 i).1.1.1 14 (iN v9 / 10)) (iN v9 % 10))).1 0 0 = A.1.1 0 0 := hZn
                have hp8 : (hs_I G9 (cp_d ca 4) ((iN v9) / 10) ((nI (sp_bes (sq_str A s9 i).1.1 ((sq_str A s9 i).1.1.1 14 ((iN v9) / 10)) ((iN v9) % 10))))).2.1 (ca 0) 8 = nI (sq_str A s9 i).2 := (hs_Ine (fun e => by have := h19_2.j 0 20 (.w (by decide)) (.w (by decide)) e; omega)).trans h19_4
                refine hr_call0 (q := 143) (hc_V (n := 1) (ci := 2) (As := [.int (nI ((iN v9) / 10))]) X dX0_wrongIn_140 rfl (tn_pays X.tr Tu4 Wu4 hu4.dD (x := (iN v9) / 10) (by omega)) q1232 cv_X2_pays ⟨Nat.le_of_ble_eq_true rfl, Nat.le_of_ble_eq_true rfl⟩ rfl (Nat.le_of_ble_eq_true rfl) Tu4.ob rfl rfl) rfl (fun qx E G' hp => by cases hp.1) (fun r Gd5 hp _ => ?_)
                obtain ⟨hvd5, hTd5, -, hfd5, hpd5⟩ := hp
                cases hvd5
                have hd5 := hu4.takes hfd5 hTd5
                have hpl := sp_paid_le (sp_set (sq_str A s9 i).1.1 14 (iN v9 / 10) (sp_bes (sq_str A s9 i).1.1 ((sq_str A s9 i).1.1.1 14 (iN v9 / 10)) (iN v9 % 10))) (iN v9 / 10)
                have hbt := hWZ.w.b13 (p := iN v9 / 10) (by omega)
                have hp9 : Gd5.2.1 (ca 0) 8 = nI (sq_str A s9 i).2 := ((hu4.d0 hfd5 (r := 0) (.w (by decide)) (by omega)).2.1 8).trans hp8
                have hpe9 : ∀ p, p < A.1.1 0 0 → Gd5.2.2.2 (cp_d ca 1) p = Gd5.2.2.2 (cp_w ca 1) p := fun p hp => (hpd5 p (by omega)).trans ((h19_5 p hp).trans ((hu4.d0 hfd5 (r := 22) (.w (by decide)) (by omega)).2.2.2 p).symm)
                refine hr_iadd (v := (nI ((sq_str A s9 i).2 + (sp_paid (sp_set (sq_str A s9 i).1.1 14 (iN v9 / 10) (sp_bes (sq_str A s9 i).1.1 ((sq_str A s9 i).1.1.1 14 (iN v9 / 10)) (iN v9 % 10))) (iN v9 / 10))))) (q := 144) X dX0_wrongIn_143 rfl (nI_add _ _) ?_
                refine hr_putI (q := 147) X dX0_wrongIn_144 rfl fw_q253_0 (fun h => nomatch h) rfl rfl rfl hd5.o.1 ?_
                have hpd6 : cp_R (hs_I Gd5 (ca 0) 8 (nI ((sq_str A s9 i).2 + (sp_paid (sp_set (sq_str A s9 i).1.1 14 (iN v9 / 10) (sp_bes (sq_str A s9 i).1.1 ((sq_str A s9 i).1.1.1 14 (iN v9 / 10)) (iN v9 % 10))) (iN v9 / 10))))) ca A := hd5.paid
                have Tpd6 : tn_R (hs_I Gd5 (ca 0) 8 (nI ((sq_str A s9 i).2 + (sp_paid (sp_set (sq_str A s9 i).1.1 14 (iN v9 / 10) (sp_bes (sq_str A s9 i).1.1 ((sq_str A s9 i).1.1.1 14 (iN v9 / 10)) (iN v9 % 10))) (iN v9 / 10))))) (cp_d ca) (sp_set (sp_set (sq_str A s9 i).1.1 14 (iN v9 / 10) (sp_bes (sq_str A s9 i).1.1 ((sq_str A s9 i).1.1.1 14 (iN v9 / 10)) (iN v9 % 10))) 13 (iN v9 / 10) ((sp_set (sq_str A s9 i).1.1 14 (iN v9 / 10) (sp_bes (sq_str A s9 i).1.1 ((sq_str A s9 i).1.1.1 14 (iN v9 / 10)) (iN v9 % 10))).1 13 (iN v9 / 10) - sp_paid (sp_set (sq_str A s9 i).1.1 14 (iN v9 / 10) (sp_bes (sq_str A s9 i).1.1 ((sq_str A s9 i).1.1.1 14 (iN v9 / 10)) (iN v9 % 10))) (iN v9 / 10))) := hd5.dpaid hTd5
                have vpd6 : (hs_I Gd5 (ca 0) 8 (nI ((sq_str A s9 i).2 + (sp_paid (sp_set (sq_str A s9 i).1.1 14 (iN v9 / 10) (sp_bes (sq_str A s9 i).1.1 ((sq_str A s9 i).1.1.1 14 (iN v9 / 10)) (iN v9 % 10))) (iN v9 / 10))))).2.1 (ca 0) 8 = (nI ((sq_str A s9 i).2 + (sp_paid (sp_set (sq_str A s9 i).1.1 14 (iN v9 / 10) (sp_bes (sq_str A s9 i).1.1 ((sq_str A s9 i).1.1.1 14 (iN v9 / 10)) (iN v9 % 10))) (iN v9 / 10)))) := hs_Ieq
                have hTe : tn_R (hs_I Gd5 (ca 0) 8 (nI ((sq_str A s9 i).2 + (sp_paid (sp_set (sq_str A s9 i).1.1 14 (iN v9 / 10) (sp_bes (sq_str A s9 i).1.1 ((sq_str A s9 i).1.1.1 14 (iN v9 / 10)) (iN v9 % 10))) (iN v9 / 10))))) (cp_d ca) (sq_str A s9 (i + 1)).1.1 := by
                  show tn_R _ _ (sq_strGo (sq_str A s9 i) (A.2.2.2 (160 * s9 + i)).toInt32).1.1
                  rw [hv9, sq_strGo, hto]
                  exact Tpd6
                have hve : (hs_I Gd5 (ca 0) 8 (nI ((sq_str A s9 i).2 + (sp_paid (sp_set (sq_str A s9 i).1.1 14 (iN v9 / 10) (sp_bes (sq_str A s9 i).1.1 ((sq_str A s9 i).1.1.1 14 (iN v9 / 10)) (iN v9 % 10))) (iN v9 / 10))))).2.1 (ca 0) 8 = nI (sq_str A s9 (i + 1)).2 := by
                  show _ = nI (sq_strGo (sq_str A s9 i) (A.2.2.2 (160 * s9 + i)).toInt32).2
                  rw [hv9, sq_strGo, hto]
                  exact vpd6
                rw [← hv9] at hok
                refine hr_iinc3 (v := (nI (i + 1))) (q := 150) X dX0_wrongIn_147 rfl (nI_add _ _) rfl (Nat.le_of_ble_eq_true rfl) ?_
                refine hr_goto (tgt := 19) X dX0_wrongIn_150 (by decide) ?_
                refine hr_fg4 ?_
                refine hr_fg5 ?_
                refine hr_fg6 ?_
                exact ih (i + 1) (hs_I Gd5 (ca 0) 8 (nI ((sq_str A s9 i).2 + (sp_paid (sp_set (sq_str A s9 i).1.1 14 (iN v9 / 10) (sp_bes (sq_str A s9 i).1.1 ((sq_str A s9 i).1.1.1 14 (iN v9 / 10)) (iN v9 % 10))) (iN v9 / 10))))) (by omega) (by omega) hpd6 hTe hve hpe9 (by rw [← h19_6, show 41 - i = (41 - (i + 1)) + 1 by omega, sq_bad_s (by omega) hok]) (fun j hj => by by_cases e : j = i <;> first | (rw [e]; exact hok) | exact h19_7 j (by omega))
              · have hok := hsb.1 (by omega)
                refine hr_iload3 (q := 110) X dX0_wrongIn_109 rfl ?_
                have hbd : sq_bad A s9 n9 41 0 = i := by rw [← h19_6, show 41 - i = (40 - i) + 1 by omega]; exact sq_bad_b (by omega) (by rw [hv9]; exact hok)
                exact hr_iret X hr dX0_wrongIn_110 ⟨by rw [hbd, oI_of (by omega)], h19_2, fun z => by omega⟩
  exact loop19 _ _ (n9 + 1) 0 (hs_I Gt1 (ca 0) 8 (nI 0)) (Nat.zero_le _) (by omega) hpd2 Tpd2 vpd2 hpe0 rfl (fun j hj => absurd hj (Nat.not_lt_zero _))

