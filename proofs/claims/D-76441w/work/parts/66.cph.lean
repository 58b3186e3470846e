/-! hours: what one owes looks at the numbers alone -/
section CP11
variable {a : Nat → Nat → Nat} {f g : Nat → Int32}
theorem sp_sees_2 (x y : Nat) : sp_sees (a, f) x y = sp_sees (a, g) x y := rfl
theorem sp_lit_2 (c : Nat) : sp_lit (a, f) c = sp_lit (a, g) c := rfl
theorem sp_shows_2 (x : Nat) : sp_shows (a, f) x = sp_shows (a, g) x := rfl
theorem sp_would_2 (x y : Nat) : sp_would (a, f) x y = sp_would (a, g) x y := rfl
theorem sp_best_2 (x : Nat) : ∀ n, sp_best (a, f) x n = sp_best (a, g) x n
  | 0 => rfl
  | n + 1 => by
    rw [sp_best, sp_best, sp_best_2 x n]
    rfl
theorem sp_lookedAt_2 (x : Nat) : sp_lookedAt (a, f) x = sp_lookedAt (a, g) x := by
  unfold sp_lookedAt
  rw [sp_best_2 (f := f) (g := g)]
  rfl
theorem sp_lookers_2 (y : Nat) : sp_lookers (a, f) y = sp_lookers (a, g) y := by
  unfold sp_lookers
  exact congrArg (fun h => sp_bits h _) (funext fun x => by rw [sp_lookedAt_2 (f := f) (g := g)])
theorem sp_owes_2 (y : Nat) : sp_owes (a, f) y = sp_owes (a, g) y := by
  unfold sp_owes
  rw [sp_lookers_2 (f := f) (g := g)]
  rfl
theorem sp_paid_2 (x : Nat) : sp_paid (a, f) x = sp_paid (a, g) x := by
  unfold sp_paid
  rw [sp_owes_2 (f := f) (g := g)]
end CP11
theorem sp_paid_i (t : sp_S) (k : Nat) (v : Int32) (x : Nat) : sp_paid (sp_seti t k v) x = sp_paid t x := sp_paid_2 x
theorem sq_pays_2 (M : ab_S) : ∀ i, (sq_pays M i).1.1.2 = M.1.2
  | 0 => rfl
  | i + 1 => (sq_pays_2 M i : _)
theorem sq_goes_c {B : ab_S} (hB : ab_wf B) {i : Nat} (hi : i < 7) : sq_goes B i = (if iN (sq_drawn 5 (sq_next (B.1.2 6))) = 4 ∨ sp_bes B.1 (B.1.1 14 i) (iN (sq_drawn 5 (sq_next (B.1.2 6)))) = 99 then ab_i B 6 (sq_next (B.1.2 6)) else ab_n (ab_i B 6 (sq_next (B.1.2 6))) 14 i (sp_bes B.1 (B.1.1 14 i) (iN (sq_drawn 5 (sq_next (B.1.2 6)))))) := by
  have h14 := hB.w.b14 hi
  unfold sq_goes sq_to sp_bes
  generalize iN (sq_drawn 5 (sq_next (B.1.2 6))) = d
  by_cases h4 : d = 4
  · rw [if_pos h4, if_pos rfl, if_pos (Or.inl h4)]
  · rw [if_neg h4]
    have hl := sp_beside_lt (c := B.1.1 14 i) (w := d) h14
    by_cases h9 : sp_beside (B.1.1 14 i) d = 99
    · rw [if_pos h9, if_pos h9, if_pos (Or.inr rfl)]
    · rw [if_neg h9, if_neg h9]
      have hb := hB.w.b16 (c := sp_beside (B.1.1 14 i) d) (by omega)
      by_cases h1 : B.1.1 16 (sp_beside (B.1.1 14 i) d) = 1
      · rw [if_neg (by omega), if_pos h1, if_pos (Or.inr rfl)]
      · rw [if_pos (by omega), if_neg h1, if_neg (by omega)]
theorem cp_pays_e {Z : ab_S} {v w : Int32} {i k : Nat} : ab_i (ab_n (ab_i Z 5 v) 13 i k) 5 w = ab_i (ab_n Z 13 i k) 5 w := by
  refine ab_ext (fun _ _ => rfl) (fun j => ?_) rfl (fun _ _ => rfl) (fun _ => rfl)
  show (if j = 5 then w else (if j = 5 then v else Z.1.2 j)) = if j = 5 then w else Z.1.2 j
  by_cases h : j = 5
  · rw [if_pos h, if_pos h]
  · rw [if_neg h, if_neg h, if_neg h]
theorem sp_bes_lt {t : sp_S} {c w : Nat} (hc : c < 36) : sp_bes t c w = 99 ∨ sp_bes t c w < 36 := by
  have := sp_beside_lt (c := c) (w := w) hc
  unfold sp_bes
  (repeat' split) <;> omega
theorem tc_goesHour {l : Launch} {D : hg_D} {lo : Nat} (htr : l.stackTraces = false) {G : hg_G} {ca : Nat → Nat} {A : ab_S} (h : cp_R G ca A) (hW : ab_wf A) :
    hg_M l D lo yX0_goesHour (ws_ yX0_goesHour cX0_goesHour 4 (none)) rm_X0_goesHour [.ref (ca 0)] G (fun r G' => r = .inl none ∧ cp_R G' ca (sq_hour A)) := by
  refine hg_M.of htr (by decide) [some (.ref (ca 0)), none, none, none] rfl (Nat.le_of_ble_eq_true rfl) ?_
  intro p e s m args below meth c X hr hnm htab
  have X : hg_X p l s m args meth c D lo "TaxOnLooks" cX0_goesHour 4 := X
  have hw := hW.w; have w0 := hw.b0; have w1 := hw.b1; have w2 := hw.b2; have w3 := hw.b3; have w36 := hW.b36; have w43 := hW.b43
  have hpw := sp_wpk hw; have hpb := sp_bpk hw
  refine hr_aload0 (q := 1) X dX0_goesHour_0 rfl ?_
  refine hr_getR (v := (cp_w ca 0)) (q := 4) X dX0_goesHour_1 rfl fr_q250_0 rfl h.o.1 h.o.2.2.2.2.2.2.1 ?_
  refine hr_aload0 (q := 5) X dX0_goesHour_4 rfl ?_
  refine hr_getR (v := (cp_w ca 0)) (q := 8) X dX0_goesHour_5 rfl fr_q250_0 rfl h.o.1 h.o.2.2.2.2.2.2.1 ?_
  refine hr_iconst (v := (nI 4)) (q := 9) X dX0_goesHour_8 rfl rfl ?_
  refine hr_call0 (q := 12) (hc_V (n := 1) (ci := 2) (As := [.int (nI 4)]) X dX0_goesHour_9 rfl (tn_draw X.tr h.w hw h.wD (k := 4) (by decide) (by decide)) q1257 cv_X2_draw ⟨Nat.le_of_ble_eq_true rfl, Nat.le_of_ble_eq_true rfl⟩ rfl (Nat.le_of_ble_eq_true rfl) h.w.ob rfl rfl) rfl (fun qx E G' hp => by cases hp.1) (fun r Gd1 hp _ => ?_)
  obtain ⟨hvd1, hTd1, -, hfd1, hpd1⟩ := hp
  cases hvd1
  have hd1 : cp_R Gd1 ca (ab_i A 6 (sq_next (A.1.2 6))) := h.town2 hW (cp_Ww hfd1) hpd1 hTd1 (fun a h1 h2 => funext fun i => by first | rfl | exact sp_set_o (by omega)) rfl rfl
  have Wd1 : ab_wf (ab_i A 6 (sq_next (A.1.2 6))) := hW.i _ _
  refine hr_if_ne (q := 15) (tgt := 19) X dX0_goesHour_12 rfl (by decide) (fun c12 => ?_) (fun c12 => ?_)
  · refine hr_iconst (v := (nI 0)) (q := 20) X dX0_goesHour_19 rfl rfl ?_
    refine hr_putI (q := 23) X dX0_goesHour_20 rfl fw_q162_2 (fun h => nomatch h) rfl (nI_narZ (by omega)) (nI_fitZ (by omega)) hd1.w.ob ?_
    have z2 : cp_R (hs_I Gd1 (cp_w ca 0) 3 (nI 0)) ca (ab_n (ab_i A 6 (sq_next (A.1.2 6))) 3 0 0) := hd1.town (hg_fr.rf.I ⟨21, .w (by decide), ⟨by decide, by decide, by decide⟩, rfl⟩) (hd1.w.setn hd1.wD (k := 3) (by decide) 0) (fun a h1 h2 => funext fun i => by first | rfl | exact sp_set_o (by omega)) rfl rfl
    refine hr_iconst (v := (nI 0)) (q := 24) X dX0_goesHour_23 rfl rfl ?_
    refine hr_istore1 (q := 25) X dX0_goesHour_24 rfl rfl (Nat.le_of_ble_eq_true rfl) ?_
    have hra : ab_n (ab_i A 6 (sq_next (A.1.2 6))) 3 0 0 = sq_rain A := by rw [sq_rain, if_neg c12]
    rw [hra] at z2
    have loop25 : ∀ (kr nr n : Nat) (i : Nat) (G9 : hg_G), (i ≤ A.1.1 0 0) → (A.1.1 0 0 + 1 ≤ i + n) → (cp_R G9 ca (sq_moves (sq_rain A) i)) → hg_W p l e rm_X0_goesHour s m args below meth c (hg_Q below D lo args s rm_X0_goesHour G (fun r G' => r = .inl none ∧ cp_R G' ca (sq_hour A))) D lo G.1 4 kr nr G9 25 [some (.ref (ca 0)), some (.int (nI i)), none, none] [] := by
      intro kr nr n
      induction n with
      | zero =>
        intro i G9 h25_0 h25_1 h25_2
        omega
      | succ n ih =>
        intro i G9 h25_0 h25_1 h25_2
        refine hr_iload1 (q := 26) X dX0_goesHour_25 rfl ?_
        have hWB := (hW.rain.moves i (by omega)).1
        have hBn : (sq_moves (sq_rain A) i).1.1 0 0 = A.1.1 0 0 := (hW.rain.moves i (by omega)).2
        generalize hB : sq_moves (sq_rain A) i = B at hWB hBn h25_2
        have wB0 := hWB.w.b0; have wB1 := hWB.w.b1; have wB2 := hWB.w.b2; have wB3 := hWB.w.b3; have wB36 := hWB.b36
        refine hr_aload0 (q := 27) X dX0_goesHour_26 rfl ?_
        refine hr_getR (v := (cp_w ca 0)) (q := 30) X dX0_goesHour_27 rfl fr_q250_0 rfl h25_2.o.1 h25_2.o.2.2.2.2.2.2.1 ?_
        refine hr_getI (v := (nI (B.1.1 0 0))) (q := 33) X dX0_goesHour_30 rfl fr_q154_2 rfl h25_2.w.ob h25_2.w.f0 ?_
        refine hr_icmpN_ge (q := 36) (tgt := 105) X dX0_goesHour_33 rfl (by decide) (by omega) (by omega) (fun c33 => ?_) (fun c33 => ?_)
        · have hiN : i = A.1.1 0 0 := by omega
          rw [← hB, hiN] at h25_2
          refine hr_iconst (v := (nI 0)) (q := 106) X dX0_goesHour_105 rfl rfl ?_
          refine hr_istore1 (q := 107) X dX0_goesHour_106 rfl rfl (Nat.le_of_ble_eq_true rfl) ?_
          have hWM := (hW.rain.moves (A.1.1 0 0) hW.w.b0).1
          have hMn : (sq_moves (sq_rain A) (A.1.1 0 0)).1.1 0 0 = A.1.1 0 0 := (hW.rain.moves (A.1.1 0 0) hW.w.b0).2
          generalize hM : (sq_moves (sq_rain A) (A.1.1 0 0)) = M at hWM hMn h25_2
          have hst : cp_R G9 ca (ab_i (sq_pays M 0).1 5 (M.1.2 5 + nI (sq_pays M 0).2)) := by
            have e : ab_i (sq_pays M 0).1 5 (M.1.2 5 + nI (sq_pays M 0).2) = M := by
              refine ab_ext (fun _ _ => rfl) (fun k => ?_) rfl (fun _ _ => rfl) (fun _ => rfl)
              show (if k = 5 then M.1.2 5 + nI 0 else M.1.2 k) = M.1.2 k
              by_cases hk : k = 5
              · rw [if_pos hk, hk, nI_0, Int32.add_zero]
              · rw [if_neg hk]
            rw [e]; exact h25_2
          have loop107 : ∀ (n : Nat) (j : Nat) (G9 : hg_G), (j ≤ A.1.1 0 0) → (A.1.1 0 0 + 1 ≤ j + n) → (cp_R G9 ca (ab_i (sq_pays M j).1 5 (M.1.2 5 + nI (sq_pays M j).2))) → hg_W p l e rm_X0_goesHour s m args below meth c (hg_Q below D lo args s rm_X0_goesHour G (fun r G' => r = .inl none ∧ cp_R G' ca (sq_hour A))) D lo G.1 4 kr nr G9 107 [some (.ref (ca 0)), some (.int (nI j)), none, none] [] := by
            intro n
            induction n with
            | zero =>
              intro j G9 h107_0 h107_1 h107_2
              omega
            | succ n ih =>
              intro j G9 h107_0 h107_1 h107_2
              refine hr_iload1 (q := 108) X dX0_goesHour_107 rfl ?_
              have hWZ := (hWM.pays j (by omega)).1
              have hZn : (sq_pays M j).1.1.1 0 0 = A.1.1 0 0 := ((hWM.pays j (by omega)).2).trans hMn
              have hZ2 := sq_pays_2 M j
              generalize hZ : sq_pays M j = Z at hWZ hZn hZ2 h107_2
              have hWB : ab_wf (ab_i Z.1 5 (M.1.2 5 + nI Z.2)) := hWZ.i _ _
              have hBn : (ab_i Z.1 5 (M.1.2 5 + nI Z.2)).1.1 0 0 = A.1.1 0 0 := hZn
              have hB5 : (ab_i Z.1 5 (M.1.2 5 + nI Z.2)).1.2 5 = M.1.2 5 + nI Z.2 := rfl
              have hB4 : (ab_i Z.1 5 (M.1.2 5 + nI Z.2)).1.2 4 = Z.1.1.2 4 := rfl
              have hpd : sp_paid (ab_i Z.1 5 (M.1.2 5 + nI Z.2)).1 j = sp_paid Z.1.1 j := sp_paid_i _ _ _ _
              have hpl : sp_paid Z.1.1 j ≤ Z.1.1.1 13 j := sp_paid_le _ _
              generalize hBe : ab_i Z.1 5 (M.1.2 5 + nI Z.2) = B at hWB hBn hB5 hB4 hpd h107_2
              have wB0 := hWB.w.b0; have wB1 := hWB.w.b1; have wB2 := hWB.w.b2; have wB3 := hWB.w.b3; have wB36 := hWB.b36
              refine hr_aload0 (q := 109) X dX0_goesHour_108 rfl ?_
              refine hr_getR (v := (cp_w ca 0)) (q := 112) X dX0_goesHour_109 rfl fr_q250_0 rfl h107_2.o.1 h107_2.o.2.2.2.2.2.2.1 ?_
              refine hr_getI (v := (nI (B.1.1 0 0))) (q := 115) X dX0_goesHour_112 rfl fr_q154_2 rfl h107_2.w.ob h107_2.w.f0 ?_
              refine hr_icmpN_ge (q := 118) (tgt := 144) X dX0_goesHour_115 rfl (by decide) (by omega) (by omega) (fun c115 => ?_) (fun c115 => ?_)
              · have hjN : j = A.1.1 0 0 := by omega
                refine hr_aload0 (q := 145) X dX0_goesHour_144 rfl ?_
                refine hr_getR (v := (cp_w ca 0)) (q := 148) X dX0_goesHour_145 rfl fr_q250_0 rfl h107_2.o.1 h107_2.o.2.2.2.2.2.2.1 ?_
                refine hr_dup (q := 149) X dX0_goesHour_148 rfl rfl ?_
                refine hr_getI (v := (B.1.2 4)) (q := 152) X dX0_goesHour_149 rfl fr_q164_2 rfl h107_2.w.ob h107_2.w.f4 ?_
                refine hr_iconst (v := (nI 1)) (q := 153) X dX0_goesHour_152 rfl rfl ?_
                refine hr_iadd (v := ((B.1.2 4) + (nI 1))) (q := 154) X dX0_goesHour_153 rfl rfl ?_
                refine hr_putI (q := 157) X dX0_goesHour_154 rfl fw_q164_2 (fun h => nomatch h) rfl rfl rfl h107_2.w.ob ?_
                have z4 : cp_R (hs_I G9 (cp_w ca 0) 4 ((B.1.2 4) + (nI 1))) ca (ab_i B 4 ((B.1.2 4) + (nI 1))) := h107_2.town (hg_fr.rf.I ⟨21, .w (by decide), ⟨by decide, by decide, by decide⟩, rfl⟩) (h107_2.w.seti h107_2.wD (k := 4) (by decide) _) (fun a h1 h2 => funext fun i => by first | rfl | exact sp_set_o (by omega)) rfl rfl
                have W5 : ab_wf (ab_i B 4 ((B.1.2 4) + (nI 1))) := hWB.i _ _
                have hen : (ab_i B 4 ((B.1.2 4) + (nI 1))) = sq_hour A := by
                  show _ = ab_i (ab_i (sq_pays (sq_moves (sq_rain A) (A.1.1 0 0)) (A.1.1 0 0)).1 5 ((sq_pays (sq_moves (sq_rain A) (A.1.1 0 0)) (A.1.1 0 0)).1.1.2 5 + nI (sq_pays (sq_moves (sq_rain A) (A.1.1 0 0)) (A.1.1 0 0)).2)) 4 ((sq_pays (sq_moves (sq_rain A) (A.1.1 0 0)) (A.1.1 0 0)).1.1.2 4 + nI 1)
                  rw [hM, ← hjN, hZ, hB4, ← hBe, hZ2]
                exact hr_vret X hr dX0_goesHour_157 ⟨rfl, by rw [← hen]; exact z4⟩
              · refine hr_aload0 (q := 119) X dX0_goesHour_118 rfl ?_
                refine hr_getR (v := (cp_w ca 0)) (q := 122) X dX0_goesHour_119 rfl fr_q250_0 rfl h107_2.o.1 h107_2.o.2.2.2.2.2.2.1 ?_
                refine hr_dup (q := 123) X dX0_goesHour_122 rfl rfl ?_
                refine hr_getI (v := (B.1.2 5)) (q := 126) X dX0_goesHour_123 rfl fr_q166_2 rfl h107_2.w.ob h107_2.w.f5 ?_
                refine hr_aload0 (q := 127) X dX0_goesHour_126 rfl ?_
                refine hr_getR (v := (cp_w ca 0)) (q := 130) X dX0_goesHour_127 rfl fr_q250_0 rfl h107_2.o.1 h107_2.o.2.2.2.2.2.2.1 ?_
                refine hr_iload1 (q := 131) X dX0_goesHour_130 rfl ?_
                refine hr_call0 (q := 134) (hc_V (n := 1) (ci := 2) (As := [.int (nI j)]) X dX0_goesHour_131 rfl (tn_pays X.tr h107_2.w hWB.w h107_2.wD (x := j) (by omega)) q1232 cv_X2_pays ⟨Nat.le_of_ble_eq_true rfl, Nat.le_of_ble_eq_true rfl⟩ rfl (Nat.le_of_ble_eq_true rfl) h107_2.w.ob rfl rfl) rfl (fun qx E G' hp => by cases hp.1) (fun r Gd6 hp _ => ?_)
                obtain ⟨hvd6, hTd6, -, hfd6, hpd6⟩ := hp
                cases hvd6
                have hd6 : cp_R Gd6 ca (sq_pay B j) := h107_2.town2 hWB (cp_Ww hfd6) hpd6 hTd6 (fun a h1 h2 => funext fun i => by first | rfl | exact sp_set_o (by omega)) rfl rfl
                have Wd6 : ab_wf (sq_pay B j) := (hWB.pay (by omega)).1
                refine hr_iadd (v := (B.1.2 5 + nI (sp_paid B.1 j))) (q := 135) X dX0_goesHour_134 rfl rfl ?_
                refine hr_putI (q := 138) X dX0_goesHour_135 rfl fw_q166_2 (fun h => nomatch h) rfl rfl rfl hd6.w.ob ?_
                have z7 : cp_R (hs_I Gd6 (cp_w ca 0) 5 (B.1.2 5 + nI (sp_paid B.1 j))) ca (ab_i (sq_pay B j) 5 (B.1.2 5 + nI (sp_paid B.1 j))) := hd6.town (hg_fr.rf.I ⟨21, .w (by decide), ⟨by decide, by decide, by decide⟩, rfl⟩) (hd6.w.seti hd6.wD (k := 5) (by decide) _) (fun a h1 h2 => funext fun i => by first | rfl | exact sp_set_o (by omega)) rfl rfl
                have W8 : ab_wf (ab_i (sq_pay B j) 5 (B.1.2 5 + nI (sp_paid B.1 j))) := Wd6.i _ _
                have hfi : cp_R (hs_I Gd6 (cp_w ca 0) 5 (B.1.2 5 + nI (sp_paid B.1 j))) ca (ab_i (sq_pay Z.1 j) 5 (M.1.2 5 + nI (Z.2 + sp_paid Z.1.1 j))) := by
                  have e : ab_i (sq_pay B j) 5 (B.1.2 5 + nI (sp_paid B.1 j)) = ab_i (sq_pay Z.1 j) 5 (M.1.2 5 + nI (Z.2 + sp_paid Z.1.1 j)) := by
                    unfold sq_pay
                    rw [hpd, hB5, ← hBe, cp_pays_e, ← nI_add, Int32.add_assoc]
                    rfl
                  rw [← e]; exact z7
                refine hr_iinc1 (v := (nI (j + 1))) (q := 141) X dX0_goesHour_138 rfl (nI_add _ _) rfl (Nat.le_of_ble_eq_true rfl) ?_
                refine hr_goto (tgt := 107) X dX0_goesHour_141 (by decide) ?_
                exact ih (j + 1) (hs_I Gd6 (cp_w ca 0) 5 (B.1.2 5 + nI (sp_paid B.1 j))) (by omega) (by omega) (by show cp_R _ _ (ab_i (sq_pay (sq_pays M j).1 j) 5 (M.1.2 5 + nI ((sq_pays M j).2 + sp_paid (sq_pays M j).1.1 j))); rw [hZ]; exact hfi)
          exact loop107 (A.1.1 0 0 + 1) 0 G9 (Nat.zero_le _) (by omega) hst
        · refine hr_aload0 (q := 37) X dX0_goesHour_36 rfl ?_
          refine hr_getR (v := (cp_w ca 0)) (q := 40) X dX0_goesHour_37 rfl fr_q250_0 rfl h25_2.o.1 h25_2.o.2.2.2.2.2.2.1 ?_
          refine hr_iconst (v := (nI 5)) (q := 41) X dX0_goesHour_40 rfl rfl ?_
          refine hr_call0 (q := 44) (hc_V (n := 1) (ci := 2) (As := [.int (nI 5)]) X dX0_goesHour_41 rfl (tn_draw X.tr h25_2.w hWB.w h25_2.wD (k := 5) (by decide) (by decide)) q1257 cv_X2_draw ⟨Nat.le_of_ble_eq_true rfl, Nat.le_of_ble_eq_true rfl⟩ rfl (Nat.le_of_ble_eq_true rfl) h25_2.w.ob rfl rfl) rfl (fun qx E G' hp => by cases hp.1) (fun r Gd9 hp _ => ?_)
          obtain ⟨hvd9, hTd9, -, hfd9, hpd9⟩ := hp
          cases hvd9
          have hd9 : cp_R Gd9 ca (ab_i B 6 (sq_next (B.1.2 6))) := h25_2.town2 hWB (cp_Ww hfd9) hpd9 hTd9 (fun a h1 h2 => funext fun i => by first | rfl | exact sp_set_o (by omega)) rfl rfl
          have Wd9 : ab_wf (ab_i B 6 (sq_next (B.1.2 6))) := hWB.i _ _
          obtain ⟨d1, d2⟩ := sq_drawn_n (n := 5) (by decide) (by decide) (sq_next (B.1.2 6))
          refine hr_st1 (v' := .int (nI (iN (sq_drawn 5 (sq_next (B.1.2 6)))))) (congrArg Value.int d1) ?_
          have hgo := sq_goes_c hWB (i := i) (by omega)
          generalize iN (sq_drawn 5 (sq_next (B.1.2 6))) = d9 at hgo d2 ⊢
          have hBd : (ab_i B 6 (sq_next (B.1.2 6))).1.1 0 0 = B.1.1 0 0 := rfl
          have h14 := hWB.w.b14 (p := i) (by omega)
          have hBe14 : (ab_i B 6 (sq_next (B.1.2 6))).1.1 14 i = B.1.1 14 i := rfl
          have hbl := sp_bes_lt (t := B.1) (w := d9) h14
          have hbe : sp_bes (ab_i B 6 (sq_next (B.1.2 6))).1 ((ab_i B 6 (sq_next (B.1.2 6))).1.1 14 i) d9 = sp_bes B.1 (B.1.1 14 i) d9 := rfl
          refine hr_istore2 (q := 45) X dX0_goesHour_44 rfl rfl (Nat.le_of_ble_eq_true rfl) ?_
          refine hr_iload2 (q := 46) X dX0_goesHour_45 rfl ?_
          refine hr_iconst (v := (nI 4)) (q := 47) X dX0_goesHour_46 rfl rfl ?_
          refine hr_icmpN_ge (q := 50) (tgt := 70) X dX0_goesHour_47 rfl (by decide) (by omega) (by omega) (fun c47 => ?_) (fun c47 => ?_)
          · refine hr_iconst (v := (-1)) (q := 71) X dX0_goesHour_70 rfl rfl ?_
            refine hr_st1 (v' := .int (oI 99)) (congrArg Value.int rfl) ?_
            refine hr_istore3 (q := 72) X dX0_goesHour_71 rfl rfl (Nat.le_of_ble_eq_true rfl) ?_
            refine hr_aload0 (q := 73) X dX0_goesHour_72 rfl ?_
            refine hr_getR (v := (cp_w ca 0)) (q := 76) X dX0_goesHour_73 rfl fr_q250_0 rfl hd9.o.1 hd9.o.2.2.2.2.2.2.1 ?_
            refine hr_getR (v := (cp_w ca 4)) (q := 79) X dX0_goesHour_76 rfl fr_q190_2 rfl hd9.w.ob hd9.w.f14 ?_
            refine hr_iload1 (q := 80) X dX0_goesHour_79 rfl ?_
            refine hr_iload3 (q := 81) X dX0_goesHour_80 rfl ?_
            refine hr_iconst (v := (-1)) (q := 82) X dX0_goesHour_81 rfl rfl ?_
            refine hr_icmpO_ne (q := 85) (tgt := 97) X dX0_goesHour_82 rfl (by decide) (by omega) (fun c82 => ?_) (fun c82 => ?_)
            · exact False.elim (by omega)
            · refine hr_aload0 (q := 86) X dX0_goesHour_85 rfl ?_
              refine hr_getR (v := (cp_w ca 0)) (q := 89) X dX0_goesHour_86 rfl fr_q250_0 rfl hd9.o.1 hd9.o.2.2.2.2.2.2.1 ?_
              refine hr_getR (v := (cp_w ca 4)) (q := 92) X dX0_goesHour_89 rfl fr_q190_2 rfl hd9.w.ob hd9.w.f14 ?_
              refine hr_iload1 (q := 93) X dX0_goesHour_92 rfl ?_
              have b10 := Wd9.w.b14 (p := i) (by omega)
              refine hr_ialdN (v := (nI ((ab_i B 6 (sq_next (B.1.2 6))).1.1 14 i))) (q := 94) X dX0_goesHour_93 rfl hd9.w.k4 (Or.inl rfl) (by omega) (by decide) (hd9.w.e4 (by omega)) ?_
              refine hr_goto (tgt := 98) X dX0_goesHour_94 (by decide) ?_
              refine hr_iastN (q := 99) X dX0_goesHour_98 rfl hd9.w.k4 (by omega) (by decide) ?_
              have z11 : cp_R (hs_I Gd9 (cp_w ca 4) i ((nI ((ab_i B 6 (sq_next (B.1.2 6))).1.1 14 i)))) ca (ab_n (ab_i B 6 (sq_next (B.1.2 6))) 14 i ((ab_i B 6 (sq_next (B.1.2 6))).1.1 14 i)) := hd9.town (hg_fr.rf.I ⟨25, .w (by decide), ⟨by decide, by decide, by decide⟩, rfl⟩) (hd9.w.putA hd9.wD (i := 4) (a := 14) (Or.inr (Or.inr ⟨rfl, rfl⟩))) (fun a h1 h2 => funext fun i => by first | rfl | exact sp_set_o (by omega)) rfl rfl
              rw [show ab_n (ab_i B 6 (sq_next (B.1.2 6))) 14 i ((ab_i B 6 (sq_next (B.1.2 6))).1.1 14 i) = (ab_i B 6 (sq_next (B.1.2 6))) from ab_n_id _ _ _] at z11
              have hgo := hgo.trans (if_pos (Or.inl (by omega)))
              refine hr_iinc1 (v := (nI (i + 1))) (q := 102) X dX0_goesHour_99 rfl (nI_add _ _) rfl (Nat.le_of_ble_eq_true rfl) ?_
              refine hr_goto (tgt := 25) X dX0_goesHour_102 (by decide) ?_
              refine hr_fg2 ?_
              refine hr_fg3 ?_
              exact ih (i + 1) (hs_I Gd9 (cp_w ca 4) i ((nI ((ab_i B 6 (sq_next (B.1.2 6))).1.1 14 i)))) (by omega) (by omega) (by show cp_R _ _ (sq_goes (sq_moves (sq_rain A) i) i); rw [hB, hgo]; exact z11)
          · refine hr_aload0 (q := 51) X dX0_goesHour_50 rfl ?_
            refine hr_getR (v := (cp_w ca 0)) (q := 54) X dX0_goesHour_51 rfl fr_q250_0 rfl hd9.o.1 hd9.o.2.2.2.2.2.2.1 ?_
            refine hr_aload0 (q := 55) X dX0_goesHour_54 rfl ?_
            refine hr_getR (v := (cp_w ca 0)) (q := 58) X dX0_goesHour_55 rfl fr_q250_0 rfl hd9.o.1 hd9.o.2.2.2.2.2.2.1 ?_
            refine hr_getR (v := (cp_w ca 4)) (q := 61) X dX0_goesHour_58 rfl fr_q190_2 rfl hd9.w.ob hd9.w.f14 ?_
            refine hr_iload1 (q := 62) X dX0_goesHour_61 rfl ?_
            have b12 := Wd9.w.b14 (p := i) (by omega)
            refine hr_ialdN (v := (nI ((ab_i B 6 (sq_next (B.1.2 6))).1.1 14 i))) (q := 63) X dX0_goesHour_62 rfl hd9.w.k4 (Or.inl rfl) (by omega) (by decide) (hd9.w.e4 (by omega)) ?_
            refine hr_iload2 (q := 64) X dX0_goesHour_63 rfl ?_
            refine hr_callP (q := 67) (hc_V (n := 2) (ci := 2) (As := [.int (nI ((ab_i B 6 (sq_next (B.1.2 6))).1.1 14 i)), .int (nI d9)]) X dX0_goesHour_64 rfl (tn_beside X.tr hd9.w Wd9.w (z := (ab_i B 6 (sq_next (B.1.2 6))).1.1 14 i) (v := d9) (by omega) (by omega)) q1231 cv_X2_beside ⟨Nat.le_of_ble_eq_true rfl, Nat.le_of_ble_eq_true rfl⟩ rfl (Nat.le_of_ble_eq_true rfl) hd9.w.ob rfl rfl) rfl ?_
            refine hr_goto (tgt := 71) X dX0_goesHour_67 (by decide) ?_
            refine hr_istore3 (q := 72) X dX0_goesHour_71 rfl rfl (Nat.le_of_ble_eq_true rfl) ?_
            refine hr_aload0 (q := 73) X dX0_goesHour_72 rfl ?_
            refine hr_getR (v := (cp_w ca 0)) (q := 76) X dX0_goesHour_73 rfl fr_q250_0 rfl hd9.o.1 hd9.o.2.2.2.2.2.2.1 ?_
            refine hr_getR (v := (cp_w ca 4)) (q := 79) X dX0_goesHour_76 rfl fr_q190_2 rfl hd9.w.ob hd9.w.f14 ?_
            refine hr_iload1 (q := 80) X dX0_goesHour_79 rfl ?_
            refine hr_iload3 (q := 81) X dX0_goesHour_80 rfl ?_
            refine hr_iconst (v := (-1)) (q := 82) X dX0_goesHour_81 rfl rfl ?_
            refine hr_icmpO_ne (q := 85) (tgt := 97) X dX0_goesHour_82 rfl (by decide) (by omega) (fun c82 => ?_) (fun c82 => ?_)
            · refine hr_iload3 (q := 98) X dX0_goesHour_97 rfl ?_
              refine hr_st1 (v' := .int (nI (sp_bes (ab_i B 6 (sq_next (B.1.2 6))).1 ((ab_i B 6 (sq_next (B.1.2 6))).1.1 14 i) d9))) (congrArg Value.int (oI_of (by omega))) ?_
              refine hr_iastN (q := 99) X dX0_goesHour_98 rfl hd9.w.k4 (by omega) (by decide) ?_
              have z13 : cp_R (hs_I Gd9 (cp_w ca 4) i ((nI (sp_bes (ab_i B 6 (sq_next (B.1.2 6))).1 ((ab_i B 6 (sq_next (B.1.2 6))).1.1 14 i) d9)))) ca (ab_n (ab_i B 6 (sq_next (B.1.2 6))) 14 i (sp_bes (ab_i B 6 (sq_next (B.1.2 6))).1 ((ab_i B 6 (sq_next (B.1.2 6))).1.1 14 i) d9)) := hd9.town (hg_fr.rf.I ⟨25, .w (by decide), ⟨by decide, by decide, by decide⟩, rfl⟩) (hd9.w.putA hd9.wD (i := 4) (a := 14) (Or.inr (Or.inr ⟨rfl, rfl⟩))) (fun a h1 h2 => funext fun i => by first | rfl | exact sp_set_o (by omega)) rfl rfl
              have hgo := hgo.trans (if_neg (by omega))
              refine hr_iinc1 (v := (nI (i + 1))) (q := 102) X dX0_goesHour_99 rfl (nI_add _ _) rfl (Nat.le_of_ble_eq_true rfl) ?_
              refine hr_goto (tgt := 25) X dX0_goesHour_102 (by decide) ?_
              refine hr_fg2 ?_
              refine hr_fg3 ?_
              exact ih (i + 1) (hs_I Gd9 (cp_w ca 4) i ((nI (sp_bes (ab_i B 6 (sq_next (B.1.2 6))).1 ((ab_i B 6 (sq_next (B.1.2 6))).1.1 14 i) d9)))) (by omega) (by omega) (by show cp_R _ _ (sq_goes (sq_moves (sq_rain A) i) i); rw [hB, hgo]; exact z13)
            · refine hr_aload0 (q := 86) X dX0_goesHour_85 rfl ?_
              refine hr_getR (v := (cp_w ca 0)) (q := 89) X dX0_goesHour_86 rfl fr_q250_0 rfl hd9.o.1 hd9.o.2.2.2.2.2.2.1 ?_
              refine hr_getR (v := (cp_w ca 4)) (q := 92) X dX0_goesHour_89 rfl fr_q190_2 rfl hd9.w.ob hd9.w.f14 ?_
              refine hr_iload1 (q := 93) X dX0_goesHour_92 rfl ?_
              have b14 := Wd9.w.b14 (p := i) (by omega)
              refine hr_ialdN (v := (nI ((ab_i B 6 (sq_next (B.1.2 6))).1.1 14 i))) (q := 94) X dX0_goesHour_93 rfl hd9.w.k4 (Or.inl rfl) (by omega) (by decide) (hd9.w.e4 (by omega)) ?_
              refine hr_goto (tgt := 98) X dX0_goesHour_94 (by decide) ?_
              refine hr_iastN (q := 99) X dX0_goesHour_98 rfl hd9.w.k4 (by omega) (by decide) ?_
              have z15 : cp_R (hs_I Gd9 (cp_w ca 4) i ((nI ((ab_i B 6 (sq_next (B.1.2 6))).1.1 14 i)))) ca (ab_n (ab_i B 6 (sq_next (B.1.2 6))) 14 i ((ab_i B 6 (sq_next (B.1.2 6))).1.1 14 i)) := hd9.town (hg_fr.rf.I ⟨25, .w (by decide), ⟨by decide, by decide, by decide⟩, rfl⟩) (hd9.w.putA hd9.wD (i := 4) (a := 14) (Or.inr (Or.inr ⟨rfl, rfl⟩))) (fun a h1 h2 => funext fun i => by first | rfl | exact sp_set_o (by omega)) rfl rfl
              rw [show ab_n (ab_i B 6 (sq_next (B.1.2 6))) 14 i ((ab_i B 6 (sq_next (B.1.2 6))).1.1 14 i) = (ab_i B 6 (sq_next (B.1.2 6))) from ab_n_id _ _ _] at z15
              have hgo := hgo.trans (if_pos (Or.inr (by omega)))
              refine hr_iinc1 (v := (nI (i + 1))) (q := 102) X dX0_goesHour_99 rfl (nI_add _ _) rfl (Nat.le_of_ble_eq_true rfl) ?_
              refine hr_goto (tgt := 25) X dX0_goesHour_102 (by decide) ?_
              refine hr_fg2 ?_
              refine hr_fg3 ?_
              exact ih (i + 1) (hs_I Gd9 (cp_w ca 4) i ((nI ((ab_i B 6 (sq_next (B.1.2 6))).1.1 14 i)))) (by omega) (by omega) (by show cp_R _ _ (sq_goes (sq_moves (sq_rain A) i) i); rw [hB, hgo]; exact z15)
    exact loop25 _ _ (A.1.1 0 0 + 1) 0 (hs_I Gd1 (cp_w ca 0) 3 (nI 0)) (Nat.zero_le _) (by omega) z2
  · refine hr_iconst (v := (nI 1)) (q := 16) X dX0_goesHour_15 rfl rfl ?_
    refine hr_goto (tgt := 20) X dX0_goesHour_16 (by decide) ?_
    refine hr_putI (q := 23) X dX0_goesHour_20 rfl fw_q162_2 (fun h => nomatch h) rfl (nI_narZ (by omega)) (nI_fitZ (by omega)) hd1.w.ob ?_
    have z16 : cp_R (hs_I Gd1 (cp_w ca 0) 3 (nI 1)) ca (ab_n (ab_i A 6 (sq_next (A.1.2 6))) 3 0 1) := hd1.town (hg_fr.rf.I ⟨21, .w (by decide), ⟨by decide, by decide, by decide⟩, rfl⟩) (hd1.w.setn hd1.wD (k := 3) (by decide) 1) (fun a h1 h2 => funext fun i => by first | rfl | exact sp_set_o (by omega)) rfl rfl
    refine hr_iconst (v := (nI 0)) (q := 24) X dX0_goesHour_23 rfl rfl ?_
    refine hr_istore1 (q := 25) X dX0_goesHour_24 rfl rfl (Nat.le_of_ble_eq_true rfl) ?_
    have hra : ab_n (ab_i A 6 (sq_next (A.1.2 6))) 3 0 1 = sq_rain A := by rw [sq_rain, if_pos c12]
    rw [hra] at z16
    have loop25 : ∀ (kr nr n : Nat) (i : Nat) (G9 : hg_G), (i ≤ A.1.1 0 0) → (A.1.1 0 0 + 1 ≤ i + n) → (cp_R G9 ca (sq_moves (sq_rain A) i)) → hg_W p l e rm_X0_goesHour s m args below meth c (hg_Q below D lo args s rm_X0_goesHour G (fun r G' => r = .inl none ∧ cp_R G' ca (sq_hour A))) D lo G.1 4 kr nr G9 25 [some (.ref (ca 0)), some (.int (nI i)), none, none] [] := by
      intro kr nr n
      induction n with
      | zero =>
        intro i G9 h25_0 h25_1 h25_2
        omega
      | succ n ih =>
        intro i G9 h25_0 h25_1 h25_2
        refine hr_iload1 (q := 26) X dX0_goesHour_25 rfl ?_
        have hWB := (hW.rain.moves i (by omega)).1
        have hBn : (sq_moves (sq_rain A) i).1.1 0 0 = A.1.1 0 0 := (hW.rain.moves i (by omega)).2
        generalize hB : sq_moves (sq_rain A) i = B at hWB hBn h25_2
        have wB0 := hWB.w.b0; have wB1 := hWB.w.b1; have wB2 := hWB.w.b2; have wB3 := hWB.w.b3; have wB36 := hWB.b36
        refine hr_aload0 (q := 27) X dX0_goesHour_26 rfl ?_
        refine hr_getR (v := (cp_w ca 0)) (q := 30) X dX0_goesHour_27 rfl fr_q250_0 rfl h25_2.o.1 h25_2.o.2.2.2.2.2.2.1 ?_
        refine hr_getI (v := (nI (B.1.1 0 0))) (q := 33) X dX0_goesHour_30 rfl fr_q154_2 rfl h25_2.w.ob h25_2.w.f0 ?_
        refine hr_icmpN_ge (q := 36) (tgt := 105) X dX0_goesHour_33 rfl (by decide) (by omega) (by omega) (fun c33 => ?_) (fun c33 => ?_)
        · have hiN : i = A.1.1 0 0 := by omega
          rw [← hB, hiN] at h25_2
          refine hr_iconst (v := (nI 0)) (q := 106) X dX0_goesHour_105 rfl rfl ?_
          refine hr_istore1 (q := 107) X dX0_goesHour_106 rfl rfl (Nat.le_of_ble_eq_true rfl) ?_
          have hWM := (hW.rain.moves (A.1.1 0 0) hW.w.b0).1
          have hMn : (sq_moves (sq_rain A) (A.1.1 0 0)).1.1 0 0 = A.1.1 0 0 := (hW.rain.moves (A.1.1 0 0) hW.w.b0).2
          generalize hM : (sq_moves (sq_rain A) (A.1.1 0 0)) = M at hWM hMn h25_2
          have hst : cp_R G9 ca (ab_i (sq_pays M 0).1 5 (M.1.2 5 + nI (sq_pays M 0).2)) := by
            have e : ab_i (sq_pays M 0).1 5 (M.1.2 5 + nI (sq_pays M 0).2) = M := by
              refine ab_ext (fun _ _ => rfl) (fun k => ?_) rfl (fun _ _ => rfl) (fun _ => rfl)
              show (if k = 5 then M.1.2 5 + nI 0 else M.1.2 k) = M.1.2 k
              by_cases hk : k = 5
              · rw [if_pos hk, hk, nI_0, Int32.add_zero]
              · rw [if_neg hk]
            rw [e]; exact h25_2
          have loop107 : ∀ (n : Nat) (j : Nat) (G9 : hg_G), (j ≤ A.1.1 0 0) → (A.1.1 0 0 + 1 ≤ j + n) → (cp_R G9 ca (ab_i (sq_pays M j).1 5 (M.1.2 5 + nI (sq_pays M j).2))) → hg_W p l e rm_X0_goesHour s m args below meth c (hg_Q below D lo args s rm_X0_goesHour G (fun r G' => r = .inl none ∧ cp_R G' ca (sq_hour A))) D lo G.1 4 kr nr G9 107 [some (.ref (ca 0)), some (.int (nI j)), none, none] [] := by
            intro n
            induction n with
            | zero =>
              intro j G9 h107_0 h107_1 h107_2
              omega
            | succ n ih =>
              intro j G9 h107_0 h107_1 h107_2
              refine hr_iload1 (q := 108) X dX0_goesHour_107 rfl ?_
              have hWZ := (hWM.pays j (by omega)).1
              have hZn : (sq_pays M j).1.1.1 0 0 = A.1.1 0 0 := ((hWM.pays j (by omega)).2).trans hMn
              have hZ2 := sq_pays_2 M j
              generalize hZ : sq_pays M j = Z at hWZ hZn hZ2 h107_2
              have hWB : ab_wf (ab_i Z.1 5 (M.1.2 5 + nI Z.2)) := hWZ.i _ _
              have hBn : (ab_i Z.1 5 (M.1.2 5 + nI Z.2)).1.1 0 0 = A.1.1 0 0 := hZn
              have hB5 : (ab_i Z.1 5 (M.1.2 5 + nI Z.2)).1.2 5 = M.1.2 5 + nI Z.2 := rfl
              have hB4 : (ab_i Z.1 5 (M.1.2 5 + nI Z.2)).1.2 4 = Z.1.1.2 4 := rfl
              have hpd : sp_paid (ab_i Z.1 5 (M.1.2 5 + nI Z.2)).1 j = sp_paid Z.1.1 j := sp_paid_i _ _ _ _
              have hpl : sp_paid Z.1.1 j ≤ Z.1.1.1 13 j := sp_paid_le _ _
              generalize hBe : ab_i Z.1 5 (M.1.2 5 + nI Z.2) = B at hWB hBn hB5 hB4 hpd h107_2
              have wB0 := hWB.w.b0; have wB1 := hWB.w.b1; have wB2 := hWB.w.b2; have wB3 := hWB.w.b3; have wB36 := hWB.b36
              refine hr_aload0 (q := 109) X dX0_goesHour_108 rfl ?_
              refine hr_getR (v := (cp_w ca 0)) (q := 112) X dX0_goesHour_109 rfl fr_q250_0 rfl h107_2.o.1 h107_2.o.2.2.2.2.2.2.1 ?_
              refine hr_getI (v := (nI (B.1.1 0 0))) (q := 115) X dX0_goesHour_112 rfl fr_q154_2 rfl h107_2.w.ob h107_2.w.f0 ?_
              refine hr_icmpN_ge (q := 118) (tgt := 144) X dX0_goesHour_115 rfl (by decide) (by omega) (by omega) (fun c115 => ?_) (fun c115 => ?_)
              · have hjN : j = A.1.1 0 0 := by omega
                refine hr_aload0 (q := 145) X dX0_goesHour_144 rfl ?_
                refine hr_getR (v := (cp_w ca 0)) (q := 148) X dX0_goesHour_145 rfl fr_q250_0 rfl h107_2.o.1 h107_2.o.2.2.2.2.2.2.1 ?_
                refine hr_dup (q := 149) X dX0_goesHour_148 rfl rfl ?_
                refine hr_getI (v := (B.1.2 4)) (q := 152) X dX0_goesHour_149 rfl fr_q164_2 rfl h107_2.w.ob h107_2.w.f4 ?_
                refine hr_iconst (v := (nI 1)) (q := 153) X dX0_goesHour_152 rfl rfl ?_
                refine hr_iadd (v := ((B.1.2 4) + (nI 1))) (q := 154) X dX0_goesHour_153 rfl rfl ?_
                refine hr_putI (q := 157) X dX0_goesHour_154 rfl fw_q164_2 (fun h => nomatch h) rfl rfl rfl h107_2.w.ob ?_
                have z18 : cp_R (hs_I G9 (cp_w ca 0) 4 ((B.1.2 4) + (nI 1))) ca (ab_i B 4 ((B.1.2 4) + (nI 1))) := h107_2.town (hg_fr.rf.I ⟨21, .w (by decide), ⟨by decide, by decide, by decide⟩, rfl⟩) (h107_2.w.seti h107_2.wD (k := 4) (by decide) _) (fun a h1 h2 => funext fun i => by first | rfl | exact sp_set_o (by omega)) rfl rfl
                have W19 : ab_wf (ab_i B 4 ((B.1.2 4) + (nI 1))) := hWB.i _ _
                have hen : (ab_i B 4 ((B.1.2 4) + (nI 1))) = sq_hour A := by
                  show _ = ab_i (ab_i (sq_pays (sq_moves (sq_rain A) (A.1.1 0 0)) (A.1.1 0 0)).1 5 ((sq_pays (sq_moves (sq_rain A) (A.1.1 0 0)) (A.1.1 0 0)).1.1.2 5 + nI (sq_pays (sq_moves (sq_rain A) (A.1.1 0 0)) (A.1.1 0 0)).2)) 4 ((sq_pays (sq_moves (sq_rain A) (A.1.1 0 0)) (A.1.1 0 0)).1.1.2 4 + nI 1)
                  rw [hM, ← hjN, hZ, hB4, ← hBe, hZ2]
                exact hr_vret X hr dX0_goesHour_157 ⟨rfl, by rw [← hen]; exact z18⟩
              · refine hr_aload0 (q := 119) X dX0_goesHour_118 rfl ?_
                refine hr_getR (v := (cp_w ca 0)) (q := 122) X dX0_goesHour_119 rfl fr_q250_0 rfl h107_2.o.1 h107_2.o.2.2.2.2.2.2.1 ?_
                refine hr_dup (q := 123) X dX0_goesHour_122 rfl rfl ?_
                refine hr_getI (v := (B.1.2 5)) (q := 126) X dX0_goesHour_123 rfl fr_q166_2 rfl h107_2.w.ob h107_2.w.f5 ?_
                refine hr_aload0 (q := 127) X dX0_goesHour_126 rfl ?_
                refine hr_getR (v := (cp_w ca 0)) (q := 130) X dX0_goesHour_127 rfl fr_q250_0 rfl h107_2.o.1 h107_2.o.2.2.2.2.2.2.1 ?_
                refine hr_iload1 (q := 131) X dX0_goesHour_130 rfl ?_
                refine hr_call0 (q := 134) (hc_V (n := 1) (ci := 2) (As := [.int (nI j)]) X dX0_goesHour_131 rfl (tn_pays X.tr h107_2.w hWB.w h107_2.wD (x := j) (by omega)) q1232 cv_X2_pays ⟨Nat.le_of_ble_eq_true rfl, Nat.le_of_ble_eq_true rfl⟩ rfl (Nat.le_of_ble_eq_true rfl) h107_2.w.ob rfl rfl) rfl (fun qx E G' hp => by cases hp.1) (fun r Gd20 hp _ => ?_)
                obtain ⟨hvd20, hTd20, -, hfd20, hpd20⟩ := hp
                cases hvd20
                have hd20 : cp_R Gd20 ca (sq_pay B j) := h107_2.town2 hWB (cp_Ww hfd20) hpd20 hTd20 (fun a h1 h2 => funext fun i => by first | rfl | exact sp_set_o (by omega)) rfl rfl
                have Wd20 : ab_wf (sq_pay B j) := (hWB.pay (by omega)).1
                refine hr_iadd (v := (B.1.2 5 + nI (sp_paid B.1 j))) (q := 135) X dX0_goesHour_134 rfl rfl ?_
                refine hr_putI (q := 138) X dX0_goesHour_135 rfl fw_q166_2 (fun h => nomatch h) rfl rfl rfl hd20.w.ob ?_
                have z21 : cp_R (hs_I Gd20 (cp_w ca 0) 5 (B.1.2 5 + nI (sp_paid B.1 j))) ca (ab_i (sq_pay B j) 5 (B.1.2 5 + nI (sp_paid B.1 j))) := hd20.town (hg_fr.rf.I ⟨21, .w (by decide), ⟨by decide, by decide, by decide⟩, rfl⟩) (hd20.w.seti hd20.wD (k := 5) (by decide) _) (fun a h1 h2 => funext fun i => by first | rfl | exact sp_set_o (by omega)) rfl rfl
                have W22 : ab_wf (ab_i (sq_pay B j) 5 (B.1.2 5 + nI (sp_paid B.1 j))) := Wd20.i _ _
                have hfi : cp_R (hs_I Gd20 (cp_w ca 0) 5 (B.1.2 5 + nI (sp_paid B.1 j))) ca (ab_i (sq_pay Z.1 j) 5 (M.1.2 5 + nI (Z.2 + sp_paid Z.1.1 j))) := by
                  have e : ab_i (sq_pay B j) 5 (B.1.2 5 + nI (sp_paid B.1 j)) = ab_i (sq_pay Z.1 j) 5 (M.1.2 5 + nI (Z.2 + sp_paid Z.1.1 j)) := by
                    unfold sq_pay
                    rw [hpd, hB5, ← hBe, cp_pays_e, ← nI_add, Int32.add_assoc]
                    rfl
                  rw [← e]; exact z21
                refine hr_iinc1 (v := (nI (j + 1))) (q := 141) X dX0_goesHour_138 rfl (nI_add _ _) rfl (Nat.le_of_ble_eq_true rfl) ?_
                refine hr_goto (tgt := 107) X dX0_goesHour_141 (by decide) ?_
                exact ih (j + 1) (hs_I Gd20 (cp_w ca 0) 5 (B.1.2 5 + nI (sp_paid B.1 j))) (by omega) (by omega) (by show cp_R _ _ (ab_i (sq_pay (sq_pays M j).1 j) 5 (M.1.2 5 + nI ((sq_pays M j).2 + sp_paid (sq_pays M j).1.1 j))); rw [hZ]; exact hfi)
          exact loop107 (A.1.1 0 0 + 1) 0 G9 (Nat.zero_le _) (by omega) hst
        · refine hr_aload0 (q := 37) X dX0_goesHour_36 rfl ?_
          refine hr_getR (v := (cp_w ca 0)) (q := 40) X dX0_goesHour_37 rfl fr_q250_0 rfl h25_2.o.1 h25_2.o.2.2.2.2.2.2.1 ?_
          refine hr_iconst (v := (nI 5)) (q := 41) X dX0_goesHour_40 rfl rfl ?_
          refine hr_call0 (q := 44) (hc_V (n := 1) (ci := 2) (As := [.int (nI 5)]) X dX0_goesHour_41 rfl (tn_draw X.tr h25_2.w hWB.w h25_2.wD (k := 5) (by decide) (by decide)) q1257 cv_X2_draw ⟨Nat.le_of_ble_eq_true rfl, Nat.le_of_ble_eq_true rfl⟩ rfl (Nat.le_of_ble_eq_true rfl) h25_2.w.ob rfl rfl) rfl (fun qx E G' hp => by cases hp.1) (fun r Gd23 hp _ => ?_)
          obtain ⟨hvd23, hTd23, -, hfd23, hpd23⟩ := hp
          cases hvd23
          have hd23 : cp_R Gd23 ca (ab_i B 6 (sq_next (B.1.2 6))) := h25_2.town2 hWB (cp_Ww hfd23) hpd23 hTd23 (fun a h1 h2 => funext fun i => by first | rfl | exact sp_set_o (by omega)) rfl rfl
          have Wd23 : ab_wf (ab_i B 6 (sq_next (B.1.2 6))) := hWB.i _ _
          obtain ⟨d1, d2⟩ := sq_drawn_n (n := 5) (by decide) (by decide) (sq_next (B.1.2 6))
          refine hr_st1 (v' := .int (nI (iN (sq_drawn 5 (sq_next (B.1.2 6)))))) (congrArg Value.int d1) ?_
          have hgo := sq_goes_c hWB (i := i) (by omega)
          generalize iN (sq_drawn 5 (sq_next (B.1.2 6))) = d9 at hgo d2 ⊢
          have hBd : (ab_i B 6 (sq_next (B.1.2 6))).1.1 0 0 = B.1.1 0 0 := rfl
          have h14 := hWB.w.b14 (p := i) (by omega)
          have hBe14 : (ab_i B 6 (sq_next (B.1.2 6))).1.1 14 i = B.1.1 14 i := rfl
          have hbl := sp_bes_lt (t := B.1) (w := d9) h14
          have hbe : sp_bes (ab_i B 6 (sq_next (B.1.2 6))).1 ((ab_i B 6 (sq_next (B.1.2 6))).1.1 14 i) d9 = sp_bes B.1 (B.1.1 14 i) d9 := rfl
          refine hr_istore2 (q := 45) X dX0_goesHour_44 rfl rfl (Nat.le_of_ble_eq_true rfl) ?_
          refine hr_iload2 (q := 46) X dX0_goesHour_45 rfl ?_
          refine hr_iconst (v := (nI 4)) (q := 47) X dX0_goesHour_46 rfl rfl ?_
          refine hr_icmpN_ge (q := 50) (tgt := 70) X dX0_goesHour_47 rfl (by decide) (by omega) (by omega) (fun c47 => ?_) (fun c47 => ?_)
          · refine hr_iconst (v := (-1)) (q := 71) X dX0_goesHour_70 rfl rfl ?_
            refine hr_st1 (v' := .int (oI 99)) (congrArg Value.int rfl) ?_
            refine hr_istore3 (q := 72) X dX0_goesHour_71 rfl rfl (Nat.le_of_ble_eq_true rfl) ?_
            refine hr_aload0 (q := 73) X dX0_goesHour_72 rfl ?_
            refine hr_getR (v := (cp_w ca 0)) (q := 76) X dX0_goesHour_73 rfl fr_q250_0 rfl hd23.o.1 hd23.o.2.2.2.2.2.2.1 ?_
            refine hr_getR (v := (cp_w ca 4)) (q := 79) X dX0_goesHour_76 rfl fr_q190_2 rfl hd23.w.ob hd23.w.f14 ?_
            refine hr_iload1 (q := 80) X dX0_goesHour_79 rfl ?_
            refine hr_iload3 (q := 81) X dX0_goesHour_80 rfl ?_
            refine hr_iconst (v := (-1)) (q := 82) X dX0_goesHour_81 rfl rfl ?_
            refine hr_icmpO_ne (q := 85) (tgt := 97) X dX0_goesHour_82 rfl (by decide) (by omega) (fun c82 => ?_) (fun c82 => ?_)
            · exact False.elim (by omega)
            · refine hr_aload0 (q := 86) X dX0_goesHour_85 rfl ?_
              refine hr_getR (v := (cp_w ca 0)) (q := 89) X dX0_goesHour_86 rfl fr_q250_0 rfl hd23.o.1 hd23.o.2.2.2.2.2.2.1 ?_
              refine hr_getR (v := (cp_w ca 4)) (q := 92) X dX0_goesHour_89 rfl fr_q190_2 rfl hd23.w.ob hd23.w.f14 ?_
              refine hr_iload1 (q := 93) X dX0_goesHour_92 rfl ?_
              have b24 := Wd23.w.b14 (p := i) (by omega)
              refine hr_ialdN (v := (nI ((ab_i B 6 (sq_next (B.1.2 6))).1.1 14 i))) (q := 94) X dX0_goesHour_93 rfl hd23.w.k4 (Or.inl rfl) (by omega) (by decide) (hd23.w.e4 (by omega)) ?_
              refine hr_goto (tgt := 98) X dX0_goesHour_94 (by decide) ?_
              refine hr_iastN (q := 99) X dX0_goesHour_98 rfl hd23.w.k4 (by omega) (by decide) ?_
              have z25 : cp_R (hs_I Gd23 (cp_w ca 4) i ((nI ((ab_i B 6 (sq_next (B.1.2 6))).1.1 14 i)))) ca (ab_n (ab_i B 6 (sq_next (B.1.2 6))) 14 i ((ab_i B 6 (sq_next (B.1.2 6))).1.1 14 i)) := hd23.town (hg_fr.rf.I ⟨25, .w (by decide), ⟨by decide, by decide, by decide⟩, rfl⟩) (hd23.w.putA hd23.wD (i := 4) (a := 14) (Or.inr (Or.inr ⟨rfl, rfl⟩))) (fun a h1 h2 => funext fun i => by first | rfl | exact sp_set_o (by omega)) rfl rfl
              rw [show ab_n (ab_i B 6 (sq_next (B.1.2 6))) 14 i ((ab_i B 6 (sq_next (B.1.2 6))).1.1 14 i) = (ab_i B 6 (sq_next (B.1.2 6))) from ab_n_id _ _ _] at z25
              have hgo := hgo.trans (if_pos (Or.inl (by omega)))
              refine hr_iinc1 (v := (nI (i + 1))) (q := 102) X dX0_goesHour_99 rfl (nI_add _ _) rfl (Nat.le_of_ble_eq_true rfl) ?_
              refine hr_goto (tgt := 25) X dX0_goesHour_102 (by decide) ?_
              refine hr_fg2 ?_
              refine hr_fg3 ?_
              exact ih (i + 1) (hs_I Gd23 (cp_w ca 4) i ((nI ((ab_i B 6 (sq_next (B.1.2 6))).1.1 14 i)))) (by omega) (by omega) (by show cp_R _ _ (sq_goes (sq_moves (sq_rain A) i) i); rw [hB, hgo]; exact z25)
          · refine hr_aload0 (q := 51) X dX0_goesHour_50 rfl ?_
            refine hr_getR (v := (cp_w ca 0)) (q := 54) X dX0_goesHour_51 rfl fr_q250_0 rfl hd23.o.1 hd23.o.2.2.2.2.2.2.1 ?_
            refine hr_aload0 (q := 55) X dX0_goesHour_54 rfl ?_
            refine hr_getR (v := (cp_w ca 0)) (q := 58) X dX0_goesHour_55 rfl fr_q250_0 rfl hd23.o.1 hd23.o.2.2.2.2.2.2.1 ?_
            refine hr_getR (v := (cp_w ca 4)) (q := 61) X dX0_goesHour_58 rfl fr_q190_2 rfl hd23.w.ob hd23.w.f14 ?_
            refine hr_iload1 (q := 62) X dX0_goesHour_61 rfl ?_
            have b26 := Wd23.w.b14 (p := i) (by omega)
            refine hr_ialdN (v := (nI ((ab_i B 6 (sq_next (B.1.2 6))).1.1 14 i))) (q := 63) X dX0_goesHour_62 rfl hd23.w.k4 (Or.inl rfl) (by omega) (by decide) (hd23.w.e4 (by omega)) ?_
            refine hr_iload2 (q := 64) X dX0_goesHour_63 rfl ?_
            refine hr_callP (q := 67) (hc_V (n := 2) (ci := 2) (As := [.int (nI ((ab_i B 6 (sq_next (B.1.2 6))).1.1 14 i)), .int (nI d9)]) X dX0_goesHour_64 rfl (tn_beside X.tr hd23.w Wd23.w (z := (ab_i B 6 (sq_next (B.1.2 6))).1.1 14 i) (v := d9) (by omega) (by omega)) q1231 cv_X2_beside ⟨Nat.le_of_ble_eq_true rfl, Nat.le_of_ble_eq_true rfl⟩ rfl (Nat.le_of_ble_eq_true rfl) hd23.w.ob rfl rfl) rfl ?_
            refine hr_goto (tgt := 71) X dX0_goesHour_67 (by decide) ?_
            refine hr_istore3 (q := 72) X dX0_goesHour_71 rfl rfl (Nat.le_of_ble_eq_true rfl) ?_
            refine hr_aload0 (q := 73) X dX0_goesHour_72 rfl ?_
            refine hr_getR (v := (cp_w ca 0)) (q := 76) X dX0_goesHour_73 rfl fr_q250_0 rfl hd23.o.1 hd23.o.2.2.2.2.2.2.1 ?_
            refine hr_getR (v := (cp_w ca 4)) (q := 79) X dX0_goesHour_76 rfl fr_q190_2 rfl hd23.w.ob hd23.w.f14 ?_
            refine hr_iload1 (q := 80) X dX0_goesHour_79 rfl ?_
            refine hr_iload3 (q := 81) X dX0_goesHour_80 rfl ?_
            refine hr_iconst (v := (-1)) (q := 82) X dX0_goesHour_81 rfl rfl ?_
            refine hr_icmpO_ne (q := 85) (tgt := 97) X dX0_goesHour_82 rfl (by decide) (by omega) (fun c82 => ?_) (fun c82 => ?_)
            · refine hr_iload3 (q := 98) X dX0_goesHour_97 rfl ?_
              refine hr_st1 (v' := .int (nI (sp_bes (ab_i B 6 (sq_next (B.1.2 6))).1 ((ab_i B 6 (sq_next (B.1.2 6))).1.1 14 i) d9))) (congrArg Value.int (oI_of (by omega))) ?_
              refine hr_iastN (q := 99) X dX0_goesHour_98 rfl hd23.w.k4 (by omega) (by decide) ?_
              have z27 : cp_R (hs_I Gd23 (cp_w ca 4) i ((nI (sp_bes (ab_i B 6 (sq_next (B.1.2 6))).1 ((ab_i B 6 (sq_next (B.1.2 6))).1.1 14 i) d9)))) ca (ab_n (ab_i B 6 (sq_next (B.1.2 6))) 14 i (sp_bes (ab_i B 6 (sq_next (B.1.2 6))).1 ((ab_i B 6 (sq_next (B.1.2 6))).1.1 14 i) d9)) := hd23.town (hg_fr.rf.I ⟨25, .w (by decide), ⟨by decide, by decide, by decide⟩, rfl⟩) (hd23.w.putA hd23.wD (i := 4) (a := 14) (Or.inr (Or.inr ⟨rfl, rfl⟩))) (fun a h1 h2 => funext fun i => by first | rfl | exact sp_set_o (by omega)) rfl rfl
              have hgo := hgo.trans (if_neg (by omega))
              refine hr_iinc1 (v := (nI (i + 1))) (q := 102) X dX0_goesHour_99 rfl (nI_add _ _) rfl (Nat.le_of_ble_eq_true rfl) ?_
              refine hr_goto (tgt := 25) X dX0_goesHour_102 (by decide) ?_
              refine hr_fg2 ?_
              refine hr_fg3 ?_
              exact ih (i + 1) (hs_I Gd23 (cp_w ca 4) i ((nI (sp_bes (ab_i B 6 (sq_next (B.1.2 6))).1 ((ab_i B 6 (sq_next (B.1.2 6))).1.1 14 i) d9)))) (by omega) (by omega) (by show cp_R _ _ (sq_goes (sq_moves (sq_rain A) i) i); rw [hB, hgo]; exact z27)
            · refine hr_aload0 (q := 86) X dX0_goesHour_85 rfl ?_
              refine hr_getR (v := (cp_w ca 0)) (q := 89) X dX0_goesHour_86 rfl fr_q250_0 rfl hd23.o.1 hd23.o.2.2.2.2.2.2.1 ?_
              refine hr_getR (v := (cp_w ca 4)) (q := 92) X dX0_goesHour_89 rfl fr_q190_2 rfl hd23.w.ob hd23.w.f14 ?_
              refine hr_iload1 (q := 93) X dX0_goesHour_92 rfl ?_
              have b28 := Wd23.w.b14 (p := i) (by omega)
              refine hr_ialdN (v := (nI ((ab_i B 6 (sq_next (B.1.2 6))).1.1 14 i))) (q := 94) X dX0_goesHour_93 rfl hd23.w.k4 (Or.inl rfl) (by omega) (by decide) (hd23.w.e4 (by omega)) ?_
              refine hr_goto (tgt := 98) X dX0_goesHour_94 (by decide) ?_
              refine hr_iastN (q := 99) X dX0_goesHour_98 rfl hd23.w.k4 (by omega) (by decide) ?_
              have z29 : cp_R (hs_I Gd23 (cp_w ca 4) i ((nI ((ab_i B 6 (sq_next (B.1.2 6))).1.1 14 i)))) ca (ab_n (ab_i B 6 (sq_next (B.1.2 6))) 14 i ((ab_i B 6 (sq_next (B.1.2 6))).1.1 14 i)) := hd23.town (hg_fr.rf.I ⟨25, .w (by decide), ⟨by decide, by decide, by decide⟩, rfl⟩) (hd23.w.putA hd23.wD (i := 4) (a := 14) (Or.inr (Or.inr ⟨rfl, rfl⟩))) (fun a h1 h2 => funext fun i => by first | rfl | exact sp_set_o (by omega)) rfl rfl
              rw [show ab_n (ab_i B 6 (sq_next (B.1.2 6))) 14 i ((ab_i B 6 (sq_next (B.1.2 6))).1.1 14 i) = (ab_i B 6 (sq_next (B.1.2 6))) from ab_n_id _ _ _] at z29
              have hgo := hgo.trans (if_pos (Or.inr (by omega)))
              refine hr_iinc1 (v := (nI (i + 1))) (q := 102) X dX0_goesHour_99 rfl (nI_add _ _) rfl (Nat.le_of_ble_eq_true rfl) ?_
              refine hr_goto (tgt := 25) X dX0_goesHour_102 (by decide) ?_
              refine hr_fg2 ?_
              refine hr_fg3 ?_
              exact ih (i + 1) (hs_I Gd23 (cp_w ca 4) i ((nI ((ab_i B 6 (sq_next (B.1.2 6))).1.1 14 i)))) (by omega) (by omega) (by show cp_R _ _ (sq_goes (sq_moves (sq_rain A) i) i); rw [hB, hgo]; exact z29)
    exact loop25 _ _ (A.1.1 0 0 + 1) 0 (hs_I Gd1 (cp_w ca 0) 3 (nI 1)) (Nat.zero_le _) (by omega) z16

abbrev rk_X0_hours : Room := { frames := 12, cells := 40, slots := 3000, locals := 400 }
theorem tc_hours {l : Launch} {D : hg_D} {lo : Nat} (htr : l.stackTraces = false) {G : hg_G} {ca : Nat → Nat} {A : ab_S} (h : cp_R G ca A) (hW : ab_wf A) {a1 : Int32} :
    hg_M l D lo yX0_hours (wsW_ yX0_hours cX0_hours 3 ((some FieldType.int)) [(0, 38, 39, 21)]) rk_X0_hours [.ref (ca 0), .int a1] G (cp_Po ca (sq_hours a1 A)) := by
  refine hg_M.ofH htr (by decide) [some (.ref (ca 0)), some (.int a1), none] rfl (Nat.le_of_ble_eq_true rfl) ?_
  intro p e s m args below meth c X hr hnm htab
  have X : hg_X p l s m args meth c D lo "TaxOnLooks" cX0_hours 3 := X
  refine hr_room (kr' := 40) (nr' := 3000) (Nat.le_of_ble_eq_true rfl) (Nat.le_of_ble_eq_true rfl) ?_
  have hw := hW.w; have w0 := hw.b0; have w1 := hw.b1; have w2 := hw.b2; have w3 := hw.b3; have w36 := hW.b36; have w43 := hW.b43
  have hpw := sp_wpk hw; have hpb := sp_bpk hw
  obtain ⟨K, hK, hKs, hKb⟩ := h.w.sk
  refine hr_iload1 (q := 1) X dX0_hours_0 rfl ?_
  refine hr_i2l (v := a1.toInt64) (q := 2) X dX0_hours_1 rfl rfl ?_
  refine hr_lconst (v := (lN 1)) (q := 3) X dX0_hours_2 rfl rfl ?_
  refine hr_ldc2 (q := 6) X dX0_hours_3 rfl q1252 ?_
  refine hr_callP (v := .int (bI (sp_fr a1 (nI 1) (nI 40)))) (q := 9) (hc_S (n := 3) (As := [.long a1.toInt64, .long (lN 1), .long 40]) X dX0_hours_6 rfl (tc_in X.tr (x := a1) (b := 1) (z := 40) (by decide) (by decide)) q387 cs_X0_in ⟨Nat.le_of_ble_eq_true rfl, Nat.le_of_ble_eq_true rfl⟩ rfl (Nat.le_of_ble_eq_true rfl)) rfl ?_
  refine hr_bipush (v := (-6)) (q := 11) X dX0_hours_9 rfl rfl ?_
  refine hr_call (kr := 39) (nr := 2993) (q := 14) (hc_S (n := 2) (As := [.int (bI (sp_fr a1 (nI 1) (nI 40))), .int (-6)]) X dX0_hours_11 rfl (tc_need X.tr (g := sp_fr a1 (nI 1) (nI 40)) (w := (-6))) q383 cs_X0_need ⟨Nat.le_of_ble_eq_true rfl, Nat.le_of_ble_eq_true rfl⟩ rfl (Nat.le_of_ble_eq_true rfl)) rfl (fun qxn1 E Gxn1 hpn1 _ => ?_) (fun r Gn1 hpn1 _ => ?_)
  · obtain ⟨hgn1, hrn1, -⟩ | ⟨hgn1, qn1, hrn1, htn1⟩ := hpn1
    · cases hrn1
    · cases hrn1
      have hxn1 := h.T htn1
      refine hx_catch (name := "TaxOnLooks$Refused") X [] ⟨0, 38, 39, 21⟩ [] htab (fun _ h => absurd h List.not_mem_nil) (by decide) (by decide) q277 (by decide) ?_
      have fhgn1 : a1 < nI 1 ∨ (¬ a1 < nI 1 ∧ ¬ a1 ≤ nI 40) := sp_fr_f hgn1
      refine hr_astore2 (q := 40) X dX0_hours_39 rfl rfl (Nat.le_of_ble_eq_true rfl) ?_
      refine hr_aload0 (q := 41) X dX0_hours_40 rfl ?_
      refine hr_aload2 (q := 42) X dX0_hours_41 rfl ?_
      refine hr_call0 (q := 45) (hc_V (n := 1) (ci := 0) (As := [.ref qxn1]) X dX0_hours_42 rfl (tc_refused X.tr hxn1 hW (q := qxn1) htn1.2.1 htn1.2.2.1 (k := 6) (by decide) (by decide) (by decide)) q452 cv_X0_refused ⟨Nat.le_of_ble_eq_true rfl, Nat.le_of_ble_eq_true rfl⟩ rfl (Nat.le_of_ble_eq_true rfl) hxn1.o.1 rfl rfl) rfl (fun qx E G' hp => by cases hp.1) (fun r Gf2 hp _ => ?_)
      obtain ⟨hvf2, hhf2⟩ := hp
      cases hvf2
      have hq3 : sq_hours a1 A = ((-6), (sq_no (-6) A).2) := by
        rcases fhgn1 with g | ⟨g, g2⟩
        · simp [sq_hours, sq_noTen, sq_no_1, hgn1, eq_true g]
        · simp [sq_hours, sq_noTen, sq_no_1, hgn1, eq_false g, eq_false g2]
      exact hr_iret X hr dX0_hours_45 (by rw [hq3]; exact ⟨rfl, ca, rfl, hhf2⟩)
  · obtain ⟨hgn1, hrn1, hGn1⟩ | ⟨hgn1, qn1, hrn1, htn1⟩ := hpn1
    · cases hrn1
      have hGn1 := hGn1.symm
      subst hGn1
      have fhgn1 : ¬ a1 < nI 1 ∧ a1 ≤ nI 40 := sp_fr_t hgn1
      obtain ⟨ea1, la1, ma1⟩ := sp_frN (by decide) (by decide) hgn1
      refine hr_L (L' := [some (.ref (ca 0)), some (.int (nI (iN a1))), none]) (by rw [← ea1]) ?_
      refine hr_iconst (v := (nI 0)) (q := 15) X dX0_hours_14 rfl rfl ?_
      refine hr_istore2 (q := 16) X dX0_hours_15 rfl rfl (Nat.le_of_ble_eq_true rfl) ?_
      have loop16 : ∀ (kr nr n : Nat) (i : Nat) (G9 : hg_G), (i ≤ iN a1) → (iN a1 + 1 ≤ i + n) → (cp_R G9 ca (sq_nHours A i)) → hg_W p l e rk_X0_hours s m args below meth c (hg_Q below D lo args s rk_X0_hours G (cp_Po ca (sq_hours a1 A))) D lo G.1 3 kr nr G9 16 [some (.ref (ca 0)), some (.int (nI (iN a1))), some (.int (nI i))] [] := by
        intro kr nr n
        induction n with
        | zero =>
          intro i G9 h16_0 h16_1 h16_2
          omega
        | succ n ih =>
          intro i G9 h16_0 h16_1 h16_2
          refine hr_iload2 (q := 17) X dX0_hours_16 rfl ?_
          have hWi := (hW.nHours i).1
          refine hr_iload1 (q := 18) X dX0_hours_17 rfl ?_
          refine hr_icmpN_ge (q := 21) (tgt := 31) X dX0_hours_18 rfl (by decide) (by omega) (by omega) (fun c18 => ?_) (fun c18 => ?_)
          · refine hr_aload0 (q := 32) X dX0_hours_31 rfl ?_
            refine hr_getR (v := (cp_w ca 0)) (q := 35) X dX0_hours_32 rfl fr_q250_0 rfl h16_2.o.1 h16_2.o.2.2.2.2.2.2.1 ?_
            refine hr_getI (v := ((sq_nHours A i).1.2 5)) (q := 38) X dX0_hours_35 rfl fr_q166_2 rfl h16_2.w.ob h16_2.w.f5 ?_
            have hiN : i = iN a1 := by omega
            have hq : sq_hours a1 A = (((sq_nHours A i).1.2 5), sq_nHours A i) := by
              rw [sq_hours, if_pos hgn1, hiN]
            exact hr_iret X hr dX0_hours_38 (by rw [hq]; exact ⟨rfl, ca, rfl, h16_2⟩)
          · refine hr_aload0 (q := 22) X dX0_hours_21 rfl ?_
            refine hr_call0 (q := 25) (hc_V (n := 0) (ci := 0) (As := []) X dX0_hours_22 rfl (tc_goesHour X.tr h16_2 hWi) q1253 cv_X0_goesHour ⟨Nat.le_of_ble_eq_true rfl, Nat.le_of_ble_eq_true rfl⟩ rfl (Nat.le_of_ble_eq_true rfl) h16_2.o.1 rfl rfl) rfl (fun qx E G' hp => by cases hp.1) (fun r Gg4 hp _ => ?_)
            obtain ⟨hvg4, hg4⟩ := hp
            cases hvg4
            refine hr_iinc2 (v := (nI (i + 1))) (q := 28) X dX0_hours_25 rfl (nI_add _ _) rfl (Nat.le_of_ble_eq_true rfl) ?_
            refine hr_goto (tgt := 16) X dX0_hours_28 (by decide) ?_
            exact ih (i + 1) Gg4 (by omega) (by omega) hg4
      exact loop16 _ _ (iN a1 + 1) 0 G (Nat.zero_le _) (by omega) h
    · cases hrn1

