theorem cp_sk {G : hg_G} {ta : Nat → Nat} {t : sp_S} (h : tn_R G ta t) (hD : tn_D ta) {K P n : Nat} (hK : K < 128) (hg : ∀ p, p < t.1 0 0 → K / 2 ^ p % 2 = if p = P then n else t.1 15 p) : tn_R (hs_I G (ta 0) 9 (nI K)) ta (sp_set t 15 P n) := by
  have := h.setsk hD hK hg
  have e : ((fun a i => if a = 15 then (fun p => if p = P then n else t.1 15 p) i else t.1 a i), t.2) = sp_set t 15 P n := by
    unfold sp_set
    congr 1
    funext a i
    by_cases g : a = 15
    · subst g; rfl
    · rw [if_neg g, if_neg g]
  rw [e] at this
  exact this
/-- what ran is another -/
theorem cp_R.ran {G G' : hg_G} {ca : Nat → Nat} {A B : ab_S} (h : cp_R G ca A) (hf : hg_fr (tr_W (ca 3) (ca 4)) G G') (hT : tr_R G' (ca 3) (ca 4) B) (h1 : B.1.1 = A.1.1) (h2 : ∀ j, j ≠ 42 → B.1.2 j = A.1.2 j) (h3 : B.2.1 = A.2.1) (h4 : B.2.2.2 = A.2.2.2) (h5 : B.2.2.1 8 = A.2.2.1 8) : cp_R G' ca B := by
  have hf2 : hg_fr (cp_W ca A (fun r => r = 3 ∨ r = 4)) G G' := fun a ha => hf a (fun z => by
    rcases z with e | e
    · exact ha ⟨3, .w (by decide), Or.inl rfl, e⟩
    · exact ha ⟨4, .w (by decide), Or.inr rfl, e⟩)
  have st : ∀ r, cp_pr A r → ¬ (r = 3 ∨ r = 4) → hg_st G G' (ca r) := fun r hr hs => h.fw hf2 hr hs
  have o := h.o.st (st 0 (.w (by decide)) (by omega))
  have s := h.s.st (st 1 (.w (by decide)) (by omega)) (fun i hi => st _ (.w (by omega)) (by omega)) (st 22 (.w (by decide)) (by omega)).2.2.2
  have r := h.r.st (fun i hi h1 => ⟨st _ (.r hi h1) (by omega), st _ (.e hi h1) (by omega)⟩)
  have f := h.f.st (st 2 (.w (by decide)) (by omega))
  have w := h.tw hf2 h.w (n := 21) (fun i hi => ⟨rfl, .w (by omega), fun z => by omega⟩)
  have pr : ∀ i, cp_pr B i → cp_pr A i := fun i hi => by unfold cp_pr at hi ⊢; rw [h1] at hi; exact hi
  refine ⟨?_, ⟨s.1, fun i hi => ?_⟩, fun i hi hh => ?_, ⟨f.1, fun j hj => by rw [h5]; exact f.2 j hj⟩, hT,
    h.a.stt (st 5 (.w (by decide)) (by omega)) (st 6 (.w (by decide)) (by omega)) (st 7 (.w (by decide)) (by omega)), h.d.st (fun i hi => st _ (.w (by omega)) (by omega)), ?_,
    fun hh => ?_, fun i j hi hj => h.j i j (pr i hi) (pr j hj)⟩
  · unfold cp_0 at o ⊢
    rw [h1, h2 7 (by decide)]
    exact o
  · have := s.2 i hi
    unfold cp_held at this ⊢
    rw [h1]
    exact this
  · rw [h1] at hh ⊢
    rw [h4]
    exact r i hi hh
  · unfold tn_R at w ⊢
    rw [h1, h2 4 (by decide), h2 5 (by decide), h2 6 (by decide)]
    exact w
  · rw [h1] at hh
    rw [h3]
    exact ⟨h.tw hf2 (h.i hh).1 (n := 26) (fun i hi => ⟨rfl, .im hh (by omega) (by omega), fun z => by omega⟩), (h.i hh).2⟩
/-- but for what ran the same -/
def ab_rn (A B : ab_S) : Prop := B.1.1 = A.1.1 ∧ (∀ j, j ≠ 42 → B.1.2 j = A.1.2 j) ∧ B.2.1 = A.2.1 ∧ B.2.2.2 = A.2.2.2 ∧ B.2.2.1 8 = A.2.2.1 8
theorem ab_rn.tr {A B C : ab_S} (h : ab_rn A B) (h' : ab_rn B C) : ab_rn A C := ⟨h'.1.trans h.1, fun j hj => (h'.2.1 j hj).trans (h.2.1 j hj), h'.2.2.1.trans h.2.2.1, h'.2.2.2.1.trans h.2.2.2.1, h'.2.2.2.2.trans h.2.2.2.2⟩
theorem ab_rn.body (b r : Nat) (A : ab_S) : ab_rn A (sq_body b r A) := by
  unfold sq_body
  split
  · exact ⟨rfl, fun j hj => if_neg hj, rfl, rfl, rfl⟩
  · exact ⟨rfl, fun j hj => if_neg hj, rfl, rfl, rfl⟩
theorem ab_rn.zero (A : ab_S) : ab_rn A (ab_i A 42 (nI 0)) := ⟨rfl, fun j hj => if_neg hj, rfl, rfl, rfl⟩
theorem ab_rn.b2 (b c r s : Nat) (A : ab_S) : ab_rn A (sq_body b r (sq_body c s A)) := (ab_rn.body _ _ _).tr (ab_rn.body _ _ _)
theorem ab_rn.look (k : Nat) (x : Int32) (r : Nat) (A : ab_S) : ab_rn A (sq_looking k x r A).2 := by
  unfold sq_looking
  (repeat' split) <;> first | exact ab_rn.body _ _ _ | exact ab_rn.b2 _ _ _ _ _ | exact (ab_rn.b2 _ _ _ _ _).tr (ab_rn.body _ _ _)
theorem ab_rn.walk (k : Nat) (x : Int32) (r : Nat) (A : ab_S) : ab_rn A (sq_walking k x r A).2 := by
  unfold sq_walking
  (repeat' split) <;> first | exact (ab_rn.body _ _ _).tr (ab_rn.look _ _ _ _) | exact (ab_rn.b2 _ _ _ _ _).tr (ab_rn.look _ _ _ _)
theorem ab_rn.pay (k : Nat) (x : Int32) (r : Nat) (A : ab_S) : ab_rn A (sq_paying k x r A).2 := by
  have g1 : ∀ b c s t x' y' f, ab_rn A (sq_looking k x' f (sq_walking k y' t (sq_body b s (sq_body c r A))).2).2 := fun b c s t x' y' f => ((ab_rn.b2 b c s r A).tr (ab_rn.walk k y' t _)).tr (ab_rn.look k x' f _)
  have g2 : ∀ b t x' y' f, ab_rn A (sq_looking k x' f (sq_walking k y' t (sq_body b r A)).2).2 := fun b t x' y' f => ((ab_rn.body b r A).tr (ab_rn.walk k y' t _)).tr (ab_rn.look k x' f _)
  unfold sq_paying
  by_cases h4 : A.1.1 9 k = 4
  · rw [if_pos h4]; exact g1 _ _ _ _ _ _ _
  · rw [if_neg h4]
    by_cases h6 : A.1.1 9 k = 6
    · rw [if_pos h6]; exact g1 _ _ _ _ _ _ _
    · rw [if_neg h6]
      by_cases h5 : A.1.1 9 k = 5
      · rw [if_pos h5]; exact g1 _ _ _ _ _ _ _
      · rw [if_neg h5]; exact g2 _ _ _ _ _
theorem cp_R.rn {G G' : hg_G} {ca : Nat → Nat} {A B : ab_S} (h : cp_R G ca A) (hf : hg_fr (tr_W (ca 3) (ca 4)) G G') (hT : tr_R G' (ca 3) (ca 4) B) (hb : ab_rn A B) : cp_R G' ca B := h.ran hf hT hb.1 hb.2.1 hb.2.2.1 hb.2.2.2.1 hb.2.2.2.2
theorem cp_R.r0 {G : hg_G} {ca : Nat → Nat} {A : ab_S} (h : cp_R G ca A) : cp_R (hs_I G (ca 3) 1 (nI 0)) ca (ab_i A 42 (nI 0)) := by
  refine h.rn (hg_fr.rf.I (Or.inl rfl)) ⟨h.t.1, h.t.2.1, h.t.2.2.1, ?_, fun j hj => (hs_Ine (Ne.symm h.t.nxy)).trans (h.t.2.2.2.2 j hj)⟩ (ab_rn.zero A)
  rw [hs_Ieq]
  rfl
theorem cp_a2 {x : Int32} (e0 : ¬ x = nI 0) (e1 : ¬ x = nI 1) (e2 : ¬ x = nI 2) : x < 0 ∨ (¬ x < 0 ∧ ¬ x ≤ nI 2) := by
  by_cases h0 : x < 0
  · exact Or.inl h0
  · refine Or.inr ⟨h0, fun h2 => ?_⟩
    have h := sp_geN h0
    have h4 : iN x ≤ 2 := by
      rw [h.1] at h2
      exact (nI_leI h.2 (by decide)).mp h2
    have : iN x = 0 ∨ iN x = 1 ∨ iN x = 2 := by omega
    rcases this with g | g | g
    · exact e0 (h.1.trans (by rw [g]))
    · exact e1 (h.1.trans (by rw [g]))
    · exact e2 (h.1.trans (by rw [g]))
abbrev rk_X0_sack : Room := { frames := 12, cells := 40, slots := 3000, locals := 400 }
theorem tc_sack {l : Launch} {D : hg_D} {lo : Nat} (htr : l.stackTraces = false) {G : hg_G} {ca : Nat → Nat} {A : ab_S} (h : cp_R G ca A) (hW : ab_wf A) {a1 : Int32} {a2 : Bool} :
    hg_M l D lo yX0_sack (wsW_ yX0_sack cX0_sack 4 ((some FieldType.int)) [(0, 56, 57, 21)]) rk_X0_sack [.ref (ca 0), .int a1, .int (bI a2)] G (cp_Po ca (sq_sack a1 a2 A)) := by
  refine hg_M.ofH htr (by decide) [some (.ref (ca 0)), some (.int a1), some (.int (bI a2)), none] rfl (Nat.le_of_ble_eq_true rfl) ?_
  intro p e s m args below meth c X hr hnm htab
  have X : hg_X p l s m args meth c D lo "TaxOnLooks" cX0_sack 4 := X
  refine hr_room (kr' := 40) (nr' := 3000) (Nat.le_of_ble_eq_true rfl) (Nat.le_of_ble_eq_true rfl) ?_
  have hw := hW.w; have w0 := hw.b0; have w1 := hw.b1; have w2 := hw.b2; have w3 := hw.b3; have w36 := hW.b36; have w43 := hW.b43
  have hpw := sp_wpk hw; have hpb := sp_bpk hw
  obtain ⟨K, hK, hKs, hKb⟩ := h.w.sk
  refine hr_aload0 (q := 1) X dX0_sack_0 rfl ?_
  refine hr_iload1 (q := 2) X dX0_sack_1 rfl ?_
  refine hr_call (kr := 39) (nr := 2993) (q := 5) (hc_V (n := 1) (ci := 0) (As := [.int a1]) X dX0_sack_2 rfl (tc_mustPerson X.tr h hW (x := a1)) q563 cv_X0_mustPerson ⟨Nat.le_of_ble_eq_true rfl, Nat.le_of_ble_eq_true rfl⟩ rfl (Nat.le_of_ble_eq_true rfl) h.o.1 rfl rfl) rfl (fun qxn1 E Gxn1 hpn1 _ => ?_) (fun r Gn1 hpn1 _ => ?_)
  · obtain ⟨hgn1, hrn1, -⟩ | ⟨hgn1, qn1, hrn1, htn1⟩ := hpn1
    · cases hrn1
    · cases hrn1
      have hxn1 := h.T htn1
      refine hx_catch (name := "TaxOnLooks$Refused") X [] ⟨0, 56, 57, 21⟩ [] htab (fun z hz => nomatch hz) (by decide) (by decide) q277 (by decide) ?_
      refine hr_astore3 (q := 58) X dX0_sack_57 rfl rfl (Nat.le_of_ble_eq_true rfl) ?_
      refine hr_aload0 (q := 59) X dX0_sack_58 rfl ?_
      refine hr_aload3 (q := 60) X dX0_sack_59 rfl ?_
      refine hr_call0 (q := 63) (hc_V (n := 1) (ci := 0) (As := [.ref qxn1]) X dX0_sack_60 rfl (tc_refused X.tr hxn1 hW (q := qxn1) htn1.2.1 htn1.2.2.1 (k := 1) (by decide) (by decide) (by decide)) q452 cv_X0_refused ⟨Nat.le_of_ble_eq_true rfl, Nat.le_of_ble_eq_true rfl⟩ rfl (Nat.le_of_ble_eq_true rfl) hxn1.o.1 rfl rfl) rfl (fun qx E G' hp => by cases hp.1) (fun r Gf2 hp _ => ?_)
      obtain ⟨hvf2, hhf2⟩ := hp
      cases hvf2
      have hq3 : sq_sack a1 a2 A = ((-1), (sq_no (-1) A).2) := by
        simp [sq_sack, sq_noTen, sq_no_1, hgn1]
      exact hr_iret X hr dX0_sack_63 (by rw [hq3]; exact ⟨rfl, ca, rfl, hhf2⟩)
  · obtain ⟨hgn1, hrn1, hGn1⟩ | ⟨hgn1, qn1, hrn1, htn1⟩ := hpn1
    · cases hrn1
      have hGn1 := hGn1.symm
      subst hGn1
      obtain ⟨ea1, la1⟩ := sp_in_n hgn1 (by omega)
      refine hr_L (L' := [some (.ref (ca 0)), some (.int (nI (iN a1))), some (.int (bI a2)), none]) (by rw [← ea1]) ?_
      refine hr_aload0 (q := 6) X dX0_sack_5 rfl ?_
      refine hr_getR (v := (cp_w ca 0)) (q := 9) X dX0_sack_6 rfl fr_q250_0 rfl h.o.1 h.o.2.2.2.2.2.2.1 ?_
      refine hr_getI (v := (nI K)) (q := 12) X dX0_sack_9 rfl fr_q177_2 rfl h.w.ob hKs ?_
      refine hr_iload1 (q := 13) X dX0_sack_12 rfl ?_
      refine hr_ishr (v := (nI (K / 2 ^ (iN a1)))) (q := 14) X dX0_sack_13 rfl (sp_shr (by omega) (by omega)) ?_
      refine hr_iconst (v := (nI 1)) (q := 15) X dX0_sack_14 rfl rfl ?_
      refine hr_iand (v := (nI ((K / 2 ^ (iN a1)) % 2))) (q := 16) X dX0_sack_15 rfl (sp_and1 (Nat.lt_of_le_of_lt (Nat.div_le_self _ _) (by omega))) ?_
      refine hr_st1 (v' := .int (nI (A.1.1 15 (iN a1)))) (congrArg Value.int (congrArg nI (hKb _ (by omega)))) ?_
      refine hr_istore3 (q := 17) X dX0_sack_16 rfl rfl (Nat.le_of_ble_eq_true rfl) ?_
      refine hr_aload0 (q := 18) X dX0_sack_17 rfl ?_
      refine hr_getR (v := (cp_w ca 0)) (q := 21) X dX0_sack_18 rfl fr_q250_0 rfl h.o.1 h.o.2.2.2.2.2.2.1 ?_
      refine hr_iload2 (q := 22) X dX0_sack_21 rfl ?_
      refine hr_ifB_eq (q := 25) (tgt := 39) X dX0_sack_22 rfl (by decide) (fun c22 => ?_) (fun c22 => ?_)
      · refine hr_aload0 (q := 40) X dX0_sack_39 rfl ?_
        refine hr_getR (v := (cp_w ca 0)) (q := 43) X dX0_sack_40 rfl fr_q250_0 rfl h.o.1 h.o.2.2.2.2.2.2.1 ?_
        refine hr_getI (v := (nI K)) (q := 46) X dX0_sack_43 rfl fr_q177_2 rfl h.w.ob hKs ?_
        refine hr_iconst (v := (nI 1)) (q := 47) X dX0_sack_46 rfl rfl ?_
        refine hr_iload1 (q := 48) X dX0_sack_47 rfl ?_
        refine hr_ishl (v := (nI 1 <<< (nI (iN a1) &&& 31))) (q := 49) X dX0_sack_48 rfl rfl ?_
        refine hr_iconst (v := (-1)) (q := 50) X dX0_sack_49 rfl rfl ?_
        refine hr_ixor (v := ((nI 1 <<< (nI (iN a1) &&& 31)) ^^^ -1)) (q := 51) X dX0_sack_50 rfl rfl ?_
        refine hr_iand (v := (nI (sk_clr K (iN a1)))) (q := 52) X dX0_sack_51 rfl (sk_clr_1 K hK _ (by omega)).1 ?_
        refine hr_putI (q := 55) X dX0_sack_52 rfl fw_q177_2 (fun h => nomatch h) rfl rfl rfl h.w.ob ?_
        have hP7 : iN a1 < 7 := by omega
        have z4 : cp_R (hs_I G (cp_w ca 0) 9 (nI (sk_clr K (iN a1)))) ca (ab_n A 15 (iN a1) 0) := h.town (hg_fr.rf.I ⟨21, .w (by decide), ⟨by decide, by decide, by decide⟩, rfl⟩) (cp_sk h.w h.wD (sk_clr_1 K hK _ hP7).2.1 (fun p hp => by by_cases e : p = iN a1 <;> first | (rw [if_pos e, e]; exact (sk_clr_1 K hK _ hP7).2.2) | (rw [if_neg e]; exact (sk_clr_2 K hK _ hP7 p (by omega) e).trans (hKb p hp)))) (fun a h1 h2 => funext fun i => by first | rfl | exact sp_set_o (by omega)) rfl rfl
        refine hr_iload3 (q := 56) X dX0_sack_55 rfl ?_
        have hq5 : sq_sack a1 a2 A = ((nI (A.1.1 15 (iN a1))), ab_n A 15 (iN a1) 0) := by
          simp [sq_sack, sq_noTen, sq_no_1, hgn1, c22]
        exact hr_iret X hr dX0_sack_56 (by rw [hq5]; exact ⟨rfl, ca, rfl, z4⟩)
      · refine hr_aload0 (q := 26) X dX0_sack_25 rfl ?_
        refine hr_getR (v := (cp_w ca 0)) (q := 29) X dX0_sack_26 rfl fr_q250_0 rfl h.o.1 h.o.2.2.2.2.2.2.1 ?_
        refine hr_getI (v := (nI K)) (q := 32) X dX0_sack_29 rfl fr_q177_2 rfl h.w.ob hKs ?_
        refine hr_iconst (v := (nI 1)) (q := 33) X dX0_sack_32 rfl rfl ?_
        refine hr_iload1 (q := 34) X dX0_sack_33 rfl ?_
        refine hr_ishl (v := (nI 1 <<< (nI (iN a1) &&& 31))) (q := 35) X dX0_sack_34 rfl rfl ?_
        refine hr_ior (v := (nI (sk_put K (iN a1)))) (q := 36) X dX0_sack_35 rfl (sk_put_1 K hK _ (by omega)).1 ?_
        refine hr_goto (tgt := 52) X dX0_sack_36 (by decide) ?_
        refine hr_putI (q := 55) X dX0_sack_52 rfl fw_q177_2 (fun h => nomatch h) rfl rfl rfl h.w.ob ?_
        have hP7 : iN a1 < 7 := by omega
        have z6 : cp_R (hs_I G (cp_w ca 0) 9 (nI (sk_put K (iN a1)))) ca (ab_n A 15 (iN a1) 1) := h.town (hg_fr.rf.I ⟨21, .w (by decide), ⟨by decide, by decide, by decide⟩, rfl⟩) (cp_sk h.w h.wD (sk_put_1 K hK _ hP7).2.1 (fun p hp => by by_cases e : p = iN a1 <;> first | (rw [if_pos e, e]; exact (sk_put_1 K hK _ hP7).2.2) | (rw [if_neg e]; exact (sk_put_2 K hK _ hP7 p (by omega) e).trans (hKb p hp)))) (fun a h1 h2 => funext fun i => by first | rfl | exact sp_set_o (by omega)) rfl rfl
        refine hr_iload3 (q := 56) X dX0_sack_55 rfl ?_
        have hq7 : sq_sack a1 a2 A = ((nI (A.1.1 15 (iN a1))), ab_n A 15 (iN a1) 1) := by
          simp [sq_sack, sq_noTen, sq_no_1, hgn1, c22]
        exact hr_iret X hr dX0_sack_56 (by rw [hq7]; exact ⟨rfl, ca, rfl, z6⟩)
    · cases hrn1

abbrev rk_X0_act : Room := { frames := 12, cells := 0, slots := 0, locals := 400 }
theorem tc_act {l : Launch} {D : hg_D} {lo : Nat} (htr : l.stackTraces = false) {G : hg_G} {ca : Nat → Nat} {A : ab_S} (h : cp_R G ca A) (hW : ab_wf A) {a1 a2 a3 : Int32} :
    hg_M l D lo yX0_act (ws_ yX0_act cX0_act 5 ((some FieldType.int))) rk_X0_act [.ref (ca 0), .int a1, .int a2, .int a3] G (cp_Po ca (sq_act a1 a2 a3 A)) := by
  refine hg_M.of htr (by decide) [some (.ref (ca 0)), some (.int a1), some (.int a2), some (.int a3), none] rfl (Nat.le_of_ble_eq_true rfl) ?_
  intro p e s m args below meth c X hr hnm htab
  have X : hg_X p l s m args meth c D lo "TaxOnLooks" cX0_act 5 := X
  have hw := hW.w; have w0 := hw.b0; have w1 := hw.b1; have w2 := hw.b2; have w3 := hw.b3; have w36 := hW.b36; have w43 := hW.b43
  have hpw := sp_wpk hw; have hpb := sp_bpk hw
  obtain ⟨K, hK, hKs, hKb⟩ := h.w.sk
  refine hr_aload0 (q := 1) X dX0_act_0 rfl ?_
  refine hr_getR (v := (ca 3)) (q := 4) X dX0_act_1 rfl fr_q247_0 rfl h.o.1 h.o.2.2.2.1 ?_
  refine hr_iconst (v := (nI 0)) (q := 5) X dX0_act_4 rfl rfl ?_
  refine hr_putI (q := 8) X dX0_act_5 rfl fw_q137_1 (fun h => nomatch h) rfl rfl rfl h.t.1 ?_
  have h0 : cp_R (hs_I G (ca 3) 1 (nI 0)) ca (ab_i A 42 (nI 0)) := h.r0
  have h0w : tn_R (hs_I G (ca 3) 1 (nI 0)) (cp_w ca) A.1 := h0.w
  refine hr_aload0 (q := 9) X dX0_act_8 rfl ?_
  refine hr_getR (v := (cp_w ca 0)) (q := 12) X dX0_act_9 rfl fr_q250_0 rfl h0.o.1 h0.o.2.2.2.2.2.2.1 ?_
  refine hr_iload1 (q := 13) X dX0_act_12 rfl ?_
  refine hr_callP (q := 16) (hc_V (n := 1) (ci := 2) (As := [.int a1]) X dX0_act_13 rfl (tn_isPerson X.tr h0w hw (x := a1)) q567 cv_X2_isPerson ⟨Nat.le_of_ble_eq_true rfl, Nat.le_of_ble_eq_true rfl⟩ rfl (Nat.le_of_ble_eq_true rfl) h0w.ob rfl rfl) rfl ?_
  refine hr_ifB_ne (q := 19) (tgt := 21) X dX0_act_16 rfl (by decide) (fun c16 => ?_) (fun c16 => ?_)
  · obtain ⟨ea1, la1⟩ := sp_in_n c16 (by omega)
    refine hr_L (L' := [some (.ref (ca 0)), some (.int (nI (iN a1))), some (.int a2), some (.int a3), none]) (by rw [← ea1]) ?_
    refine hr_aload0 (q := 22) X dX0_act_21 rfl ?_
    refine hr_getR (v := (cp_w ca 0)) (q := 25) X dX0_act_22 rfl fr_q250_0 rfl h0.o.1 h0.o.2.2.2.2.2.2.1 ?_
    refine hr_getR (v := (cp_w ca 1)) (q := 28) X dX0_act_25 rfl fr_q181_2 rfl h0w.ob h0w.f11 ?_
    refine hr_iload1 (q := 29) X dX0_act_28 rfl ?_
    obtain ⟨q1, hq1a, hq1k, hq1i, hq1b, hq1s⟩ := h0w.pe (p := iN a1) (by omega)
    have hq19 := hw.b9 (p := iN a1) (by omega)
    refine hr_aaldN (v := q1) (q := 30) X dX0_act_29 rfl h0w.k1 (by decide) (by omega) (by decide) hq1a ?_
    refine hr_astore4 (q := 32) X dX0_act_30 rfl rfl (Nat.le_of_ble_eq_true rfl) ?_
    refine hr_iload2 (q := 33) X dX0_act_32 rfl ?_
    by_cases e33_0 : a2 = nI 0
    · refine hr_tableIn (off := 27) (tgt := 60) X dX0_act_33 (by rw [e33_0]; decide) (by rw [e33_0]; decide) (by rw [e33_0]; rfl) (by decide) ?_
      refine hr_aload4 (q := 62) X dX0_act_60 rfl ?_
      refine hr_iload3 (q := 63) X dX0_act_62 rfl ?_
      refine hr_aload0 (q := 64) X dX0_act_63 rfl ?_
      refine hr_getR (v := (ca 3)) (q := 67) X dX0_act_64 rfl fr_q247_0 rfl h0.o.1 h0.o.2.2.2.1 ?_
      refine hr_call0 (q := 70) (hcP_looking (k := (A.1.1 9 (iN a1))) (i := iN a1) (b1 := (A.1.1 10 (iN a1))) (a := a3) (A := (ab_i A 42 (nI 0))) (r := 0) (by omega) ⟨hq1k, hq1i, hq1b⟩ h0.t rfl rfl rfl (by decide) X dX0_act_67 q1270 ⟨Nat.le_of_ble_eq_true rfl, Nat.le_of_ble_eq_true rfl⟩ (Nat.le_of_ble_eq_true rfl)) rfl (fun qx E G' hp => by cases hp.1) (fun r G9 hp _ => ?_)
      obtain ⟨hv9, hT9, hk9, hf9⟩ := hp
      cases hv9
      have h9 : cp_R G9 ca (sq_looking (iN a1) a3 0 (ab_i A 42 (nI 0))).2 := h0.rn hf9 hT9 (ab_rn.look _ _ _ _)
      have hq2 : sq_act a1 a2 a3 A = (((sq_looking (iN a1) a3 0 (ab_i A 42 (nI 0))).1), (sq_looking (iN a1) a3 0 (ab_i A 42 (nI 0))).2) := by
        rw [sq_act, if_pos c16, e33_0, if_neg (by decide), if_pos (by decide), if_pos (by decide)]
      exact hr_iret X hr dX0_act_70 (by rw [hq2]; exact ⟨rfl, ca, rfl, h9⟩)
    by_cases e33_1 : a2 = nI 1
    · refine hr_tableIn (off := 38) (tgt := 71) X dX0_act_33 (by rw [e33_1]; decide) (by rw [e33_1]; decide) (by rw [e33_1]; rfl) (by decide) ?_
      refine hr_aload4 (q := 73) X dX0_act_71 rfl ?_
      refine hr_iload3 (q := 74) X dX0_act_73 rfl ?_
      refine hr_aload0 (q := 75) X dX0_act_74 rfl ?_
      refine hr_getR (v := (ca 3)) (q := 78) X dX0_act_75 rfl fr_q247_0 rfl h0.o.1 h0.o.2.2.2.1 ?_
      refine hr_call0 (q := 81) (hcP_walking (k := (A.1.1 9 (iN a1))) (i := iN a1) (b1 := (A.1.1 10 (iN a1))) (a := a3) (A := (ab_i A 42 (nI 0))) (r := 0) (by omega) ⟨hq1k, hq1i, hq1b⟩ h0.t rfl rfl rfl (by decide) X dX0_act_78 q1301 ⟨Nat.le_of_ble_eq_true rfl, Nat.le_of_ble_eq_true rfl⟩ (Nat.le_of_ble_eq_true rfl)) rfl (fun qx E G' hp => by cases hp.1) (fun r G9 hp _ => ?_)
      obtain ⟨hv9, hT9, hk9, hf9⟩ := hp
      cases hv9
      have h9 : cp_R G9 ca (sq_walking (iN a1) a3 0 (ab_i A 42 (nI 0))).2 := h0.rn hf9 hT9 (ab_rn.walk _ _ _ _)
      have hq3 : sq_act a1 a2 a3 A = (((sq_walking (iN a1) a3 0 (ab_i A 42 (nI 0))).1), (sq_walking (iN a1) a3 0 (ab_i A 42 (nI 0))).2) := by
        rw [sq_act, if_pos c16, e33_1, if_neg (by decide), if_pos (by decide), if_neg (by decide), if_pos rfl]
      exact hr_iret X hr dX0_act_81 (by rw [hq3]; exact ⟨rfl, ca, rfl, h9⟩)
    by_cases e33_2 : a2 = nI 2
    · refine hr_tableIn (off := 49) (tgt := 82) X dX0_act_33 (by rw [e33_2]; decide) (by rw [e33_2]; decide) (by rw [e33_2]; rfl) (by decide) ?_
      refine hr_aload4 (q := 84) X dX0_act_82 rfl ?_
      refine hr_iload3 (q := 85) X dX0_act_84 rfl ?_
      refine hr_aload0 (q := 86) X dX0_act_85 rfl ?_
      refine hr_getR (v := (ca 3)) (q := 89) X dX0_act_86 rfl fr_q247_0 rfl h0.o.1 h0.o.2.2.2.1 ?_
      refine hr_call0 (q := 92) (hcP_paying (k := (A.1.1 9 (iN a1))) (i := iN a1) (b1 := (A.1.1 10 (iN a1))) (a := a3) (A := (ab_i A 42 (nI 0))) (r := 0) (by omega) ⟨hq1k, hq1i, hq1b⟩ h0.t rfl rfl rfl (by decide) X dX0_act_89 q1322 ⟨Nat.le_of_ble_eq_true rfl, Nat.le_of_ble_eq_true rfl⟩ (Nat.le_of_ble_eq_true rfl)) rfl (fun qx E G' hp => by cases hp.1) (fun r G9 hp _ => ?_)
      obtain ⟨hv9, hT9, hk9, hf9⟩ := hp
      cases hv9
      have h9 : cp_R G9 ca (sq_paying (iN a1) a3 0 (ab_i A 42 (nI 0))).2 := h0.rn hf9 hT9 (ab_rn.pay _ _ _ _)
      have hq4 : sq_act a1 a2 a3 A = (((sq_paying (iN a1) a3 0 (ab_i A 42 (nI 0))).1), (sq_paying (iN a1) a3 0 (ab_i A 42 (nI 0))).2) := by
        rw [sq_act, if_pos c16, e33_2, if_neg (by decide), if_pos (by decide), if_neg (by decide), if_neg (by decide)]
      exact hr_iret X hr dX0_act_92 (by rw [hq4]; exact ⟨rfl, ca, rfl, h9⟩)
    refine hr_tableOut (tgt := 93) X dX0_act_33 (sp_out (n := 3) (by decide) (fun i hi => by match i, hi with | 0, _ => exact e33_0 | 1, _ => exact e33_1 | 2, _ => exact e33_2 | (k + 3), hi => omega)) (by decide) ?_
    refine hr_iconst (v := (nI 0)) (q := 94) X dX0_act_93 rfl rfl ?_
    have hq5 : sq_act a1 a2 a3 A = ((nI 0), (ab_i A 42 (nI 0))) := by
      rcases cp_a2 e33_0 e33_1 e33_2 with g | ⟨g, g2⟩
      · rw [sq_act, if_pos c16, if_pos g]
      · rw [sq_act, if_pos c16, if_neg g, if_neg g2]
    exact hr_iret X hr dX0_act_94 (by rw [hq5]; exact ⟨rfl, ca, rfl, h0⟩)
  · refine hr_iconst (v := (nI 0)) (q := 20) X dX0_act_19 rfl rfl ?_
    have hq6 : sq_act a1 a2 a3 A = ((nI 0), (ab_i A 42 (nI 0))) := by
      rw [sq_act, if_neg (by rw [c16]; decide)]
    exact hr_iret X hr dX0_act_20 (by rw [hq6]; exact ⟨rfl, ca, rfl, h0⟩)

abbrev rk_X0_asked : Room := { frames := 6, cells := 1, slots := 7, locals := 200 }
theorem tc_asked {l : Launch} {D : hg_D} {lo : Nat} (htr : l.stackTraces = false) {G : hg_G} {ca : Nat → Nat} {A : ab_S} (h : cp_R G ca A) (hW : ab_wf A) {a1 a2 : Int32} :
    hg_M l D lo yX0_asked (ws_ yX0_asked cX0_asked 4 ((some FieldType.int))) rk_X0_asked [.ref (ca 0), .int a1, .int a2] G (fun r G' => (∃ (v : Int32) (A' : ab_S), sq_ask a1 a2 A = (v, A') ∧ r = .inl (some (.int v)) ∧ cp_R G' ca A') ∨ (sq_ask a1 a2 A = (-6, (sq_no (-6) A).2) ∧ ∃ q, r = .inr (q, "TaxOnLooks$Refused") ∧ tx_T 6 q (-6) G G')) := by
  refine hg_M.of htr (by decide) [some (.ref (ca 0)), some (.int a1), some (.int a2), none] rfl (Nat.le_of_ble_eq_true rfl) ?_
  intro p e s m args below meth c X hr hnm htab
  have X : hg_X p l s m args meth c D lo "TaxOnLooks" cX0_asked 4 := X
  refine hr_room (kr' := 1) (nr' := 7) (Nat.le_of_ble_eq_true rfl) (Nat.le_of_ble_eq_true rfl) ?_
  have hw := hW.w; have w0 := hw.b0; have w1 := hw.b1; have w2 := hw.b2; have w3 := hw.b3; have w36 := hW.b36; have w43 := hW.b43
  have hpw := sp_wpk hw; have hpb := sp_bpk hw
  obtain ⟨K, hK, hKs, hKb⟩ := h.w.sk
  refine hr_iload1 (q := 1) X dX0_asked_0 rfl ?_
  by_cases e1_0 : a1 = nI 0
  · refine hr_tableIn (off := 27) (tgt := 28) X dX0_asked_1 (by rw [e1_0]; decide) (by rw [e1_0]; decide) (by rw [e1_0]; rfl) (by decide) ?_
    refine hr_iload2 (q := 29) X dX0_asked_28 rfl ?_
    refine hr_i2l (v := a2.toInt64) (q := 30) X dX0_asked_29 rfl rfl ?_
    refine hr_lconst (v := (lN 1)) (q := 31) X dX0_asked_30 rfl rfl ?_
    refine hr_ldc2 (q := 34) X dX0_asked_31 rfl q629 ?_
    refine hr_callP (v := .int (bI (sp_fr a2 (nI 1) (nI 9)))) (q := 37) (hc_S (n := 3) (As := [.long a2.toInt64, .long (lN 1), .long 9]) X dX0_asked_34 rfl (tc_in X.tr (x := a2) (b := 1) (z := 9) (by decide) (by decide)) q387 cs_X0_in ⟨Nat.le_of_ble_eq_true rfl, Nat.le_of_ble_eq_true rfl⟩ rfl (Nat.le_of_ble_eq_true rfl)) rfl ?_
    refine hr_bipush (v := (-6)) (q := 39) X dX0_asked_37 rfl rfl ?_
    refine hr_call (kr := 0) (nr := 0) (q := 42) (hc_S (n := 2) (As := [.int (bI (sp_fr a2 (nI 1) (nI 9))), .int (-6)]) X dX0_asked_39 rfl (tc_need X.tr (g := sp_fr a2 (nI 1) (nI 9)) (w := (-6))) q383 cs_X0_need ⟨Nat.le_of_ble_eq_true rfl, Nat.le_of_ble_eq_true rfl⟩ rfl (Nat.le_of_ble_eq_true rfl)) rfl (fun qxn1 E Gxn1 hpn1 _ => ?_) (fun r Gn1 hpn1 _ => ?_)
    · obtain ⟨hgn1, hrn1, -⟩ | ⟨hgn1, qn1, hrn1, htn1⟩ := hpn1
      · cases hrn1
      · cases hrn1
        exact hx_out X (fun z hz => absurd hz (htab z)) (Or.inr ⟨by rw [sq_ask, if_neg (by rw [e1_0]; decide), if_neg (by rw [e1_0]; decide), if_neg (by rw [sp_asked, if_pos (show a1 = 0 from e1_0), hgn1]; decide)]; rfl, qxn1, rfl, htn1⟩)
    · obtain ⟨hgn1, hrn1, hGn1⟩ | ⟨hgn1, qn1, hrn1, htn1⟩ := hpn1
      · cases hrn1
        have hGn1 := hGn1.symm
        subst hGn1
        have fhgn1 : ¬ a2 < nI 1 ∧ a2 ≤ nI 9 := sp_fr_t hgn1
        obtain ⟨ea2, la2, ma2⟩ := sp_frN (a := 1) (b := 9) (by decide) (by decide) hgn1
        refine hr_L (L' := [some (.ref (ca 0)), some (.int a1), some (.int (nI (iN a2))), none]) (by rw [← ea2]) ?_
        refine hr_aload0 (q := 43) X dX0_asked_42 rfl ?_
        refine hr_getR (v := (cp_w ca 0)) (q := 46) X dX0_asked_43 rfl fr_q250_0 rfl h.o.1 h.o.2.2.2.2.2.2.1 ?_
        refine hr_getI (v := (nI (A.1.1 1 0))) (q := 49) X dX0_asked_46 rfl fr_q157_2 rfl h.w.ob h.w.f1 ?_
        refine hr_istore3 (q := 50) X dX0_asked_49 rfl rfl (Nat.le_of_ble_eq_true rfl) ?_
        refine hr_aload0 (q := 51) X dX0_asked_50 rfl ?_
        refine hr_getR (v := (cp_w ca 0)) (q := 54) X dX0_asked_51 rfl fr_q250_0 rfl h.o.1 h.o.2.2.2.2.2.2.1 ?_
        refine hr_iload2 (q := 55) X dX0_asked_54 rfl ?_
        refine hr_putI (q := 58) X dX0_asked_55 rfl fw_q157_2 (fun h => nomatch h) rfl rfl rfl h.w.ob ?_
        have z2 : cp_R (hs_I G (cp_w ca 0) 1 (nI (iN a2))) ca (ab_n A 1 0 (iN a2)) := h.town (hg_fr.rf.I ⟨21, .w (by decide), ⟨by decide, by decide, by decide⟩, rfl⟩) (h.w.setn h.wD (k := 1) (by decide) (iN a2)) (fun a h1 h2 => funext fun i => by first | rfl | exact sp_set_o (by omega)) rfl rfl
        refine hr_iload3 (q := 59) X dX0_asked_58 rfl ?_
        have hq3 : sq_ask a1 a2 A = ((nI (A.1.1 1 0)), ab_n A 1 0 (iN a2)) := by
          rw [sq_ask, if_neg (by rw [e1_0]; decide), if_neg (by rw [e1_0]; decide), if_pos (by rw [sp_asked, if_pos (show a1 = 0 from e1_0), hgn1]), if_pos (show a1 = 0 from e1_0), sq_asks, if_pos (show a1 = 0 from e1_0)]
        exact hr_iret X hr dX0_asked_59 (Or.inl ⟨_, _, hq3, rfl, z2⟩)
      · cases hrn1
  by_cases e1_1 : a1 = nI 1
  · refine hr_tableIn (off := 59) (tgt := 60) X dX0_asked_1 (by rw [e1_1]; decide) (by rw [e1_1]; decide) (by rw [e1_1]; rfl) (by decide) ?_
    refine hr_iload2 (q := 61) X dX0_asked_60 rfl ?_
    refine hr_i2l (v := a2.toInt64) (q := 62) X dX0_asked_61 rfl rfl ?_
    refine hr_lconst (v := (lN 1)) (q := 63) X dX0_asked_62 rfl rfl ?_
    refine hr_ldc2 (q := 66) X dX0_asked_63 rfl q773 ?_
    refine hr_callP (v := .int (bI (sp_fr a2 (nI 1) (nI 5)))) (q := 69) (hc_S (n := 3) (As := [.long a2.toInt64, .long (lN 1), .long 5]) X dX0_asked_66 rfl (tc_in X.tr (x := a2) (b := 1) (z := 5) (by decide) (by decide)) q387 cs_X0_in ⟨Nat.le_of_ble_eq_true rfl, Nat.le_of_ble_eq_true rfl⟩ rfl (Nat.le_of_ble_eq_true rfl)) rfl ?_
    refine hr_bipush (v := (-6)) (q := 71) X dX0_asked_69 rfl rfl ?_
    refine hr_call (kr := 0) (nr := 0) (q := 74) (hc_S (n := 2) (As := [.int (bI (sp_fr a2 (nI 1) (nI 5))), .int (-6)]) X dX0_asked_71 rfl (tc_need X.tr (g := sp_fr a2 (nI 1) (nI 5)) (w := (-6))) q383 cs_X0_need ⟨Nat.le_of_ble_eq_true rfl, Nat.le_of_ble_eq_true rfl⟩ rfl (Nat.le_of_ble_eq_true rfl)) rfl (fun qxn4 E Gxn4 hpn4 _ => ?_) (fun r Gn4 hpn4 _ => ?_)
    · obtain ⟨hgn4, hrn4, -⟩ | ⟨hgn4, qn4, hrn4, htn4⟩ := hpn4
      · cases hrn4
      · cases hrn4
        exact hx_out X (fun z hz => absurd hz (htab z)) (Or.inr ⟨by rw [sq_ask, if_neg (by rw [e1_1]; decide), if_neg (by rw [e1_1]; decide), if_neg (by rw [sp_asked, if_neg (by rw [e1_1]; decide), if_pos e1_1, hgn4]; decide)]; rfl, qxn4, rfl, htn4⟩)
    · obtain ⟨hgn4, hrn4, hGn4⟩ | ⟨hgn4, qn4, hrn4, htn4⟩ := hpn4
      · cases hrn4
        have hGn4 := hGn4.symm
        subst hGn4
        have fhgn4 : ¬ a2 < nI 1 ∧ a2 ≤ nI 5 := sp_fr_t hgn4
        obtain ⟨ea2, la2, ma2⟩ := sp_frN (a := 1) (b := 5) (by decide) (by decide) hgn4
        refine hr_L (L' := [some (.ref (ca 0)), some (.int a1), some (.int (nI (iN a2))), none]) (by rw [← ea2]) ?_
        refine hr_aload0 (q := 75) X dX0_asked_74 rfl ?_
        refine hr_getR (v := (cp_w ca 0)) (q := 78) X dX0_asked_75 rfl fr_q250_0 rfl h.o.1 h.o.2.2.2.2.2.2.1 ?_
        refine hr_getI (v := (nI (A.1.1 2 0))) (q := 81) X dX0_asked_78 rfl fr_q160_2 rfl h.w.ob h.w.f2 ?_
        refine hr_istore3 (q := 82) X dX0_asked_81 rfl rfl (Nat.le_of_ble_eq_true rfl) ?_
        refine hr_aload0 (q := 83) X dX0_asked_82 rfl ?_
        refine hr_getR (v := (cp_w ca 0)) (q := 86) X dX0_asked_83 rfl fr_q250_0 rfl h.o.1 h.o.2.2.2.2.2.2.1 ?_
        refine hr_iload2 (q := 87) X dX0_asked_86 rfl ?_
        refine hr_putI (q := 90) X dX0_asked_87 rfl fw_q160_2 (fun h => nomatch h) rfl rfl rfl h.w.ob ?_
        have z5 : cp_R (hs_I G (cp_w ca 0) 2 (nI (iN a2))) ca (ab_n A 2 0 (iN a2)) := h.town (hg_fr.rf.I ⟨21, .w (by decide), ⟨by decide, by decide, by decide⟩, rfl⟩) (h.w.setn h.wD (k := 2) (by decide) (iN a2)) (fun a h1 h2 => funext fun i => by first | rfl | exact sp_set_o (by omega)) rfl rfl
        refine hr_iload3 (q := 91) X dX0_asked_90 rfl ?_
        have hq6 : sq_ask a1 a2 A = ((nI (A.1.1 2 0)), ab_n A 2 0 (iN a2)) := by
          rw [sq_ask, if_neg (by rw [e1_1]; decide), if_neg (by rw [e1_1]; decide), if_pos (by rw [sp_asked, if_neg (by rw [e1_1]; decide), if_pos e1_1, hgn4]), if_neg (by rw [e1_1]; decide), if_pos e1_1, sq_asks, if_neg (by rw [e1_1]; decide), if_pos e1_1]
        exact hr_iret X hr dX0_asked_91 (Or.inl ⟨_, _, hq6, rfl, z5⟩)
      · cases hrn4
  by_cases e1_2 : a1 = nI 2
  · refine hr_tableIn (off := 91) (tgt := 92) X dX0_asked_1 (by rw [e1_2]; decide) (by rw [e1_2]; decide) (by rw [e1_2]; rfl) (by decide) ?_
    refine hr_iload2 (q := 93) X dX0_asked_92 rfl ?_
    refine hr_i2l (v := a2.toInt64) (q := 94) X dX0_asked_93 rfl rfl ?_
    refine hr_lconst (v := (lN 0)) (q := 95) X dX0_asked_94 rfl rfl ?_
    refine hr_lconst (v := (lN 1)) (q := 96) X dX0_asked_95 rfl rfl ?_
    refine hr_callP (v := .int (bI (sp_fr a2 (nI 0) (nI 1)))) (q := 99) (hc_S (n := 3) (As := [.long a2.toInt64, .long (lN 0), .long (lN 1)]) X dX0_asked_96 rfl (tc_in X.tr (x := a2) (b := 0) (z := 1) (by decide) (by decide)) q387 cs_X0_in ⟨Nat.le_of_ble_eq_true rfl, Nat.le_of_ble_eq_true rfl⟩ rfl (Nat.le_of_ble_eq_true rfl)) rfl ?_
    refine hr_bipush (v := (-6)) (q := 101) X dX0_asked_99 rfl rfl ?_
    refine hr_call (kr := 0) (nr := 0) (q := 104) (hc_S (n := 2) (As := [.int (bI (sp_fr a2 (nI 0) (nI 1))), .int (-6)]) X dX0_asked_101 rfl (tc_need X.tr (g := sp_fr a2 (nI 0) (nI 1)) (w := (-6))) q383 cs_X0_need ⟨Nat.le_of_ble_eq_true rfl, Nat.le_of_ble_eq_true rfl⟩ rfl (Nat.le_of_ble_eq_true rfl)) rfl (fun qxn7 E Gxn7 hpn7 _ => ?_) (fun r Gn7 hpn7 _ => ?_)
    · obtain ⟨hgn7, hrn7, -⟩ | ⟨hgn7, qn7, hrn7, htn7⟩ := hpn7
      · cases hrn7
      · cases hrn7
        exact hx_out X (fun z hz => absurd hz (htab z)) (Or.inr ⟨by rw [sq_ask, if_neg (by rw [e1_2]; decide), if_neg (by rw [e1_2]; decide), if_neg (by rw [sp_asked, if_neg (by rw [e1_2]; decide), if_neg (by rw [e1_2]; decide), hgn7]; decide)]; rfl, qxn7, rfl, htn7⟩)
    · obtain ⟨hgn7, hrn7, hGn7⟩ | ⟨hgn7, qn7, hrn7, htn7⟩ := hpn7
      · cases hrn7
        have hGn7 := hGn7.symm
        subst hGn7
        have fhgn7 : ¬ a2 < (0 : Int32) ∧ a2 ≤ nI 1 := sp_fr_t hgn7
        obtain ⟨ea2, la2, ma2⟩ := sp_frN (a := 0) (b := 1) (by decide) (by decide) hgn7
        refine hr_L (L' := [some (.ref (ca 0)), some (.int a1), some (.int (nI (iN a2))), none]) (by rw [← ea2]) ?_
        refine hr_aload0 (q := 105) X dX0_asked_104 rfl ?_
        refine hr_getR (v := (cp_w ca 0)) (q := 108) X dX0_asked_105 rfl fr_q250_0 rfl h.o.1 h.o.2.2.2.2.2.2.1 ?_
        refine hr_getI (v := (nI (A.1.1 3 0))) (q := 111) X dX0_asked_108 rfl fr_q162_2 rfl h.w.ob h.w.f3 ?_
        refine hr_ifN_eq (q := 114) (tgt := 118) X dX0_asked_111 rfl (by decide) (by omega) (fun c111 => ?_) (fun c111 => ?_)
        · refine hr_iconst (v := (nI 0)) (q := 119) X dX0_asked_118 rfl rfl ?_
          refine hr_istore3 (q := 120) X dX0_asked_119 rfl rfl (Nat.le_of_ble_eq_true rfl) ?_
          refine hr_aload0 (q := 121) X dX0_asked_120 rfl ?_
          refine hr_getR (v := (cp_w ca 0)) (q := 124) X dX0_asked_121 rfl fr_q250_0 rfl h.o.1 h.o.2.2.2.2.2.2.1 ?_
          refine hr_iload2 (q := 125) X dX0_asked_124 rfl ?_
          refine hr_iconst (v := (nI 1)) (q := 126) X dX0_asked_125 rfl rfl ?_
          refine hr_icmpN_ne (q := 129) (tgt := 133) X dX0_asked_126 rfl (by decide) (by omega) (by omega) (fun c126 => ?_) (fun c126 => ?_)
          · refine hr_iconst (v := (nI 0)) (q := 134) X dX0_asked_133 rfl rfl ?_
            refine hr_putI (q := 137) X dX0_asked_134 rfl fw_q162_2 (fun h => nomatch h) rfl (nI_narZ (by omega)) (nI_fitZ (by omega)) h.w.ob ?_
            have z8 : cp_R (hs_I G (cp_w ca 0) 3 (nI 0)) ca (ab_n A 3 0 0) := h.town (hg_fr.rf.I ⟨21, .w (by decide), ⟨by decide, by decide, by decide⟩, rfl⟩) (h.w.setn h.wD (k := 3) (by decide) 0) (fun a h1 h2 => funext fun i => by first | rfl | exact sp_set_o (by omega)) rfl rfl
            refine hr_iload3 (q := 138) X dX0_asked_137 rfl ?_
            have hq9 : sq_ask a1 a2 A = ((nI 0), ab_n A 3 0 0) := by
              rw [sq_ask, if_neg (by rw [e1_2]; decide), if_neg (by rw [e1_2]; decide), if_pos (by rw [sp_asked, if_neg (by rw [e1_2]; decide), if_neg (by rw [e1_2]; decide), hgn7]), if_neg (by rw [e1_2]; decide), if_neg (by rw [e1_2]; decide), sq_asks, if_neg (by rw [e1_2]; decide), if_neg (by rw [e1_2]; decide)]
              rw [show A.1.1 3 0 = 0 by omega, show iN a2 = 0 by omega]
            exact hr_iret X hr dX0_asked_138 (Or.inl ⟨_, _, hq9, rfl, z8⟩)
          · refine hr_iconst (v := (nI 1)) (q := 130) X dX0_asked_129 rfl rfl ?_
            refine hr_goto (tgt := 134) X dX0_asked_130 (by decide) ?_
            refine hr_putI (q := 137) X dX0_asked_134 rfl fw_q162_2 (fun h => nomatch h) rfl (nI_narZ (by omega)) (nI_fitZ (by omega)) h.w.ob ?_
            have z10 : cp_R (hs_I G (cp_w ca 0) 3 (nI 1)) ca (ab_n A 3 0 1) := h.town (hg_fr.rf.I ⟨21, .w (by decide), ⟨by decide, by decide, by decide⟩, rfl⟩) (h.w.setn h.wD (k := 3) (by decide) 1) (fun a h1 h2 => funext fun i => by first | rfl | exact sp_set_o (by omega)) rfl rfl
            refine hr_iload3 (q := 138) X dX0_asked_137 rfl ?_
            have hq11 : sq_ask a1 a2 A = ((nI 0), ab_n A 3 0 1) := by
              rw [sq_ask, if_neg (by rw [e1_2]; decide), if_neg (by rw [e1_2]; decide), if_pos (by rw [sp_asked, if_neg (by rw [e1_2]; decide), if_neg (by rw [e1_2]; decide), hgn7]), if_neg (by rw [e1_2]; decide), if_neg (by rw [e1_2]; decide), sq_asks, if_neg (by rw [e1_2]; decide), if_neg (by rw [e1_2]; decide)]
              rw [show A.1.1 3 0 = 0 by omega, show iN a2 = 1 by omega]
            exact hr_iret X hr dX0_asked_138 (Or.inl ⟨_, _, hq11, rfl, z10⟩)
        · refine hr_iconst (v := (nI 1)) (q := 115) X dX0_asked_114 rfl rfl ?_
          refine hr_goto (tgt := 119) X dX0_asked_115 (by decide) ?_
          refine hr_istore3 (q := 120) X dX0_asked_119 rfl rfl (Nat.le_of_ble_eq_true rfl) ?_
          refine hr_aload0 (q := 121) X dX0_asked_120 rfl ?_
          refine hr_getR (v := (cp_w ca 0)) (q := 124) X dX0_asked_121 rfl fr_q250_0 rfl h.o.1 h.o.2.2.2.2.2.2.1 ?_
          refine hr_iload2 (q := 125) X dX0_asked_124 rfl ?_
          refine hr_iconst (v := (nI 1)) (q := 126) X dX0_asked_125 rfl rfl ?_
          refine hr_icmpN_ne (q := 129) (tgt := 133) X dX0_asked_126 rfl (by decide) (by omega) (by omega) (fun c126 => ?_) (fun c126 => ?_)
          · refine hr_iconst (v := (nI 0)) (q := 134) X dX0_asked_133 rfl rfl ?_
            refine hr_putI (q := 137) X dX0_asked_134 rfl fw_q162_2 (fun h => nomatch h) rfl (nI_narZ (by omega)) (nI_fitZ (by omega)) h.w.ob ?_
            have z12 : cp_R (hs_I G (cp_w ca 0) 3 (nI 0)) ca (ab_n A 3 0 0) := h.town (hg_fr.rf.I ⟨21, .w (by decide), ⟨by decide, by decide, by decide⟩, rfl⟩) (h.w.setn h.wD (k := 3) (by decide) 0) (fun a h1 h2 => funext fun i => by first | rfl | exact sp_set_o (by omega)) rfl rfl
            refine hr_iload3 (q := 138) X dX0_asked_137 rfl ?_
            have hq13 : sq_ask a1 a2 A = ((nI 1), ab_n A 3 0 0) := by
              rw [sq_ask, if_neg (by rw [e1_2]; decide), if_neg (by rw [e1_2]; decide), if_pos (by rw [sp_asked, if_neg (by rw [e1_2]; decide), if_neg (by rw [e1_2]; decide), hgn7]), if_neg (by rw [e1_2]; decide), if_neg (by rw [e1_2]; decide), sq_asks, if_neg (by rw [e1_2]; decide), if_neg (by rw [e1_2]; decide)]
              rw [show A.1.1 3 0 = 1 by omega, show iN a2 = 0 by omega]
            exact hr_iret X hr dX0_asked_138 (Or.inl ⟨_, _, hq13, rfl, z12⟩)
          · refine hr_iconst (v := (nI 1)) (q := 130) X dX0_asked_129 rfl rfl ?_
            refine hr_goto (tgt := 134) X dX0_asked_130 (by decide) ?_
            refine hr_putI (q := 137) X dX0_asked_134 rfl fw_q162_2 (fun h => nomatch h) rfl (nI_narZ (by omega)) (nI_fitZ (by omega)) h.w.ob ?_
            have z14 : cp_R (hs_I G (cp_w ca 0) 3 (nI 1)) ca (ab_n A 3 0 1) := h.town (hg_fr.rf.I ⟨21, .w (by decide), ⟨by decide, by decide, by decide⟩, rfl⟩) (h.w.setn h.wD (k := 3) (by decide) 1) (fun a h1 h2 => funext fun i => by first | rfl | exact sp_set_o (by omega)) rfl rfl
            refine hr_iload3 (q := 138) X dX0_asked_137 rfl ?_
            have hq15 : sq_ask a1 a2 A = ((nI 1), ab_n A 3 0 1) := by
              rw [sq_ask, if_neg (by rw [e1_2]; decide), if_neg (by rw [e1_2]; decide), if_pos (by rw [sp_asked, if_neg (by rw [e1_2]; decide), if_neg (by rw [e1_2]; decide), hgn7]), if_neg (by rw [e1_2]; decide), if_neg (by rw [e1_2]; decide), sq_asks, if_neg (by rw [e1_2]; decide), if_neg (by rw [e1_2]; decide)]
              rw [show A.1.1 3 0 = 1 by omega, show iN a2 = 1 by omega]
            exact hr_iret X hr dX0_asked_138 (Or.inl ⟨_, _, hq15, rfl, z14⟩)
      · cases hrn7
  refine hr_tableOut (tgt := 139) X dX0_asked_1 (sp_out (n := 3) (by decide) (fun i hi => by match i, hi with | 0, _ => exact e1_0 | 1, _ => exact e1_1 | 2, _ => exact e1_2 | (k + 3), hi => omega)) (by decide) ?_
  refine hr_new (kr := 0) (nr := 0) (q := 142) (ci := 6) (T := TX6) (N := 7) (ty := tyX6) X dX0_asked_139 rfl q277 q360 q94 rfl in_X6 tyX6_ok (by decide) (fun x16 hlx16 hnx16 => ?_)
  refine hr_dup (q := 143) X dX0_asked_142 rfl rfl ?_
  refine hr_bipush (v := (-6)) (q := 145) X dX0_asked_143 rfl rfl ?_
  refine hr_call0 (q := 148) (hc_I (n := 1) (As := [.int (-6)]) X dX0_asked_145 rfl (tx_new6 X.tr (b := x16) (if_pos rfl) (w := (-6))) q368 cj_X6_init ⟨Nat.le_of_ble_eq_true rfl, Nat.le_of_ble_eq_true rfl⟩ rfl (Nat.le_of_ble_eq_true rfl)) rfl (fun qx E G' hp => by cases hp.1) (fun r G17 hp _ => ?_)
  obtain ⟨hv17, hk1, hw1, hbt1⟩ := hp
  cases hv17
  refine hr_athrow X dX0_asked_148 (ci := 6) (by rw [hk1]; exact if_pos rfl) rfl rfl ?_
  exact hx_out X (fun z hz => absurd hz (htab z)) (Or.inr ⟨by rcases cp_a2 e1_0 e1_1 e1_2 with g | ⟨g, g2⟩ <;> first | (rw [sq_ask, if_pos g]; rfl) | (rw [sq_ask, if_neg g, if_pos (Int32.not_le.mp g2)]; rfl), x16, rfl, hnx16, by rw [hk1]; exact if_pos rfl, hw1, hg_bt.N.tr hbt1⟩)

abbrev rk_X0_ask : Room := { frames := 12, cells := 40, slots := 3000, locals := 400 }
theorem tc_ask {l : Launch} {D : hg_D} {lo : Nat} (htr : l.stackTraces = false) {G : hg_G} {ca : Nat → Nat} {A : ab_S} (h : cp_R G ca A) (hW : ab_wf A) {a1 a2 : Int32} :
    hg_M l D lo yX0_ask (wsW_ yX0_ask cX0_ask 4 ((some FieldType.int)) [(0, 6, 7, 21)]) rk_X0_ask [.ref (ca 0), .int a1, .int a2] G (cp_Po ca (sq_ask a1 a2 A)) := by
  refine hg_M.ofH htr (by decide) [some (.ref (ca 0)), some (.int a1), some (.int a2), none] rfl (Nat.le_of_ble_eq_true rfl) ?_
  intro p e s m args below meth c X hr hnm htab
  have X : hg_X p l s m args meth c D lo "TaxOnLooks" cX0_ask 4 := X
  refine hr_room (kr' := 40) (nr' := 3000) (Nat.le_of_ble_eq_true rfl) (Nat.le_of_ble_eq_true rfl) ?_
  have hw := hW.w; have w0 := hw.b0; have w1 := hw.b1; have w2 := hw.b2; have w3 := hw.b3; have w36 := hW.b36; have w43 := hW.b43
  have hpw := sp_wpk hw; have hpb := sp_bpk hw
  obtain ⟨K, hK, hKs, hKb⟩ := h.w.sk
  refine hr_aload0 (q := 1) X dX0_ask_0 rfl ?_
  refine hr_iload1 (q := 2) X dX0_ask_1 rfl ?_
  refine hr_iload2 (q := 3) X dX0_ask_2 rfl ?_
  refine hr_call (kr := 39) (nr := 2993) (q := 6) (hc_V (n := 2) (ci := 0) (As := [.int a1, .int a2]) X dX0_ask_3 rfl (tc_asked X.tr h hW (a1 := a1) (a2 := a2)) q769 cv_X0_asked ⟨Nat.le_of_ble_eq_true rfl, Nat.le_of_ble_eq_true rfl⟩ rfl (Nat.le_of_ble_eq_true rfl) h.o.1 rfl rfl) rfl (fun qxa E Gxa hp _ => ?_) (fun r Ga hp _ => ?_)
  · obtain ⟨v, A9, -, hr9, -⟩ | ⟨hq9, q9, hr9, hta⟩ := hp
    · cases hr9
    · cases hr9
      have hxra := h.T hta
      refine hx_catch (name := "TaxOnLooks$Refused") X [] ⟨0, 6, 7, 21⟩ [] htab (fun z hz => nomatch hz) (by decide) (by decide) q277 (by decide) ?_
      refine hr_astore3 (q := 8) X dX0_ask_7 rfl rfl (Nat.le_of_ble_eq_true rfl) ?_
      refine hr_aload0 (q := 9) X dX0_ask_8 rfl ?_
      refine hr_aload3 (q := 10) X dX0_ask_9 rfl ?_
      refine hr_call0 (q := 13) (hc_V (n := 1) (ci := 0) (As := [.ref qxa]) X dX0_ask_10 rfl (tc_refused X.tr hxra hW (q := qxa) hta.2.1 hta.2.2.1 (k := 6) (by decide) (by decide) (by decide)) q452 cv_X0_refused ⟨Nat.le_of_ble_eq_true rfl, Nat.le_of_ble_eq_true rfl⟩ rfl (Nat.le_of_ble_eq_true rfl) hxra.o.1 rfl rfl) rfl (fun qx E G' hp => by cases hp.1) (fun r Gf1 hp _ => ?_)
      obtain ⟨hvf1, hhf1⟩ := hp
      cases hvf1
      exact hr_iret X hr dX0_ask_13 (by rw [hq9]; exact ⟨rfl, ca, rfl, hhf1⟩)
  · obtain ⟨v, A9, hq9, hr9, hc9⟩ | ⟨-, q9, hr9, -⟩ := hp
    · cases hr9
      exact hr_iret X hr dX0_ask_6 (by rw [hq9]; exact ⟨rfl, ca, rfl, hc9⟩)
    · cases hr9

