theorem ini_st2 {G G' : hg_G} {o a : Nat} (hF : hg_fr (fun b => b = o ∨ G.1 b = none) G G') (ho : a ≠ o) (he : ¬ G.1 a = none) : hg_st G G' a := hF a (fun z => z.elim ho he)
theorem tn_R.kn {G : hg_G} {ta : Nat → Nat} {t : sp_S} (h : tn_R G ta t) {i : Nat} (hi : i < 5) : ¬ G.1 (ta i) = none := fun e => by
  have g := h.kd hi
  rw [e] at g
  rcases g with g | g | g <;> cases g
theorem tn_R.stg {G G' : hg_G} {ta : Nat → Nat} {o : Nat} (h : tn_R G ta sp_0) (hF : hg_fr (fun b => b = o ∨ G.1 b = none) G G') (ho : ∀ i, i < 5 → ta i ≠ o) : tn_R G' ta sp_0 := h.stt (fun i hi => ini_st2 hF (ho i hi) (h.kn hi)) rfl
theorem ini_rank {PP : Nat → hg_G} {ca rk : Nat → Nat} (hstep : ∀ k, k < 7 → hg_up (PP k) (PP (k + 1))) (h8 : ∀ r, r < 26 → rk r ≤ 8) (hn : ∀ r, r < 26 → 0 < rk r → (PP (rk r - 1)).1 (ca r) = none) (hs : ∀ r, r < 26 → rk r ≤ 7 → ¬ (PP (rk r)).1 (ca r) = none) : ∀ i j, i < 26 → j < 26 → rk i < rk j → ca i ≠ ca j := fun i j hi hj h e => by
  have up : ∀ d k, k + d ≤ 7 → hg_up (PP k) (PP (k + d)) := fun d => by
    induction d with
    | zero => exact fun k _ => fun _ _ h => h
    | succ d ih => exact fun k hk => (ih k (by omega)).tr (hstep (k + d) (by omega))
  have j8 := h8 j hj
  have u := up (rk j - 1 - rk i) (rk i) (by omega)
  rw [show rk i + (rk j - 1 - rk i) = rk j - 1 by omega] at u
  have n := hn j hj (by omega)
  rw [← e] at n
  exact hs i hi (by omega) (u.nn n)
def in_rk (r : Nat) : Nat := if r = 0 then 0 else if r = 1 then 1 else if r = 2 then 2 else if r ≤ 4 then 3 else if r ≤ 7 then 5 else if r < 16 then 8 else if r < 21 then 4 else 6
abbrev rk_X0_init : Room := { frames := 4, cells := 30, slots := 400, locals := 200 }
theorem tc_init {l : Launch} {D : hg_D} {lo : Nat} (htr : l.stackTraces = false) {G : hg_G} {o : Nat} (ho : G.1 o = some (0, 0)) (hz : ∀ k, G.2.2.2 o k = none) :
    hg_M l D lo yX0_init (ws_ yX0_init cX0_init 2 (none)) rk_X0_init [.ref o] G (fun r G' => r = .inl none ∧ (∃ ca : Nat → Nat, ca 0 = o ∧ cp_R G' ca ab_0) ∧ hg_fr (fun a => a = o ∨ G.1 a = none) G G') := by
  refine hg_M.of htr (by decide) [some (.ref o), none] rfl (Nat.le_of_ble_eq_true rfl) ?_
  intro p e s m args below meth c X hr hnm htab
  have X : hg_X p l s m args meth c D lo "TaxOnLooks" cX0_init 2 := X
  have hnm : meth.name = "<init>" := hnm
  refine hr_room (kr' := 30) (nr' := 400) (by decide) (by decide) ?_
  have xo0 := ho
  have U0 : hg_up G G := fun _ _ h => h
  have FR0 : hg_fr (fun b => b = o ∨ G.1 b = none) G G := hg_fr.rf
  have f0_6 : G.2.2.2 o 6 = none := hz 6
  refine hr_aload0 (q := 1) X dX0_init_0 rfl ?_
  refine hr_objInit (q := 4) X dX0_init_1 rfl q123 (by decide) (by decide) ?_
  refine hr_aload0 (q := 5) X dX0_init_4 rfl ?_
  refine hr_bipush (v := (nI 8)) (q := 7) X dX0_init_5 rfl rfl ?_
  refine hr_newq (kr := 29) (nr := 392) (q := 10) (t := 4) (N := 8) X dX0_init_7 rfl (by decide) q126 rfl (by decide) (fun x1 hlx1 hnx1 => ?_)
  have mx1 : hg_fr (fun b => G.1 b = none) G (hs_N G x1 (5, 8)) := hg_fr.rf.N hnx1
  have ux1 : hg_up G (hs_N G x1 (5, 8)) := hg_up.N (fun _ _ h => h) hnx1
  refine hr_putR (q := 13) X dX0_init_10 rfl fw_q245_0 (fun _ => hnm) rfl rfl (ux1 o _ xo0) ?_
  obtain ⟨P1, hP1⟩ : ∃ g : hg_G, g = hs_R (hs_N G x1 (5, 8)) o 0 (some x1) := ⟨_, rfl⟩
  rw [← hP1]
  have F1 : hg_fr (fun b => b = o ∨ G.1 b = none) G P1 := by rw [hP1]; exact (mx1.mono (fun b e => Or.inr e)).R (Or.inl rfl)
  have V1 : hg_up G P1 := by rw [hP1]; exact ux1
  have xo1 := V1 o _ xo0
  have U1 := U0.tr V1
  have FR1 := FR0.upn U0 F1
  have O1 : hg_st G (hs_N G x1 (5, 8)) o := mx1 o (fun e => nomatch (xo0.symm.trans e))
  have f1_6 : P1.2.2.2 o 6 = none := by rw [hP1]; exact (hs_Rnj (by decide)).trans ((O1.2.2.2 6).trans f0_6)
  have f1_0 : P1.2.2.2 o 0 = some x1 := by rw [hP1]; exact hs_Req
  have no_x1 : x1 ≠ o := fun e => ini_ne xo0 hnx1 e.symm
  have bn_x1 : G.1 x1 = none := hnx1
  have e1_x1 : P1.1 x1 = some (5, 8) := by rw [hP1]; exact if_pos rfl
  refine hr_aload0 (q := 14) X dX0_init_13 rfl ?_
  refine hr_bipush (v := (nI 8)) (q := 16) X dX0_init_14 rfl rfl ?_
  refine hr_newarr (kr := 28) (nr := 384) (q := 18) (t := 0) (N := 8) X dX0_init_16 rfl (Or.inl ⟨rfl, rfl⟩) q143 rfl (by decide) (fun x2 hlx2 hnx2 => ?_)
  have mx2 : hg_fr (fun b => P1.1 b = none) P1 (hs_N P1 x2 (1, 8)) := hg_fr.rf.N hnx2
  have ux2 : hg_up P1 (hs_N P1 x2 (1, 8)) := hg_up.N (fun _ _ h => h) hnx2
  refine hr_putR (q := 21) X dX0_init_18 rfl fw_q246_0 (fun _ => hnm) rfl rfl (ux2 o _ xo1) ?_
  obtain ⟨P2, hP2⟩ : ∃ g : hg_G, g = hs_R (hs_N P1 x2 (1, 8)) o 1 (some x2) := ⟨_, rfl⟩
  rw [← hP2]
  have F2 : hg_fr (fun b => b = o ∨ P1.1 b = none) P1 P2 := by rw [hP2]; exact (mx2.mono (fun b e => Or.inr e)).R (Or.inl rfl)
  have V2 : hg_up P1 P2 := by rw [hP2]; exact ux2
  have xo2 := V2 o _ xo1
  have U2 := U1.tr V2
  have FR2 := FR1.upn U1 F2
  have O2 : hg_st P1 (hs_N P1 x2 (1, 8)) o := mx2 o (fun e => nomatch (xo1.symm.trans e))
  have f2_6 : P2.2.2.2 o 6 = none := by rw [hP2]; exact (hs_Rnj (by decide)).trans ((O2.2.2.2 6).trans f1_6)
  have f2_0 : P2.2.2.2 o 0 = some x1 := by rw [hP2]; exact (hs_Rnj (by decide)).trans ((O2.2.2.2 0).trans f1_0)
  have f2_1 : P2.2.2.2 o 1 = some x2 := by rw [hP2]; exact hs_Req
  have s2_x1 := ini_st F2 no_x1 e1_x1
  have e2_x1 := s2_x1.1.trans e1_x1
  have no_x2 : x2 ≠ o := fun e => ini_ne xo1 hnx2 e.symm
  have bn_x2 : P1.1 x2 = none := hnx2
  have e2_x2 : P2.1 x2 = some (1, 8) := by rw [hP2]; exact if_pos rfl
  have r2 : ∀ j, P2.2.1 x2 j = 0 := fun j => by rw [hP2]; exact if_pos rfl
  refine hr_aload0 (q := 22) X dX0_init_21 rfl ?_
  refine hr_new (kr := 27) (nr := 382) (q := 25) (ci := 1) (T := TX1) (N := 2) (ty := tyX1) X dX0_init_22 rfl q128 q129 q83 rfl in_X1 tyX1_ok (by decide) (fun x3 hlx3 hnx3 => ?_)
  refine hr_dup (q := 26) X dX0_init_25 rfl rfl ?_
  refine hr_call (kr := 26) (nr := 362) (q := 29) (hc_I (n := 0) (As := []) X dX0_init_26 rfl (ti_trace X.tr (x := x3) (if_pos rfl)) q130 cj_X1_init ⟨Nat.le_of_ble_eq_true rfl, Nat.le_of_ble_eq_true rfl⟩ rfl (Nat.le_of_ble_eq_true rfl)) rfl (fun qx E G' hp _ => by cases hp.1) (fun r Gig4 hp hEg4 => ?_)
  obtain ⟨hvg4, b9, hb9, hGg4⟩ := hp
  cases hvg4
  have nb9 := hs_Nn hb9
  have mg4 : hg_fr (fun b => P2.1 b = none) P2 Gig4 := by rw [hGg4]; exact (((hg_fr.rf (W := fun b => P2.1 b = none)).N hnx3).N nb9.2).R hnx3
  have ug4 : hg_up P2 Gig4 := (hg_up.N (fun _ _ h => h) hnx3).tr hEg4
  refine hr_putR (q := 32) X dX0_init_29 rfl fw_q247_0 (fun _ => hnm) rfl rfl (ug4 o _ xo2) ?_
  obtain ⟨P3, hP3⟩ : ∃ g : hg_G, g = hs_R Gig4 o 2 (some x3) := ⟨_, rfl⟩
  rw [← hP3]
  have F3 : hg_fr (fun b => b = o ∨ P2.1 b = none) P2 P3 := by rw [hP3]; exact (mg4.mono (fun b e => Or.inr e)).R (Or.inl rfl)
  have V3 : hg_up P2 P3 := by rw [hP3]; exact ug4
  have xo3 := V3 o _ xo2
  have U3 := U2.tr V3
  have FR3 := FR2.upn U2 F3
  have O3 : hg_st P2 (Gig4) o := mg4 o (fun e => nomatch (xo2.symm.trans e))
  have f3_6 : P3.2.2.2 o 6 = none := by rw [hP3]; exact (hs_Rnj (by decide)).trans ((O3.2.2.2 6).trans f2_6)
  have f3_0 : P3.2.2.2 o 0 = some x1 := by rw [hP3]; exact (hs_Rnj (by decide)).trans ((O3.2.2.2 0).trans f2_0)
  have f3_1 : P3.2.2.2 o 1 = some x2 := by rw [hP3]; exact (hs_Rnj (by decide)).trans ((O3.2.2.2 1).trans f2_1)
  have f3_2 : P3.2.2.2 o 2 = some x3 := by rw [hP3]; exact hs_Req
  have s3_x1 := ini_st F3 no_x1 e2_x1
  have e3_x1 := s3_x1.1.trans e2_x1
  have s3_x2 := ini_st F3 no_x2 e2_x2
  have e3_x2 := s3_x2.1.trans e2_x2
  have r3 := fun j => (s3_x2.2.1 j).trans (r2 j)
  have no_x3 : x3 ≠ o := fun e => ini_ne xo2 hnx3 e.symm
  have bn_x3 : P2.1 x3 = none := hnx3
  have no_b9 : b9 ≠ o := fun e => ini_ne xo2 nb9.2 e.symm
  have bn_b9 : P2.1 b9 = none := nb9.2
  have e3_x3 : P3.1 x3 = some (0, 1) := by rw [hP3, hGg4]; simp [hs_R1, hs_N1, hs_RR, hs_RI, hs_NI, hs_NR, Ne.symm nb9.1]
  have e3_b9 : P3.1 b9 = some (1, 20) := by rw [hP3, hGg4]; simp [hs_R1, hs_N1, hs_RR, hs_RI, hs_NI, hs_NR]
  have t3 : tr_R P3 x3 b9 ab_0 := ⟨e3_x3, by rw [hP3, hGg4]; simp [hs_R1, hs_N1, hs_RR, hs_RI, hs_NI, hs_NR, no_x3], e3_b9, by rw [hP3, hGg4]; simp [hs_R1, hs_N1, hs_RR, hs_RI, hs_NI, hs_NR, Ne.symm nb9.1]; rfl, fun j _ => by rw [hP3, hGg4]; simp [hs_R1, hs_N1, hs_RR, hs_RI, hs_NI, hs_NR]; rfl⟩
  refine hr_aload0 (q := 33) X dX0_init_32 rfl ?_
  refine hr_new (kr := 25) (nr := 347) (q := 36) (ci := 2) (T := TX2) (N := 15) (ty := tyX2) X dX0_init_33 rfl q144 q145 q84 rfl in_X2 tyX2_ok (by decide) (fun x5 hlx5 hnx5 => ?_)
  refine hr_dup (q := 37) X dX0_init_36 rfl rfl ?_
  refine hr_call (kr := 21) (nr := 319) (q := 40) (hc_I (n := 0) (As := []) X dX0_init_37 rfl (tn_init X.tr (o := x5) (if_pos rfl) (fun k => if_pos rfl) (fun k => if_pos rfl)) q146 cj_X2_init ⟨Nat.le_of_ble_eq_true rfl, Nat.le_of_ble_eq_true rfl⟩ rfl (Nat.le_of_ble_eq_true rfl)) rfl (fun qx E G' hp _ => by cases hp.1) (fun r Gig6 hp hEg6 => ?_)
  obtain ⟨hvg6, ta3, h0g6, hTta3, hDta3, hnag6, hfg6⟩ := hp
  cases hvg6
  subst h0g6
  have mg6 : hg_fr (fun b => P3.1 b = none) P3 Gig6 := ((hg_fr.rf (W := fun b => P3.1 b = none)).N hnx5).tr (hfg6.mono (fun a z => z.elim (fun e => by rw [e]; exact hnx5) (fun z => (hs_Nn z).2)))
  have nta3 : ∀ i, i < 5 → P3.1 (ta3 i) = none := fun i hi => by
    by_cases e : i = 0
    · rw [e]; exact hnx5
    · exact (hs_Nn (hnag6 i (by omega) hi)).2
  have ug6 : hg_up P3 Gig6 := (hg_up.N (fun _ _ h => h) hnx5).tr hEg6
  refine hr_putR (q := 43) X dX0_init_40 rfl fw_q248_0 (fun _ => hnm) rfl rfl (ug6 o _ xo3) ?_
  obtain ⟨P4, hP4⟩ : ∃ g : hg_G, g = hs_R Gig6 o 3 (some (ta3 0)) := ⟨_, rfl⟩
  rw [← hP4]
  have F4 : hg_fr (fun b => b = o ∨ P3.1 b = none) P3 P4 := by rw [hP4]; exact (mg6.mono (fun b e => Or.inr e)).R (Or.inl rfl)
  have V4 : hg_up P3 P4 := by rw [hP4]; exact ug6
  have xo4 := V4 o _ xo3
  have U4 := U3.tr V4
  have FR4 := FR3.upn U3 F4
  have O4 : hg_st P3 (Gig6) o := mg6 o (fun e => nomatch (xo3.symm.trans e))
  have f4_6 : P4.2.2.2 o 6 = none := by rw [hP4]; exact (hs_Rnj (by decide)).trans ((O4.2.2.2 6).trans f3_6)
  have f4_0 : P4.2.2.2 o 0 = some x1 := by rw [hP4]; exact (hs_Rnj (by decide)).trans ((O4.2.2.2 0).trans f3_0)
  have f4_1 : P4.2.2.2 o 1 = some x2 := by rw [hP4]; exact (hs_Rnj (by decide)).trans ((O4.2.2.2 1).trans f3_1)
  have f4_2 : P4.2.2.2 o 2 = some x3 := by rw [hP4]; exact (hs_Rnj (by decide)).trans ((O4.2.2.2 2).trans f3_2)
  have f4_3 : P4.2.2.2 o 3 = some (ta3 0) := by rw [hP4]; exact hs_Req
  have s4_x1 := ini_st F4 no_x1 e3_x1
  have e4_x1 := s4_x1.1.trans e3_x1
  have s4_x2 := ini_st F4 no_x2 e3_x2
  have e4_x2 := s4_x2.1.trans e3_x2
  have s4_x3 := ini_st F4 no_x3 e3_x3
  have e4_x3 := s4_x3.1.trans e3_x3
  have s4_b9 := ini_st F4 no_b9 e3_b9
  have e4_b9 := s4_b9.1.trans e3_b9
  have r4 := fun j => (s4_x2.2.1 j).trans (r3 j)
  have t4 := t3.st s4_x3 s4_b9
  have no_ta3 : ∀ i, i < 5 → ta3 i ≠ o := fun i hi e => ini_ne xo3 (nta3 i hi) e.symm
  have T4_ta3 : tn_R P4 ta3 sp_0 := by
    rw [hP4]
    exact hTta3.stt (fun i hi => (hg_fr.rf (W := fun b => b = o)).R rfl _ (no_ta3 i hi)) rfl
  refine hr_aload0 (q := 44) X dX0_init_43 rfl ?_
  refine hr_new (kr := 20) (nr := 317) (q := 47) (ci := 3) (T := TX3) (N := 2) (ty := tyX3) X dX0_init_44 rfl q222 q223 q85 rfl in_X3 tyX3_ok (by decide) (fun x7 hlx7 hnx7 => ?_)
  refine hr_dup (q := 48) X dX0_init_47 rfl rfl ?_
  refine hr_call (kr := 18) (nr := 245) (q := 51) (hc_I (n := 0) (As := []) X dX0_init_48 rfl (ti_walks X.tr (x := x7) (if_pos rfl)) q224 cj_X3_init ⟨Nat.le_of_ble_eq_true rfl, Nat.le_of_ble_eq_true rfl⟩ rfl (Nat.le_of_ble_eq_true rfl)) rfl (fun qx E G' hp _ => by cases hp.1) (fun r Gig8 hp hEg8 => ?_)
  obtain ⟨hvg8, y9, z9, hy9, hz9, hGg8⟩ := hp
  cases hvg8
  have ny9 := hs_Nn hy9
  have nz9 := hs_Nn hz9
  have nz8 := hs_Nn nz9.2
  have mg8 : hg_fr (fun b => P4.1 b = none) P4 Gig8 := by rw [hGg8]; exact (((((hg_fr.rf (W := fun b => P4.1 b = none)).N hnx7).N ny9.2).R hnx7).N nz8.2).R hnx7
  have ug8 : hg_up P4 Gig8 := (hg_up.N (fun _ _ h => h) hnx7).tr hEg8
  refine hr_putR (q := 54) X dX0_init_51 rfl fw_q249_0 (fun _ => hnm) rfl rfl (ug8 o _ xo4) ?_
  obtain ⟨P5, hP5⟩ : ∃ g : hg_G, g = hs_R Gig8 o 4 (some x7) := ⟨_, rfl⟩
  rw [← hP5]
  have F5 : hg_fr (fun b => b = o ∨ P4.1 b = none) P4 P5 := by rw [hP5]; exact (mg8.mono (fun b e => Or.inr e)).R (Or.inl rfl)
  have V5 : hg_up P4 P5 := by rw [hP5]; exact ug8
  have xo5 := V5 o _ xo4
  have U5 := U4.tr V5
  have FR5 := FR4.upn U4 F5
  have O5 : hg_st P4 (Gig8) o := mg8 o (fun e => nomatch (xo4.symm.trans e))
  have f5_6 : P5.2.2.2 o 6 = none := by rw [hP5]; exact (hs_Rnj (by decide)).trans ((O5.2.2.2 6).trans f4_6)
  have f5_0 : P5.2.2.2 o 0 = some x1 := by rw [hP5]; exact (hs_Rnj (by decide)).trans ((O5.2.2.2 0).trans f4_0)
  have f5_1 : P5.2.2.2 o 1 = some x2 := by rw [hP5]; exact (hs_Rnj (by decide)).trans ((O5.2.2.2 1).trans f4_1)
  have f5_2 : P5.2.2.2 o 2 = some x3 := by rw [hP5]; exact (hs_Rnj (by decide)).trans ((O5.2.2.2 2).trans f4_2)
  have f5_3 : P5.2.2.2 o 3 = some (ta3 0) := by rw [hP5]; exact (hs_Rnj (by decide)).trans ((O5.2.2.2 3).trans f4_3)
  have f5_4 : P5.2.2.2 o 4 = some x7 := by rw [hP5]; exact hs_Req
  have s5_x1 := ini_st F5 no_x1 e4_x1
  have e5_x1 := s5_x1.1.trans e4_x1
  have s5_x2 := ini_st F5 no_x2 e4_x2
  have e5_x2 := s5_x2.1.trans e4_x2
  have s5_x3 := ini_st F5 no_x3 e4_x3
  have e5_x3 := s5_x3.1.trans e4_x3
  have s5_b9 := ini_st F5 no_b9 e4_b9
  have e5_b9 := s5_b9.1.trans e4_b9
  have T5_ta3 := T4_ta3.stg F5 no_ta3
  have r5 := fun j => (s5_x2.2.1 j).trans (r4 j)
  have t5 := t4.st s5_x3 s5_b9
  have no_x7 : x7 ≠ o := fun e => ini_ne xo4 hnx7 e.symm
  have bn_x7 : P4.1 x7 = none := hnx7
  have no_y9 : y9 ≠ o := fun e => ini_ne xo4 ny9.2 e.symm
  have bn_y9 : P4.1 y9 = none := ny9.2
  have no_z9 : z9 ≠ o := fun e => ini_ne xo4 nz8.2 e.symm
  have bn_z9 : P4.1 z9 = none := nz8.2
  have e5_x7 : P5.1 x7 = some (0, 3) := by rw [hP5, hGg8]; simp [hs_R1, hs_N1, hs_RR, hs_RI, hs_NI, hs_NR, Ne.symm ny9.1, Ne.symm nz8.1, Ne.symm nz9.1, nz9.1, nz8.1, ny9.1]
  have e5_y9 : P5.1 y9 = some (1, 36) := by rw [hP5, hGg8]; simp [hs_R1, hs_N1, hs_RR, hs_RI, hs_NI, hs_NR, Ne.symm ny9.1, Ne.symm nz8.1, Ne.symm nz9.1, nz9.1, nz8.1, ny9.1]
  have e5_z9 : P5.1 z9 = some (1, 36) := by rw [hP5, hGg8]; simp [hs_R1, hs_N1, hs_RR, hs_RI, hs_NI, hs_NR, Ne.symm ny9.1, Ne.symm nz8.1, Ne.symm nz9.1, nz9.1, nz8.1, ny9.1]
  have k5 : wa_K P5 x7 y9 z9 := ⟨e5_x7, by rw [hP5, hGg8]; simp [hs_R1, hs_N1, hs_RR, hs_RI, hs_NI, hs_NR, no_x7, Ne.symm ny9.1, Ne.symm nz8.1, Ne.symm nz9.1, nz9.1, nz8.1, ny9.1], by rw [hP5, hGg8]; simp [hs_R1, hs_N1, hs_RR, hs_RI, hs_NI, hs_NR, no_x7, Ne.symm ny9.1, Ne.symm nz8.1, Ne.symm nz9.1, nz9.1, nz8.1, ny9.1], e5_y9, e5_z9, Ne.symm nz9.1⟩
  refine hr_aload0 (q := 55) X dX0_init_54 rfl ?_
  refine hr_new (kr := 17) (nr := 230) (q := 58) (ci := 2) (T := TX2) (N := 15) (ty := tyX2) X dX0_init_55 rfl q144 q145 q84 rfl in_X2 tyX2_ok (by decide) (fun x9 hlx9 hnx9 => ?_)
  refine hr_dup (q := 59) X dX0_init_58 rfl rfl ?_
  refine hr_call (kr := 13) (nr := 202) (q := 62) (hc_I (n := 0) (As := []) X dX0_init_59 rfl (tn_init X.tr (o := x9) (if_pos rfl) (fun k => if_pos rfl) (fun k => if_pos rfl)) q146 cj_X2_init ⟨Nat.le_of_ble_eq_true rfl, Nat.le_of_ble_eq_true rfl⟩ rfl (Nat.le_of_ble_eq_true rfl)) rfl (fun qx E G' hp _ => by cases hp.1) (fun r Gig10 hp hEg10 => ?_)
  obtain ⟨hvg10, ta5, h0g10, hTta5, hDta5, hnag10, hfg10⟩ := hp
  cases hvg10
  subst h0g10
  have mg10 : hg_fr (fun b => P5.1 b = none) P5 Gig10 := ((hg_fr.rf (W := fun b => P5.1 b = none)).N hnx9).tr (hfg10.mono (fun a z => z.elim (fun e => by rw [e]; exact hnx9) (fun z => (hs_Nn z).2)))
  have nta5 : ∀ i, i < 5 → P5.1 (ta5 i) = none := fun i hi => by
    by_cases e : i = 0
    · rw [e]; exact hnx9
    · exact (hs_Nn (hnag10 i (by omega) hi)).2
  have ug10 : hg_up P5 Gig10 := (hg_up.N (fun _ _ h => h) hnx9).tr hEg10
  refine hr_putR (q := 65) X dX0_init_62 rfl fw_q250_0 (fun h => nomatch h) rfl rfl (ug10 o _ xo5) ?_
  obtain ⟨P6, hP6⟩ : ∃ g : hg_G, g = hs_R Gig10 o 5 (some (ta5 0)) := ⟨_, rfl⟩
  rw [← hP6]
  have F6 : hg_fr (fun b => b = o ∨ P5.1 b = none) P5 P6 := by rw [hP6]; exact (mg10.mono (fun b e => Or.inr e)).R (Or.inl rfl)
  have V6 : hg_up P5 P6 := by rw [hP6]; exact ug10
  have xo6 := V6 o _ xo5
  have U6 := U5.tr V6
  have FR6 := FR5.upn U5 F6
  have O6 : hg_st P5 (Gig10) o := mg10 o (fun e => nomatch (xo5.symm.trans e))
  have f6_6 : P6.2.2.2 o 6 = none := by rw [hP6]; exact (hs_Rnj (by decide)).trans ((O6.2.2.2 6).trans f5_6)
  have f6_0 : P6.2.2.2 o 0 = some x1 := by rw [hP6]; exact (hs_Rnj (by decide)).trans ((O6.2.2.2 0).trans f5_0)
  have f6_1 : P6.2.2.2 o 1 = some x2 := by rw [hP6]; exact (hs_Rnj (by decide)).trans ((O6.2.2.2 1).trans f5_1)
  have f6_2 : P6.2.2.2 o 2 = some x3 := by rw [hP6]; exact (hs_Rnj (by decide)).trans ((O6.2.2.2 2).trans f5_2)
  have f6_3 : P6.2.2.2 o 3 = some (ta3 0) := by rw [hP6]; exact (hs_Rnj (by decide)).trans ((O6.2.2.2 3).trans f5_3)
  have f6_4 : P6.2.2.2 o 4 = some x7 := by rw [hP6]; exact (hs_Rnj (by decide)).trans ((O6.2.2.2 4).trans f5_4)
  have f6_5 : P6.2.2.2 o 5 = some (ta5 0) := by rw [hP6]; exact hs_Req
  have s6_x1 := ini_st F6 no_x1 e5_x1
  have e6_x1 := s6_x1.1.trans e5_x1
  have s6_x2 := ini_st F6 no_x2 e5_x2
  have e6_x2 := s6_x2.1.trans e5_x2
  have s6_x3 := ini_st F6 no_x3 e5_x3
  have e6_x3 := s6_x3.1.trans e5_x3
  have s6_b9 := ini_st F6 no_b9 e5_b9
  have e6_b9 := s6_b9.1.trans e5_b9
  have s6_x7 := ini_st F6 no_x7 e5_x7
  have e6_x7 := s6_x7.1.trans e5_x7
  have s6_y9 := ini_st F6 no_y9 e5_y9
  have e6_y9 := s6_y9.1.trans e5_y9
  have s6_z9 := ini_st F6 no_z9 e5_z9
  have e6_z9 := s6_z9.1.trans e5_z9
  have T6_ta3 := T5_ta3.stg F6 no_ta3
  have r6 := fun j => (s6_x2.2.1 j).trans (r5 j)
  have t6 := t5.st s6_x3 s6_b9
  have k6 := k5.stt s6_x7 s6_y9 s6_z9
  have no_ta5 : ∀ i, i < 5 → ta5 i ≠ o := fun i hi e => ini_ne xo5 (nta5 i hi) e.symm
  have T6_ta5 : tn_R P6 ta5 sp_0 := by
    rw [hP6]
    exact hTta5.stt (fun i hi => (hg_fr.rf (W := fun b => b = o)).R rfl _ (no_ta5 i hi)) rfl
  refine hr_aload0 (q := 66) X dX0_init_65 rfl ?_
  refine hr_iconst (v := (-1)) (q := 67) X dX0_init_66 rfl rfl ?_
  refine hr_putI (q := 70) X dX0_init_67 rfl fw_q252_0 (fun h => nomatch h) rfl rfl rfl xo6 ?_
  obtain ⟨P7, hP7⟩ : ∃ g : hg_G, g = hs_I P6 o 7 (-1) := ⟨_, rfl⟩
  rw [← hP7]
  have F7 : hg_fr (fun b => b = o ∨ P6.1 b = none) P6 P7 := by rw [hP7]; exact hg_fr.rf.I (Or.inl rfl)
  have V7 : hg_up P6 P7 := by rw [hP7]; exact (fun _ _ h => h)
  have xo7 := V7 o _ xo6
  have U7 := U6.tr V7
  have FR7 := FR6.upn U6 F7
  have f7_6 : P7.2.2.2 o 6 = none := by rw [hP7]; exact f6_6
  have f7_0 : P7.2.2.2 o 0 = some x1 := by rw [hP7]; exact f6_0
  have f7_1 : P7.2.2.2 o 1 = some x2 := by rw [hP7]; exact f6_1
  have f7_2 : P7.2.2.2 o 2 = some x3 := by rw [hP7]; exact f6_2
  have f7_3 : P7.2.2.2 o 3 = some (ta3 0) := by rw [hP7]; exact f6_3
  have f7_4 : P7.2.2.2 o 4 = some x7 := by rw [hP7]; exact f6_4
  have f7_5 : P7.2.2.2 o 5 = some (ta5 0) := by rw [hP7]; exact f6_5
  have fi7 : P7.2.1 o 7 = -1 := by rw [hP7]; exact hs_Ieq
  have s7_x1 := ini_st F7 no_x1 e6_x1
  have e7_x1 := s7_x1.1.trans e6_x1
  have s7_x2 := ini_st F7 no_x2 e6_x2
  have e7_x2 := s7_x2.1.trans e6_x2
  have s7_x3 := ini_st F7 no_x3 e6_x3
  have e7_x3 := s7_x3.1.trans e6_x3
  have s7_b9 := ini_st F7 no_b9 e6_b9
  have e7_b9 := s7_b9.1.trans e6_b9
  have s7_x7 := ini_st F7 no_x7 e6_x7
  have e7_x7 := s7_x7.1.trans e6_x7
  have s7_y9 := ini_st F7 no_y9 e6_y9
  have e7_y9 := s7_y9.1.trans e6_y9
  have s7_z9 := ini_st F7 no_z9 e6_z9
  have e7_z9 := s7_z9.1.trans e6_z9
  have T7_ta3 := T6_ta3.stg F7 no_ta3
  have T7_ta5 := T6_ta5.stg F7 no_ta5
  have r7 := fun j => (s7_x2.2.1 j).trans (r6 j)
  have t7 := t6.st s7_x3 s7_b9
  have k7 := k6.stt s7_x7 s7_y9 s7_z9
  refine hr_iconst (v := (nI 0)) (q := 71) X dX0_init_70 rfl rfl ?_
  refine hr_istore1 (q := 72) X dX0_init_71 rfl rfl (Nat.le_of_ble_eq_true rfl) ?_
  have loop72 : ∀ (n kr nr : Nat) (i : Nat) (sf : Nat → Nat) (G9 : hg_G), (i ≤ 8) → (9 ≤ i + n) → (hg_fr (fun a => a = x1 ∨ P7.1 a = none) P7 G9) → (hg_up P7 G9) → (∀ j, j < i → G9.2.2.2 x1 j = some (sf j) ∧ G9.1 (sf j) = some (0, 4) ∧ G9.2.2.2 (sf j) 0 = none ∧ P7.1 (sf j) = none) → (∀ j k, j < i → k < i → sf j = sf k → j = k) → hg_W p l e rk_X0_init s m args below meth c (hg_Q below D lo args s rk_X0_init G (fun r G' => r = .inl none ∧ (∃ ca : Nat → Nat, ca 0 = o ∧ cp_R G' ca ab_0) ∧ hg_fr (fun a => a = o ∨ G.1 a = none) G G')) D lo G.1 2 (kr + 1 * n) (nr + 1 * n) G9 72 [some (.ref o), some (.int (nI i))] [] := by
    intro n kr nr
    induction n with
    | zero =>
      intro i sf G9 h72_0 h72_1 h72_2 h72_3 h72_4 h72_5
      omega
    | succ n ih =>
      intro i sf G9 h72_0 h72_1 h72_2 h72_3 h72_4 h72_5
      refine hr_room (kr' := kr + 1 * n + 1) (nr' := nr + 1 * n + 1) (by omega) (by omega) ?_
      refine hr_iload1 (q := 73) X dX0_init_72 rfl ?_
      refine hr_bipush (v := (nI 8)) (q := 75) X dX0_init_73 rfl rfl ?_
      refine hr_icmpN_ge (q := 78) (tgt := 97) X dX0_init_75 rfl (by decide) (by omega) (by omega) (fun c75 => ?_) (fun c75 => ?_)
      · have hi8 : i = 8 := by omega
        subst hi8
        have FW : hg_fr (fun b => b = x1 ∨ P7.1 b = none) P7 G9 := h72_2
        have so : hg_st P7 G9 o := FW o (fun z => z.elim (fun e => no_x1 e.symm) (fun e => nomatch (xo7.symm.trans e)))
        have x1e := h72_3 x1 _ e7_x1
        have w_x2 := ini_st FW (ini_ne e1_x1 bn_x2).symm e7_x2
        have w_x3 := ini_st FW (ini_ne e2_x1 bn_x3).symm e7_x3
        have w_b9 := ini_st FW (ini_ne e2_x1 bn_b9).symm e7_b9
        have w_x7 := ini_st FW (ini_ne e4_x1 bn_x7).symm e7_x7
        have w_y9 := ini_st FW (ini_ne e4_x1 bn_y9).symm e7_y9
        have w_z9 := ini_st FW (ini_ne e4_x1 bn_z9).symm e7_z9
        have W_ta3 := T7_ta3.stg FW (fun i hi e => ini_ne e3_x1 (nta3 i hi) e.symm)
        have W_ta5 := T7_ta5.stg FW (fun i hi e => ini_ne e5_x1 (nta5 i hi) e.symm)
        have ca : ∃ c : Nat → Nat, c = cp_mk o x1 x2 x3 b9 x7 y9 z9 sf ta3 ta5 := ⟨_, rfl⟩
        have c8 : ∀ j, j < 8 → (cp_mk o x1 x2 x3 b9 x7 y9 z9 sf ta3 ta5) (8 + j) = sf j := fun j hj => by
          unfold cp_mk
          rw [if_neg (by omega), if_neg (by omega), if_neg (by omega), if_neg (by omega), if_neg (by omega), if_neg (by omega), if_neg (by omega), if_neg (by omega), if_pos (by omega), Nat.add_sub_cancel_left]
        have c16 : ∀ j, j < 5 → (cp_mk o x1 x2 x3 b9 x7 y9 z9 sf ta3 ta5) (16 + j) = ta3 j := fun j hj => by
          unfold cp_mk
          rw [if_neg (by omega), if_neg (by omega), if_neg (by omega), if_neg (by omega), if_neg (by omega), if_neg (by omega), if_neg (by omega), if_neg (by omega), if_neg (by omega), if_pos (by omega), Nat.add_sub_cancel_left]
        have c21 : ∀ j, j < 5 → (cp_mk o x1 x2 x3 b9 x7 y9 z9 sf ta3 ta5) (21 + j) = ta5 j := fun j hj => by
          unfold cp_mk
          rw [if_neg (by omega), if_neg (by omega), if_neg (by omega), if_neg (by omega), if_neg (by omega), if_neg (by omega), if_neg (by omega), if_neg (by omega), if_neg (by omega), if_neg (by omega), Nat.add_sub_cancel_left]
        have r8 : ∀ j, j < 8 → in_rk (8 + j) = 8 := fun j hj => by
          unfold in_rk
          rw [if_neg (by omega), if_neg (by omega), if_neg (by omega), if_neg (by omega), if_neg (by omega), if_pos (by omega)]
        have r16 : ∀ j, j < 5 → in_rk (16 + j) = 4 := fun j hj => by
          unfold in_rk
          rw [if_neg (by omega), if_neg (by omega), if_neg (by omega), if_neg (by omega), if_neg (by omega), if_neg (by omega), if_pos (by omega)]
        have r21 : ∀ j, j < 5 → in_rk (21 + j) = 6 := fun j hj => by
          unfold in_rk
          rw [if_neg (by omega), if_neg (by omega), if_neg (by omega), if_neg (by omega), if_neg (by omega), if_neg (by omega), if_neg (by omega)]
        have hij : ∀ i j, i < 26 → j < 26 → (cp_mk o x1 x2 x3 b9 x7 y9 z9 sf ta3 ta5) i = (cp_mk o x1 x2 x3 b9 x7 y9 z9 sf ta3 ta5) j → i = j := by
          have grp : ∀ r, r < 26 → r = 0 ∨ r = 1 ∨ r = 2 ∨ r = 3 ∨ r = 4 ∨ r = 5 ∨ r = 6 ∨ r = 7 ∨ (∃ j, j < 8 ∧ r = 8 + j) ∨ (∃ j, j < 5 ∧ r = 16 + j) ∨ (∃ j, j < 5 ∧ r = 21 + j) := fun r hr => by
            by_cases h8 : r < 8
            · omega
            · by_cases h16 : r < 16
              · exact Or.inr (Or.inr (Or.inr (Or.inr (Or.inr (Or.inr (Or.inr (Or.inr (Or.inl ⟨r - 8, by omega, by omega⟩))))))))
              · by_cases h21 : r < 21
                · exact Or.inr (Or.inr (Or.inr (Or.inr (Or.inr (Or.inr (Or.inr (Or.inr (Or.inr (Or.inl ⟨r - 16, by omega, by omega⟩)))))))))
                · exact Or.inr (Or.inr (Or.inr (Or.inr (Or.inr (Or.inr (Or.inr (Or.inr (Or.inr (Or.inr ⟨r - 21, by omega, by omega⟩)))))))))
          refine ini_inj (P := fun _ _ => True) (rk := in_rk) (ini_rank (PP := fun k => match k with | 0 => G | 1 => P1 | 2 => P2 | 3 => P3 | 4 => P4 | 5 => P5 | 6 => P6 | _ => P7) (fun k hk => ?_) (fun r hr => ?_) (fun r hr h0 => ?_) (fun r hr h7 => ?_)) (fun i j hi hj hr he => ?_)
          · match k, hk with
            | 0, _ => exact V1
            | 1, _ => exact V2
            | 2, _ => exact V3
            | 3, _ => exact V4
            | 4, _ => exact V5
            | 5, _ => exact V6
            | 6, _ => exact V7
            | (k + 7), h => omega
          · unfold in_rk
            (repeat' split) <;> omega
          · rcases grp r hr with rfl | rfl | rfl | rfl | rfl | rfl | rfl | rfl | ⟨j, hj, rfl⟩ | ⟨j, hj, rfl⟩ | ⟨j, hj, rfl⟩
            · exact absurd h0 (by decide)
            · exact bn_x1
            · exact bn_x2
            · exact bn_x3
            · exact bn_b9
            · exact bn_x7
            · exact bn_y9
            · exact bn_z9
            · rw [c8 j hj, r8 j hj]; exact (h72_4 j hj).2.2.2
            · rw [c16 j hj, r16 j hj]; exact nta3 j hj
            · rw [c21 j hj, r21 j hj]; exact nta5 j hj
          · rcases grp r hr with rfl | rfl | rfl | rfl | rfl | rfl | rfl | rfl | ⟨j, hj, rfl⟩ | ⟨j, hj, rfl⟩ | ⟨j, hj, rfl⟩
            · exact fun e => nomatch (ho.symm.trans e)
            · exact fun e => nomatch (e1_x1.symm.trans e)
            · exact fun e => nomatch (e2_x2.symm.trans e)
            · exact fun e => nomatch (e3_x3.symm.trans e)
            · exact fun e => nomatch (e3_b9.symm.trans e)
            · exact fun e => nomatch (e5_x7.symm.trans e)
            · exact fun e => nomatch (e5_y9.symm.trans e)
            · exact fun e => nomatch (e5_z9.symm.trans e)
            · rw [r8 j hj] at h7; omega
            · rw [c16 j hj, r16 j hj]; exact T4_ta3.kn hj
            · rw [c21 j hj, r21 j hj]; exact T6_ta5.kn hj
          · rcases grp i hi with rfl | rfl | rfl | rfl | rfl | rfl | rfl | rfl | ⟨a, ha, rfl⟩ | ⟨a, ha, rfl⟩ | ⟨a, ha, rfl⟩ <;> rcases grp j hj with rfl | rfl | rfl | rfl | rfl | rfl | rfl | rfl | ⟨b, hb, rfl⟩ | ⟨b, hb, rfl⟩ | ⟨b, hb, rfl⟩ <;> first
              | rfl
              | exact absurd hr (by decide)
              | (exfalso; (try rw [r8 _ ha] at hr); (try rw [r16 _ ha] at hr); (try rw [r21 _ ha] at hr); (try rw [r8 _ hb] at hr); (try rw [r16 _ hb] at hr); (try rw [r21 _ hb] at hr); first | exact absurd hr (by decide))
              | (rw [c8 a ha, c8 b hb] at he; have := h72_5 a b ha hb he; omega)
              | (rw [c16 a ha, c16 b hb] at he; have := hDta3 a b ha hb he; omega)
              | (rw [c21 a ha, c21 b hb] at he; have := hDta5 a b ha hb he; omega)
              | exact absurd he nb9.1.symm | exact absurd he nb9.1
              | exact absurd he ny9.1.symm | exact absurd he ny9.1 | exact absurd he nz8.1.symm | exact absurd he nz8.1 | exact absurd he nz9.1.symm | exact absurd he nz9.1
        have hcp : cp_R G9 (cp_mk o x1 x2 x3 b9 x7 y9 z9 sf ta3 ta5) ab_0 := by
          refine ⟨⟨so.1.trans xo7, (so.2.2.2 0).trans f7_0, (so.2.2.2 1).trans f7_1, (so.2.2.2 2).trans f7_2, (so.2.2.2 3).trans f7_3, (so.2.2.2 4).trans f7_4, (so.2.2.2 5).trans f7_5, (so.2.2.2 6).trans f7_6, (so.2.1 7).trans fi7⟩, ⟨x1e, fun j hj => ?_⟩, fun j hj h1 => ?_, ⟨w_x2.1.trans e7_x2, fun j hj => (w_x2.2.1 j).trans (r7 j)⟩, t7.st w_x3 w_b9, k7.stt w_x7 w_y9 w_z9, ?_, ?_, fun h1 => ?_, fun a b ha hb he => ?_⟩
          · rw [c8 j hj]
            exact ⟨(h72_4 j hj).1, (h72_4 j hj).2.1, (h72_4 j hj).2.2.1⟩
          · exact absurd (show (0 : Nat) = 1 from h1) (by decide)
          · have g := W_ta3.K
            unfold tn_K at g ⊢
            simp only [c16 0 (by decide), c16 1 (by decide), c16 2 (by decide), c16 3 (by decide), c16 4 (by decide)]
            exact g
          · have g := W_ta5
            unfold tn_R at g ⊢
            simp only [c21 0 (by decide), c21 1 (by decide), c21 2 (by decide), c21 3 (by decide), c21 4 (by decide)]
            exact g
          · exact absurd h1 (by decide)
          · have lt : ∀ r, cp_pr ab_0 r → r < 26 := fun r hr => by
              rcases hr with h | ⟨-, -, h⟩ | ⟨-, -, h⟩ | ⟨-, -, h⟩
              · exact h
              · exact absurd h (by decide)
              · exact absurd (show (0 : Nat) = 1 from h) (by decide)
              · exact absurd (show (0 : Nat) = 1 from h) (by decide)
            exact hij a b (lt a ha) (lt b hb) he
        exact hr_vret X hr dX0_init_97 ⟨rfl, ⟨_, rfl, hcp⟩, FR7.tr (FW.mono (fun b e => Or.inr (e.elim (fun e => by rw [e]; exact U0.nn bn_x1) (fun e => U7.nn e))))⟩
      · have so : hg_st P7 G9 o := h72_2 o (fun z => z.elim (fun e => no_x1 e.symm) (fun e => nomatch (xo7.symm.trans e)))
        refine hr_aload0 (q := 79) X dX0_init_78 rfl ?_
        refine hr_getR (v := x1) (q := 82) X dX0_init_79 rfl fr_q245_0 rfl (so.1.trans xo7) ((so.2.2.2 0).trans f7_0) ?_
        refine hr_iload1 (q := 83) X dX0_init_82 rfl ?_
        refine hr_new (kr := kr + 1 * n) (nr := nr + 1 * n) (q := 86) (ci := 4) (T := TX4) (N := 1) (ty := tyX4) X dX0_init_83 rfl q126 q235 q86 rfl in_X4 tyX4_ok (by decide) (fun y1 hly1 hny1 => ?_)
        have hyx : y1 ≠ x1 := fun e => by
          have g := h72_3 x1 _ e7_x1
          rw [← e, hny1] at g
          cases g
        refine hr_dup (q := 87) X dX0_init_86 rfl rfl ?_
        refine hr_call0 (q := 90) (hc_I (n := 0) (As := []) X dX0_init_87 rfl (ti_shelf X.tr (x := y1)) q236 cj_X4_init ⟨Nat.le_of_ble_eq_true rfl, Nat.le_of_ble_eq_true rfl⟩ rfl (Nat.le_of_ble_eq_true rfl)) rfl (fun qx E G' hp => by cases hp.1) (fun r Gs hp _ => ?_)
        obtain ⟨hvs, hGs⟩ := hp
        cases hvs
        subst hGs
        refine hr_aast (n := 8) (t := 4) (q := 91) X dX0_init_90 rfl (h72_3.N hny1 x1 _ e7_x1) (Or.inl rfl) (vp_in_nI (by omega) (by decide)) (if_pos rfl) rfl (Or.inl rfl) ?_
        rw [nI_clamp (by omega)]
        refine hr_iinc1 (v := (nI (i + 1))) (q := 94) X dX0_init_91 rfl (nI_add _ _) rfl (Nat.le_of_ble_eq_true rfl) ?_
        refine hr_goto (tgt := 72) X dX0_init_94 (by decide) ?_
        exact ih (i + 1) (fun j => if j = i then y1 else sf j) (hs_R (hs_N G9 y1 (0, 4)) x1 i (some y1)) (by omega) (by omega) ((h72_2.N (Or.inr (h72_3.nn hny1))).R (Or.inl rfl)) (h72_3.N hny1) (fun j hj => by
          by_cases e : j = i
          · rw [if_pos e, e]
            exact ⟨hs_Req, if_pos rfl, (hs_Rne hyx).trans (if_pos rfl), h72_3.nn hny1⟩
          · rw [if_neg e]
            obtain ⟨q1, q2, q3, q4⟩ := h72_4 j (by omega)
            have qy : sf j ≠ y1 := ini_ne q2 hny1
            have qx : sf j ≠ x1 := fun z => by rw [z, e7_x1] at q4; cases q4
            exact ⟨(hs_Rnj e).trans ((if_neg (Ne.symm hyx)).trans q1), (if_neg qy).trans q2, (hs_Rne qx).trans ((if_neg qy).trans q3), q4⟩) (fun j k hj hk he => by
          by_cases e1 : j = i
          · by_cases e2 : k = i
            · rw [e1, e2]
            · rw [if_pos e1, if_neg e2] at he
              exact absurd he.symm (ini_ne (h72_4 k (by omega)).2.1 hny1)
          · by_cases e2 : k = i
            · rw [if_neg e1, if_pos e2] at he
              exact absurd he (ini_ne (h72_4 j (by omega)).2.1 hny1)
            · rw [if_neg e1, if_neg e2] at he
              exact h72_5 j k (by omega) (by omega) he)
  exact hr_room (kr' := 0 + 1 * 9) (nr' := 0 + 1 * 9) (by omega) (by omega) (loop72 9 0 0 0 (fun _ => 0) P7 (by omega) (by omega) hg_fr.rf (fun _ _ h => h) (fun j hj => absurd hj (Nat.not_lt_zero _)) (fun j k hj => absurd hj (Nat.not_lt_zero _)))

