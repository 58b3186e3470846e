/-! moves: the trace, who moves -/
def tr_R (G : hg_G) (x y : Nat) (A : ab_S) : Prop := G.1 x = some (0, 1) ∧ G.2.2.2 x 0 = some y ∧ G.1 y = some (1, 20) ∧ G.2.1 x 1 = A.1.2 42 ∧ ∀ j, j < 20 → G.2.1 y j = A.2.2.1 41 j
def tr_W (x y : Nat) (a : Nat) : Prop := a = x ∨ a = y
def tr_Po (x y : Nat) (G : hg_G) (r0 : Option Value) (B : ab_S) : hg_Po := fun r G' => r = .inl r0 ∧ tr_R G' x y B ∧ G'.1 = G.1 ∧ hg_fr (tr_W x y) G G'
def pr_R (G : hg_G) (b k i b1 : Nat) : Prop := G.1 b = some (0, 12 + k) ∧ G.2.1 b 0 = nI i ∧ G.2.1 b 1 = nI b1
section TRR
variable {G G' : hg_G} {x y b k i b1 : Nat} {A : ab_S}
theorem tr_R.nxy (h : tr_R G x y A) : x ≠ y := fun e => by
  have h1 := h.1
  rw [e, h.2.2.1] at h1
  cases h1
theorem tr_R.nb (h : tr_R G x y A) (hb : G.1 b = some (0, 12 + k)) : ¬ tr_W x y b := fun z => by
  rcases z with e | e
  · rw [e, h.1] at hb
    have := (Prod.mk.inj (Option.some.inj hb)).2
    omega
  · rw [e, h.2.2.1] at hb
    cases hb
theorem pr_R.fr (h : pr_R G b k i b1) (hT : tr_R G x y A) (hf : hg_fr (tr_W x y) G G') : pr_R G' b k i b1 := by
  have f := hf b (hT.nb h.1)
  exact ⟨by rw [f.1]; exact h.1, by rw [f.2.1]; exact h.2.1, by rw [f.2.1]; exact h.2.2⟩
theorem tr_R.runs_y (h : tr_R G x y A) {v r : Nat} (hr : r < 20) : tr_R (hs_I (hs_I G y r (nI v)) x 1 (nI (r + 1))) x y (sq_body v r A) := by
  have e : sq_body v r A = ab_i (ab_r A 41 r (nI v)) 42 (nI (r + 1)) := by rw [sq_body, if_pos hr]
  rw [e]
  refine ⟨h.1, h.2.1, h.2.2.1, hs_Ieq, fun j hj => ?_⟩
  rw [hs_Ine (Ne.symm h.nxy), hs_Iif]
  show _ = if (41 : Nat) = 41 then (if j = r then nI v else A.2.2.1 41 j) else A.2.2.1 41 j
  rw [if_pos rfl]
  split
  · rfl
  · exact h.2.2.2.2 j hj
theorem tr_R.runs_n (h : tr_R G x y A) {v r : Nat} (hr : ¬ r < 20) : tr_R (hs_I G x 1 (nI (r + 1))) x y (sq_body v r A) := by
  have e : sq_body v r A = ab_i A 42 (nI (r + 1)) := by rw [sq_body, if_neg hr]
  rw [e]
  refine ⟨h.1, h.2.1, h.2.2.1, hs_Ieq, fun j hj => ?_⟩
  rw [hs_Ine (Ne.symm h.nxy)]
  exact h.2.2.2.2 j hj
end TRR
theorem sq_look_0 {p r : Nat} {a : Int32} {A : ab_S} (h : A.1.1 9 p = 0 ∨ A.1.1 9 p = 3 ∨ A.1.1 9 p = 5) : sq_looking p a r A = (a + nI p, sq_body 10 r A) := by rw [sq_looking, if_neg (by omega), if_neg (by omega), if_neg (by omega), if_neg (by omega)]
theorem sq_look_1 {p r : Nat} {a : Int32} {A : ab_S} (h : A.1.1 9 p = 1) : sq_looking p a r A = (a + nI p + nI (A.1.1 10 p), sq_body 10 (r + 1) (sq_body 20 r A)) := by rw [sq_looking, if_pos h]
theorem sq_look_2 {p r : Nat} {a : Int32} {A : ab_S} (h : A.1.1 9 p = 2) : sq_looking p a r A = (a + nI 1 + nI p + nI (A.1.1 10 p), sq_body 10 (r + 1 + 1) (sq_body 20 (r + 1) (sq_body 40 r A))) := by rw [sq_looking, if_neg (by omega), if_pos h]
theorem sq_look_4 {p r : Nat} {a : Int32} {A : ab_S} (h : A.1.1 9 p = 4) : sq_looking p a r A = (a + nI p - nI p, sq_body 10 (r + 1) (sq_body 51 r A)) := by rw [sq_looking, if_neg (by omega), if_neg (by omega), if_pos h]
theorem sq_look_6 {p r : Nat} {a : Int32} {A : ab_S} (h : A.1.1 9 p = 6) : sq_looking p a r A = ((a + nI p - nI p) * nI 2, sq_body 10 (r + 1 + 1) (sq_body 51 (r + 1) (sq_body 70 r A))) := by rw [sq_looking, if_neg (by omega), if_neg (by omega), if_neg (by omega), if_pos h]
theorem sq_walk_0 {p r : Nat} {a : Int32} {A : ab_S} (h : ¬ (A.1.1 9 p = 6 ∨ A.1.1 9 p = 3 ∨ A.1.1 9 p = 5)) : sq_walking p a r A = ((sq_looking p a (r + 1) (sq_body 11 r A)).1 * nI 2, (sq_looking p a (r + 1) (sq_body 11 r A)).2) := by rw [sq_walking, if_neg (by omega), if_neg (by omega), if_neg (by omega)]
theorem sq_walk_3 {p r : Nat} {a : Int32} {A : ab_S} (h : A.1.1 9 p = 3 ∨ A.1.1 9 p = 5) : sq_walking p a r A = ((sq_looking p a (r + 1 + 1) (sq_body 11 (r + 1) (sq_body 30 r A))).1 * nI 2 * nI 3, (sq_looking p a (r + 1 + 1) (sq_body 11 (r + 1) (sq_body 30 r A))).2) := by
  rcases h with h | h
  · rw [sq_walking, if_neg (by omega), if_pos h]
  · rw [sq_walking, if_neg (by omega), if_neg (by omega), if_pos h]
theorem sq_walk_6 {p r : Nat} {a : Int32} {A : ab_S} (h : A.1.1 9 p = 6) : sq_walking p a r A = ((sq_looking p (a - nI (A.1.1 10 p)) (r + 1 + 1) (sq_body 11 (r + 1) (sq_body 71 r A))).1 * nI 2, (sq_looking p (a - nI (A.1.1 10 p)) (r + 1 + 1) (sq_body 11 (r + 1) (sq_body 71 r A))).2) := by rw [sq_walking, if_pos h]
/-- Person.paying of whom it may be -/
def sq_payP (p : Nat) (a : Int32) (r : Nat) (A : ab_S) : Int32 × ab_S :=
  let w := sq_walking p a (r + 1) (sq_body 12 r A)
  let q := sq_looking p (a - nI (A.1.1 10 p)) (iN (w.2.1.2 42)) w.2
  (w.1 ^^^ q.1, q.2)
theorem sq_payP_b (p : Nat) (a : Int32) (r c : Nat) (A : ab_S) : (sq_body c r A).1.1 10 p = A.1.1 10 p := by rw [sq_body_t]
theorem sq_pay_0 {p r : Nat} {a : Int32} {A : ab_S} (h : ¬ (A.1.1 9 p = 4 ∨ A.1.1 9 p = 6 ∨ A.1.1 9 p = 5)) : sq_paying p a r A = sq_payP p a r A := by
  rw [sq_paying, if_neg (by omega), if_neg (by omega), if_neg (by omega)]
  rfl
theorem sq_pay_4 {p r : Nat} {a : Int32} {A : ab_S} (h : A.1.1 9 p = 4 ∨ A.1.1 9 p = 6) : sq_paying p a r A = (-(sq_payP p a (r + 1) (sq_body 50 r A)).1, (sq_payP p a (r + 1) (sq_body 50 r A)).2) := by
  unfold sq_payP
  rw [sq_payP_b p a]
  rcases h with h | h
  · rw [sq_paying, if_pos h]
  · rw [sq_paying, if_neg (by omega), if_pos h]
theorem sq_pay_5 {p r : Nat} {a : Int32} {A : ab_S} (h : A.1.1 9 p = 5) : sq_paying p a r A = ((sq_payP p a (r + 1) (sq_body 60 r A)).1 ^^^ nI 5, (sq_payP p a (r + 1) (sq_body 60 r A)).2) := by
  unfold sq_payP
  rw [sq_payP_b p a, sq_paying, if_neg (by omega), if_neg (by omega), if_pos h]
theorem fr_q668_14 : hg_Fd "TaxOnLooks$Beauty" 23 14 1 := hg_Fd.of (T := TX14) (N := 3) rfl in_X14 (Nat.le_of_ble_eq_true rfl) rfl rfl q668 (Or.inr q669)

theorem fp_q668 : ∀ k, k = 1 ∨ k = 2 → hg_Fd "TaxOnLooks$Beauty" 23 (12 + k) 1 := by
  intro k hk
  rcases hk with rfl | rfl
  · exact fr_q668_13
  · exact fr_q668_14

theorem fr_q662_18 : hg_Fd "TaxOnLooks$Lover" 22 18 0 := hg_Fd.of (T := TX18) (N := 3) rfl in_X18 (Nat.le_of_ble_eq_true rfl) rfl rfl q662 (Or.inr q663)

theorem fp_q662 : ∀ k, k = 4 ∨ k = 6 → hg_Fd "TaxOnLooks$Lover" 22 (12 + k) 0 := by
  intro k hk
  rcases hk with rfl | rfl
  · exact fr_q662_16
  · exact fr_q662_18

theorem fr_q653_14 : hg_Fd "TaxOnLooks$Shelf" 32 14 0 := hg_Fd.of (T := TX14) (N := 3) rfl in_X14 (Nat.le_of_ble_eq_true rfl) rfl rfl q653 (Or.inr q654)

theorem fp_q653 : ∀ k, k = 1 ∨ k = 2 → hg_Fd "TaxOnLooks$Shelf" 32 (12 + k) 0 := by
  intro k hk
  rcases hk with rfl | rfl
  · exact fr_q653_13
  · exact fr_q653_14

theorem fr_q657_17 : hg_Fd "TaxOnLooks$Shelf" 51 17 0 := hg_Fd.of (T := TX17) (N := 3) rfl in_X17 (Nat.le_of_ble_eq_true rfl) rfl rfl q657 (Or.inr q658)

theorem fp_q657 : ∀ k, k = 3 ∨ k = 5 → hg_Fd "TaxOnLooks$Shelf" 51 (12 + k) 0 := by
  intro k hk
  rcases hk with rfl | rfl
  · exact fr_q657_15
  · exact fr_q657_17

theorem fr_q676_18 : hg_Fd "TaxOnLooks$Shelf" 54 18 2 := hg_Fd.of (T := TX18) (N := 3) rfl in_X18 (Nat.le_of_ble_eq_true rfl) rfl rfl q676 (Or.inr q677)

theorem fp_q676 : ∀ k, k = 4 ∨ k = 6 → hg_Fd "TaxOnLooks$Shelf" 54 (12 + k) 2 := by
  intro k hk
  rcases hk with rfl | rfl
  · exact fr_q676_16
  · exact fr_q676_18

theorem tr_runs {l : Launch} {D : hg_D} {lo : Nat} (htr : l.stackTraces = false) {G : hg_G} {x y b r : Nat} {A : ab_S} (hT : tr_R G x y A) (hrn : A.1.2 42 = nI r) (hr2 : r < 1000) :
    hg_M l D lo yX1_runs (ws_ yX1_runs cX1_runs 2 (none)) rm_X1_runs [.ref x, .int (nI b)] G (tr_Po x y G none (sq_body b r A)) := by
  refine hg_M.of htr (by decide) [some (.ref x), some (.int (nI b))] rfl (Nat.le_of_ble_eq_true rfl) ?_
  intro p e s m args below meth c X hr hnm htab
  have X : hg_X p l s m args meth c D lo "TaxOnLooks$Trace" cX1_runs 2 := X
  refine hr_aload0 (q := 1) X dX1_runs_0 rfl ?_
  refine hr_getI (v := (nI r)) (q := 4) X dX1_runs_1 rfl fr_q136_1 rfl hT.1 (hT.2.2.2.1.trans hrn) ?_
  refine hr_bipush (v := (nI 20)) (q := 6) X dX1_runs_4 rfl rfl ?_
  refine hr_icmpN_ge (q := 9) (tgt := 19) X dX1_runs_6 rfl (by decide) (by omega) (by omega) (fun c6 => ?_) (fun c6 => ?_)
  · refine hr_aload0 (q := 20) X dX1_runs_19 rfl ?_
    refine hr_dup (q := 21) X dX1_runs_20 rfl rfl ?_
    refine hr_getI (v := (nI r)) (q := 24) X dX1_runs_21 rfl fr_q136_1 rfl hT.1 (hT.2.2.2.1.trans hrn) ?_
    refine hr_iconst (v := (nI 1)) (q := 25) X dX1_runs_24 rfl rfl ?_
    refine hr_iadd (v := (nI (r + 1))) (q := 26) X dX1_runs_25 rfl (nI_add _ _) ?_
    refine hr_putI (q := 29) X dX1_runs_26 rfl fw_q136_1 (fun h => nomatch h) rfl rfl rfl hT.1 ?_
    exact hr_vret X hr dX1_runs_29 ⟨rfl, hT.runs_n (by omega), rfl, hg_fr.rf.I (Or.inl rfl)⟩
  · refine hr_aload0 (q := 10) X dX1_runs_9 rfl ?_
    refine hr_getR (v := y) (q := 13) X dX1_runs_10 rfl fr_q134_1 rfl hT.1 hT.2.1 ?_
    refine hr_aload0 (q := 14) X dX1_runs_13 rfl ?_
    refine hr_getI (v := (nI r)) (q := 17) X dX1_runs_14 rfl fr_q136_1 rfl hT.1 (hT.2.2.2.1.trans hrn) ?_
    refine hr_iload1 (q := 18) X dX1_runs_17 rfl ?_
    refine hr_iastN (q := 19) X dX1_runs_18 rfl hT.2.2.1 (by omega) (by decide) ?_
    refine hr_aload0 (q := 20) X dX1_runs_19 rfl ?_
    refine hr_dup (q := 21) X dX1_runs_20 rfl rfl ?_
    refine hr_getI (v := (nI r)) (q := 24) X dX1_runs_21 rfl fr_q136_1 rfl hT.1 ((hs_Ine hT.nxy).trans (hT.2.2.2.1.trans hrn)) ?_
    refine hr_iconst (v := (nI 1)) (q := 25) X dX1_runs_24 rfl rfl ?_
    refine hr_iadd (v := (nI (r + 1))) (q := 26) X dX1_runs_25 rfl (nI_add _ _) ?_
    refine hr_putI (q := 29) X dX1_runs_26 rfl fw_q136_1 (fun h => nomatch h) rfl rfl rfl hT.1 ?_
    exact hr_vret X hr dX1_runs_29 ⟨rfl, hT.runs_y (by omega), rfl, (hg_fr.rf.I (Or.inr rfl)).I (Or.inl rfl)⟩

theorem pv_X12_looking {l : Launch} {D : hg_D} {lo : Nat} (htr : l.stackTraces = false) {G : hg_G} {b k i b1 x y r : Nat} {a : Int32} {A : ab_S} (hk : k ≤ 6) (hP : pr_R G b k i b1) (hT : tr_R G x y A) (h9 : A.1.1 9 i = k) (h10 : A.1.1 10 i = b1) (hrn : A.1.2 42 = nI r) (hr2 : r < 990) :
    hg_M l D lo yX12_looking (ws_ yX12_looking cX12_looking 3 ((some FieldType.int))) rm_X12_looking [.ref b, .int a, .ref x] G (tr_Po x y G (some (.int (a + nI i))) (sq_body 10 r A)) := by
  refine hg_M.of htr (by decide) [some (.ref b), some (.int a), some (.ref x)] rfl (Nat.le_of_ble_eq_true rfl) ?_
  intro p e s m args below meth c X hr hnm htab
  have X : hg_X p l s m args meth c D lo "TaxOnLooks$Person" cX12_looking 3 := X
  have f0 : hg_fr (tr_W x y) G G := hg_fr.rf
  refine hr_aload2 (q := 1) X dX12_looking_0 rfl ?_
  refine hr_bipush (v := (nI 10)) (q := 3) X dX12_looking_1 rfl rfl ?_
  refine hr_call0 (q := 6) (hc_V (n := 1) (ci := 1) (As := [.int (nI 10)]) X dX12_looking_3 rfl (tr_runs X.tr hT (b := 10) (r := r) hrn (by omega)) q1287 cv_X1_runs ⟨Nat.le_of_ble_eq_true rfl, Nat.le_of_ble_eq_true rfl⟩ rfl (Nat.le_of_ble_eq_true rfl) hT.1 rfl rfl) rfl (fun qx E G' hp => by cases hp.1) (fun r9 Gt1 hp _ => ?_)
  obtain ⟨hvt1, hTt1, hkt1, hft1⟩ := hp
  cases hvt1
  have hPt1 := hP.fr hT hft1
  have hFt1 := f0.tr hft1
  have hKt1 := hkt1.trans rfl
  refine hr_iload1 (q := 7) X dX12_looking_6 rfl ?_
  refine hr_aload0 (q := 8) X dX12_looking_7 rfl ?_
  refine hr_getI (v := (nI i)) (q := 11) X dX12_looking_8 rfl (fp_q652 _ (by omega)) (fp_ft _ (by omega) 0 (by decide)) hPt1.1 hPt1.2.1 ?_
  refine hr_iadd (v := (a + (nI i))) (q := 12) X dX12_looking_11 rfl rfl ?_
  exact hr_iret X hr dX12_looking_12 ⟨rfl, hTt1, hKt1, hFt1⟩

theorem pv_X13_looking {l : Launch} {D : hg_D} {lo : Nat} (htr : l.stackTraces = false) {G : hg_G} {b k i b1 x y r : Nat} {a : Int32} {A : ab_S} (hk : k = 1 ∨ k = 2) (hP : pr_R G b k i b1) (hT : tr_R G x y A) (h9 : A.1.1 9 i = k) (h10 : A.1.1 10 i = b1) (hrn : A.1.2 42 = nI r) (hr2 : r < 980) :
    hg_M l D lo yX13_looking (ws_ yX13_looking cX13_looking 3 ((some FieldType.int))) rm_X13_looking [.ref b, .int a, .ref x] G (tr_Po x y G (some (.int (a + nI i + nI b1))) (sq_body 10 (r + 1) (sq_body 20 r A))) := by
  refine hg_M.of htr (by decide) [some (.ref b), some (.int a), some (.ref x)] rfl (Nat.le_of_ble_eq_true rfl) ?_
  intro p e s m args below meth c X hr hnm htab
  have X : hg_X p l s m args meth c D lo "TaxOnLooks$Beauty" cX13_looking 3 := X
  have f0 : hg_fr (tr_W x y) G G := hg_fr.rf
  refine hr_aload2 (q := 1) X dX13_looking_0 rfl ?_
  refine hr_bipush (v := (nI 20)) (q := 3) X dX13_looking_1 rfl rfl ?_
  refine hr_call0 (q := 6) (hc_V (n := 1) (ci := 1) (As := [.int (nI 20)]) X dX13_looking_3 rfl (tr_runs X.tr hT (b := 20) (r := r) hrn (by omega)) q1284 cv_X1_runs ⟨Nat.le_of_ble_eq_true rfl, Nat.le_of_ble_eq_true rfl⟩ rfl (Nat.le_of_ble_eq_true rfl) hT.1 rfl rfl) rfl (fun qx E G' hp => by cases hp.1) (fun r9 Gt1 hp _ => ?_)
  obtain ⟨hvt1, hTt1, hkt1, hft1⟩ := hp
  cases hvt1
  have hPt1 := hP.fr hT hft1
  have hFt1 := f0.tr hft1
  have hKt1 := hkt1.trans rfl
  refine hr_aload0 (q := 7) X dX13_looking_6 rfl ?_
  refine hr_iload1 (q := 8) X dX13_looking_7 rfl ?_
  refine hr_aload2 (q := 9) X dX13_looking_8 rfl ?_
  obtain ⟨rr, hrr⟩ := hg_clP k (by omega)
  refine hr_call0 (q := 12) (hc_SU (n := 2) (As := [.int a, .ref x]) X dX13_looking_9 rfl (pv_X12_looking X.tr (b := b) (k := k) (i := i) (b1 := b1) (a := a) (A := sq_body 20 r A) (r := r + 1) (by omega) hPt1 hTt1 (by simp only [sq_body_t, (sq_walking_t _ _ _ _).1, (sq_looking_t _ _ _ _).1]; exact h9) (by simp only [sq_body_t, (sq_walking_t _ _ _ _).1, (sq_looking_t _ _ _ _).1]; exact h10) rfl (by omega)) q1285 q1273 q603 q1271 q104 q1286 ⟨by decide, by decide +kernel⟩ ⟨Nat.le_of_ble_eq_true rfl, Nat.le_of_ble_eq_true rfl⟩ rfl (Nat.le_of_ble_eq_true rfl) hPt1.1 hrr) rfl (fun qx E G' hp => by cases hp.1) (fun r9 Gt2 hp _ => ?_)
  obtain ⟨hvt2, hTt2, hkt2, hft2⟩ := hp
  cases hvt2
  have hPt2 := hPt1.fr hTt1 hft2
  have hFt2 := hFt1.tr hft2
  have hKt2 := hkt2.trans hKt1
  refine hr_aload0 (q := 13) X dX13_looking_12 rfl ?_
  refine hr_getI (v := (nI b1)) (q := 16) X dX13_looking_13 rfl (fp_q668 _ (by omega)) (fp_ft _ (by omega) 1 (by decide)) hPt2.1 hPt2.2.2 ?_
  refine hr_iadd (v := ((a + nI i) + (nI b1))) (q := 17) X dX13_looking_16 rfl rfl ?_
  exact hr_iret X hr dX13_looking_17 ⟨rfl, hTt2, hKt2, hFt2⟩

theorem pv_X14_looking {l : Launch} {D : hg_D} {lo : Nat} (htr : l.stackTraces = false) {G : hg_G} {b k i b1 x y r : Nat} {a : Int32} {A : ab_S} (hk : k = 2) (hP : pr_R G b k i b1) (hT : tr_R G x y A) (h9 : A.1.1 9 i = k) (h10 : A.1.1 10 i = b1) (hrn : A.1.2 42 = nI r) (hr2 : r < 970) :
    hg_M l D lo yX14_looking (ws_ yX14_looking cX14_looking 3 ((some FieldType.int))) rm_X14_looking [.ref b, .int a, .ref x] G (tr_Po x y G (some (.int (a + nI 1 + nI i + nI b1))) (sq_body 10 (r + 1 + 1) (sq_body 20 (r + 1) (sq_body 40 r A)))) := by
  refine hg_M.of htr (by decide) [some (.ref b), some (.int a), some (.ref x)] rfl (Nat.le_of_ble_eq_true rfl) ?_
  intro p e s m args below meth c X hr hnm htab
  have X : hg_X p l s m args meth c D lo "TaxOnLooks$Actress" cX14_looking 3 := X
  have f0 : hg_fr (tr_W x y) G G := hg_fr.rf
  refine hr_aload2 (q := 1) X dX14_looking_0 rfl ?_
  refine hr_bipush (v := (nI 40)) (q := 3) X dX14_looking_1 rfl rfl ?_
  refine hr_call0 (q := 6) (hc_V (n := 1) (ci := 1) (As := [.int (nI 40)]) X dX14_looking_3 rfl (tr_runs X.tr hT (b := 40) (r := r) hrn (by omega)) q1277 cv_X1_runs ⟨Nat.le_of_ble_eq_true rfl, Nat.le_of_ble_eq_true rfl⟩ rfl (Nat.le_of_ble_eq_true rfl) hT.1 rfl rfl) rfl (fun qx E G' hp => by cases hp.1) (fun r9 Gt1 hp _ => ?_)
  obtain ⟨hvt1, hTt1, hkt1, hft1⟩ := hp
  cases hvt1
  have hPt1 := hP.fr hT hft1
  have hFt1 := f0.tr hft1
  have hKt1 := hkt1.trans rfl
  refine hr_aload0 (q := 7) X dX14_looking_6 rfl ?_
  refine hr_iload1 (q := 8) X dX14_looking_7 rfl ?_
  refine hr_iconst (v := (nI 1)) (q := 9) X dX14_looking_8 rfl rfl ?_
  refine hr_iadd (v := (a + (nI 1))) (q := 10) X dX14_looking_9 rfl rfl ?_
  refine hr_aload2 (q := 11) X dX14_looking_10 rfl ?_
  obtain ⟨rr, hrr⟩ := hg_clP k (by omega)
  refine hr_call0 (q := 14) (hc_SU (n := 2) (As := [.int (a + (nI 1)), .ref x]) X dX14_looking_11 rfl (pv_X13_looking X.tr (b := b) (k := k) (i := i) (b1 := b1) (a := (a + (nI 1))) (A := sq_body 40 r A) (r := r + 1) (by omega) hPt1 hTt1 (by simp only [sq_body_t, (sq_walking_t _ _ _ _).1, (sq_looking_t _ _ _ _).1]; exact h9) (by simp only [sq_body_t, (sq_walking_t _ _ _ _).1, (sq_looking_t _ _ _ _).1]; exact h10) rfl (by omega)) q1281 q1864 q599 q1282 q105 q1283 ⟨by decide, by decide +kernel⟩ ⟨Nat.le_of_ble_eq_true rfl, Nat.le_of_ble_eq_true rfl⟩ rfl (Nat.le_of_ble_eq_true rfl) hPt1.1 hrr) rfl (fun qx E G' hp => by cases hp.1) (fun r9 Gt2 hp _ => ?_)
  obtain ⟨hvt2, hTt2, hkt2, hft2⟩ := hp
  cases hvt2
  have hPt2 := hPt1.fr hTt1 hft2
  have hFt2 := hFt1.tr hft2
  have hKt2 := hkt2.trans hKt1
  exact hr_iret X hr dX14_looking_14 ⟨rfl, hTt2, hKt2, hFt2⟩

theorem pv_X16_looking {l : Launch} {D : hg_D} {lo : Nat} (htr : l.stackTraces = false) {G : hg_G} {b k i b1 x y r : Nat} {a : Int32} {A : ab_S} (hk : k = 4 ∨ k = 6) (hP : pr_R G b k i b1) (hT : tr_R G x y A) (h9 : A.1.1 9 i = k) (h10 : A.1.1 10 i = b1) (hrn : A.1.2 42 = nI r) (hr2 : r < 980) :
    hg_M l D lo yX16_looking (ws_ yX16_looking cX16_looking 3 ((some FieldType.int))) rm_X16_looking [.ref b, .int a, .ref x] G (tr_Po x y G (some (.int (a + nI i - nI i))) (sq_body 10 (r + 1) (sq_body 51 r A))) := by
  refine hg_M.of htr (by decide) [some (.ref b), some (.int a), some (.ref x)] rfl (Nat.le_of_ble_eq_true rfl) ?_
  intro p e s m args below meth c X hr hnm htab
  have X : hg_X p l s m args meth c D lo "TaxOnLooks$Lover" cX16_looking 3 := X
  have f0 : hg_fr (tr_W x y) G G := hg_fr.rf
  refine hr_aload2 (q := 1) X dX16_looking_0 rfl ?_
  refine hr_bipush (v := (nI 51)) (q := 3) X dX16_looking_1 rfl rfl ?_
  refine hr_call0 (q := 6) (hc_V (n := 1) (ci := 1) (As := [.int (nI 51)]) X dX16_looking_3 rfl (tr_runs X.tr hT (b := 51) (r := r) hrn (by omega)) q1294 cv_X1_runs ⟨Nat.le_of_ble_eq_true rfl, Nat.le_of_ble_eq_true rfl⟩ rfl (Nat.le_of_ble_eq_true rfl) hT.1 rfl rfl) rfl (fun qx E G' hp => by cases hp.1) (fun r9 Gt1 hp _ => ?_)
  obtain ⟨hvt1, hTt1, hkt1, hft1⟩ := hp
  cases hvt1
  have hPt1 := hP.fr hT hft1
  have hFt1 := f0.tr hft1
  have hKt1 := hkt1.trans rfl
  refine hr_aload0 (q := 7) X dX16_looking_6 rfl ?_
  refine hr_iload1 (q := 8) X dX16_looking_7 rfl ?_
  refine hr_aload2 (q := 9) X dX16_looking_8 rfl ?_
  obtain ⟨rr, hrr⟩ := hg_clP k (by omega)
  refine hr_call0 (q := 12) (hc_SU (n := 2) (As := [.int a, .ref x]) X dX16_looking_9 rfl (pv_X12_looking X.tr (b := b) (k := k) (i := i) (b1 := b1) (a := a) (A := sq_body 51 r A) (r := r + 1) (by omega) hPt1 hTt1 (by simp only [sq_body_t, (sq_walking_t _ _ _ _).1, (sq_looking_t _ _ _ _).1]; exact h9) (by simp only [sq_body_t, (sq_walking_t _ _ _ _).1, (sq_looking_t _ _ _ _).1]; exact h10) rfl (by omega)) q1295 q1273 q616 q1271 q104 q1286 ⟨by decide, by decide +kernel⟩ ⟨Nat.le_of_ble_eq_true rfl, Nat.le_of_ble_eq_true rfl⟩ rfl (Nat.le_of_ble_eq_true rfl) hPt1.1 hrr) rfl (fun qx E G' hp => by cases hp.1) (fun r9 Gt2 hp _ => ?_)
  obtain ⟨hvt2, hTt2, hkt2, hft2⟩ := hp
  cases hvt2
  have hPt2 := hPt1.fr hTt1 hft2
  have hFt2 := hFt1.tr hft2
  have hKt2 := hkt2.trans hKt1
  refine hr_aload0 (q := 13) X dX16_looking_12 rfl ?_
  refine hr_getI (v := (nI i)) (q := 16) X dX16_looking_13 rfl (fp_q662 _ (by omega)) (fp_ft _ (by omega) 0 (by decide)) hPt2.1 hPt2.2.1 ?_
  refine hr_isub (v := ((a + nI i) - (nI i))) (q := 17) X dX16_looking_16 rfl rfl ?_
  exact hr_iret X hr dX16_looking_17 ⟨rfl, hTt2, hKt2, hFt2⟩

theorem pv_X18_looking {l : Launch} {D : hg_D} {lo : Nat} (htr : l.stackTraces = false) {G : hg_G} {b k i b1 x y r : Nat} {a : Int32} {A : ab_S} (hk : k = 6) (hP : pr_R G b k i b1) (hT : tr_R G x y A) (h9 : A.1.1 9 i = k) (h10 : A.1.1 10 i = b1) (hrn : A.1.2 42 = nI r) (hr2 : r < 970) :
    hg_M l D lo yX18_looking (ws_ yX18_looking cX18_looking 3 ((some FieldType.int))) rm_X18_looking [.ref b, .int a, .ref x] G (tr_Po x y G (some (.int ((a + nI i - nI i) * nI 2))) (sq_body 10 (r + 1 + 1) (sq_body 51 (r + 1) (sq_body 70 r A)))) := by
  refine hg_M.of htr (by decide) [some (.ref b), some (.int a), some (.ref x)] rfl (Nat.le_of_ble_eq_true rfl) ?_
  intro p e s m args below meth c X hr hnm htab
  have X : hg_X p l s m args meth c D lo "TaxOnLooks$Shamed" cX18_looking 3 := X
  have f0 : hg_fr (tr_W x y) G G := hg_fr.rf
  refine hr_aload2 (q := 1) X dX18_looking_0 rfl ?_
  refine hr_bipush (v := (nI 70)) (q := 3) X dX18_looking_1 rfl rfl ?_
  refine hr_call0 (q := 6) (hc_V (n := 1) (ci := 1) (As := [.int (nI 70)]) X dX18_looking_3 rfl (tr_runs X.tr hT (b := 70) (r := r) hrn (by omega)) q1299 cv_X1_runs ⟨Nat.le_of_ble_eq_true rfl, Nat.le_of_ble_eq_true rfl⟩ rfl (Nat.le_of_ble_eq_true rfl) hT.1 rfl rfl) rfl (fun qx E G' hp => by cases hp.1) (fun r9 Gt1 hp _ => ?_)
  obtain ⟨hvt1, hTt1, hkt1, hft1⟩ := hp
  cases hvt1
  have hPt1 := hP.fr hT hft1
  have hFt1 := f0.tr hft1
  have hKt1 := hkt1.trans rfl
  refine hr_aload0 (q := 7) X dX18_looking_6 rfl ?_
  refine hr_iload1 (q := 8) X dX18_looking_7 rfl ?_
  refine hr_aload2 (q := 9) X dX18_looking_8 rfl ?_
  obtain ⟨rr, hrr⟩ := hg_clP k (by omega)
  refine hr_call0 (q := 12) (hc_SU (n := 2) (As := [.int a, .ref x]) X dX18_looking_9 rfl (pv_X16_looking X.tr (b := b) (k := k) (i := i) (b1 := b1) (a := a) (A := sq_body 70 r A) (r := r + 1) (by omega) hPt1 hTt1 (by simp only [sq_body_t, (sq_walking_t _ _ _ _).1, (sq_looking_t _ _ _ _).1]; exact h9) (by simp only [sq_body_t, (sq_walking_t _ _ _ _).1, (sq_looking_t _ _ _ _).1]; exact h10) rfl (by omega)) q1300 q1865 q615 q1292 q108 q1293 ⟨by decide, by decide +kernel⟩ ⟨Nat.le_of_ble_eq_true rfl, Nat.le_of_ble_eq_true rfl⟩ rfl (Nat.le_of_ble_eq_true rfl) hPt1.1 hrr) rfl (fun qx E G' hp => by cases hp.1) (fun r9 Gt2 hp _ => ?_)
  obtain ⟨hvt2, hTt2, hkt2, hft2⟩ := hp
  cases hvt2
  have hPt2 := hPt1.fr hTt1 hft2
  have hFt2 := hFt1.tr hft2
  have hKt2 := hkt2.trans hKt1
  refine hr_iconst (v := (nI 2)) (q := 13) X dX18_looking_12 rfl rfl ?_
  refine hr_imul (v := ((a + nI i - nI i) * (nI 2))) (q := 14) X dX18_looking_13 rfl rfl ?_
  exact hr_iret X hr dX18_looking_14 ⟨rfl, hTt2, hKt2, hFt2⟩

theorem hcP_looking {p : Program} {l : Launch} {e : Env} {R : Room} {s : State} {m : MethodId} {args : Array Value} {below : List Frame} {meth : Method} {c : Code} {D : hg_D} {lo : Nat} {C0 : hg_K} {nL : Nat} {G : hg_G} {own : String} {cc : ByteArray} {pc : Nat} {L : List (Option Value)} {rest : List Value} {index b k i b1 x y r : Nat} {a : Int32} {A : ab_S} (hk : k ≤ 6) (hP : pr_R G b k i b1) (hT : tr_R G x y A) (h9 : A.1.1 9 i = k) (h10 : A.1.1 10 i = b1) (hrn : A.1.2 42 = nI r) (hr2 : r < 960) (X : hg_X p l s m args meth c D lo own cc nL) (hdc : decode cc pc = .ok (.invokevirtual index, 3)) (hl : Cond.methodLink own index yX12_looking ∈ lw_all) (hR : 4 ≤ R.frames ∧ 87 ≤ R.locals) (hrest : (rest.map fun v => v.category).sum ≤ 8) :
    hg_Call p l e R s m args below meth c D lo C0 nL G pc L (.ref x :: .int a :: .ref b :: rest) rest 0 0 (tr_Po x y G (some (.int (sq_looking i a r A).1)) (sq_looking i a r A).2) := by
  match k, hk with
  | 0, _ =>
    rw [sq_look_0 (Or.inl h9)]
    exact hc_U (n := 2) (As := [.int a, .ref x]) (owner := "TaxOnLooks$Person") X hdc rfl (pv_X12_looking X.tr (b := b) (k := 0) (i := i) (b1 := b1) (by decide) hP hT h9 h10 hrn (by omega)) hl q1273 q1272 q1271 q104 q1286 (Or.inr ⟨_, _, _, q1271, q1286⟩) ⟨by decide +kernel, by decide +kernel, by decide +kernel⟩ ⟨Nat.le_trans (by decide) hR.1, Nat.le_trans (by decide) hR.2⟩ rfl hrest hP.1 rfl rfl
  | 1, _ =>
    rw [sq_look_1 h9, h10]
    exact hc_U (n := 2) (As := [.int a, .ref x]) (owner := "TaxOnLooks$Person") X hdc rfl (pv_X13_looking X.tr (b := b) (k := 1) (i := i) (b1 := b1) (by decide) hP hT h9 h10 hrn (by omega)) hl q1273 q1288 q1282 q105 q1283 (Or.inr ⟨_, _, _, q1271, q1286⟩) ⟨by decide +kernel, by decide +kernel, by decide +kernel⟩ ⟨Nat.le_trans (by decide) hR.1, Nat.le_trans (by decide) hR.2⟩ rfl hrest hP.1 rfl rfl
  | 2, _ =>
    rw [sq_look_2 h9, h10]
    exact hc_U (n := 2) (As := [.int a, .ref x]) (owner := "TaxOnLooks$Person") X hdc rfl (pv_X14_looking X.tr (b := b) (k := 2) (i := i) (b1 := b1) (by decide) hP hT h9 h10 hrn (by omega)) hl q1273 q1274 q1275 q106 q1276 (Or.inr ⟨_, _, _, q1271, q1286⟩) ⟨by decide +kernel, by decide +kernel, by decide +kernel⟩ ⟨Nat.le_trans (by decide) hR.1, Nat.le_trans (by decide) hR.2⟩ rfl hrest hP.1 rfl rfl
  | 3, _ =>
    rw [sq_look_0 (Or.inr (Or.inl h9))]
    exact hc_U (n := 2) (As := [.int a, .ref x]) (owner := "TaxOnLooks$Person") X hdc rfl (pv_X12_looking X.tr (b := b) (k := 3) (i := i) (b1 := b1) (by decide) hP hT h9 h10 hrn (by omega)) hl q1273 q1289 q1271 q104 q1286 (Or.inr ⟨_, _, _, q1271, q1286⟩) ⟨by decide +kernel, by decide +kernel, by decide +kernel⟩ ⟨Nat.le_trans (by decide) hR.1, Nat.le_trans (by decide) hR.2⟩ rfl hrest hP.1 rfl rfl
  | 4, _ =>
    rw [sq_look_4 h9]
    exact hc_U (n := 2) (As := [.int a, .ref x]) (owner := "TaxOnLooks$Person") X hdc rfl (pv_X16_looking X.tr (b := b) (k := 4) (i := i) (b1 := b1) (by decide) hP hT h9 h10 hrn (by omega)) hl q1273 q1291 q1292 q108 q1293 (Or.inr ⟨_, _, _, q1271, q1286⟩) ⟨by decide +kernel, by decide +kernel, by decide +kernel⟩ ⟨Nat.le_trans (by decide) hR.1, Nat.le_trans (by decide) hR.2⟩ rfl hrest hP.1 rfl rfl
  | 5, _ =>
    rw [sq_look_0 (Or.inr (Or.inr h9))]
    exact hc_U (n := 2) (As := [.int a, .ref x]) (owner := "TaxOnLooks$Person") X hdc rfl (pv_X12_looking X.tr (b := b) (k := 5) (i := i) (b1 := b1) (by decide) hP hT h9 h10 hrn (by omega)) hl q1273 q1290 q1271 q104 q1286 (Or.inr ⟨_, _, _, q1271, q1286⟩) ⟨by decide +kernel, by decide +kernel, by decide +kernel⟩ ⟨Nat.le_trans (by decide) hR.1, Nat.le_trans (by decide) hR.2⟩ rfl hrest hP.1 rfl rfl
  | 6, _ =>
    rw [sq_look_6 h9]
    exact hc_U (n := 2) (As := [.int a, .ref x]) (owner := "TaxOnLooks$Person") X hdc rfl (pv_X18_looking X.tr (b := b) (k := 6) (i := i) (b1 := b1) (by decide) hP hT h9 h10 hrn (by omega)) hl q1273 q1296 q1297 q110 q1298 (Or.inr ⟨_, _, _, q1271, q1286⟩) ⟨by decide +kernel, by decide +kernel, by decide +kernel⟩ ⟨Nat.le_trans (by decide) hR.1, Nat.le_trans (by decide) hR.2⟩ rfl hrest hP.1 rfl rfl
  | (k + 7), h => omega

theorem pv_X12_walking {l : Launch} {D : hg_D} {lo : Nat} (htr : l.stackTraces = false) {G : hg_G} {b k i b1 x y r : Nat} {a : Int32} {A : ab_S} (hk : k ≤ 6) (hP : pr_R G b k i b1) (hT : tr_R G x y A) (h9 : A.1.1 9 i = k) (h10 : A.1.1 10 i = b1) (hrn : A.1.2 42 = nI r) (hr2 : r < 900) :
    hg_M l D lo yX12_walking (ws_ yX12_walking cX12_walking 3 ((some FieldType.int))) rm_X12_walking [.ref b, .int a, .ref x] G (tr_Po x y G (some (.int ((sq_looking i a (r + 1) (sq_body 11 r A)).1 * nI 2))) ((sq_looking i a (r + 1) (sq_body 11 r A)).2)) := by
  refine hg_M.of htr (by decide) [some (.ref b), some (.int a), some (.ref x)] rfl (Nat.le_of_ble_eq_true rfl) ?_
  intro p e s m args below meth c X hr hnm htab
  have X : hg_X p l s m args meth c D lo "TaxOnLooks$Person" cX12_walking 3 := X
  have f0 : hg_fr (tr_W x y) G G := hg_fr.rf
  refine hr_aload2 (q := 1) X dX12_walking_0 rfl ?_
  refine hr_bipush (v := (nI 11)) (q := 3) X dX12_walking_1 rfl rfl ?_
  refine hr_call0 (q := 6) (hc_V (n := 1) (ci := 1) (As := [.int (nI 11)]) X dX12_walking_3 rfl (tr_runs X.tr hT (b := 11) (r := r) hrn (by omega)) q1287 cv_X1_runs ⟨Nat.le_of_ble_eq_true rfl, Nat.le_of_ble_eq_true rfl⟩ rfl (Nat.le_of_ble_eq_true rfl) hT.1 rfl rfl) rfl (fun qx E G' hp => by cases hp.1) (fun r9 Gt1 hp _ => ?_)
  obtain ⟨hvt1, hTt1, hkt1, hft1⟩ := hp
  cases hvt1
  have hPt1 := hP.fr hT hft1
  have hFt1 := f0.tr hft1
  have hKt1 := hkt1.trans rfl
  refine hr_aload0 (q := 7) X dX12_walking_6 rfl ?_
  refine hr_iload1 (q := 8) X dX12_walking_7 rfl ?_
  refine hr_aload2 (q := 9) X dX12_walking_8 rfl ?_
  refine hr_call0 (q := 12) (hcP_looking (k := k) (i := i) (b1 := b1) (a := a) (A := sq_body 11 r A) (r := r + 1) (by omega) hPt1 hTt1 (by simp only [sq_body_t, (sq_walking_t _ _ _ _).1, (sq_looking_t _ _ _ _).1]; exact h9) (by simp only [sq_body_t, (sq_walking_t _ _ _ _).1, (sq_looking_t _ _ _ _).1]; exact h10) rfl (by omega) X dX12_walking_9 q1313 ⟨Nat.le_of_ble_eq_true rfl, Nat.le_of_ble_eq_true rfl⟩ (Nat.le_of_ble_eq_true rfl)) rfl (fun qx E G' hp => by cases hp.1) (fun r9 Gt2 hp _ => ?_)
  obtain ⟨hvt2, hTt2, hkt2, hft2⟩ := hp
  cases hvt2
  have hn3 := sq_looking_n (k1 := i) (a2 := a) (r := r + 1) (A := sq_body 11 r A) (by omega)
  have hPt2 := hPt1.fr hTt1 hft2
  have hFt2 := hFt1.tr hft2
  have hKt2 := hkt2.trans hKt1
  refine hr_iconst (v := (nI 2)) (q := 13) X dX12_walking_12 rfl rfl ?_
  refine hr_imul (v := (((sq_looking i a (r + 1) (sq_body 11 r A)).1) * (nI 2))) (q := 14) X dX12_walking_13 rfl rfl ?_
  exact hr_iret X hr dX12_walking_14 ⟨rfl, hTt2, hKt2, hFt2⟩

theorem pv_X15_walking {l : Launch} {D : hg_D} {lo : Nat} (htr : l.stackTraces = false) {G : hg_G} {b k i b1 x y r : Nat} {a : Int32} {A : ab_S} (hk : k = 3 ∨ k = 5) (hP : pr_R G b k i b1) (hT : tr_R G x y A) (h9 : A.1.1 9 i = k) (h10 : A.1.1 10 i = b1) (hrn : A.1.2 42 = nI r) (hr2 : r < 890) :
    hg_M l D lo yX15_walking (ws_ yX15_walking cX15_walking 3 ((some FieldType.int))) rm_X15_walking [.ref b, .int a, .ref x] G (tr_Po x y G (some (.int ((sq_looking i a (r + 1 + 1) (sq_body 11 (r + 1) (sq_body 30 r A))).1 * nI 2 * nI 3))) ((sq_looking i a (r + 1 + 1) (sq_body 11 (r + 1) (sq_body 30 r A))).2)) := by
  refine hg_M.of htr (by decide) [some (.ref b), some (.int a), some (.ref x)] rfl (Nat.le_of_ble_eq_true rfl) ?_
  intro p e s m args below meth c X hr hnm htab
  have X : hg_X p l s m args meth c D lo "TaxOnLooks$Blind" cX15_walking 3 := X
  have f0 : hg_fr (tr_W x y) G G := hg_fr.rf
  refine hr_aload2 (q := 1) X dX15_walking_0 rfl ?_
  refine hr_bipush (v := (nI 30)) (q := 3) X dX15_walking_1 rfl rfl ?_
  refine hr_call0 (q := 6) (hc_V (n := 1) (ci := 1) (As := [.int (nI 30)]) X dX15_walking_3 rfl (tr_runs X.tr hT (b := 30) (r := r) hrn (by omega)) q1310 cv_X1_runs ⟨Nat.le_of_ble_eq_true rfl, Nat.le_of_ble_eq_true rfl⟩ rfl (Nat.le_of_ble_eq_true rfl) hT.1 rfl rfl) rfl (fun qx E G' hp => by cases hp.1) (fun r9 Gt1 hp _ => ?_)
  obtain ⟨hvt1, hTt1, hkt1, hft1⟩ := hp
  cases hvt1
  have hPt1 := hP.fr hT hft1
  have hFt1 := f0.tr hft1
  have hKt1 := hkt1.trans rfl
  refine hr_aload0 (q := 7) X dX15_walking_6 rfl ?_
  refine hr_iload1 (q := 8) X dX15_walking_7 rfl ?_
  refine hr_aload2 (q := 9) X dX15_walking_8 rfl ?_
  obtain ⟨rr, hrr⟩ := hg_clP k (by omega)
  refine hr_call0 (q := 12) (hc_SU (n := 2) (As := [.int a, .ref x]) X dX15_walking_9 rfl (pv_X12_walking X.tr (b := b) (k := k) (i := i) (b1 := b1) (a := a) (A := sq_body 30 r A) (r := r + 1) (by omega) hPt1 hTt1 (by simp only [sq_body_t, (sq_walking_t _ _ _ _).1, (sq_looking_t _ _ _ _).1]; exact h9) (by simp only [sq_body_t, (sq_walking_t _ _ _ _).1, (sq_looking_t _ _ _ _).1]; exact h10) rfl (by omega)) q1311 q1304 q705 q1302 q104 q1312 ⟨by decide, by decide +kernel⟩ ⟨Nat.le_of_ble_eq_true rfl, Nat.le_of_ble_eq_true rfl⟩ rfl (Nat.le_of_ble_eq_true rfl) hPt1.1 hrr) rfl (fun qx E G' hp => by cases hp.1) (fun r9 Gt2 hp _ => ?_)
  obtain ⟨hvt2, hTt2, hkt2, hft2⟩ := hp
  cases hvt2
  have hPt2 := hPt1.fr hTt1 hft2
  have hFt2 := hFt1.tr hft2
  have hKt2 := hkt2.trans hKt1
  refine hr_iconst (v := (nI 3)) (q := 13) X dX15_walking_12 rfl rfl ?_
  refine hr_imul (v := (((sq_looking i a (r + 1 + 1) (sq_body 11 (r + 1) (sq_body 30 r A))).1 * nI 2) * (nI 3))) (q := 14) X dX15_walking_13 rfl rfl ?_
  exact hr_iret X hr dX15_walking_14 ⟨rfl, hTt2, hKt2, hFt2⟩

theorem pv_X18_walking {l : Launch} {D : hg_D} {lo : Nat} (htr : l.stackTraces = false) {G : hg_G} {b k i b1 x y r : Nat} {a : Int32} {A : ab_S} (hk : k = 6) (hP : pr_R G b k i b1) (hT : tr_R G x y A) (h9 : A.1.1 9 i = k) (h10 : A.1.1 10 i = b1) (hrn : A.1.2 42 = nI r) (hr2 : r < 890) :
    hg_M l D lo yX18_walking (ws_ yX18_walking cX18_walking 3 ((some FieldType.int))) rm_X18_walking [.ref b, .int a, .ref x] G (tr_Po x y G (some (.int ((sq_looking i (a - nI b1) (r + 1 + 1) (sq_body 11 (r + 1) (sq_body 71 r A))).1 * nI 2))) ((sq_looking i (a - nI b1) (r + 1 + 1) (sq_body 11 (r + 1) (sq_body 71 r A))).2)) := by
  refine hg_M.of htr (by decide) [some (.ref b), some (.int a), some (.ref x)] rfl (Nat.le_of_ble_eq_true rfl) ?_
  intro p e s m args below meth c X hr hnm htab
  have X : hg_X p l s m args meth c D lo "TaxOnLooks$Shamed" cX18_walking 3 := X
  have f0 : hg_fr (tr_W x y) G G := hg_fr.rf
  refine hr_aload2 (q := 1) X dX18_walking_0 rfl ?_
  refine hr_bipush (v := (nI 71)) (q := 3) X dX18_walking_1 rfl rfl ?_
  refine hr_call0 (q := 6) (hc_V (n := 1) (ci := 1) (As := [.int (nI 71)]) X dX18_walking_3 rfl (tr_runs X.tr hT (b := 71) (r := r) hrn (by omega)) q1299 cv_X1_runs ⟨Nat.le_of_ble_eq_true rfl, Nat.le_of_ble_eq_true rfl⟩ rfl (Nat.le_of_ble_eq_true rfl) hT.1 rfl rfl) rfl (fun qx E G' hp => by cases hp.1) (fun r9 Gt1 hp _ => ?_)
  obtain ⟨hvt1, hTt1, hkt1, hft1⟩ := hp
  cases hvt1
  have hPt1 := hP.fr hT hft1
  have hFt1 := f0.tr hft1
  have hKt1 := hkt1.trans rfl
  refine hr_aload0 (q := 7) X dX18_walking_6 rfl ?_
  refine hr_iload1 (q := 8) X dX18_walking_7 rfl ?_
  refine hr_aload0 (q := 9) X dX18_walking_8 rfl ?_
  refine hr_getI (v := (nI b1)) (q := 12) X dX18_walking_9 rfl (fp_q670 _ (by omega)) (fp_ft _ (by omega) 1 (by decide)) hPt1.1 hPt1.2.2 ?_
  refine hr_isub (v := (a - (nI b1))) (q := 13) X dX18_walking_12 rfl rfl ?_
  refine hr_aload2 (q := 14) X dX18_walking_13 rfl ?_
  obtain ⟨rr, hrr⟩ := hg_clP k (by omega)
  refine hr_call0 (q := 17) (hc_SG (P := "TaxOnLooks$Lover") (n := 2) (As := [.int (a - (nI b1)), .ref x]) X dX18_walking_14 rfl (pv_X12_walking X.tr (b := b) (k := k) (i := i) (b1 := b1) (a := (a - (nI b1))) (A := sq_body 71 r A) (r := r + 1) (by omega) hPt1 hTt1 (by simp only [sq_body_t, (sq_walking_t _ _ _ _).1, (sq_looking_t _ _ _ _).1]; exact h9) (by simp only [sq_body_t, (sq_walking_t _ _ _ _).1, (sq_looking_t _ _ _ _).1]; exact h10) rfl (by omega)) q1319 q1320 q615 q616 q1302 q104 q1312 ⟨by decide, by decide +kernel⟩ ⟨Nat.le_of_ble_eq_true rfl, Nat.le_of_ble_eq_true rfl⟩ rfl (Nat.le_of_ble_eq_true rfl) hPt1.1 hrr) rfl (fun qx E G' hp => by cases hp.1) (fun r9 Gt2 hp _ => ?_)
  obtain ⟨hvt2, hTt2, hkt2, hft2⟩ := hp
  cases hvt2
  have hPt2 := hPt1.fr hTt1 hft2
  have hFt2 := hFt1.tr hft2
  have hKt2 := hkt2.trans hKt1
  exact hr_iret X hr dX18_walking_17 ⟨rfl, hTt2, hKt2, hFt2⟩

theorem hcP_walking {p : Program} {l : Launch} {e : Env} {R : Room} {s : State} {m : MethodId} {args : Array Value} {below : List Frame} {meth : Method} {c : Code} {D : hg_D} {lo : Nat} {C0 : hg_K} {nL : Nat} {G : hg_G} {own : String} {cc : ByteArray} {pc : Nat} {L : List (Option Value)} {rest : List Value} {index b k i b1 x y r : Nat} {a : Int32} {A : ab_S} (hk : k ≤ 6) (hP : pr_R G b k i b1) (hT : tr_R G x y A) (h9 : A.1.1 9 i = k) (h10 : A.1.1 10 i = b1) (hrn : A.1.2 42 = nI r) (hr2 : r < 880) (X : hg_X p l s m args meth c D lo own cc nL) (hdc : decode cc pc = .ok (.invokevirtual index, 3)) (hl : Cond.methodLink own index yX12_walking ∈ lw_all) (hR : 6 ≤ R.frames ∧ 131 ≤ R.locals) (hrest : (rest.map fun v => v.category).sum ≤ 8) :
    hg_Call p l e R s m args below meth c D lo C0 nL G pc L (.ref x :: .int a :: .ref b :: rest) rest 0 0 (tr_Po x y G (some (.int (sq_walking i a r A).1)) (sq_walking i a r A).2) := by
  match k, hk with
  | 0, _ =>
    rw [sq_walk_0 (by omega)]
    exact hc_U (n := 2) (As := [.int a, .ref x]) (owner := "TaxOnLooks$Person") X hdc rfl (pv_X12_walking X.tr (b := b) (k := 0) (i := i) (b1 := b1) (by decide) hP hT h9 h10 hrn (by omega)) hl q1304 q1303 q1302 q104 q1312 (Or.inl (by decide)) ⟨by decide +kernel, by decide +kernel, by decide +kernel⟩ ⟨Nat.le_trans (by decide) hR.1, Nat.le_trans (by decide) hR.2⟩ rfl hrest hP.1 rfl rfl
  | 1, _ =>
    rw [sq_walk_0 (by omega)]
    exact hc_U (n := 2) (As := [.int a, .ref x]) (owner := "TaxOnLooks$Person") X hdc rfl (pv_X12_walking X.tr (b := b) (k := 1) (i := i) (b1 := b1) (by decide) hP hT h9 h10 hrn (by omega)) hl q1304 q1306 q1302 q104 q1312 (Or.inl (by decide)) ⟨by decide +kernel, by decide +kernel, by decide +kernel⟩ ⟨Nat.le_trans (by decide) hR.1, Nat.le_trans (by decide) hR.2⟩ rfl hrest hP.1 rfl rfl
  | 2, _ =>
    rw [sq_walk_0 (by omega)]
    exact hc_U (n := 2) (As := [.int a, .ref x]) (owner := "TaxOnLooks$Person") X hdc rfl (pv_X12_walking X.tr (b := b) (k := 2) (i := i) (b1 := b1) (by decide) hP hT h9 h10 hrn (by omega)) hl q1304 q1305 q1302 q104 q1312 (Or.inl (by decide)) ⟨by decide +kernel, by decide +kernel, by decide +kernel⟩ ⟨Nat.le_trans (by decide) hR.1, Nat.le_trans (by decide) hR.2⟩ rfl hrest hP.1 rfl rfl
  | 3, _ =>
    rw [sq_walk_3 (Or.inl h9)]
    exact hc_U (n := 2) (As := [.int a, .ref x]) (owner := "TaxOnLooks$Person") X hdc rfl (pv_X15_walking X.tr (b := b) (k := 3) (i := i) (b1 := b1) (by decide) hP hT h9 h10 hrn (by omega)) hl q1304 q1307 q1308 q107 q1309 (Or.inl (by decide)) ⟨by decide +kernel, by decide +kernel, by decide +kernel⟩ ⟨Nat.le_trans (by decide) hR.1, Nat.le_trans (by decide) hR.2⟩ rfl hrest hP.1 rfl rfl
  | 4, _ =>
    rw [sq_walk_0 (by omega)]
    exact hc_U (n := 2) (As := [.int a, .ref x]) (owner := "TaxOnLooks$Person") X hdc rfl (pv_X12_walking X.tr (b := b) (k := 4) (i := i) (b1 := b1) (by decide) hP hT h9 h10 hrn (by omega)) hl q1304 q1315 q1302 q104 q1312 (Or.inl (by decide)) ⟨by decide +kernel, by decide +kernel, by decide +kernel⟩ ⟨Nat.le_trans (by decide) hR.1, Nat.le_trans (by decide) hR.2⟩ rfl hrest hP.1 rfl rfl
  | 5, _ =>
    rw [sq_walk_3 (Or.inr h9)]
    exact hc_U (n := 2) (As := [.int a, .ref x]) (owner := "TaxOnLooks$Person") X hdc rfl (pv_X15_walking X.tr (b := b) (k := 5) (i := i) (b1 := b1) (by decide) hP hT h9 h10 hrn (by omega)) hl q1304 q1314 q1308 q107 q1309 (Or.inl (by decide)) ⟨by decide +kernel, by decide +kernel, by decide +kernel⟩ ⟨Nat.le_trans (by decide) hR.1, Nat.le_trans (by decide) hR.2⟩ rfl hrest hP.1 rfl rfl
  | 6, _ =>
    rw [sq_walk_6 h9, h10]
    exact hc_U (n := 2) (As := [.int a, .ref x]) (owner := "TaxOnLooks$Person") X hdc rfl (pv_X18_walking X.tr (b := b) (k := 6) (i := i) (b1 := b1) (by decide) hP hT h9 h10 hrn (by omega)) hl q1304 q1316 q1317 q110 q1318 (Or.inl (by decide)) ⟨by decide +kernel, by decide +kernel, by decide +kernel⟩ ⟨Nat.le_trans (by decide) hR.1, Nat.le_trans (by decide) hR.2⟩ rfl hrest hP.1 rfl rfl
  | (k + 7), h => omega

theorem pv_X12_paying {l : Launch} {D : hg_D} {lo : Nat} (htr : l.stackTraces = false) {G : hg_G} {b k i b1 x y r : Nat} {a : Int32} {A : ab_S} (hk : k ≤ 6) (hP : pr_R G b k i b1) (hT : tr_R G x y A) (h9 : A.1.1 9 i = k) (h10 : A.1.1 10 i = b1) (hrn : A.1.2 42 = nI r) (hr2 : r < 800) :
    hg_M l D lo yX12_paying (ws_ yX12_paying cX12_paying 4 ((some FieldType.int))) rm_X12_paying [.ref b, .int a, .ref x] G (tr_Po x y G (some (.int ((sq_payP i a r A).1))) ((sq_payP i a r A).2)) := by
  refine hg_M.of htr (by decide) [some (.ref b), some (.int a), some (.ref x), none] rfl (Nat.le_of_ble_eq_true rfl) ?_
  intro p e s m args below meth c X hr hnm htab
  have X : hg_X p l s m args meth c D lo "TaxOnLooks$Person" cX12_paying 4 := X
  have f0 : hg_fr (tr_W x y) G G := hg_fr.rf
  refine hr_aload2 (q := 1) X dX12_paying_0 rfl ?_
  refine hr_bipush (v := (nI 12)) (q := 3) X dX12_paying_1 rfl rfl ?_
  refine hr_call0 (q := 6) (hc_V (n := 1) (ci := 1) (As := [.int (nI 12)]) X dX12_paying_3 rfl (tr_runs X.tr hT (b := 12) (r := r) hrn (by omega)) q1287 cv_X1_runs ⟨Nat.le_of_ble_eq_true rfl, Nat.le_of_ble_eq_true rfl⟩ rfl (Nat.le_of_ble_eq_true rfl) hT.1 rfl rfl) rfl (fun qx E G' hp => by cases hp.1) (fun r9 Gt1 hp _ => ?_)
  obtain ⟨hvt1, hTt1, hkt1, hft1⟩ := hp
  cases hvt1
  have hPt1 := hP.fr hT hft1
  have hFt1 := f0.tr hft1
  have hKt1 := hkt1.trans rfl
  refine hr_aload0 (q := 7) X dX12_paying_6 rfl ?_
  refine hr_iload1 (q := 8) X dX12_paying_7 rfl ?_
  refine hr_aload2 (q := 9) X dX12_paying_8 rfl ?_
  refine hr_call0 (q := 12) (hcP_walking (k := k) (i := i) (b1 := b1) (a := a) (A := sq_body 12 r A) (r := r + 1) (by omega) hPt1 hTt1 (by simp only [sq_body_t, (sq_walking_t _ _ _ _).1, (sq_looking_t _ _ _ _).1]; exact h9) (by simp only [sq_body_t, (sq_walking_t _ _ _ _).1, (sq_looking_t _ _ _ _).1]; exact h10) rfl (by omega) X dX12_paying_9 q1337 ⟨Nat.le_of_ble_eq_true rfl, Nat.le_of_ble_eq_true rfl⟩ (Nat.le_of_ble_eq_true rfl)) rfl (fun qx E G' hp => by cases hp.1) (fun r9 Gt2 hp _ => ?_)
  obtain ⟨hvt2, hTt2, hkt2, hft2⟩ := hp
  cases hvt2
  have hn3 := sq_walking_n (k1 := i) (a2 := a) (r := r + 1) (A := sq_body 12 r A) (by omega)
  have hPt2 := hPt1.fr hTt1 hft2
  have hFt2 := hFt1.tr hft2
  have hKt2 := hkt2.trans hKt1
  refine hr_istore3 (q := 13) X dX12_paying_12 rfl rfl (Nat.le_of_ble_eq_true rfl) ?_
  refine hr_iload3 (q := 14) X dX12_paying_13 rfl ?_
  refine hr_aload0 (q := 15) X dX12_paying_14 rfl ?_
  refine hr_iload1 (q := 16) X dX12_paying_15 rfl ?_
  refine hr_aload0 (q := 17) X dX12_paying_16 rfl ?_
  refine hr_getI (v := (nI b1)) (q := 20) X dX12_paying_17 rfl (fp_q665 _ (by omega)) (fp_ft _ (by omega) 1 (by decide)) hPt2.1 hPt2.2.2 ?_
  refine hr_isub (v := (a - (nI b1))) (q := 21) X dX12_paying_20 rfl rfl ?_
  refine hr_aload2 (q := 22) X dX12_paying_21 rfl ?_
  refine hr_call0 (q := 25) (hcP_looking (k := k) (i := i) (b1 := b1) (a := (a - (nI b1))) (A := (sq_walking i a (r + 1) (sq_body 12 r A)).2) (r := iN ((sq_walking i a (r + 1) (sq_body 12 r A)).2.1.2 42)) (by omega) hPt2 hTt2 (by simp only [sq_body_t, (sq_walking_t _ _ _ _).1, (sq_looking_t _ _ _ _).1]; exact h9) (by simp only [sq_body_t, (sq_walking_t _ _ _ _).1, (sq_looking_t _ _ _ _).1]; exact h10) hn3.1 (by omega) X dX12_paying_22 q1313 ⟨Nat.le_of_ble_eq_true rfl, Nat.le_of_ble_eq_true rfl⟩ (Nat.le_of_ble_eq_true rfl)) rfl (fun qx E G' hp => by cases hp.1) (fun r9 Gt4 hp _ => ?_)
  obtain ⟨hvt4, hTt4, hkt4, hft4⟩ := hp
  cases hvt4
  have hn5 := sq_looking_n (k1 := i) (a2 := (a - (nI b1))) (r := iN ((sq_walking i a (r + 1) (sq_body 12 r A)).2.1.2 42)) (A := (sq_walking i a (r + 1) (sq_body 12 r A)).2) (by omega)
  have hPt4 := hPt2.fr hTt2 hft4
  have hFt4 := hFt2.tr hft4
  have hKt4 := hkt4.trans hKt2
  refine hr_ixor (v := (((sq_walking i a (r + 1) (sq_body 12 r A)).1) ^^^ ((sq_looking i (a - (nI b1)) (iN ((sq_walking i a (r + 1) (sq_body 12 r A)).2.1.2 42)) ((sq_walking i a (r + 1) (sq_body 12 r A)).2)).1))) (q := 26) X dX12_paying_25 rfl rfl ?_
  exact hr_iret X hr dX12_paying_26 ⟨by unfold sq_payP; rw [h10], by unfold sq_payP; rw [h10]; exact hTt4, hKt4, hFt4⟩

theorem pv_X16_paying {l : Launch} {D : hg_D} {lo : Nat} (htr : l.stackTraces = false) {G : hg_G} {b k i b1 x y r : Nat} {a : Int32} {A : ab_S} (hk : k = 4 ∨ k = 6) (hP : pr_R G b k i b1) (hT : tr_R G x y A) (h9 : A.1.1 9 i = k) (h10 : A.1.1 10 i = b1) (hrn : A.1.2 42 = nI r) (hr2 : r < 790) :
    hg_M l D lo yX16_paying (ws_ yX16_paying cX16_paying 3 ((some FieldType.int))) rm_X16_paying [.ref b, .int a, .ref x] G (tr_Po x y G (some (.int (-(sq_payP i a (r + 1) (sq_body 50 r A)).1))) ((sq_payP i a (r + 1) (sq_body 50 r A)).2)) := by
  refine hg_M.of htr (by decide) [some (.ref b), some (.int a), some (.ref x)] rfl (Nat.le_of_ble_eq_true rfl) ?_
  intro p e s m args below meth c X hr hnm htab
  have X : hg_X p l s m args meth c D lo "TaxOnLooks$Lover" cX16_paying 3 := X
  have f0 : hg_fr (tr_W x y) G G := hg_fr.rf
  refine hr_aload2 (q := 1) X dX16_paying_0 rfl ?_
  refine hr_bipush (v := (nI 50)) (q := 3) X dX16_paying_1 rfl rfl ?_
  refine hr_call0 (q := 6) (hc_V (n := 1) (ci := 1) (As := [.int (nI 50)]) X dX16_paying_3 rfl (tr_runs X.tr hT (b := 50) (r := r) hrn (by omega)) q1294 cv_X1_runs ⟨Nat.le_of_ble_eq_true rfl, Nat.le_of_ble_eq_true rfl⟩ rfl (Nat.le_of_ble_eq_true rfl) hT.1 rfl rfl) rfl (fun qx E G' hp => by cases hp.1) (fun r9 Gt1 hp _ => ?_)
  obtain ⟨hvt1, hTt1, hkt1, hft1⟩ := hp
  cases hvt1
  have hPt1 := hP.fr hT hft1
  have hFt1 := f0.tr hft1
  have hKt1 := hkt1.trans rfl
  refine hr_aload0 (q := 7) X dX16_paying_6 rfl ?_
  refine hr_iload1 (q := 8) X dX16_paying_7 rfl ?_
  refine hr_aload2 (q := 9) X dX16_paying_8 rfl ?_
  obtain ⟨rr, hrr⟩ := hg_clP k (by omega)
  refine hr_call0 (q := 12) (hc_SU (n := 2) (As := [.int a, .ref x]) X dX16_paying_9 rfl (pv_X12_paying X.tr (b := b) (k := k) (i := i) (b1 := b1) (a := a) (A := sq_body 50 r A) (r := r + 1) (by omega) hPt1 hTt1 (by simp only [sq_body_t, (sq_walking_t _ _ _ _).1, (sq_looking_t _ _ _ _).1]; exact h9) (by simp only [sq_body_t, (sq_walking_t _ _ _ _).1, (sq_looking_t _ _ _ _).1]; exact h10) rfl (by omega)) q1341 q1325 q616 q1323 q104 q1336 ⟨by decide, by decide +kernel⟩ ⟨Nat.le_of_ble_eq_true rfl, Nat.le_of_ble_eq_true rfl⟩ rfl (Nat.le_of_ble_eq_true rfl) hPt1.1 hrr) rfl (fun qx E G' hp => by cases hp.1) (fun r9 Gt2 hp _ => ?_)
  obtain ⟨hvt2, hTt2, hkt2, hft2⟩ := hp
  cases hvt2
  have hPt2 := hPt1.fr hTt1 hft2
  have hFt2 := hFt1.tr hft2
  have hKt2 := hkt2.trans hKt1
  refine hr_ineg (v := (-((sq_payP i a (r + 1) (sq_body 50 r A)).1))) (q := 13) X dX16_paying_12 rfl rfl ?_
  exact hr_iret X hr dX16_paying_13 ⟨rfl, hTt2, hKt2, hFt2⟩

theorem pv_X17_paying {l : Launch} {D : hg_D} {lo : Nat} (htr : l.stackTraces = false) {G : hg_G} {b k i b1 x y r : Nat} {a : Int32} {A : ab_S} (hk : k = 5) (hP : pr_R G b k i b1) (hT : tr_R G x y A) (h9 : A.1.1 9 i = k) (h10 : A.1.1 10 i = b1) (hrn : A.1.2 42 = nI r) (hr2 : r < 790) :
    hg_M l D lo yX17_paying (ws_ yX17_paying cX17_paying 3 ((some FieldType.int))) rm_X17_paying [.ref b, .int a, .ref x] G (tr_Po x y G (some (.int ((sq_payP i a (r + 1) (sq_body 60 r A)).1 ^^^ nI 5))) ((sq_payP i a (r + 1) (sq_body 60 r A)).2)) := by
  refine hg_M.of htr (by decide) [some (.ref b), some (.int a), some (.ref x)] rfl (Nat.le_of_ble_eq_true rfl) ?_
  intro p e s m args below meth c X hr hnm htab
  have X : hg_X p l s m args meth c D lo "TaxOnLooks$Child" cX17_paying 3 := X
  have f0 : hg_fr (tr_W x y) G G := hg_fr.rf
  refine hr_aload2 (q := 1) X dX17_paying_0 rfl ?_
  refine hr_bipush (v := (nI 60)) (q := 3) X dX17_paying_1 rfl rfl ?_
  refine hr_call0 (q := 6) (hc_V (n := 1) (ci := 1) (As := [.int (nI 60)]) X dX17_paying_3 rfl (tr_runs X.tr hT (b := 60) (r := r) hrn (by omega)) q1332 cv_X1_runs ⟨Nat.le_of_ble_eq_true rfl, Nat.le_of_ble_eq_true rfl⟩ rfl (Nat.le_of_ble_eq_true rfl) hT.1 rfl rfl) rfl (fun qx E G' hp => by cases hp.1) (fun r9 Gt1 hp _ => ?_)
  obtain ⟨hvt1, hTt1, hkt1, hft1⟩ := hp
  cases hvt1
  have hPt1 := hP.fr hT hft1
  have hFt1 := f0.tr hft1
  have hKt1 := hkt1.trans rfl
  refine hr_aload0 (q := 7) X dX17_paying_6 rfl ?_
  refine hr_iload1 (q := 8) X dX17_paying_7 rfl ?_
  refine hr_aload2 (q := 9) X dX17_paying_8 rfl ?_
  obtain ⟨rr, hrr⟩ := hg_clP k (by omega)
  refine hr_call0 (q := 12) (hc_SG (P := "TaxOnLooks$Blind") (n := 2) (As := [.int a, .ref x]) X dX17_paying_9 rfl (pv_X12_paying X.tr (b := b) (k := k) (i := i) (b1 := b1) (a := a) (A := sq_body 60 r A) (r := r + 1) (by omega) hPt1 hTt1 (by simp only [sq_body_t, (sq_walking_t _ _ _ _).1, (sq_looking_t _ _ _ _).1]; exact h9) (by simp only [sq_body_t, (sq_walking_t _ _ _ _).1, (sq_looking_t _ _ _ _).1]; exact h10) rfl (by omega)) q1333 q1334 q724 q705 q1323 q104 q1336 ⟨by decide, by decide +kernel⟩ ⟨Nat.le_of_ble_eq_true rfl, Nat.le_of_ble_eq_true rfl⟩ rfl (Nat.le_of_ble_eq_true rfl) hPt1.1 hrr) rfl (fun qx E G' hp => by cases hp.1) (fun r9 Gt2 hp _ => ?_)
  obtain ⟨hvt2, hTt2, hkt2, hft2⟩ := hp
  cases hvt2
  have hPt2 := hPt1.fr hTt1 hft2
  have hFt2 := hFt1.tr hft2
  have hKt2 := hkt2.trans hKt1
  refine hr_iconst (v := (nI 5)) (q := 13) X dX17_paying_12 rfl rfl ?_
  refine hr_ixor (v := (((sq_payP i a (r + 1) (sq_body 60 r A)).1) ^^^ (nI 5))) (q := 14) X dX17_paying_13 rfl rfl ?_
  exact hr_iret X hr dX17_paying_14 ⟨rfl, hTt2, hKt2, hFt2⟩

theorem hcP_paying {p : Program} {l : Launch} {e : Env} {R : Room} {s : State} {m : MethodId} {args : Array Value} {below : List Frame} {meth : Method} {c : Code} {D : hg_D} {lo : Nat} {C0 : hg_K} {nL : Nat} {G : hg_G} {own : String} {cc : ByteArray} {pc : Nat} {L : List (Option Value)} {rest : List Value} {index b k i b1 x y r : Nat} {a : Int32} {A : ab_S} (hk : k ≤ 6) (hP : pr_R G b k i b1) (hT : tr_R G x y A) (h9 : A.1.1 9 i = k) (h10 : A.1.1 10 i = b1) (hrn : A.1.2 42 = nI r) (hr2 : r < 780) (X : hg_X p l s m args meth c D lo own cc nL) (hdc : decode cc pc = .ok (.invokevirtual index, 3)) (hl : Cond.methodLink own index yX12_paying ∈ lw_all) (hR : 8 ≤ R.frames ∧ 176 ≤ R.locals) (hrest : (rest.map fun v => v.category).sum ≤ 8) :
    hg_Call p l e R s m args below meth c D lo C0 nL G pc L (.ref x :: .int a :: .ref b :: rest) rest 0 0 (tr_Po x y G (some (.int (sq_paying i a r A).1)) (sq_paying i a r A).2) := by
  match k, hk with
  | 0, _ =>
    rw [sq_pay_0 (by omega)]
    exact hc_U (n := 2) (As := [.int a, .ref x]) (owner := "TaxOnLooks$Person") X hdc rfl (pv_X12_paying X.tr (b := b) (k := 0) (i := i) (b1 := b1) (by decide) hP hT h9 h10 hrn (by omega)) hl q1325 q1324 q1323 q104 q1336 (Or.inl (by decide)) ⟨by decide +kernel, by decide +kernel, by decide +kernel⟩ ⟨Nat.le_trans (by decide) hR.1, Nat.le_trans (by decide) hR.2⟩ rfl hrest hP.1 rfl rfl
  | 1, _ =>
    rw [sq_pay_0 (by omega)]
    exact hc_U (n := 2) (As := [.int a, .ref x]) (owner := "TaxOnLooks$Person") X hdc rfl (pv_X12_paying X.tr (b := b) (k := 1) (i := i) (b1 := b1) (by decide) hP hT h9 h10 hrn (by omega)) hl q1325 q1327 q1323 q104 q1336 (Or.inl (by decide)) ⟨by decide +kernel, by decide +kernel, by decide +kernel⟩ ⟨Nat.le_trans (by decide) hR.1, Nat.le_trans (by decide) hR.2⟩ rfl hrest hP.1 rfl rfl
  | 2, _ =>
    rw [sq_pay_0 (by omega)]
    exact hc_U (n := 2) (As := [.int a, .ref x]) (owner := "TaxOnLooks$Person") X hdc rfl (pv_X12_paying X.tr (b := b) (k := 2) (i := i) (b1 := b1) (by decide) hP hT h9 h10 hrn (by omega)) hl q1325 q1326 q1323 q104 q1336 (Or.inl (by decide)) ⟨by decide +kernel, by decide +kernel, by decide +kernel⟩ ⟨Nat.le_trans (by decide) hR.1, Nat.le_trans (by decide) hR.2⟩ rfl hrest hP.1 rfl rfl
  | 3, _ =>
    rw [sq_pay_0 (by omega)]
    exact hc_U (n := 2) (As := [.int a, .ref x]) (owner := "TaxOnLooks$Person") X hdc rfl (pv_X12_paying X.tr (b := b) (k := 3) (i := i) (b1 := b1) (by decide) hP hT h9 h10 hrn (by omega)) hl q1325 q1328 q1323 q104 q1336 (Or.inl (by decide)) ⟨by decide +kernel, by decide +kernel, by decide +kernel⟩ ⟨Nat.le_trans (by decide) hR.1, Nat.le_trans (by decide) hR.2⟩ rfl hrest hP.1 rfl rfl
  | 4, _ =>
    rw [sq_pay_4 (Or.inl h9)]
    exact hc_U (n := 2) (As := [.int a, .ref x]) (owner := "TaxOnLooks$Person") X hdc rfl (pv_X16_paying X.tr (b := b) (k := 4) (i := i) (b1 := b1) (by decide) hP hT h9 h10 hrn (by omega)) hl q1325 q1338 q1339 q108 q1340 (Or.inl (by decide)) ⟨by decide +kernel, by decide +kernel, by decide +kernel⟩ ⟨Nat.le_trans (by decide) hR.1, Nat.le_trans (by decide) hR.2⟩ rfl hrest hP.1 rfl rfl
  | 5, _ =>
    rw [sq_pay_5 h9]
    exact hc_U (n := 2) (As := [.int a, .ref x]) (owner := "TaxOnLooks$Person") X hdc rfl (pv_X17_paying X.tr (b := b) (k := 5) (i := i) (b1 := b1) (by decide) hP hT h9 h10 hrn (by omega)) hl q1325 q1329 q1330 q109 q1331 (Or.inl (by decide)) ⟨by decide +kernel, by decide +kernel, by decide +kernel⟩ ⟨Nat.le_trans (by decide) hR.1, Nat.le_trans (by decide) hR.2⟩ rfl hrest hP.1 rfl rfl
  | 6, _ =>
    rw [sq_pay_4 (Or.inr h9)]
    exact hc_U (n := 2) (As := [.int a, .ref x]) (owner := "TaxOnLooks$Person") X hdc rfl (pv_X16_paying X.tr (b := b) (k := 6) (i := i) (b1 := b1) (by decide) hP hT h9 h10 hrn (by omega)) hl q1325 q1342 q1339 q108 q1340 (Or.inl (by decide)) ⟨by decide +kernel, by decide +kernel, by decide +kernel⟩ ⟨Nat.le_trans (by decide) hR.1, Nat.le_trans (by decide) hR.2⟩ rfl hrest hP.1 rfl rfl
  | (k + 7), h => omega

