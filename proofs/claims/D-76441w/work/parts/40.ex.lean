/-! exceptions made: pictures -/
def hg_rf (b : Nat) (G G' : hg_G) : Prop := G'.1 = G.1 ∧ G'.2.1 = G.2.1 ∧ G'.2.2.1 = G.2.2.1 ∧ ∀ a, a ≠ b → ∀ j, G'.2.2.2 a j = G.2.2.2 a j
theorem hg_rf.rf {b : Nat} {G : hg_G} : hg_rf b G G := ⟨rfl, rfl, rfl, fun _ _ _ => rfl⟩
theorem hg_rf.st {b k : Nat} {G G1 : hg_G} {o : Option Nat} (h : hg_rf b G G1) : hg_rf b G (hs_R G1 b k o) := ⟨h.1, h.2.1, h.2.2.1, fun a ha j => by
  rw [hs_RR, if_neg ha, ite_self]
  exact h.2.2.2 a ha j⟩
/-- all but the cell b is as it was -/
def hg_bt (b : Nat) (G G' : hg_G) : Prop := ∀ a, a ≠ b → G'.1 a = G.1 a ∧ (∀ j, G'.2.1 a j = G.2.1 a j) ∧ (∀ j, G'.2.2.1 a j = G.2.2.1 a j) ∧ ∀ j, G'.2.2.2 a j = G.2.2.2 a j
theorem hg_bt.rf {b : Nat} {G : hg_G} : hg_bt b G G := fun _ _ => ⟨rfl, fun _ => rfl, fun _ => rfl, fun _ => rfl⟩
theorem hg_bt.tr {b : Nat} {G G1 G2 : hg_G} (h : hg_bt b G G1) (h' : hg_bt b G1 G2) : hg_bt b G G2 := fun a ha => by
  obtain ⟨h1, h2, h3, h4⟩ := h a ha
  obtain ⟨g1, g2, g3, g4⟩ := h' a ha
  exact ⟨g1.trans h1, fun j => (g2 j).trans (h2 j), fun j => (g3 j).trans (h3 j), fun j => (g4 j).trans (h4 j)⟩
theorem hg_rf.bt {b : Nat} {G G' : hg_G} (h : hg_rf b G G') : hg_bt b G G' := fun a ha => ⟨by rw [h.1], fun j => by rw [h.2.1], fun j => by rw [h.2.2.1], h.2.2.2 a ha⟩
theorem hg_bt.I {b k : Nat} {G : hg_G} {v : Int32} : hg_bt b G (hs_I G b k v) := fun a ha => ⟨rfl, fun j => by rw [hs_II, if_neg ha, ite_self], fun _ => rfl, fun _ => rfl⟩
theorem hg_bt.N {b : Nat} {G : hg_G} {kd : Nat × Nat} : hg_bt b G (hs_N G b kd) := fun a ha => ⟨if_neg ha, fun _ => if_neg ha, fun _ => if_neg ha, fun _ => if_neg ha⟩
/-- an exception of class ci made at q, with its number -/
def tx_T (ci q : Nat) (w : Int32) (G G' : hg_G) : Prop := G.1 q = none ∧ G'.1 q = some (0, ci) ∧ G'.2.1 q 6 = w ∧ hg_bt q G G'
theorem lg_in_t {x : Int32} {b : Nat} (hb : b < 2 ^ 31) : lg_cmp x.toInt64 (lN b) < 0 ↔ x < nI b := by
  rw [lg_cmp_lt, Int64.lt_iff_toInt_lt, Int32.lt_iff_toInt_lt, lN_toInt hb, nI_toInt hb, Int32.toInt_toInt64]
theorem lg_in_g {x : Int32} {b : Nat} (hb : b < 2 ^ 31) : 0 < lg_cmp x.toInt64 (lN b) ↔ nI b < x := by
  rw [lg_cmp_gt, Int64.lt_iff_toInt_lt, Int32.lt_iff_toInt_lt, lN_toInt hb, nI_toInt hb, Int32.toInt_toInt64]
/-! the square beside, as the component counts -/
def bs_row (z v : Nat) : Int32 := nI (z / 6) + (if v = 0 then -1 else if v = 2 then nI 1 else nI 0)
def bs_col (z v : Nat) : Int32 := nI (z % 6) + (if v = 1 then nI 1 else if v = 3 then -1 else nI 0)
theorem bs_1 {z v : Nat} (hz : z < 36) (hv : v < 4) (h1 : sp_fr (bs_row z v) (nI 0) (nI 5) = true) (h2 : sp_fr (bs_col z v) (nI 0) (nI 5) = true) : sp_beside z v < 36 ∧ nI 6 * bs_row z v + bs_col z v = nI (sp_beside z v) := by
  have key : ∀ z, z < 36 → ∀ v, v < 4 → sp_fr (bs_row z v) (nI 0) (nI 5) = true → sp_fr (bs_col z v) (nI 0) (nI 5) = true → sp_beside z v < 36 ∧ nI 6 * bs_row z v + bs_col z v = nI (sp_beside z v) := by decide +kernel
  exact key z hz v hv h1 h2
theorem bs_2 {z v : Nat} (hz : z < 36) (hv : v < 4) (h : sp_fr (bs_row z v) (nI 0) (nI 5) = false ∨ sp_fr (bs_col z v) (nI 0) (nI 5) = false) : sp_beside z v = 99 := by
  have key : ∀ z, z < 36 → ∀ v, v < 4 → (sp_fr (bs_row z v) (nI 0) (nI 5) = false ∨ sp_fr (bs_col z v) (nI 0) (nI 5) = false) → sp_beside z v = 99 := by decide +kernel
  exact key z hz v hv h
abbrev rk_X0_need : Room := { frames := 4, cells := 1, slots := 7, locals := 109 }
theorem tx_thr6 {l : Launch} {D : hg_D} {lo : Nat} (htr : l.stackTraces = false) {G : hg_G} {b : Nat} (hb : G.1 b = some (0, 6)) :
    hg_M l D lo yJ0_init_3 (ws_ yJ0_init_3 cJ0_init_3 5 (none)) rm_J0_init_3 [.ref b, .null, .null, .int (nI 0), .int (nI 0)] G (fun r G' => r = .inl none ∧ hg_rf b G G') := by
  refine hg_M.of htr (by decide) [some (.ref b), some (.null), some (.null), some (.int (nI 0)), some (.int (nI 0))] rfl (Nat.le_of_ble_eq_true rfl) ?_
  intro p e s m args below meth c X hr hnm htab
  have X : hg_X p l s m args meth c D lo "java/lang/Throwable" cJ0_init_3 5 := X
  refine hr_aload0 (q := 1) X dJ0_init_3_0 rfl ?_
  refine hr_objInit (q := 4) X dJ0_init_3_1 rfl q298 (by decide) (by decide) ?_
  refine hr_aload0 (q := 5) X dJ0_init_3_4 rfl ?_
  refine hr_aload0 (q := 6) X dJ0_init_3_5 rfl ?_
  refine hr_putR (q := 9) X dJ0_init_3_6 rfl fw_q319_6 (fun h => nomatch h) rfl rfl hb ?_
  refine hr_aload0 (q := 10) X dJ0_init_3_9 rfl ?_
  refine hr_getsq (q := 13) X dJ0_init_3_10 rfl X.old.1.1 q299 (fun o10 => ?_)
  refine hr_putQ (q := 16) X dJ0_init_3_13 rfl fw_q320_6 (fun h => nomatch h) rfl rfl hb ?_
  refine hr_aload0 (q := 17) X dJ0_init_3_16 rfl ?_
  refine hr_getsq (q := 20) X dJ0_init_3_17 rfl X.old.2.1.1 q301 (fun o17 => ?_)
  refine hr_putQ (q := 23) X dJ0_init_3_20 rfl fw_q321_6 (fun h => nomatch h) rfl rfl hb ?_
  refine hr_iload4 (q := 25) X dJ0_init_3_23 rfl ?_
  refine hr_if_eq (q := 28) (tgt := 36) X dJ0_init_3_25 rfl (by decide) (fun _ => ?_) (fun z => absurd z (by decide))
  refine hr_aload0 (q := 37) X dJ0_init_3_36 rfl ?_
  refine hr_null (q := 38) X dJ0_init_3_37 rfl ?_
  refine hr_putN (q := 41) X dJ0_init_3_38 rfl fw_q320_6 (fun h => nomatch h) rfl rfl hb ?_
  refine hr_aload0 (q := 42) X dJ0_init_3_41 rfl ?_
  refine hr_aloadN1 (q := 43) X dJ0_init_3_42 rfl ?_
  refine hr_putN (q := 46) X dJ0_init_3_43 rfl fw_q318_6 (fun h => nomatch h) rfl rfl hb ?_
  refine hr_aload0 (q := 47) X dJ0_init_3_46 rfl ?_
  refine hr_aloadN2 (q := 48) X dJ0_init_3_47 rfl ?_
  refine hr_putN (q := 51) X dJ0_init_3_48 rfl fw_q319_6 (fun h => nomatch h) rfl rfl hb ?_
  refine hr_iload3 (q := 52) X dJ0_init_3_51 rfl ?_
  refine hr_if_ne (q := 55) (tgt := 60) X dJ0_init_3_52 rfl (by decide) (fun z => absurd z (by decide)) (fun _ => ?_)
  refine hr_aload0 (q := 56) X dJ0_init_3_55 rfl ?_
  refine hr_null (q := 57) X dJ0_init_3_56 rfl ?_
  refine hr_putN (q := 60) X dJ0_init_3_57 rfl fw_q321_6 (fun h => nomatch h) rfl rfl hb ?_
  exact hr_vret X hr dJ0_init_3_60 ⟨rfl, hg_rf.rf.st.st.st.st.st.st.st⟩

theorem tx_exc6 {l : Launch} {D : hg_D} {lo : Nat} (htr : l.stackTraces = false) {G : hg_G} {b : Nat} (hb : G.1 b = some (0, 6)) :
    hg_M l D lo yJ1_init_2 (ws_ yJ1_init_2 cJ1_init_2 5 (none)) rm_J1_init_2 [.ref b, .null, .null, .int (nI 0), .int (nI 0)] G (fun r G' => r = .inl none ∧ hg_rf b G G') := by
  refine hg_M.of htr (by decide) [some (.ref b), some (.null), some (.null), some (.int (nI 0)), some (.int (nI 0))] rfl (Nat.le_of_ble_eq_true rfl) ?_
  intro p e s m args below meth c X hr hnm htab
  have X : hg_X p l s m args meth c D lo "java/lang/Exception" cJ1_init_2 5 := X
  refine hr_aload0 (q := 1) X dJ1_init_2_0 rfl ?_
  refine hr_aloadN1 (q := 2) X dJ1_init_2_1 rfl ?_
  refine hr_aloadN2 (q := 3) X dJ1_init_2_2 rfl ?_
  refine hr_iload3 (q := 4) X dJ1_init_2_3 rfl ?_
  refine hr_iload4 (q := 6) X dJ1_init_2_4 rfl ?_
  refine hr_call0 (q := 9) (hc_I (n := 4) (As := [.null, .null, .int (nI 0), .int (nI 0)]) X dJ1_init_2_6 rfl (tx_thr6 X.tr hb) q374 cj_J0_init_3 ⟨Nat.le_of_ble_eq_true rfl, Nat.le_of_ble_eq_true rfl⟩ rfl (Nat.le_of_ble_eq_true rfl)) rfl (fun qx E G' hp => by cases hp.1) (fun r G1 hp _ => ?_)
  obtain ⟨hv1, hf⟩ := hp
  cases hv1
  exact hr_vret X hr dJ1_init_2_9 ⟨rfl, hf⟩

theorem tx_new6 {l : Launch} {D : hg_D} {lo : Nat} (htr : l.stackTraces = false) {G : hg_G} {b : Nat} (hb : G.1 b = some (0, 6)) {w : Int32} :
    hg_M l D lo yX6_init (ws_ yX6_init cX6_init 2 (none)) rm_X6_init [.ref b, .int w] G (fun r G' => r = .inl none ∧ G'.1 = G.1 ∧ G'.2.1 b 6 = w ∧ hg_bt b G G') := by
  refine hg_M.of htr (by decide) [some (.ref b), some (.int w)] rfl (Nat.le_of_ble_eq_true rfl) ?_
  intro p e s m args below meth c X hr hnm htab
  have X : hg_X p l s m args meth c D lo "TaxOnLooks$Refused" cX6_init 2 := X
  have hnm : meth.name = "<init>" := hnm
  refine hr_aload0 (q := 1) X dX6_init_0 rfl ?_
  refine hr_null (q := 2) X dX6_init_1 rfl ?_
  refine hr_null (q := 3) X dX6_init_2 rfl ?_
  refine hr_iconst (v := (nI 0)) (q := 4) X dX6_init_3 rfl rfl ?_
  refine hr_iconst (v := (nI 0)) (q := 5) X dX6_init_4 rfl rfl ?_
  refine hr_call0 (q := 8) (hc_I (n := 4) (As := [.null, .null, .int (nI 0), .int (nI 0)]) X dX6_init_5 rfl (tx_exc6 X.tr hb) q371 cj_J1_init_2 ⟨Nat.le_of_ble_eq_true rfl, Nat.le_of_ble_eq_true rfl⟩ rfl (Nat.le_of_ble_eq_true rfl)) rfl (fun qx E G' hp => by cases hp.1) (fun r G1 hp _ => ?_)
  obtain ⟨hv1, hf⟩ := hp
  cases hv1
  refine hr_aload0 (q := 9) X dX6_init_8 rfl ?_
  refine hr_iload1 (q := 10) X dX6_init_9 rfl ?_
  refine hr_putI (q := 13) X dX6_init_10 rfl fw_q377_6 (fun _ => hnm) rfl rfl rfl (by rw [hf.1]; exact hb) ?_
  exact hr_vret X hr dX6_init_13 ⟨rfl, hf.1, by rw [hs_II, if_pos rfl, if_pos rfl], hf.bt.tr hg_bt.I⟩

theorem tx_thr7 {l : Launch} {D : hg_D} {lo : Nat} (htr : l.stackTraces = false) {G : hg_G} {b : Nat} (hb : G.1 b = some (0, 7)) :
    hg_M l D lo yJ0_init_3 (ws_ yJ0_init_3 cJ0_init_3 5 (none)) rm_J0_init_3 [.ref b, .null, .null, .int (nI 0), .int (nI 0)] G (fun r G' => r = .inl none ∧ hg_rf b G G') := by
  refine hg_M.of htr (by decide) [some (.ref b), some (.null), some (.null), some (.int (nI 0)), some (.int (nI 0))] rfl (Nat.le_of_ble_eq_true rfl) ?_
  intro p e s m args below meth c X hr hnm htab
  have X : hg_X p l s m args meth c D lo "java/lang/Throwable" cJ0_init_3 5 := X
  refine hr_aload0 (q := 1) X dJ0_init_3_0 rfl ?_
  refine hr_objInit (q := 4) X dJ0_init_3_1 rfl q298 (by decide) (by decide) ?_
  refine hr_aload0 (q := 5) X dJ0_init_3_4 rfl ?_
  refine hr_aload0 (q := 6) X dJ0_init_3_5 rfl ?_
  refine hr_putR (q := 9) X dJ0_init_3_6 rfl fw_q319_7 (fun h => nomatch h) rfl rfl hb ?_
  refine hr_aload0 (q := 10) X dJ0_init_3_9 rfl ?_
  refine hr_getsq (q := 13) X dJ0_init_3_10 rfl X.old.1.1 q299 (fun o10 => ?_)
  refine hr_putQ (q := 16) X dJ0_init_3_13 rfl fw_q320_7 (fun h => nomatch h) rfl rfl hb ?_
  refine hr_aload0 (q := 17) X dJ0_init_3_16 rfl ?_
  refine hr_getsq (q := 20) X dJ0_init_3_17 rfl X.old.2.1.1 q301 (fun o17 => ?_)
  refine hr_putQ (q := 23) X dJ0_init_3_20 rfl fw_q321_7 (fun h => nomatch h) rfl rfl hb ?_
  refine hr_iload4 (q := 25) X dJ0_init_3_23 rfl ?_
  refine hr_if_eq (q := 28) (tgt := 36) X dJ0_init_3_25 rfl (by decide) (fun _ => ?_) (fun z => absurd z (by decide))
  refine hr_aload0 (q := 37) X dJ0_init_3_36 rfl ?_
  refine hr_null (q := 38) X dJ0_init_3_37 rfl ?_
  refine hr_putN (q := 41) X dJ0_init_3_38 rfl fw_q320_7 (fun h => nomatch h) rfl rfl hb ?_
  refine hr_aload0 (q := 42) X dJ0_init_3_41 rfl ?_
  refine hr_aloadN1 (q := 43) X dJ0_init_3_42 rfl ?_
  refine hr_putN (q := 46) X dJ0_init_3_43 rfl fw_q318_7 (fun h => nomatch h) rfl rfl hb ?_
  refine hr_aload0 (q := 47) X dJ0_init_3_46 rfl ?_
  refine hr_aloadN2 (q := 48) X dJ0_init_3_47 rfl ?_
  refine hr_putN (q := 51) X dJ0_init_3_48 rfl fw_q319_7 (fun h => nomatch h) rfl rfl hb ?_
  refine hr_iload3 (q := 52) X dJ0_init_3_51 rfl ?_
  refine hr_if_ne (q := 55) (tgt := 60) X dJ0_init_3_52 rfl (by decide) (fun z => absurd z (by decide)) (fun _ => ?_)
  refine hr_aload0 (q := 56) X dJ0_init_3_55 rfl ?_
  refine hr_null (q := 57) X dJ0_init_3_56 rfl ?_
  refine hr_putN (q := 60) X dJ0_init_3_57 rfl fw_q321_7 (fun h => nomatch h) rfl rfl hb ?_
  exact hr_vret X hr dJ0_init_3_60 ⟨rfl, hg_rf.rf.st.st.st.st.st.st.st⟩

theorem tx_exc7 {l : Launch} {D : hg_D} {lo : Nat} (htr : l.stackTraces = false) {G : hg_G} {b : Nat} (hb : G.1 b = some (0, 7)) :
    hg_M l D lo yJ1_init_2 (ws_ yJ1_init_2 cJ1_init_2 5 (none)) rm_J1_init_2 [.ref b, .null, .null, .int (nI 0), .int (nI 0)] G (fun r G' => r = .inl none ∧ hg_rf b G G') := by
  refine hg_M.of htr (by decide) [some (.ref b), some (.null), some (.null), some (.int (nI 0)), some (.int (nI 0))] rfl (Nat.le_of_ble_eq_true rfl) ?_
  intro p e s m args below meth c X hr hnm htab
  have X : hg_X p l s m args meth c D lo "java/lang/Exception" cJ1_init_2 5 := X
  refine hr_aload0 (q := 1) X dJ1_init_2_0 rfl ?_
  refine hr_aloadN1 (q := 2) X dJ1_init_2_1 rfl ?_
  refine hr_aloadN2 (q := 3) X dJ1_init_2_2 rfl ?_
  refine hr_iload3 (q := 4) X dJ1_init_2_3 rfl ?_
  refine hr_iload4 (q := 6) X dJ1_init_2_4 rfl ?_
  refine hr_call0 (q := 9) (hc_I (n := 4) (As := [.null, .null, .int (nI 0), .int (nI 0)]) X dJ1_init_2_6 rfl (tx_thr7 X.tr hb) q374 cj_J0_init_3 ⟨Nat.le_of_ble_eq_true rfl, Nat.le_of_ble_eq_true rfl⟩ rfl (Nat.le_of_ble_eq_true rfl)) rfl (fun qx E G' hp => by cases hp.1) (fun r G1 hp _ => ?_)
  obtain ⟨hv1, hf⟩ := hp
  cases hv1
  exact hr_vret X hr dJ1_init_2_9 ⟨rfl, hf⟩

theorem tx_new7 {l : Launch} {D : hg_D} {lo : Nat} (htr : l.stackTraces = false) {G : hg_G} {b : Nat} (hb : G.1 b = some (0, 7)) {w : Int32} :
    hg_M l D lo yX20_init (ws_ yX20_init cX20_init 2 (none)) rm_X20_init [.ref b, .int w] G (fun r G' => r = .inl none ∧ G'.1 = G.1 ∧ G'.2.1 b 6 = w ∧ hg_bt b G G') := by
  refine hg_M.of htr (by decide) [some (.ref b), some (.int w)] rfl (Nat.le_of_ble_eq_true rfl) ?_
  intro p e s m args below meth c X hr hnm htab
  have X : hg_X p l s m args meth c D lo "TaxOnLooks$Faulty" cX20_init 2 := X
  have hnm : meth.name = "<init>" := hnm
  refine hr_aload0 (q := 1) X dX20_init_0 rfl ?_
  refine hr_null (q := 2) X dX20_init_1 rfl ?_
  refine hr_null (q := 3) X dX20_init_2 rfl ?_
  refine hr_iconst (v := (nI 0)) (q := 4) X dX20_init_3 rfl rfl ?_
  refine hr_iconst (v := (nI 0)) (q := 5) X dX20_init_4 rfl rfl ?_
  refine hr_call0 (q := 8) (hc_I (n := 4) (As := [.null, .null, .int (nI 0), .int (nI 0)]) X dX20_init_5 rfl (tx_exc7 X.tr hb) q953 cj_J1_init_2 ⟨Nat.le_of_ble_eq_true rfl, Nat.le_of_ble_eq_true rfl⟩ rfl (Nat.le_of_ble_eq_true rfl)) rfl (fun qx E G' hp => by cases hp.1) (fun r G1 hp _ => ?_)
  obtain ⟨hv1, hf⟩ := hp
  cases hv1
  refine hr_aload0 (q := 9) X dX20_init_8 rfl ?_
  refine hr_iload1 (q := 10) X dX20_init_9 rfl ?_
  refine hr_putI (q := 13) X dX20_init_10 rfl fw_q954_7 (fun _ => hnm) rfl rfl rfl (by rw [hf.1]; exact hb) ?_
  exact hr_vret X hr dX20_init_13 ⟨rfl, hf.1, by rw [hs_II, if_pos rfl, if_pos rfl], hf.bt.tr hg_bt.I⟩

theorem tc_in {l : Launch} {D : hg_D} {lo : Nat} (htr : l.stackTraces = false) {G : hg_G} {x : Int32} {b z : Nat} (hb : b < 2 ^ 31) (hz : z < 2 ^ 31) :
    hg_M l D lo yX0_in (ws_ yX0_in cX0_in 6 ((some FieldType.boolean))) rm_X0_in [.long x.toInt64, .long (lN b), .long (lN z)] G (hg_Pv G (.int (bI (sp_fr x (nI b) (nI z))))) := by
  refine hg_M.of htr (by decide) [some (.long x.toInt64), none, some (.long (lN b)), none, some (.long (lN z)), none] rfl (Nat.le_of_ble_eq_true rfl) ?_
  intro p e s m args below meth c X hr hnm htab
  have X : hg_X p l s m args meth c D lo "TaxOnLooks" cX0_in 6 := X
  refine hr_lload0 (q := 1) X dX0_in_0 rfl ?_
  refine hr_lload2 (q := 2) X dX0_in_1 rfl ?_
  refine hr_lcmp (v := (lg_cmp x.toInt64 (lN b))) (q := 3) X dX0_in_2 rfl rfl ?_
  refine hr_if_lt (q := 6) (tgt := 17) X dX0_in_3 rfl (by decide) (fun c3 => ?_) (fun c3 => ?_)
  · refine hr_iconst (v := (nI 0)) (q := 18) X dX0_in_17 rfl rfl ?_
    exact hr_zret X hr rfl dX0_in_18 ⟨hz_b0 (decide_eq_false (fun g => Int32.not_lt.mpr g.1 ((lg_in_t hb).mp c3))), rfl⟩
  · refine hr_lload0 (q := 7) X dX0_in_6 rfl ?_
    refine hr_lload4 (q := 9) X dX0_in_7 rfl ?_
    refine hr_lcmp (v := (lg_cmp x.toInt64 (lN z))) (q := 10) X dX0_in_9 rfl rfl ?_
    refine hr_if_gt (q := 13) (tgt := 17) X dX0_in_10 rfl (by decide) (fun c10 => ?_) (fun c10 => ?_)
    · refine hr_iconst (v := (nI 0)) (q := 18) X dX0_in_17 rfl rfl ?_
      exact hr_zret X hr rfl dX0_in_18 ⟨hz_b0 (decide_eq_false (fun g => Int32.not_lt.mpr g.2 ((lg_in_g hz).mp c10))), rfl⟩
    · refine hr_iconst (v := (nI 1)) (q := 14) X dX0_in_13 rfl rfl ?_
      refine hr_goto (tgt := 18) X dX0_in_14 (by decide) ?_
      exact hr_zret X hr rfl dX0_in_18 ⟨hz_b1 (decide_eq_true ⟨Int32.not_lt.mp (fun g => c3 ((lg_in_t hb).mpr g)), Int32.not_lt.mp (fun g => c10 ((lg_in_g hz).mpr g))⟩), rfl⟩

theorem tc_need {l : Launch} {D : hg_D} {lo : Nat} (htr : l.stackTraces = false) {G : hg_G} {g : Bool} {w : Int32} :
    hg_M l D lo yX0_need (ws_ yX0_need cX0_need 2 (none)) rk_X0_need [.int (bI g), .int w] G (fun r G' => (g = true ∧ r = .inl none ∧ G' = G) ∨ (g = false ∧ ∃ q, r = .inr (q, "TaxOnLooks$Refused") ∧ tx_T 6 q w G G')) := by
  refine hg_M.of htr (by decide) [some (.int (bI g)), some (.int w)] rfl (Nat.le_of_ble_eq_true rfl) ?_
  intro p e s m args below meth c X hr hnm htab
  have X : hg_X p l s m args meth c D lo "TaxOnLooks" cX0_need 2 := X
  refine hr_room (kr' := 1) (nr' := 7) (by decide) (by decide) ?_
  refine hr_iload0 (q := 1) X dX0_need_0 rfl ?_
  refine hr_ifB_ne (q := 4) (tgt := 13) X dX0_need_1 rfl (by decide) (fun c1 => ?_) (fun c1 => ?_)
  · exact hr_vret X hr dX0_need_13 (Or.inl ⟨c1, rfl, rfl⟩)
  · refine hr_new (kr := 0) (nr := 0) (q := 7) (ci := 6) (T := TX6) (N := 7) (ty := tyX6) X dX0_need_4 rfl q277 q360 q94 rfl in_X6 tyX6_ok (by decide) (fun x1 hlx1 hnx1 => ?_)
    refine hr_dup (q := 8) X dX0_need_7 rfl rfl ?_
    refine hr_iload1 (q := 9) X dX0_need_8 rfl ?_
    refine hr_call0 (q := 12) (hc_I (n := 1) (As := [.int w]) X dX0_need_9 rfl (tx_new6 X.tr (b := x1) (if_pos rfl) (w := w)) q368 cj_X6_init ⟨Nat.le_of_ble_eq_true rfl, Nat.le_of_ble_eq_true rfl⟩ rfl (Nat.le_of_ble_eq_true rfl)) rfl (fun qx E G' hp => by cases hp.1) (fun r G2 hp _ => ?_)
    obtain ⟨hv2, hk1, hw1, hbt1⟩ := hp
    cases hv2
    refine hr_athrow X dX0_need_12 (ci := 6) (by rw [hk1]; exact if_pos rfl) rfl rfl ?_
    exact hx_out X (fun z hz => absurd hz (htab z)) (Or.inr ⟨c1, x1, rfl, hnx1, by rw [hk1]; exact if_pos rfl, hw1, hg_bt.N.tr hbt1⟩)

theorem tn_beside {l : Launch} {D : hg_D} {lo : Nat} (htr : l.stackTraces = false) {G : hg_G} {ta : Nat → Nat} {t : sp_S} (hT : tn_R G ta t) (hw : sp_wf t) {z v : Nat} (hz : z < 36) (hv : v < 4) :
    hg_M l D lo yX2_beside (ws_ yX2_beside cX2_beside 6 ((some FieldType.int))) rm_X2_beside [.ref (ta 0), .int (nI z), .int (nI v)] G (hg_Pv G (.int (oI (sp_bes t z v)))) := by
  refine hg_M.of htr (by decide) [some (.ref (ta 0)), some (.int (nI z)), some (.int (nI v)), none, none, none] rfl (Nat.le_of_ble_eq_true rfl) ?_
  intro p e s m args below meth c X hr hnm htab
  have X : hg_X p l s m args meth c D lo "TaxOnLooks$Town" cX2_beside 6 := X
  have w0 := hw.b0; have w1 := hw.b1; have w2 := hw.b2; have w3 := hw.b3; have w36 := hw.b36
  have hpw := sp_wpk hw; have hpb := sp_bpk hw
  obtain ⟨K, hK, hKs, hKb⟩ := hT.sk
  refine hr_iload1 (q := 1) X dX2_beside_0 rfl ?_
  refine hr_bipush (v := (nI 6)) (q := 3) X dX2_beside_1 rfl rfl ?_
  refine hr_idiv (v := (nI (z / 6))) (q := 4) X dX2_beside_3 rfl (by decide) (pk_div (by omega) (by decide) (by decide)) ?_
  refine hr_iload2 (q := 5) X dX2_beside_4 rfl ?_
  refine hr_ifN_ne (q := 8) (tgt := 12) X dX2_beside_5 rfl (by decide) (by omega) (fun c5 => ?_) (fun c5 => ?_)
  · refine hr_iload2 (q := 13) X dX2_beside_12 rfl ?_
    refine hr_iconst (v := (nI 2)) (q := 14) X dX2_beside_13 rfl rfl ?_
    refine hr_icmpN_ne (q := 17) (tgt := 21) X dX2_beside_14 rfl (by decide) (by omega) (by omega) (fun c14 => ?_) (fun c14 => ?_)
    · refine hr_iconst (v := (nI 0)) (q := 22) X dX2_beside_21 rfl rfl ?_
      refine hr_iadd (v := (nI (z / 6 + 0))) (q := 23) X dX2_beside_22 rfl (nI_add _ _) ?_
      refine hr_st1 (v' := .int (bs_row z v)) (congrArg Value.int (by rw [bs_row, if_neg (by omega), if_neg c14]; exact (nI_add _ _).symm)) ?_
      refine hr_istore3 (q := 24) X dX2_beside_23 rfl rfl (Nat.le_of_ble_eq_true rfl) ?_
      refine hr_iload1 (q := 25) X dX2_beside_24 rfl ?_
      refine hr_bipush (v := (nI 6)) (q := 27) X dX2_beside_25 rfl rfl ?_
      refine hr_irem (v := (nI (z % 6))) (q := 28) X dX2_beside_27 rfl (by decide) (pk_rem (by omega) (by decide) (by decide)) ?_
      refine hr_iload2 (q := 29) X dX2_beside_28 rfl ?_
      refine hr_iconst (v := (nI 1)) (q := 30) X dX2_beside_29 rfl rfl ?_
      refine hr_icmpN_ne (q := 33) (tgt := 37) X dX2_beside_30 rfl (by decide) (by omega) (by omega) (fun c30 => ?_) (fun c30 => ?_)
      · refine hr_iload2 (q := 38) X dX2_beside_37 rfl ?_
        refine hr_iconst (v := (nI 3)) (q := 39) X dX2_beside_38 rfl rfl ?_
        refine hr_icmpN_ne (q := 42) (tgt := 46) X dX2_beside_39 rfl (by decide) (by omega) (by omega) (fun c39 => ?_) (fun c39 => ?_)
        · refine hr_iconst (v := (nI 0)) (q := 47) X dX2_beside_46 rfl rfl ?_
          refine hr_iadd (v := (nI (z % 6 + 0))) (q := 48) X dX2_beside_47 rfl (nI_add _ _) ?_
          refine hr_st1 (v' := .int (bs_col z v)) (congrArg Value.int (by rw [bs_col, if_neg c30, if_neg c39]; exact (nI_add _ _).symm)) ?_
          refine hr_istore4 (q := 50) X dX2_beside_48 rfl rfl (Nat.le_of_ble_eq_true rfl) ?_
          refine hr_iload3 (q := 51) X dX2_beside_50 rfl ?_
          refine hr_i2l (v := ((bs_row z v).toInt64)) (q := 52) X dX2_beside_51 rfl rfl ?_
          refine hr_lconst (v := (lN 0)) (q := 53) X dX2_beside_52 rfl rfl ?_
          refine hr_ldc2 (q := 56) X dX2_beside_53 rfl q1134 ?_
          refine hr_callP (v := .int (bI (sp_fr (bs_row z v) (nI 0) (nI 5)))) (q := 59) (hc_S (n := 3) (As := [.long ((bs_row z v).toInt64), .long (lN 0), .long 5]) X dX2_beside_56 rfl (tc_in X.tr (x := bs_row z v) (b := 0) (z := 5) (by decide) (by decide)) q1135 cs_X0_in ⟨Nat.le_of_ble_eq_true rfl, Nat.le_of_ble_eq_true rfl⟩ rfl (Nat.le_of_ble_eq_true rfl)) rfl ?_
          refine hr_ifB_eq (q := 62) (tgt := 93) X dX2_beside_59 rfl (by decide) (fun c59 => ?_) (fun c59 => ?_)
          · refine hr_iconst (v := (nI 0)) (q := 94) X dX2_beside_93 rfl rfl ?_
            refine hr_istore5 (q := 96) X dX2_beside_94 rfl rfl (Nat.le_of_ble_eq_true rfl) ?_
            refine hr_iload5 (q := 98) X dX2_beside_96 rfl ?_
            refine hr_if_eq (q := 101) (tgt := 111) X dX2_beside_98 rfl (by decide) (fun _ => ?_) (fun z => absurd z (by decide))
            refine hr_iconst (v := (-1)) (q := 112) X dX2_beside_111 rfl rfl ?_
            exact hr_iret X hr dX2_beside_112 ⟨hz_i (by rw [sp_bes, if_pos (bs_2 hz hv (Or.inl c59))]; rfl), rfl⟩
          · refine hr_iload4 (q := 64) X dX2_beside_62 rfl ?_
            refine hr_i2l (v := ((bs_col z v).toInt64)) (q := 65) X dX2_beside_64 rfl rfl ?_
            refine hr_lconst (v := (lN 0)) (q := 66) X dX2_beside_65 rfl rfl ?_
            refine hr_ldc2 (q := 69) X dX2_beside_66 rfl q1134 ?_
            refine hr_callP (v := .int (bI (sp_fr (bs_col z v) (nI 0) (nI 5)))) (q := 72) (hc_S (n := 3) (As := [.long ((bs_col z v).toInt64), .long (lN 0), .long 5]) X dX2_beside_69 rfl (tc_in X.tr (x := bs_col z v) (b := 0) (z := 5) (by decide) (by decide)) q1135 cs_X0_in ⟨Nat.le_of_ble_eq_true rfl, Nat.le_of_ble_eq_true rfl⟩ rfl (Nat.le_of_ble_eq_true rfl)) rfl ?_
            refine hr_ifB_eq (q := 75) (tgt := 93) X dX2_beside_72 rfl (by decide) (fun c72 => ?_) (fun c72 => ?_)
            · refine hr_iconst (v := (nI 0)) (q := 94) X dX2_beside_93 rfl rfl ?_
              refine hr_istore5 (q := 96) X dX2_beside_94 rfl rfl (Nat.le_of_ble_eq_true rfl) ?_
              refine hr_iload5 (q := 98) X dX2_beside_96 rfl ?_
              refine hr_if_eq (q := 101) (tgt := 111) X dX2_beside_98 rfl (by decide) (fun _ => ?_) (fun z => absurd z (by decide))
              refine hr_iconst (v := (-1)) (q := 112) X dX2_beside_111 rfl rfl ?_
              exact hr_iret X hr dX2_beside_112 ⟨hz_i (by rw [sp_bes, if_pos (bs_2 hz hv (Or.inr c72))]; rfl), rfl⟩
            · refine hr_aload0 (q := 76) X dX2_beside_75 rfl ?_
              refine hr_bipush (v := (nI 6)) (q := 78) X dX2_beside_76 rfl rfl ?_
              refine hr_iload3 (q := 79) X dX2_beside_78 rfl ?_
              refine hr_imul (v := ((nI 6) * (bs_row z v))) (q := 80) X dX2_beside_79 rfl rfl ?_
              refine hr_iload4 (q := 82) X dX2_beside_80 rfl ?_
              refine hr_iadd (v := (((nI 6) * (bs_row z v)) + (bs_col z v))) (q := 83) X dX2_beside_82 rfl rfl ?_
              have hbs := bs_1 hz hv c59 c72
              have hbl := hbs.1
              refine hr_st1 (v' := .int (nI (sp_beside z v))) (congrArg Value.int hbs.2) ?_
              refine hr_callP (q := 86) (hc_V (n := 1) (ci := 2) (As := [.int (nI (sp_beside z v))]) X dX2_beside_83 rfl (tn_isFreeN X.tr hT hw (z := sp_beside z v) (by omega)) q1136 cv_X2_isFree ⟨Nat.le_of_ble_eq_true rfl, Nat.le_of_ble_eq_true rfl⟩ rfl (Nat.le_of_ble_eq_true rfl) hT.ob rfl rfl) rfl ?_
              refine hr_ifB_eq (q := 89) (tgt := 93) X dX2_beside_86 rfl (by decide) (fun c86 => ?_) (fun c86 => ?_)
              · refine hr_iconst (v := (nI 0)) (q := 94) X dX2_beside_93 rfl rfl ?_
                refine hr_istore5 (q := 96) X dX2_beside_94 rfl rfl (Nat.le_of_ble_eq_true rfl) ?_
                refine hr_iload5 (q := 98) X dX2_beside_96 rfl ?_
                refine hr_if_eq (q := 101) (tgt := 111) X dX2_beside_98 rfl (by decide) (fun _ => ?_) (fun z => absurd z (by decide))
                refine hr_iconst (v := (-1)) (q := 112) X dX2_beside_111 rfl rfl ?_
                exact hr_iret X hr dX2_beside_112 ⟨hz_i (by rw [sp_bes, if_neg (by omega), if_pos (by simpa using c86)]; rfl), rfl⟩
              · refine hr_iconst (v := (nI 1)) (q := 90) X dX2_beside_89 rfl rfl ?_
                refine hr_goto (tgt := 94) X dX2_beside_90 (by decide) ?_
                refine hr_istore5 (q := 96) X dX2_beside_94 rfl rfl (Nat.le_of_ble_eq_true rfl) ?_
                refine hr_iload5 (q := 98) X dX2_beside_96 rfl ?_
                refine hr_if_eq (q := 101) (tgt := 111) X dX2_beside_98 rfl (by decide) (fun z => absurd z (by decide)) (fun _ => ?_)
                refine hr_bipush (v := (nI 6)) (q := 103) X dX2_beside_101 rfl rfl ?_
                refine hr_iload3 (q := 104) X dX2_beside_103 rfl ?_
                refine hr_imul (v := ((nI 6) * (bs_row z v))) (q := 105) X dX2_beside_104 rfl rfl ?_
                refine hr_iload4 (q := 107) X dX2_beside_105 rfl ?_
                refine hr_iadd (v := (((nI 6) * (bs_row z v)) + (bs_col z v))) (q := 108) X dX2_beside_107 rfl rfl ?_
                refine hr_goto (tgt := 112) X dX2_beside_108 (by decide) ?_
                refine hr_st1 (v' := .int (nI (sp_beside z v))) (congrArg Value.int hbs.2) ?_
                exact hr_iret X hr dX2_beside_112 ⟨hz_i (by rw [sp_bes, if_neg (by omega), if_neg (by simpa using c86)]; exact (oI_of (by omega)).symm), rfl⟩
        · refine hr_iconst (v := (-1)) (q := 43) X dX2_beside_42 rfl rfl ?_
          refine hr_goto (tgt := 47) X dX2_beside_43 (by decide) ?_
          refine hr_iadd (v := ((nI (z % 6)) + (-1))) (q := 48) X dX2_beside_47 rfl rfl ?_
          refine hr_st1 (v' := .int (bs_col z v)) (congrArg Value.int (by rw [bs_col, if_neg c30, if_pos c39])) ?_
          refine hr_istore4 (q := 50) X dX2_beside_48 rfl rfl (Nat.le_of_ble_eq_true rfl) ?_
          refine hr_iload3 (q := 51) X dX2_beside_50 rfl ?_
          refine hr_i2l (v := ((bs_row z v).toInt64)) (q := 52) X dX2_beside_51 rfl rfl ?_
          refine hr_lconst (v := (lN 0)) (q := 53) X dX2_beside_52 rfl rfl ?_
          refine hr_ldc2 (q := 56) X dX2_beside_53 rfl q1134 ?_
          refine hr_callP (v := .int (bI (sp_fr (bs_row z v) (nI 0) (nI 5)))) (q := 59) (hc_S (n := 3) (As := [.long ((bs_row z v).toInt64), .long (lN 0), .long 5]) X dX2_beside_56 rfl (tc_in X.tr (x := bs_row z v) (b := 0) (z := 5) (by decide) (by decide)) q1135 cs_X0_in ⟨Nat.le_of_ble_eq_true rfl, Nat.le_of_ble_eq_true rfl⟩ rfl (Nat.le_of_ble_eq_true rfl)) rfl ?_
          refine hr_ifB_eq (q := 62) (tgt := 93) X dX2_beside_59 rfl (by decide) (fun c59 => ?_) (fun c59 => ?_)
          · refine hr_iconst (v := (nI 0)) (q := 94) X dX2_beside_93 rfl rfl ?_
            refine hr_istore5 (q := 96) X dX2_beside_94 rfl rfl (Nat.le_of_ble_eq_true rfl) ?_
            refine hr_iload5 (q := 98) X dX2_beside_96 rfl ?_
            refine hr_if_eq (q := 101) (tgt := 111) X dX2_beside_98 rfl (by decide) (fun _ => ?_) (fun z => absurd z (by decide))
            refine hr_iconst (v := (-1)) (q := 112) X dX2_beside_111 rfl rfl ?_
            exact hr_iret X hr dX2_beside_112 ⟨hz_i (by rw [sp_bes, if_pos (bs_2 hz hv (Or.inl c59))]; rfl), rfl⟩
          · refine hr_iload4 (q := 64) X dX2_beside_62 rfl ?_
            refine hr_i2l (v := ((bs_col z v).toInt64)) (q := 65) X dX2_beside_64 rfl rfl ?_
            refine hr_lconst (v := (lN 0)) (q := 66) X dX2_beside_65 rfl rfl ?_
            refine hr_ldc2 (q := 69) X dX2_beside_66 rfl q1134 ?_
            refine hr_callP (v := .int (bI (sp_fr (bs_col z v) (nI 0) (nI 5)))) (q := 72) (hc_S (n := 3) (As := [.long ((bs_col z v).toInt64), .long (lN 0), .long 5]) X dX2_beside_69 rfl (tc_in X.tr (x := bs_col z v) (b := 0) (z := 5) (by decide) (by decide)) q1135 cs_X0_in ⟨Nat.le_of_ble_eq_true rfl, Nat.le_of_ble_eq_true rfl⟩ rfl (Nat.le_of_ble_eq_true rfl)) rfl ?_
            refine hr_ifB_eq (q := 75) (tgt := 93) X dX2_beside_72 rfl (by decide) (fun c72 => ?_) (fun c72 => ?_)
            · refine hr_iconst (v := (nI 0)) (q := 94) X dX2_beside_93 rfl rfl ?_
              refine hr_istore5 (q := 96) X dX2_beside_94 rfl rfl (Nat.le_of_ble_eq_true rfl) ?_
              refine hr_iload5 (q := 98) X dX2_beside_96 rfl ?_
              refine hr_if_eq (q := 101) (tgt := 111) X dX2_beside_98 rfl (by decide) (fun _ => ?_) (fun z => absurd z (by decide))
              refine hr_iconst (v := (-1)) (q := 112) X dX2_beside_111 rfl rfl ?_
              exact hr_iret X hr dX2_beside_112 ⟨hz_i (by rw [sp_bes, if_pos (bs_2 hz hv (Or.inr c72))]; rfl), rfl⟩
            · refine hr_aload0 (q := 76) X dX2_beside_75 rfl ?_
              refine hr_bipush (v := (nI 6)) (q := 78) X dX2_beside_76 rfl rfl ?_
              refine hr_iload3 (q := 79) X dX2_beside_78 rfl ?_
              refine hr_imul (v := ((nI 6) * (bs_row z v))) (q := 80) X dX2_beside_79 rfl rfl ?_
              refine hr_iload4 (q := 82) X dX2_beside_80 rfl ?_
              refine hr_iadd (v := (((nI 6) * (bs_row z v)) + (bs_col z v))) (q := 83) X dX2_beside_82 rfl rfl ?_
              have hbs := bs_1 hz hv c59 c72
              have hbl := hbs.1
              refine hr_st1 (v' := .int (nI (sp_beside z v))) (congrArg Value.int hbs.2) ?_
              refine hr_callP (q := 86) (hc_V (n := 1) (ci := 2) (As := [.int (nI (sp_beside z v))]) X dX2_beside_83 rfl (tn_isFreeN X.tr hT hw (z := sp_beside z v) (by omega)) q1136 cv_X2_isFree ⟨Nat.le_of_ble_eq_true rfl, Nat.le_of_ble_eq_true rfl⟩ rfl (Nat.le_of_ble_eq_true rfl) hT.ob rfl rfl) rfl ?_
              refine hr_ifB_eq (q := 89) (tgt := 93) X dX2_beside_86 rfl (by decide) (fun c86 => ?_) (fun c86 => ?_)
              · refine hr_iconst (v := (nI 0)) (q := 94) X dX2_beside_93 rfl rfl ?_
                refine hr_istore5 (q := 96) X dX2_beside_94 rfl rfl (Nat.le_of_ble_eq_true rfl) ?_
                refine hr_iload5 (q := 98) X dX2_beside_96 rfl ?_
                refine hr_if_eq (q := 101) (tgt := 111) X dX2_beside_98 rfl (by decide) (fun _ => ?_) (fun z => absurd z (by decide))
                refine hr_iconst (v := (-1)) (q := 112) X dX2_beside_111 rfl rfl ?_
                exact hr_iret X hr dX2_beside_112 ⟨hz_i (by rw [sp_bes, if_neg (by omega), if_pos (by simpa using c86)]; rfl), rfl⟩
              · refine hr_iconst (v := (nI 1)) (q := 90) X dX2_beside_89 rfl rfl ?_
                refine hr_goto (tgt := 94) X dX2_beside_90 (by decide) ?_
                refine hr_istore5 (q := 96) X dX2_beside_94 rfl rfl (Nat.le_of_ble_eq_true rfl) ?_
                refine hr_iload5 (q := 98) X dX2_beside_96 rfl ?_
                refine hr_if_eq (q := 101) (tgt := 111) X dX2_beside_98 rfl (by decide) (fun z => absurd z (by decide)) (fun _ => ?_)
                refine hr_bipush (v := (nI 6)) (q := 103) X dX2_beside_101 rfl rfl ?_
                refine hr_iload3 (q := 104) X dX2_beside_103 rfl ?_
                refine hr_imul (v := ((nI 6) * (bs_row z v))) (q := 105) X dX2_beside_104 rfl rfl ?_
                refine hr_iload4 (q := 107) X dX2_beside_105 rfl ?_
                refine hr_iadd (v := (((nI 6) * (bs_row z v)) + (bs_col z v))) (q := 108) X dX2_beside_107 rfl rfl ?_
                refine hr_goto (tgt := 112) X dX2_beside_108 (by decide) ?_
                refine hr_st1 (v' := .int (nI (sp_beside z v))) (congrArg Value.int hbs.2) ?_
                exact hr_iret X hr dX2_beside_112 ⟨hz_i (by rw [sp_bes, if_neg (by omega), if_neg (by simpa using c86)]; exact (oI_of (by omega)).symm), rfl⟩
      · refine hr_iconst (v := (nI 1)) (q := 34) X dX2_beside_33 rfl rfl ?_
        refine hr_goto (tgt := 47) X dX2_beside_34 (by decide) ?_
        refine hr_iadd (v := (nI (z % 6 + 1))) (q := 48) X dX2_beside_47 rfl (nI_add _ _) ?_
        refine hr_st1 (v' := .int (bs_col z v)) (congrArg Value.int (by rw [bs_col, if_pos c30]; exact (nI_add _ _).symm)) ?_
        refine hr_istore4 (q := 50) X dX2_beside_48 rfl rfl (Nat.le_of_ble_eq_true rfl) ?_
        refine hr_iload3 (q := 51) X dX2_beside_50 rfl ?_
        refine hr_i2l (v := ((bs_row z v).toInt64)) (q := 52) X dX2_beside_51 rfl rfl ?_
        refine hr_lconst (v := (lN 0)) (q := 53) X dX2_beside_52 rfl rfl ?_
        refine hr_ldc2 (q := 56) X dX2_beside_53 rfl q1134 ?_
        refine hr_callP (v := .int (bI (sp_fr (bs_row z v) (nI 0) (nI 5)))) (q := 59) (hc_S (n := 3) (As := [.long ((bs_row z v).toInt64), .long (lN 0), .long 5]) X dX2_beside_56 rfl (tc_in X.tr (x := bs_row z v) (b := 0) (z := 5) (by decide) (by decide)) q1135 cs_X0_in ⟨Nat.le_of_ble_eq_true rfl, Nat.le_of_ble_eq_true rfl⟩ rfl (Nat.le_of_ble_eq_true rfl)) rfl ?_
        refine hr_ifB_eq (q := 62) (tgt := 93) X dX2_beside_59 rfl (by decide) (fun c59 => ?_) (fun c59 => ?_)
        · refine hr_iconst (v := (nI 0)) (q := 94) X dX2_beside_93 rfl rfl ?_
          refine hr_istore5 (q := 96) X dX2_beside_94 rfl rfl (Nat.le_of_ble_eq_true rfl) ?_
          refine hr_iload5 (q := 98) X dX2_beside_96 rfl ?_
          refine hr_if_eq (q := 101) (tgt := 111) X dX2_beside_98 rfl (by decide) (fun _ => ?_) (fun z => absurd z (by decide))
          refine hr_iconst (v := (-1)) (q := 112) X dX2_beside_111 rfl rfl ?_
          exact hr_iret X hr dX2_beside_112 ⟨hz_i (by rw [sp_bes, if_pos (bs_2 hz hv (Or.inl c59))]; rfl), rfl⟩
        · refine hr_iload4 (q := 64) X dX2_beside_62 rfl ?_
          refine hr_i2l (v := ((bs_col z v).toInt64)) (q := 65) X dX2_beside_64 rfl rfl ?_
          refine hr_lconst (v := (lN 0)) (q := 66) X dX2_beside_65 rfl rfl ?_
          refine hr_ldc2 (q := 69) X dX2_beside_66 rfl q1134 ?_
          refine hr_callP (v := .int (bI (sp_fr (bs_col z v) (nI 0) (nI 5)))) (q := 72) (hc_S (n := 3) (As := [.long ((bs_col z v).toInt64), .long (lN 0), .long 5]) X dX2_beside_69 rfl (tc_in X.tr (x := bs_col z v) (b := 0) (z := 5) (by decide) (by decide)) q1135 cs_X0_in ⟨Nat.le_of_ble_eq_true rfl, Nat.le_of_ble_eq_true rfl⟩ rfl (Nat.le_of_ble_eq_true rfl)) rfl ?_
          refine hr_ifB_eq (q := 75) (tgt := 93) X dX2_beside_72 rfl (by decide) (fun c72 => ?_) (fun c72 => ?_)
          · refine hr_iconst (v := (nI 0)) (q := 94) X dX2_beside_93 rfl rfl ?_
            refine hr_istore5 (q := 96) X dX2_beside_94 rfl rfl (Nat.le_of_ble_eq_true rfl) ?_
            refine hr_iload5 (q := 98) X dX2_beside_96 rfl ?_
            refine hr_if_eq (q := 101) (tgt := 111) X dX2_beside_98 rfl (by decide) (fun _ => ?_) (fun z => absurd z (by decide))
            refine hr_iconst (v := (-1)) (q := 112) X dX2_beside_111 rfl rfl ?_
            exact hr_iret X hr dX2_beside_112 ⟨hz_i (by rw [sp_bes, if_pos (bs_2 hz hv (Or.inr c72))]; rfl), rfl⟩
          · refine hr_aload0 (q := 76) X dX2_beside_75 rfl ?_
            refine hr_bipush (v := (nI 6)) (q := 78) X dX2_beside_76 rfl rfl ?_
            refine hr_iload3 (q := 79) X dX2_beside_78 rfl ?_
            refine hr_imul (v := ((nI 6) * (bs_row z v))) (q := 80) X dX2_beside_79 rfl rfl ?_
            refine hr_iload4 (q := 82) X dX2_beside_80 rfl ?_
            refine hr_iadd (v := (((nI 6) * (bs_row z v)) + (bs_col z v))) (q := 83) X dX2_beside_82 rfl rfl ?_
            have hbs := bs_1 hz hv c59 c72
            have hbl := hbs.1
            refine hr_st1 (v' := .int (nI (sp_beside z v))) (congrArg Value.int hbs.2) ?_
            refine hr_callP (q := 86) (hc_V (n := 1) (ci := 2) (As := [.int (nI (sp_beside z v))]) X dX2_beside_83 rfl (tn_isFreeN X.tr hT hw (z := sp_beside z v) (by omega)) q1136 cv_X2_isFree ⟨Nat.le_of_ble_eq_true rfl, Nat.le_of_ble_eq_true rfl⟩ rfl (Nat.le_of_ble_eq_true rfl) hT.ob rfl rfl) rfl ?_
            refine hr_ifB_eq (q := 89) (tgt := 93) X dX2_beside_86 rfl (by decide) (fun c86 => ?_) (fun c86 => ?_)
            · refine hr_iconst (v := (nI 0)) (q := 94) X dX2_beside_93 rfl rfl ?_
              refine hr_istore5 (q := 96) X dX2_beside_94 rfl rfl (Nat.le_of_ble_eq_true rfl) ?_
              refine hr_iload5 (q := 98) X dX2_beside_96 rfl ?_
              refine hr_if_eq (q := 101) (tgt := 111) X dX2_beside_98 rfl (by decide) (fun _ => ?_) (fun z => absurd z (by decide))
              refine hr_iconst (v := (-1)) (q := 112) X dX2_beside_111 rfl rfl ?_
              exact hr_iret X hr dX2_beside_112 ⟨hz_i (by rw [sp_bes, if_neg (by omega), if_pos (by simpa using c86)]; rfl), rfl⟩
            · refine hr_iconst (v := (nI 1)) (q := 90) X dX2_beside_89 rfl rfl ?_
              refine hr_goto (tgt := 94) X dX2_beside_90 (by decide) ?_
              refine hr_istore5 (q := 96) X dX2_beside_94 rfl rfl (Nat.le_of_ble_eq_true rfl) ?_
              refine hr_iload5 (q := 98) X dX2_beside_96 rfl ?_
              refine hr_if_eq (q := 101) (tgt := 111) X dX2_beside_98 rfl (by decide) (fun z => absurd z (by decide)) (fun _ => ?_)
              refine hr_bipush (v := (nI 6)) (q := 103) X dX2_beside_101 rfl rfl ?_
              refine hr_iload3 (q := 104) X dX2_beside_103 rfl ?_
              refine hr_imul (v := ((nI 6) * (bs_row z v))) (q := 105) X dX2_beside_104 rfl rfl ?_
              refine hr_iload4 (q := 107) X dX2_beside_105 rfl ?_
              refine hr_iadd (v := (((nI 6) * (bs_row z v)) + (bs_col z v))) (q := 108) X dX2_beside_107 rfl rfl ?_
              refine hr_goto (tgt := 112) X dX2_beside_108 (by decide) ?_
              refine hr_st1 (v' := .int (nI (sp_beside z v))) (congrArg Value.int hbs.2) ?_
              exact hr_iret X hr dX2_beside_112 ⟨hz_i (by rw [sp_bes, if_neg (by omega), if_neg (by simpa using c86)]; exact (oI_of (by omega)).symm), rfl⟩
    · refine hr_iconst (v := (nI 1)) (q := 18) X dX2_beside_17 rfl rfl ?_
      refine hr_goto (tgt := 22) X dX2_beside_18 (by decide) ?_
      refine hr_iadd (v := (nI (z / 6 + 1))) (q := 23) X dX2_beside_22 rfl (nI_add _ _) ?_
      refine hr_st1 (v' := .int (bs_row z v)) (congrArg Value.int (by rw [bs_row, if_neg (by omega), if_pos c14]; exact (nI_add _ _).symm)) ?_
      refine hr_istore3 (q := 24) X dX2_beside_23 rfl rfl (Nat.le_of_ble_eq_true rfl) ?_
      refine hr_iload1 (q := 25) X dX2_beside_24 rfl ?_
      refine hr_bipush (v := (nI 6)) (q := 27) X dX2_beside_25 rfl rfl ?_
      refine hr_irem (v := (nI (z % 6))) (q := 28) X dX2_beside_27 rfl (by decide) (pk_rem (by omega) (by decide) (by decide)) ?_
      refine hr_iload2 (q := 29) X dX2_beside_28 rfl ?_
      refine hr_iconst (v := (nI 1)) (q := 30) X dX2_beside_29 rfl rfl ?_
      refine hr_icmpN_ne (q := 33) (tgt := 37) X dX2_beside_30 rfl (by decide) (by omega) (by omega) (fun c30 => ?_) (fun c30 => ?_)
      · refine hr_iload2 (q := 38) X dX2_beside_37 rfl ?_
        refine hr_iconst (v := (nI 3)) (q := 39) X dX2_beside_38 rfl rfl ?_
        refine hr_icmpN_ne (q := 42) (tgt := 46) X dX2_beside_39 rfl (by decide) (by omega) (by omega) (fun c39 => ?_) (fun c39 => ?_)
        · refine hr_iconst (v := (nI 0)) (q := 47) X dX2_beside_46 rfl rfl ?_
          refine hr_iadd (v := (nI (z % 6 + 0))) (q := 48) X dX2_beside_47 rfl (nI_add _ _) ?_
          refine hr_st1 (v' := .int (bs_col z v)) (congrArg Value.int (by rw [bs_col, if_neg c30, if_neg c39]; exact (nI_add _ _).symm)) ?_
          refine hr_istore4 (q := 50) X dX2_beside_48 rfl rfl (Nat.le_of_ble_eq_true rfl) ?_
          refine hr_iload3 (q := 51) X dX2_beside_50 rfl ?_
          refine hr_i2l (v := ((bs_row z v).toInt64)) (q := 52) X dX2_beside_51 rfl rfl ?_
          refine hr_lconst (v := (lN 0)) (q := 53) X dX2_beside_52 rfl rfl ?_
          refine hr_ldc2 (q := 56) X dX2_beside_53 rfl q1134 ?_
          refine hr_callP (v := .int (bI (sp_fr (bs_row z v) (nI 0) (nI 5)))) (q := 59) (hc_S (n := 3) (As := [.long ((bs_row z v).toInt64), .long (lN 0), .long 5]) X dX2_beside_56 rfl (tc_in X.tr (x := bs_row z v) (b := 0) (z := 5) (by decide) (by decide)) q1135 cs_X0_in ⟨Nat.le_of_ble_eq_true rfl, Nat.le_of_ble_eq_true rfl⟩ rfl (Nat.le_of_ble_eq_true rfl)) rfl ?_
          refine hr_ifB_eq (q := 62) (tgt := 93) X dX2_beside_59 rfl (by decide) (fun c59 => ?_) (fun c59 => ?_)
          · refine hr_iconst (v := (nI 0)) (q := 94) X dX2_beside_93 rfl rfl ?_
            refine hr_istore5 (q := 96) X dX2_beside_94 rfl rfl (Nat.le_of_ble_eq_true rfl) ?_
            refine hr_iload5 (q := 98) X dX2_beside_96 rfl ?_
            refine hr_if_eq (q := 101) (tgt := 111) X dX2_beside_98 rfl (by decide) (fun _ => ?_) (fun z => absurd z (by decide))
            refine hr_iconst (v := (-1)) (q := 112) X dX2_beside_111 rfl rfl ?_
            exact hr_iret X hr dX2_beside_112 ⟨hz_i (by rw [sp_bes, if_pos (bs_2 hz hv (Or.inl c59))]; rfl), rfl⟩
          · refine hr_iload4 (q := 64) X dX2_beside_62 rfl ?_
            refine hr_i2l (v := ((bs_col z v).toInt64)) (q := 65) X dX2_beside_64 rfl rfl ?_
            refine hr_lconst (v := (lN 0)) (q := 66) X dX2_beside_65 rfl rfl ?_
            refine hr_ldc2 (q := 69) X dX2_beside_66 rfl q1134 ?_
            refine hr_callP (v := .int (bI (sp_fr (bs_col z v) (nI 0) (nI 5)))) (q := 72) (hc_S (n := 3) (As := [.long ((bs_col z v).toInt64), .long (lN 0), .long 5]) X dX2_beside_69 rfl (tc_in X.tr (x := bs_col z v) (b := 0) (z := 5) (by decide) (by decide)) q1135 cs_X0_in ⟨Nat.le_of_ble_eq_true rfl, Nat.le_of_ble_eq_true rfl⟩ rfl (Nat.le_of_ble_eq_true rfl)) rfl ?_
            refine hr_ifB_eq (q := 75) (tgt := 93) X dX2_beside_72 rfl (by decide) (fun c72 => ?_) (fun c72 => ?_)
            · refine hr_iconst (v := (nI 0)) (q := 94) X dX2_beside_93 rfl rfl ?_
              refine hr_istore5 (q := 96) X dX2_beside_94 rfl rfl (Nat.le_of_ble_eq_true rfl) ?_
              refine hr_iload5 (q := 98) X dX2_beside_96 rfl ?_
              refine hr_if_eq (q := 101) (tgt := 111) X dX2_beside_98 rfl (by decide) (fun _ => ?_) (fun z => absurd z (by decide))
              refine hr_iconst (v := (-1)) (q := 112) X dX2_beside_111 rfl rfl ?_
              exact hr_iret X hr dX2_beside_112 ⟨hz_i (by rw [sp_bes, if_pos (bs_2 hz hv (Or.inr c72))]; rfl), rfl⟩
            · refine hr_aload0 (q := 76) X dX2_beside_75 rfl ?_
              refine hr_bipush (v := (nI 6)) (q := 78) X dX2_beside_76 rfl rfl ?_
              refine hr_iload3 (q := 79) X dX2_beside_78 rfl ?_
              refine hr_imul (v := ((nI 6) * (bs_row z v))) (q := 80) X dX2_beside_79 rfl rfl ?_
              refine hr_iload4 (q := 82) X dX2_beside_80 rfl ?_
              refine hr_iadd (v := (((nI 6) * (bs_row z v)) + (bs_col z v))) (q := 83) X dX2_beside_82 rfl rfl ?_
              have hbs := bs_1 hz hv c59 c72
              have hbl := hbs.1
              refine hr_st1 (v' := .int (nI (sp_beside z v))) (congrArg Value.int hbs.2) ?_
              refine hr_callP (q := 86) (hc_V (n := 1) (ci := 2) (As := [.int (nI (sp_beside z v))]) X dX2_beside_83 rfl (tn_isFreeN X.tr hT hw (z := sp_beside z v) (by omega)) q1136 cv_X2_isFree ⟨Nat.le_of_ble_eq_true rfl, Nat.le_of_ble_eq_true rfl⟩ rfl (Nat.le_of_ble_eq_true rfl) hT.ob rfl rfl) rfl ?_
              refine hr_ifB_eq (q := 89) (tgt := 93) X dX2_beside_86 rfl (by decide) (fun c86 => ?_) (fun c86 => ?_)
              · refine hr_iconst (v := (nI 0)) (q := 94) X dX2_beside_93 rfl rfl ?_
                refine hr_istore5 (q := 96) X dX2_beside_94 rfl rfl (Nat.le_of_ble_eq_true rfl) ?_
                refine hr_iload5 (q := 98) X dX2_beside_96 rfl ?_
                refine hr_if_eq (q := 101) (tgt := 111) X dX2_beside_98 rfl (by decide) (fun _ => ?_) (fun z => absurd z (by decide))
                refine hr_iconst (v := (-1)) (q := 112) X dX2_beside_111 rfl rfl ?_
                exact hr_iret X hr dX2_beside_112 ⟨hz_i (by rw [sp_bes, if_neg (by omega), if_pos (by simpa using c86)]; rfl), rfl⟩
              · refine hr_iconst (v := (nI 1)) (q := 90) X dX2_beside_89 rfl rfl ?_
                refine hr_goto (tgt := 94) X dX2_beside_90 (by decide) ?_
                refine hr_istore5 (q := 96) X dX2_beside_94 rfl rfl (Nat.le_of_ble_eq_true rfl) ?_
                refine hr_iload5 (q := 98) X dX2_beside_96 rfl ?_
                refine hr_if_eq (q := 101) (tgt := 111) X dX2_beside_98 rfl (by decide) (fun z => absurd z (by decide)) (fun _ => ?_)
                refine hr_bipush (v := (nI 6)) (q := 103) X dX2_beside_101 rfl rfl ?_
                refine hr_iload3 (q := 104) X dX2_beside_103 rfl ?_
                refine hr_imul (v := ((nI 6) * (bs_row z v))) (q := 105) X dX2_beside_104 rfl rfl ?_
                refine hr_iload4 (q := 107) X dX2_beside_105 rfl ?_
                refine hr_iadd (v := (((nI 6) * (bs_row z v)) + (bs_col z v))) (q := 108) X dX2_beside_107 rfl rfl ?_
                refine hr_goto (tgt := 112) X dX2_beside_108 (by decide) ?_
                refine hr_st1 (v' := .int (nI (sp_beside z v))) (congrArg Value.int hbs.2) ?_
                exact hr_iret X hr dX2_beside_112 ⟨hz_i (by rw [sp_bes, if_neg (by omega), if_neg (by simpa using c86)]; exact (oI_of (by omega)).symm), rfl⟩
        · refine hr_iconst (v := (-1)) (q := 43) X dX2_beside_42 rfl rfl ?_
          refine hr_goto (tgt := 47) X dX2_beside_43 (by decide) ?_
          refine hr_iadd (v := ((nI (z % 6)) + (-1))) (q := 48) X dX2_beside_47 rfl rfl ?_
          refine hr_st1 (v' := .int (bs_col z v)) (congrArg Value.int (by rw [bs_col, if_neg c30, if_pos c39])) ?_
          refine hr_istore4 (q := 50) X dX2_beside_48 rfl rfl (Nat.le_of_ble_eq_true rfl) ?_
          refine hr_iload3 (q := 51) X dX2_beside_50 rfl ?_
          refine hr_i2l (v := ((bs_row z v).toInt64)) (q := 52) X dX2_beside_51 rfl rfl ?_
          refine hr_lconst (v := (lN 0)) (q := 53) X dX2_beside_52 rfl rfl ?_
          refine hr_ldc2 (q := 56) X dX2_beside_53 rfl q1134 ?_
          refine hr_callP (v := .int (bI (sp_fr (bs_row z v) (nI 0) (nI 5)))) (q := 59) (hc_S (n := 3) (As := [.long ((bs_row z v).toInt64), .long (lN 0), .long 5]) X dX2_beside_56 rfl (tc_in X.tr (x := bs_row z v) (b := 0) (z := 5) (by decide) (by decide)) q1135 cs_X0_in ⟨Nat.le_of_ble_eq_true rfl, Nat.le_of_ble_eq_true rfl⟩ rfl (Nat.le_of_ble_eq_true rfl)) rfl ?_
          refine hr_ifB_eq (q := 62) (tgt := 93) X dX2_beside_59 rfl (by decide) (fun c59 => ?_) (fun c59 => ?_)
          · refine hr_iconst (v := (nI 0)) (q := 94) X dX2_beside_93 rfl rfl ?_
            refine hr_istore5 (q := 96) X dX2_beside_94 rfl rfl (Nat.le_of_ble_eq_true rfl) ?_
            refine hr_iload5 (q := 98) X dX2_beside_96 rfl ?_
            refine hr_if_eq (q := 101) (tgt := 111) X dX2_beside_98 rfl (by decide) (fun _ => ?_) (fun z => absurd z (by decide))
            refine hr_iconst (v := (-1)) (q := 112) X dX2_beside_111 rfl rfl ?_
            exact hr_iret X hr dX2_beside_112 ⟨hz_i (by rw [sp_bes, if_pos (bs_2 hz hv (Or.inl c59))]; rfl), rfl⟩
          · refine hr_iload4 (q := 64) X dX2_beside_62 rfl ?_
            refine hr_i2l (v := ((bs_col z v).toInt64)) (q := 65) X dX2_beside_64 rfl rfl ?_
            refine hr_lconst (v := (lN 0)) (q := 66) X dX2_beside_65 rfl rfl ?_
            refine hr_ldc2 (q := 69) X dX2_beside_66 rfl q1134 ?_
            refine hr_callP (v := .int (bI (sp_fr (bs_col z v) (nI 0) (nI 5)))) (q := 72) (hc_S (n := 3) (As := [.long ((bs_col z v).toInt64), .long (lN 0), .long 5]) X dX2_beside_69 rfl (tc_in X.tr (x := bs_col z v) (b := 0) (z := 5) (by decide) (by decide)) q1135 cs_X0_in ⟨Nat.le_of_ble_eq_true rfl, Nat.le_of_ble_eq_true rfl⟩ rfl (Nat.le_of_ble_eq_true rfl)) rfl ?_
            refine hr_ifB_eq (q := 75) (tgt := 93) X dX2_beside_72 rfl (by decide) (fun c72 => ?_) (fun c72 => ?_)
            · refine hr_iconst (v := (nI 0)) (q := 94) X dX2_beside_93 rfl rfl ?_
              refine hr_istore5 (q := 96) X dX2_beside_94 rfl rfl (Nat.le_of_ble_eq_true rfl) ?_
              refine hr_iload5 (q := 98) X dX2_beside_96 rfl ?_
              refine hr_if_eq (q := 101) (tgt := 111) X dX2_beside_98 rfl (by decide) (fun _ => ?_) (fun z => absurd z (by decide))
              refine hr_iconst (v := (-1)) (q := 112) X dX2_beside_111 rfl rfl ?_
              exact hr_iret X hr dX2_beside_112 ⟨hz_i (by rw [sp_bes, if_pos (bs_2 hz hv (Or.inr c72))]; rfl), rfl⟩
            · refine hr_aload0 (q := 76) X dX2_beside_75 rfl ?_
              refine hr_bipush (v := (nI 6)) (q := 78) X dX2_beside_76 rfl rfl ?_
              refine hr_iload3 (q := 79) X dX2_beside_78 rfl ?_
              refine hr_imul (v := ((nI 6) * (bs_row z v))) (q := 80) X dX2_beside_79 rfl rfl ?_
              refine hr_iload4 (q := 82) X dX2_beside_80 rfl ?_
              refine hr_iadd (v := (((nI 6) * (bs_row z v)) + (bs_col z v))) (q := 83) X dX2_beside_82 rfl rfl ?_
              have hbs := bs_1 hz hv c59 c72
              have hbl := hbs.1
              refine hr_st1 (v' := .int (nI (sp_beside z v))) (congrArg Value.int hbs.2) ?_
              refine hr_callP (q := 86) (hc_V (n := 1) (ci := 2) (As := [.int (nI (sp_beside z v))]) X dX2_beside_83 rfl (tn_isFreeN X.tr hT hw (z := sp_beside z v) (by omega)) q1136 cv_X2_isFree ⟨Nat.le_of_ble_eq_true rfl, Nat.le_of_ble_eq_true rfl⟩ rfl (Nat.le_of_ble_eq_true rfl) hT.ob rfl rfl) rfl ?_
              refine hr_ifB_eq (q := 89) (tgt := 93) X dX2_beside_86 rfl (by decide) (fun c86 => ?_) (fun c86 => ?_)
              · refine hr_iconst (v := (nI 0)) (q := 94) X dX2_beside_93 rfl rfl ?_
                refine hr_istore5 (q := 96) X dX2_beside_94 rfl rfl (Nat.le_of_ble_eq_true rfl) ?_
                refine hr_iload5 (q := 98) X dX2_beside_96 rfl ?_
                refine hr_if_eq (q := 101) (tgt := 111) X dX2_beside_98 rfl (by decide) (fun _ => ?_) (fun z => absurd z (by decide))
                refine hr_iconst (v := (-1)) (q := 112) X dX2_beside_111 rfl rfl ?_
                exact hr_iret X hr dX2_beside_112 ⟨hz_i (by rw [sp_bes, if_neg (by omega), if_pos (by simpa using c86)]; rfl), rfl⟩
              · refine hr_iconst (v := (nI 1)) (q := 90) X dX2_beside_89 rfl rfl ?_
                refine hr_goto (tgt := 94) X dX2_beside_90 (by decide) ?_
                refine hr_istore5 (q := 96) X dX2_beside_94 rfl rfl (Nat.le_of_ble_eq_true rfl) ?_
                refine hr_iload5 (q := 98) X dX2_beside_96 rfl ?_
                refine hr_if_eq (q := 101) (tgt := 111) X dX2_beside_98 rfl (by decide) (fun z => absurd z (by decide)) (fun _ => ?_)
                refine hr_bipush (v := (nI 6)) (q := 103) X dX2_beside_101 rfl rfl ?_
                refine hr_iload3 (q := 104) X dX2_beside_103 rfl ?_
                refine hr_imul (v := ((nI 6) * (bs_row z v))) (q := 105) X dX2_beside_104 rfl rfl ?_
                refine hr_iload4 (q := 107) X dX2_beside_105 rfl ?_
                refine hr_iadd (v := (((nI 6) * (bs_row z v)) + (bs_col z v))) (q := 108) X dX2_beside_107 rfl rfl ?_
                refine hr_goto (tgt := 112) X dX2_beside_108 (by decide) ?_
                refine hr_st1 (v' := .int (nI (sp_beside z v))) (congrArg Value.int hbs.2) ?_
                exact hr_iret X hr dX2_beside_112 ⟨hz_i (by rw [sp_bes, if_neg (by omega), if_neg (by simpa using c86)]; exact (oI_of (by omega)).symm), rfl⟩
      · refine hr_iconst (v := (nI 1)) (q := 34) X dX2_beside_33 rfl rfl ?_
        refine hr_goto (tgt := 47) X dX2_beside_34 (by decide) ?_
        refine hr_iadd (v := (nI (z % 6 + 1))) (q := 48) X dX2_beside_47 rfl (nI_add _ _) ?_
        refine hr_st1 (v' := .int (bs_col z v)) (congrArg Value.int (by rw [bs_col, if_pos c30]; exact (nI_add _ _).symm)) ?_
        refine hr_istore4 (q := 50) X dX2_beside_48 rfl rfl (Nat.le_of_ble_eq_true rfl) ?_
        refine hr_iload3 (q := 51) X dX2_beside_50 rfl ?_
        refine hr_i2l (v := ((bs_row z v).toInt64)) (q := 52) X dX2_beside_51 rfl rfl ?_
        refine hr_lconst (v := (lN 0)) (q := 53) X dX2_beside_52 rfl rfl ?_
        refine hr_ldc2 (q := 56) X dX2_beside_53 rfl q1134 ?_
        refine hr_callP (v := .int (bI (sp_fr (bs_row z v) (nI 0) (nI 5)))) (q := 59) (hc_S (n := 3) (As := [.long ((bs_row z v).toInt64), .long (lN 0), .long 5]) X dX2_beside_56 rfl (tc_in X.tr (x := bs_row z v) (b := 0) (z := 5) (by decide) (by decide)) q1135 cs_X0_in ⟨Nat.le_of_ble_eq_true rfl, Nat.le_of_ble_eq_true rfl⟩ rfl (Nat.le_of_ble_eq_true rfl)) rfl ?_
        refine hr_ifB_eq (q := 62) (tgt := 93) X dX2_beside_59 rfl (by decide) (fun c59 => ?_) (fun c59 => ?_)
        · refine hr_iconst (v := (nI 0)) (q := 94) X dX2_beside_93 rfl rfl ?_
          refine hr_istore5 (q := 96) X dX2_beside_94 rfl rfl (Nat.le_of_ble_eq_true rfl) ?_
          refine hr_iload5 (q := 98) X dX2_beside_96 rfl ?_
          refine hr_if_eq (q := 101) (tgt := 111) X dX2_beside_98 rfl (by decide) (fun _ => ?_) (fun z => absurd z (by decide))
          refine hr_iconst (v := (-1)) (q := 112) X dX2_beside_111 rfl rfl ?_
          exact hr_iret X hr dX2_beside_112 ⟨hz_i (by rw [sp_bes, if_pos (bs_2 hz hv (Or.inl c59))]; rfl), rfl⟩
        · refine hr_iload4 (q := 64) X dX2_beside_62 rfl ?_
          refine hr_i2l (v := ((bs_col z v).toInt64)) (q := 65) X dX2_beside_64 rfl rfl ?_
          refine hr_lconst (v := (lN 0)) (q := 66) X dX2_beside_65 rfl rfl ?_
          refine hr_ldc2 (q := 69) X dX2_beside_66 rfl q1134 ?_
          refine hr_callP (v := .int (bI (sp_fr (bs_col z v) (nI 0) (nI 5)))) (q := 72) (hc_S (n := 3) (As := [.long ((bs_col z v).toInt64), .long (lN 0), .long 5]) X dX2_beside_69 rfl (tc_in X.tr (x := bs_col z v) (b := 0) (z := 5) (by decide) (by decide)) q1135 cs_X0_in ⟨Nat.le_of_ble_eq_true rfl, Nat.le_of_ble_eq_true rfl⟩ rfl (Nat.le_of_ble_eq_true rfl)) rfl ?_
          refine hr_ifB_eq (q := 75) (tgt := 93) X dX2_beside_72 rfl (by decide) (fun c72 => ?_) (fun c72 => ?_)
          · refine hr_iconst (v := (nI 0)) (q := 94) X dX2_beside_93 rfl rfl ?_
            refine hr_istore5 (q := 96) X dX2_beside_94 rfl rfl (Nat.le_of_ble_eq_true rfl) ?_
            refine hr_iload5 (q := 98) X dX2_beside_96 rfl ?_
            refine hr_if_eq (q := 101) (tgt := 111) X dX2_beside_98 rfl (by decide) (fun _ => ?_) (fun z => absurd z (by decide))
            refine hr_iconst (v := (-1)) (q := 112) X dX2_beside_111 rfl rfl ?_
            exact hr_iret X hr dX2_beside_112 ⟨hz_i (by rw [sp_bes, if_pos (bs_2 hz hv (Or.inr c72))]; rfl), rfl⟩
          · refine hr_aload0 (q := 76) X dX2_beside_75 rfl ?_
            refine hr_bipush (v := (nI 6)) (q := 78) X dX2_beside_76 rfl rfl ?_
            refine hr_iload3 (q := 79) X dX2_beside_78 rfl ?_
            refine hr_imul (v := ((nI 6) * (bs_row z v))) (q := 80) X dX2_beside_79 rfl rfl ?_
            refine hr_iload4 (q := 82) X dX2_beside_80 rfl ?_
            refine hr_iadd (v := (((nI 6) * (bs_row z v)) + (bs_col z v))) (q := 83) X dX2_beside_82 rfl rfl ?_
            have hbs := bs_1 hz hv c59 c72
            have hbl := hbs.1
            refine hr_st1 (v' := .int (nI (sp_beside z v))) (congrArg Value.int hbs.2) ?_
            refine hr_callP (q := 86) (hc_V (n := 1) (ci := 2) (As := [.int (nI (sp_beside z v))]) X dX2_beside_83 rfl (tn_isFreeN X.tr hT hw (z := sp_beside z v) (by omega)) q1136 cv_X2_isFree ⟨Nat.le_of_ble_eq_true rfl, Nat.le_of_ble_eq_true rfl⟩ rfl (Nat.le_of_ble_eq_true rfl) hT.ob rfl rfl) rfl ?_
            refine hr_ifB_eq (q := 89) (tgt := 93) X dX2_beside_86 rfl (by decide) (fun c86 => ?_) (fun c86 => ?_)
            · refine hr_iconst (v := (nI 0)) (q := 94) X dX2_beside_93 rfl rfl ?_
              refine hr_istore5 (q := 96) X dX2_beside_94 rfl rfl (Nat.le_of_ble_eq_true rfl) ?_
              refine hr_iload5 (q := 98) X dX2_beside_96 rfl ?_
              refine hr_if_eq (q := 101) (tgt := 111) X dX2_beside_98 rfl (by decide) (fun _ => ?_) (fun z => absurd z (by decide))
              refine hr_iconst (v := (-1)) (q := 112) X dX2_beside_111 rfl rfl ?_
              exact hr_iret X hr dX2_beside_112 ⟨hz_i (by rw [sp_bes, if_neg (by omega), if_pos (by simpa using c86)]; rfl), rfl⟩
            · refine hr_iconst (v := (nI 1)) (q := 90) X dX2_beside_89 rfl rfl ?_
              refine hr_goto (tgt := 94) X dX2_beside_90 (by decide) ?_
              refine hr_istore5 (q := 96) X dX2_beside_94 rfl rfl (Nat.le_of_ble_eq_true rfl) ?_
              refine hr_iload5 (q := 98) X dX2_beside_96 rfl ?_
              refine hr_if_eq (q := 101) (tgt := 111) X dX2_beside_98 rfl (by decide) (fun z => absurd z (by decide)) (fun _ => ?_)
              refine hr_bipush (v := (nI 6)) (q := 103) X dX2_beside_101 rfl rfl ?_
              refine hr_iload3 (q := 104) X dX2_beside_103 rfl ?_
              refine hr_imul (v := ((nI 6) * (bs_row z v))) (q := 105) X dX2_beside_104 rfl rfl ?_
              refine hr_iload4 (q := 107) X dX2_beside_105 rfl ?_
              refine hr_iadd (v := (((nI 6) * (bs_row z v)) + (bs_col z v))) (q := 108) X dX2_beside_107 rfl rfl ?_
              refine hr_goto (tgt := 112) X dX2_beside_108 (by decide) ?_
              refine hr_st1 (v' := .int (nI (sp_beside z v))) (congrArg Value.int hbs.2) ?_
              exact hr_iret X hr dX2_beside_112 ⟨hz_i (by rw [sp_bes, if_neg (by omega), if_neg (by simpa using c86)]; exact (oI_of (by omega)).symm), rfl⟩
  · refine hr_iconst (v := (-1)) (q := 9) X dX2_beside_8 rfl rfl ?_
    refine hr_goto (tgt := 22) X dX2_beside_9 (by decide) ?_
    refine hr_iadd (v := ((nI (z / 6)) + (-1))) (q := 23) X dX2_beside_22 rfl rfl ?_
    refine hr_st1 (v' := .int (bs_row z v)) (congrArg Value.int (by rw [bs_row, if_pos c5])) ?_
    refine hr_istore3 (q := 24) X dX2_beside_23 rfl rfl (Nat.le_of_ble_eq_true rfl) ?_
    refine hr_iload1 (q := 25) X dX2_beside_24 rfl ?_
    refine hr_bipush (v := (nI 6)) (q := 27) X dX2_beside_25 rfl rfl ?_
    refine hr_irem (v := (nI (z % 6))) (q := 28) X dX2_beside_27 rfl (by decide) (pk_rem (by omega) (by decide) (by decide)) ?_
    refine hr_iload2 (q := 29) X dX2_beside_28 rfl ?_
    refine hr_iconst (v := (nI 1)) (q := 30) X dX2_beside_29 rfl rfl ?_
    refine hr_icmpN_ne (q := 33) (tgt := 37) X dX2_beside_30 rfl (by decide) (by omega) (by omega) (fun c30 => ?_) (fun c30 => ?_)
    · refine hr_iload2 (q := 38) X dX2_beside_37 rfl ?_
      refine hr_iconst (v := (nI 3)) (q := 39) X dX2_beside_38 rfl rfl ?_
      refine hr_icmpN_ne (q := 42) (tgt := 46) X dX2_beside_39 rfl (by decide) (by omega) (by omega) (fun c39 => ?_) (fun c39 => ?_)
      · refine hr_iconst (v := (nI 0)) (q := 47) X dX2_beside_46 rfl rfl ?_
        refine hr_iadd (v := (nI (z % 6 + 0))) (q := 48) X dX2_beside_47 rfl (nI_add _ _) ?_
        refine hr_st1 (v' := .int (bs_col z v)) (congrArg Value.int (by rw [bs_col, if_neg c30, if_neg c39]; exact (nI_add _ _).symm)) ?_
        refine hr_istore4 (q := 50) X dX2_beside_48 rfl rfl (Nat.le_of_ble_eq_true rfl) ?_
        refine hr_iload3 (q := 51) X dX2_beside_50 rfl ?_
        refine hr_i2l (v := ((bs_row z v).toInt64)) (q := 52) X dX2_beside_51 rfl rfl ?_
        refine hr_lconst (v := (lN 0)) (q := 53) X dX2_beside_52 rfl rfl ?_
        refine hr_ldc2 (q := 56) X dX2_beside_53 rfl q1134 ?_
        refine hr_callP (v := .int (bI (sp_fr (bs_row z v) (nI 0) (nI 5)))) (q := 59) (hc_S (n := 3) (As := [.long ((bs_row z v).toInt64), .long (lN 0), .long 5]) X dX2_beside_56 rfl (tc_in X.tr (x := bs_row z v) (b := 0) (z := 5) (by decide) (by decide)) q1135 cs_X0_in ⟨Nat.le_of_ble_eq_true rfl, Nat.le_of_ble_eq_true rfl⟩ rfl (Nat.le_of_ble_eq_true rfl)) rfl ?_
        refine hr_ifB_eq (q := 62) (tgt := 93) X dX2_beside_59 rfl (by decide) (fun c59 => ?_) (fun c59 => ?_)
        · refine hr_iconst (v := (nI 0)) (q := 94) X dX2_beside_93 rfl rfl ?_
          refine hr_istore5 (q := 96) X dX2_beside_94 rfl rfl (Nat.le_of_ble_eq_true rfl) ?_
          refine hr_iload5 (q := 98) X dX2_beside_96 rfl ?_
          refine hr_if_eq (q := 101) (tgt := 111) X dX2_beside_98 rfl (by decide) (fun _ => ?_) (fun z => absurd z (by decide))
          refine hr_iconst (v := (-1)) (q := 112) X dX2_beside_111 rfl rfl ?_
          exact hr_iret X hr dX2_beside_112 ⟨hz_i (by rw [sp_bes, if_pos (bs_2 hz hv (Or.inl c59))]; rfl), rfl⟩
        · refine hr_iload4 (q := 64) X dX2_beside_62 rfl ?_
          refine hr_i2l (v := ((bs_col z v).toInt64)) (q := 65) X dX2_beside_64 rfl rfl ?_
          refine hr_lconst (v := (lN 0)) (q := 66) X dX2_beside_65 rfl rfl ?_
          refine hr_ldc2 (q := 69) X dX2_beside_66 rfl q1134 ?_
          refine hr_callP (v := .int (bI (sp_fr (bs_col z v) (nI 0) (nI 5)))) (q := 72) (hc_S (n := 3) (As := [.long ((bs_col z v).toInt64), .long (lN 0), .long 5]) X dX2_beside_69 rfl (tc_in X.tr (x := bs_col z v) (b := 0) (z := 5) (by decide) (by decide)) q1135 cs_X0_in ⟨Nat.le_of_ble_eq_true rfl, Nat.le_of_ble_eq_true rfl⟩ rfl (Nat.le_of_ble_eq_true rfl)) rfl ?_
          refine hr_ifB_eq (q := 75) (tgt := 93) X dX2_beside_72 rfl (by decide) (fun c72 => ?_) (fun c72 => ?_)
          · refine hr_iconst (v := (nI 0)) (q := 94) X dX2_beside_93 rfl rfl ?_
            refine hr_istore5 (q := 96) X dX2_beside_94 rfl rfl (Nat.le_of_ble_eq_true rfl) ?_
            refine hr_iload5 (q := 98) X dX2_beside_96 rfl ?_
            refine hr_if_eq (q := 101) (tgt := 111) X dX2_beside_98 rfl (by decide) (fun _ => ?_) (fun z => absurd z (by decide))
            refine hr_iconst (v := (-1)) (q := 112) X dX2_beside_111 rfl rfl ?_
            exact hr_iret X hr dX2_beside_112 ⟨hz_i (by rw [sp_bes, if_pos (bs_2 hz hv (Or.inr c72))]; rfl), rfl⟩
          · refine hr_aload0 (q := 76) X dX2_beside_75 rfl ?_
            refine hr_bipush (v := (nI 6)) (q := 78) X dX2_beside_76 rfl rfl ?_
            refine hr_iload3 (q := 79) X dX2_beside_78 rfl ?_
            refine hr_imul (v := ((nI 6) * (bs_row z v))) (q := 80) X dX2_beside_79 rfl rfl ?_
            refine hr_iload4 (q := 82) X dX2_beside_80 rfl ?_
            refine hr_iadd (v := (((nI 6) * (bs_row z v)) + (bs_col z v))) (q := 83) X dX2_beside_82 rfl rfl ?_
            have hbs := bs_1 hz hv c59 c72
            have hbl := hbs.1
            refine hr_st1 (v' := .int (nI (sp_beside z v))) (congrArg Value.int hbs.2) ?_
            refine hr_callP (q := 86) (hc_V (n := 1) (ci := 2) (As := [.int (nI (sp_beside z v))]) X dX2_beside_83 rfl (tn_isFreeN X.tr hT hw (z := sp_beside z v) (by omega)) q1136 cv_X2_isFree ⟨Nat.le_of_ble_eq_true rfl, Nat.le_of_ble_eq_true rfl⟩ rfl (Nat.le_of_ble_eq_true rfl) hT.ob rfl rfl) rfl ?_
            refine hr_ifB_eq (q := 89) (tgt := 93) X dX2_beside_86 rfl (by decide) (fun c86 => ?_) (fun c86 => ?_)
            · refine hr_iconst (v := (nI 0)) (q := 94) X dX2_beside_93 rfl rfl ?_
              refine hr_istore5 (q := 96) X dX2_beside_94 rfl rfl (Nat.le_of_ble_eq_true rfl) ?_
              refine hr_iload5 (q := 98) X dX2_beside_96 rfl ?_
              refine hr_if_eq (q := 101) (tgt := 111) X dX2_beside_98 rfl (by decide) (fun _ => ?_) (fun z => absurd z (by decide))
              refine hr_iconst (v := (-1)) (q := 112) X dX2_beside_111 rfl rfl ?_
              exact hr_iret X hr dX2_beside_112 ⟨hz_i (by rw [sp_bes, if_neg (by omega), if_pos (by simpa using c86)]; rfl), rfl⟩
            · refine hr_iconst (v := (nI 1)) (q := 90) X dX2_beside_89 rfl rfl ?_
              refine hr_goto (tgt := 94) X dX2_beside_90 (by decide) ?_
              refine hr_istore5 (q := 96) X dX2_beside_94 rfl rfl (Nat.le_of_ble_eq_true rfl) ?_
              refine hr_iload5 (q := 98) X dX2_beside_96 rfl ?_
              refine hr_if_eq (q := 101) (tgt := 111) X dX2_beside_98 rfl (by decide) (fun z => absurd z (by decide)) (fun _ => ?_)
              refine hr_bipush (v := (nI 6)) (q := 103) X dX2_beside_101 rfl rfl ?_
              refine hr_iload3 (q := 104) X dX2_beside_103 rfl ?_
              refine hr_imul (v := ((nI 6) * (bs_row z v))) (q := 105) X dX2_beside_104 rfl rfl ?_
              refine hr_iload4 (q := 107) X dX2_beside_105 rfl ?_
              refine hr_iadd (v := (((nI 6) * (bs_row z v)) + (bs_col z v))) (q := 108) X dX2_beside_107 rfl rfl ?_
              refine hr_goto (tgt := 112) X dX2_beside_108 (by decide) ?_
              refine hr_st1 (v' := .int (nI (sp_beside z v))) (congrArg Value.int hbs.2) ?_
              exact hr_iret X hr dX2_beside_112 ⟨hz_i (by rw [sp_bes, if_neg (by omega), if_neg (by simpa using c86)]; exact (oI_of (by omega)).symm), rfl⟩
      · refine hr_iconst (v := (-1)) (q := 43) X dX2_beside_42 rfl rfl ?_
        refine hr_goto (tgt := 47) X dX2_beside_43 (by decide) ?_
        refine hr_iadd (v := ((nI (z % 6)) + (-1))) (q := 48) X dX2_beside_47 rfl rfl ?_
        refine hr_st1 (v' := .int (bs_col z v)) (congrArg Value.int (by rw [bs_col, if_neg c30, if_pos c39])) ?_
        refine hr_istore4 (q := 50) X dX2_beside_48 rfl rfl (Nat.le_of_ble_eq_true rfl) ?_
        refine hr_iload3 (q := 51) X dX2_beside_50 rfl ?_
        refine hr_i2l (v := ((bs_row z v).toInt64)) (q := 52) X dX2_beside_51 rfl rfl ?_
        refine hr_lconst (v := (lN 0)) (q := 53) X dX2_beside_52 rfl rfl ?_
        refine hr_ldc2 (q := 56) X dX2_beside_53 rfl q1134 ?_
        refine hr_callP (v := .int (bI (sp_fr (bs_row z v) (nI 0) (nI 5)))) (q := 59) (hc_S (n := 3) (As := [.long ((bs_row z v).toInt64), .long (lN 0), .long 5]) X dX2_beside_56 rfl (tc_in X.tr (x := bs_row z v) (b := 0) (z := 5) (by decide) (by decide)) q1135 cs_X0_in ⟨Nat.le_of_ble_eq_true rfl, Nat.le_of_ble_eq_true rfl⟩ rfl (Nat.le_of_ble_eq_true rfl)) rfl ?_
        refine hr_ifB_eq (q := 62) (tgt := 93) X dX2_beside_59 rfl (by decide) (fun c59 => ?_) (fun c59 => ?_)
        · refine hr_iconst (v := (nI 0)) (q := 94) X dX2_beside_93 rfl rfl ?_
          refine hr_istore5 (q := 96) X dX2_beside_94 rfl rfl (Nat.le_of_ble_eq_true rfl) ?_
          refine hr_iload5 (q := 98) X dX2_beside_96 rfl ?_
          refine hr_if_eq (q := 101) (tgt := 111) X dX2_beside_98 rfl (by decide) (fun _ => ?_) (fun z => absurd z (by decide))
          refine hr_iconst (v := (-1)) (q := 112) X dX2_beside_111 rfl rfl ?_
          exact hr_iret X hr dX2_beside_112 ⟨hz_i (by rw [sp_bes, if_pos (bs_2 hz hv (Or.inl c59))]; rfl), rfl⟩
        · refine hr_iload4 (q := 64) X dX2_beside_62 rfl ?_
          refine hr_i2l (v := ((bs_col z v).toInt64)) (q := 65) X dX2_beside_64 rfl rfl ?_
          refine hr_lconst (v := (lN 0)) (q := 66) X dX2_beside_65 rfl rfl ?_
          refine hr_ldc2 (q := 69) X dX2_beside_66 rfl q1134 ?_
          refine hr_callP (v := .int (bI (sp_fr (bs_col z v) (nI 0) (nI 5)))) (q := 72) (hc_S (n := 3) (As := [.long ((bs_col z v).toInt64), .long (lN 0), .long 5]) X dX2_beside_69 rfl (tc_in X.tr (x := bs_col z v) (b := 0) (z := 5) (by decide) (by decide)) q1135 cs_X0_in ⟨Nat.le_of_ble_eq_true rfl, Nat.le_of_ble_eq_true rfl⟩ rfl (Nat.le_of_ble_eq_true rfl)) rfl ?_
          refine hr_ifB_eq (q := 75) (tgt := 93) X dX2_beside_72 rfl (by decide) (fun c72 => ?_) (fun c72 => ?_)
          · refine hr_iconst (v := (nI 0)) (q := 94) X dX2_beside_93 rfl rfl ?_
            refine hr_istore5 (q := 96) X dX2_beside_94 rfl rfl (Nat.le_of_ble_eq_true rfl) ?_
            refine hr_iload5 (q := 98) X dX2_beside_96 rfl ?_
            refine hr_if_eq (q := 101) (tgt := 111) X dX2_beside_98 rfl (by decide) (fun _ => ?_) (fun z => absurd z (by decide))
            refine hr_iconst (v := (-1)) (q := 112) X dX2_beside_111 rfl rfl ?_
            exact hr_iret X hr dX2_beside_112 ⟨hz_i (by rw [sp_bes, if_pos (bs_2 hz hv (Or.inr c72))]; rfl), rfl⟩
          · refine hr_aload0 (q := 76) X dX2_beside_75 rfl ?_
            refine hr_bipush (v := (nI 6)) (q := 78) X dX2_beside_76 rfl rfl ?_
            refine hr_iload3 (q := 79) X dX2_beside_78 rfl ?_
            refine hr_imul (v := ((nI 6) * (bs_row z v))) (q := 80) X dX2_beside_79 rfl rfl ?_
            refine hr_iload4 (q := 82) X dX2_beside_80 rfl ?_
            refine hr_iadd (v := (((nI 6) * (bs_row z v)) + (bs_col z v))) (q := 83) X dX2_beside_82 rfl rfl ?_
            have hbs := bs_1 hz hv c59 c72
            have hbl := hbs.1
            refine hr_st1 (v' := .int (nI (sp_beside z v))) (congrArg Value.int hbs.2) ?_
            refine hr_callP (q := 86) (hc_V (n := 1) (ci := 2) (As := [.int (nI (sp_beside z v))]) X dX2_beside_83 rfl (tn_isFreeN X.tr hT hw (z := sp_beside z v) (by omega)) q1136 cv_X2_isFree ⟨Nat.le_of_ble_eq_true rfl, Nat.le_of_ble_eq_true rfl⟩ rfl (Nat.le_of_ble_eq_true rfl) hT.ob rfl rfl) rfl ?_
            refine hr_ifB_eq (q := 89) (tgt := 93) X dX2_beside_86 rfl (by decide) (fun c86 => ?_) (fun c86 => ?_)
            · refine hr_iconst (v := (nI 0)) (q := 94) X dX2_beside_93 rfl rfl ?_
              refine hr_istore5 (q := 96) X dX2_beside_94 rfl rfl (Nat.le_of_ble_eq_true rfl) ?_
              refine hr_iload5 (q := 98) X dX2_beside_96 rfl ?_
              refine hr_if_eq (q := 101) (tgt := 111) X dX2_beside_98 rfl (by decide) (fun _ => ?_) (fun z => absurd z (by decide))
              refine hr_iconst (v := (-1)) (q := 112) X dX2_beside_111 rfl rfl ?_
              exact hr_iret X hr dX2_beside_112 ⟨hz_i (by rw [sp_bes, if_neg (by omega), if_pos (by simpa using c86)]; rfl), rfl⟩
            · refine hr_iconst (v := (nI 1)) (q := 90) X dX2_beside_89 rfl rfl ?_
              refine hr_goto (tgt := 94) X dX2_beside_90 (by decide) ?_
              refine hr_istore5 (q := 96) X dX2_beside_94 rfl rfl (Nat.le_of_ble_eq_true rfl) ?_
              refine hr_iload5 (q := 98) X dX2_beside_96 rfl ?_
              refine hr_if_eq (q := 101) (tgt := 111) X dX2_beside_98 rfl (by decide) (fun z => absurd z (by decide)) (fun _ => ?_)
              refine hr_bipush (v := (nI 6)) (q := 103) X dX2_beside_101 rfl rfl ?_
              refine hr_iload3 (q := 104) X dX2_beside_103 rfl ?_
              refine hr_imul (v := ((nI 6) * (bs_row z v))) (q := 105) X dX2_beside_104 rfl rfl ?_
              refine hr_iload4 (q := 107) X dX2_beside_105 rfl ?_
              refine hr_iadd (v := (((nI 6) * (bs_row z v)) + (bs_col z v))) (q := 108) X dX2_beside_107 rfl rfl ?_
              refine hr_goto (tgt := 112) X dX2_beside_108 (by decide) ?_
              refine hr_st1 (v' := .int (nI (sp_beside z v))) (congrArg Value.int hbs.2) ?_
              exact hr_iret X hr dX2_beside_112 ⟨hz_i (by rw [sp_bes, if_neg (by omega), if_neg (by simpa using c86)]; exact (oI_of (by omega)).symm), rfl⟩
    · refine hr_iconst (v := (nI 1)) (q := 34) X dX2_beside_33 rfl rfl ?_
      refine hr_goto (tgt := 47) X dX2_beside_34 (by decide) ?_
      refine hr_iadd (v := (nI (z % 6 + 1))) (q := 48) X dX2_beside_47 rfl (nI_add _ _) ?_
      refine hr_st1 (v' := .int (bs_col z v)) (congrArg Value.int (by rw [bs_col, if_pos c30]; exact (nI_add _ _).symm)) ?_
      refine hr_istore4 (q := 50) X dX2_beside_48 rfl rfl (Nat.le_of_ble_eq_true rfl) ?_
      refine hr_iload3 (q := 51) X dX2_beside_50 rfl ?_
      refine hr_i2l (v := ((bs_row z v).toInt64)) (q := 52) X dX2_beside_51 rfl rfl ?_
      refine hr_lconst (v := (lN 0)) (q := 53) X dX2_beside_52 rfl rfl ?_
      refine hr_ldc2 (q := 56) X dX2_beside_53 rfl q1134 ?_
      refine hr_callP (v := .int (bI (sp_fr (bs_row z v) (nI 0) (nI 5)))) (q := 59) (hc_S (n := 3) (As := [.long ((bs_row z v).toInt64), .long (lN 0), .long 5]) X dX2_beside_56 rfl (tc_in X.tr (x := bs_row z v) (b := 0) (z := 5) (by decide) (by decide)) q1135 cs_X0_in ⟨Nat.le_of_ble_eq_true rfl, Nat.le_of_ble_eq_true rfl⟩ rfl (Nat.le_of_ble_eq_true rfl)) rfl ?_
      refine hr_ifB_eq (q := 62) (tgt := 93) X dX2_beside_59 rfl (by decide) (fun c59 => ?_) (fun c59 => ?_)
      · refine hr_iconst (v := (nI 0)) (q := 94) X dX2_beside_93 rfl rfl ?_
        refine hr_istore5 (q := 96) X dX2_beside_94 rfl rfl (Nat.le_of_ble_eq_true rfl) ?_
        refine hr_iload5 (q := 98) X dX2_beside_96 rfl ?_
        refine hr_if_eq (q := 101) (tgt := 111) X dX2_beside_98 rfl (by decide) (fun _ => ?_) (fun z => absurd z (by decide))
        refine hr_iconst (v := (-1)) (q := 112) X dX2_beside_111 rfl rfl ?_
        exact hr_iret X hr dX2_beside_112 ⟨hz_i (by rw [sp_bes, if_pos (bs_2 hz hv (Or.inl c59))]; rfl), rfl⟩
      · refine hr_iload4 (q := 64) X dX2_beside_62 rfl ?_
        refine hr_i2l (v := ((bs_col z v).toInt64)) (q := 65) X dX2_beside_64 rfl rfl ?_
        refine hr_lconst (v := (lN 0)) (q := 66) X dX2_beside_65 rfl rfl ?_
        refine hr_ldc2 (q := 69) X dX2_beside_66 rfl q1134 ?_
        refine hr_callP (v := .int (bI (sp_fr (bs_col z v) (nI 0) (nI 5)))) (q := 72) (hc_S (n := 3) (As := [.long ((bs_col z v).toInt64), .long (lN 0), .long 5]) X dX2_beside_69 rfl (tc_in X.tr (x := bs_col z v) (b := 0) (z := 5) (by decide) (by decide)) q1135 cs_X0_in ⟨Nat.le_of_ble_eq_true rfl, Nat.le_of_ble_eq_true rfl⟩ rfl (Nat.le_of_ble_eq_true rfl)) rfl ?_
        refine hr_ifB_eq (q := 75) (tgt := 93) X dX2_beside_72 rfl (by decide) (fun c72 => ?_) (fun c72 => ?_)
        · refine hr_iconst (v := (nI 0)) (q := 94) X dX2_beside_93 rfl rfl ?_
          refine hr_istore5 (q := 96) X dX2_beside_94 rfl rfl (Nat.le_of_ble_eq_true rfl) ?_
          refine hr_iload5 (q := 98) X dX2_beside_96 rfl ?_
          refine hr_if_eq (q := 101) (tgt := 111) X dX2_beside_98 rfl (by decide) (fun _ => ?_) (fun z => absurd z (by decide))
          refine hr_iconst (v := (-1)) (q := 112) X dX2_beside_111 rfl rfl ?_
          exact hr_iret X hr dX2_beside_112 ⟨hz_i (by rw [sp_bes, if_pos (bs_2 hz hv (Or.inr c72))]; rfl), rfl⟩
        · refine hr_aload0 (q := 76) X dX2_beside_75 rfl ?_
          refine hr_bipush (v := (nI 6)) (q := 78) X dX2_beside_76 rfl rfl ?_
          refine hr_iload3 (q := 79) X dX2_beside_78 rfl ?_
          refine hr_imul (v := ((nI 6) * (bs_row z v))) (q := 80) X dX2_beside_79 rfl rfl ?_
          refine hr_iload4 (q := 82) X dX2_beside_80 rfl ?_
          refine hr_iadd (v := (((nI 6) * (bs_row z v)) + (bs_col z v))) (q := 83) X dX2_beside_82 rfl rfl ?_
          have hbs := bs_1 hz hv c59 c72
          have hbl := hbs.1
          refine hr_st1 (v' := .int (nI (sp_beside z v))) (congrArg Value.int hbs.2) ?_
          refine hr_callP (q := 86) (hc_V (n := 1) (ci := 2) (As := [.int (nI (sp_beside z v))]) X dX2_beside_83 rfl (tn_isFreeN X.tr hT hw (z := sp_beside z v) (by omega)) q1136 cv_X2_isFree ⟨Nat.le_of_ble_eq_true rfl, Nat.le_of_ble_eq_true rfl⟩ rfl (Nat.le_of_ble_eq_true rfl) hT.ob rfl rfl) rfl ?_
          refine hr_ifB_eq (q := 89) (tgt := 93) X dX2_beside_86 rfl (by decide) (fun c86 => ?_) (fun c86 => ?_)
          · refine hr_iconst (v := (nI 0)) (q := 94) X dX2_beside_93 rfl rfl ?_
            refine hr_istore5 (q := 96) X dX2_beside_94 rfl rfl (Nat.le_of_ble_eq_true rfl) ?_
            refine hr_iload5 (q := 98) X dX2_beside_96 rfl ?_
            refine hr_if_eq (q := 101) (tgt := 111) X dX2_beside_98 rfl (by decide) (fun _ => ?_) (fun z => absurd z (by decide))
            refine hr_iconst (v := (-1)) (q := 112) X dX2_beside_111 rfl rfl ?_
            exact hr_iret X hr dX2_beside_112 ⟨hz_i (by rw [sp_bes, if_neg (by omega), if_pos (by simpa using c86)]; rfl), rfl⟩
          · refine hr_iconst (v := (nI 1)) (q := 90) X dX2_beside_89 rfl rfl ?_
            refine hr_goto (tgt := 94) X dX2_beside_90 (by decide) ?_
            refine hr_istore5 (q := 96) X dX2_beside_94 rfl rfl (Nat.le_of_ble_eq_true rfl) ?_
            refine hr_iload5 (q := 98) X dX2_beside_96 rfl ?_
            refine hr_if_eq (q := 101) (tgt := 111) X dX2_beside_98 rfl (by decide) (fun z => absurd z (by decide)) (fun _ => ?_)
            refine hr_bipush (v := (nI 6)) (q := 103) X dX2_beside_101 rfl rfl ?_
            refine hr_iload3 (q := 104) X dX2_beside_103 rfl ?_
            refine hr_imul (v := ((nI 6) * (bs_row z v))) (q := 105) X dX2_beside_104 rfl rfl ?_
            refine hr_iload4 (q := 107) X dX2_beside_105 rfl ?_
            refine hr_iadd (v := (((nI 6) * (bs_row z v)) + (bs_col z v))) (q := 108) X dX2_beside_107 rfl rfl ?_
            refine hr_goto (tgt := 112) X dX2_beside_108 (by decide) ?_
            refine hr_st1 (v' := .int (nI (sp_beside z v))) (congrArg Value.int hbs.2) ?_
            exact hr_iret X hr dX2_beside_112 ⟨hz_i (by rw [sp_bes, if_neg (by omega), if_neg (by simpa using c86)]; exact (oI_of (by omega)).symm), rfl⟩

