theorem tj_max {l : Launch} {D : hg_D} {lo : Nat} (htr : l.stackTraces = false) {G : hg_G} {a b : Nat} (ha : a < 2 ^ 31) (hb : b < 2 ^ 31) :
    hg_M l D lo yJ8_max (ws_ yJ8_max cJ8_max 2 ((some FieldType.int))) rm_J8_max [.int (nI a), .int (nI b)] G (hg_Pv G (.int (nI (max a b)))) := by
  refine hg_M.ofF htr (by decide +kernel) [some (.int (nI a)), some (.int (nI b))] rfl (Nat.le_of_ble_eq_true rfl) ?_
  intro p e s m args below meth c X hr hnm htab
  have X : hg_X p l s m args meth c D lo "java/lang/Math" cJ8_max 2 := X
  refine hr_iload0 (q := 1) X dJ8_max_0 rfl ?_
  refine hr_iload1 (q := 2) X dJ8_max_1 rfl ?_
  refine hr_icmpN_lt (q := 5) (tgt := 9) X dJ8_max_2 rfl (by decide) (by omega) (by omega) (fun c2 => ?_) (fun c2 => ?_)
  · refine hr_iload1 (q := 10) X dJ8_max_9 rfl ?_
    exact hr_iret X hr dJ8_max_10 ⟨hz_i (congrArg nI (by omega)), rfl⟩
  · refine hr_iload0 (q := 6) X dJ8_max_5 rfl ?_
    refine hr_goto (tgt := 10) X dJ8_max_6 (by decide) ?_
    exact hr_iret X hr dJ8_max_10 ⟨hz_i (congrArg nI (by omega)), rfl⟩

theorem tj_min {l : Launch} {D : hg_D} {lo : Nat} (htr : l.stackTraces = false) {G : hg_G} {a b : Nat} (ha : a < 2 ^ 31) (hb : b < 2 ^ 31) :
    hg_M l D lo yJ8_min (ws_ yJ8_min cJ8_min 2 ((some FieldType.int))) rm_J8_min [.int (nI a), .int (nI b)] G (hg_Pv G (.int (nI (min a b)))) := by
  refine hg_M.ofF htr (by decide +kernel) [some (.int (nI a)), some (.int (nI b))] rfl (Nat.le_of_ble_eq_true rfl) ?_
  intro p e s m args below meth c X hr hnm htab
  have X : hg_X p l s m args meth c D lo "java/lang/Math" cJ8_min 2 := X
  refine hr_iload0 (q := 1) X dJ8_min_0 rfl ?_
  refine hr_iload1 (q := 2) X dJ8_min_1 rfl ?_
  refine hr_icmpN_gt (q := 5) (tgt := 9) X dJ8_min_2 rfl (by decide) (by omega) (by omega) (fun c2 => ?_) (fun c2 => ?_)
  · refine hr_iload1 (q := 10) X dJ8_min_9 rfl ?_
    exact hr_iret X hr dJ8_min_10 ⟨hz_i (congrArg nI (by omega)), rfl⟩
  · refine hr_iload0 (q := 6) X dJ8_min_5 rfl ?_
    refine hr_goto (tgt := 10) X dJ8_min_6 (by decide) ?_
    exact hr_iret X hr dJ8_min_10 ⟨hz_i (congrArg nI (by omega)), rfl⟩

theorem sp_abs_p {a b : Nat} (ha : a < 2 ^ 30) (hb : b < 2 ^ 30) (h : 0 ≤ nI a - nI b) : nI a - nI b = nI ((a - b) + (b - a)) := by
  have h1 := Int32.le_iff_toInt_le.mp h
  rw [pk_sub_toInt ha hb] at h1
  have h0 : (0 : Int32).toInt = 0 := by decide
  rw [pk_sub (by omega)]
  exact congrArg nI (by omega)
theorem sp_abs_n {a b : Nat} (ha : a < 2 ^ 30) (hb : b < 2 ^ 30) (h : ¬ 0 ≤ nI a - nI b) : -(nI a - nI b) = nI ((a - b) + (b - a)) := by
  have h1 : ¬ (0 : Int32).toInt ≤ (nI a - nI b).toInt := fun z => h (Int32.le_iff_toInt_le.mpr z)
  rw [pk_sub_toInt ha hb] at h1
  have h0 : (0 : Int32).toInt = 0 := by decide
  rw [Int32.neg_sub, pk_sub (by omega)]
  exact congrArg nI (by omega)

theorem tj_abs {l : Launch} {D : hg_D} {lo : Nat} (htr : l.stackTraces = false) {G : hg_G} {a b : Nat} (ha : a < 2 ^ 30) (hb : b < 2 ^ 30) :
    hg_M l D lo yJ8_abs (ws_ yJ8_abs cJ8_abs 1 ((some FieldType.int))) rm_J8_abs [.int (nI a - nI b)] G (hg_Pv G (.int (nI ((a - b) + (b - a))))) := by
  refine hg_M.ofF htr (by decide +kernel) [some (.int (nI a - nI b))] rfl (Nat.le_of_ble_eq_true rfl) ?_
  intro p e s m args below meth c X hr hnm htab
  have X : hg_X p l s m args meth c D lo "java/lang/Math" cJ8_abs 1 := X
  refine hr_iload0 (q := 1) X dJ8_abs_0 rfl ?_
  refine hr_if_ge (q := 4) (tgt := 9) X dJ8_abs_1 rfl (by decide) (fun c1 => ?_) (fun c1 => ?_)
  · refine hr_iload0 (q := 10) X dJ8_abs_9 rfl ?_
    exact hr_iret X hr dJ8_abs_10 ⟨hz_i (sp_abs_p ha hb c1), rfl⟩
  · refine hr_iload0 (q := 5) X dJ8_abs_4 rfl ?_
    refine hr_ineg (v := (-(nI a - nI b))) (q := 6) X dJ8_abs_5 rfl rfl ?_
    refine hr_goto (tgt := 10) X dJ8_abs_6 (by decide) ?_
    exact hr_iret X hr dJ8_abs_10 ⟨hz_i (sp_abs_n ha hb c1), rfl⟩

theorem tj_bits {l : Launch} {D : hg_D} {lo : Nat} (htr : l.stackTraces = false) {G : hg_G} {x : Nat} (hx : x < 128) :
    hg_M l D lo yJ12_bitCount (ws_ yJ12_bitCount cJ12_bitCount 1 ((some FieldType.int))) rm_J12_bitCount [.int (nI x)] G (hg_Pv G (.int (nI (sp_cnt x 7)))) := by
  refine hg_M.of htr (by decide) [some (.int (nI x))] rfl (Nat.le_of_ble_eq_true rfl) ?_
  intro p e s m args below meth c X hr hnm htab
  have X : hg_X p l s m args meth c D lo "java/lang/Integer" cJ12_bitCount 1 := X
  refine hr_iload0 (q := 1) X dJ12_bitCount_0 rfl ?_
  refine hr_iload0 (q := 2) X dJ12_bitCount_1 rfl ?_
  refine hr_iconst (v := (nI 1)) (q := 3) X dJ12_bitCount_2 rfl rfl ?_
  refine hr_iushr (v := (((nI x).toUInt32 >>> ((nI 1).toUInt32 &&& Int32.toUInt32 31)).toInt32)) (q := 4) X dJ12_bitCount_3 rfl rfl ?_
  refine hr_ldcw (q := 7) X dJ12_bitCount_4 rfl q1083 ?_
  refine hr_iand (v := ((((nI x).toUInt32 >>> ((nI 1).toUInt32 &&& Int32.toUInt32 31)).toInt32) &&& 1431655765)) (q := 8) X dJ12_bitCount_7 rfl rfl ?_
  refine hr_isub (v := ((nI x) - ((((nI x).toUInt32 >>> ((nI 1).toUInt32 &&& Int32.toUInt32 31)).toInt32) &&& 1431655765))) (q := 9) X dJ12_bitCount_8 rfl rfl ?_
  refine hr_istore0 (q := 10) X dJ12_bitCount_9 rfl (Nat.le_of_ble_eq_true rfl) ?_
  refine hr_iload0 (q := 11) X dJ12_bitCount_10 rfl ?_
  refine hr_ldcw (q := 14) X dJ12_bitCount_11 rfl q1084 ?_
  refine hr_iand (v := (((nI x) - ((((nI x).toUInt32 >>> ((nI 1).toUInt32 &&& Int32.toUInt32 31)).toInt32) &&& 1431655765)) &&& 858993459)) (q := 15) X dJ12_bitCount_14 rfl rfl ?_
  refine hr_iload0 (q := 16) X dJ12_bitCount_15 rfl ?_
  refine hr_iconst (v := (nI 2)) (q := 17) X dJ12_bitCount_16 rfl rfl ?_
  refine hr_iushr (v := ((((nI x) - ((((nI x).toUInt32 >>> ((nI 1).toUInt32 &&& Int32.toUInt32 31)).toInt32) &&& 1431655765)).toUInt32 >>> ((nI 2).toUInt32 &&& Int32.toUInt32 31)).toInt32)) (q := 18) X dJ12_bitCount_17 rfl rfl ?_
  refine hr_ldcw (q := 21) X dJ12_bitCount_18 rfl q1084 ?_
  refine hr_iand (v := (((((nI x) - ((((nI x).toUInt32 >>> ((nI 1).toUInt32 &&& Int32.toUInt32 31)).toInt32) &&& 1431655765)).toUInt32 >>> ((nI 2).toUInt32 &&& Int32.toUInt32 31)).toInt32) &&& 858993459)) (q := 22) X dJ12_bitCount_21 rfl rfl ?_
  refine hr_iadd (v := ((((nI x) - ((((nI x).toUInt32 >>> ((nI 1).toUInt32 &&& Int32.toUInt32 31)).toInt32) &&& 1431655765)) &&& 858993459) + (((((nI x) - ((((nI x).toUInt32 >>> ((nI 1).toUInt32 &&& Int32.toUInt32 31)).toInt32) &&& 1431655765)).toUInt32 >>> ((nI 2).toUInt32 &&& Int32.toUInt32 31)).toInt32) &&& 858993459))) (q := 23) X dJ12_bitCount_22 rfl rfl ?_
  refine hr_istore0 (q := 24) X dJ12_bitCount_23 rfl (Nat.le_of_ble_eq_true rfl) ?_
  refine hr_iload0 (q := 25) X dJ12_bitCount_24 rfl ?_
  refine hr_iload0 (q := 26) X dJ12_bitCount_25 rfl ?_
  refine hr_iconst (v := (nI 4)) (q := 27) X dJ12_bitCount_26 rfl rfl ?_
  refine hr_iushr (v := ((((((nI x) - ((((nI x).toUInt32 >>> ((nI 1).toUInt32 &&& Int32.toUInt32 31)).toInt32) &&& 1431655765)) &&& 858993459) + (((((nI x) - ((((nI x).toUInt32 >>> ((nI 1).toUInt32 &&& Int32.toUInt32 31)).toInt32) &&& 1431655765)).toUInt32 >>> ((nI 2).toUInt32 &&& Int32.toUInt32 31)).toInt32) &&& 858993459)).toUInt32 >>> ((nI 4).toUInt32 &&& Int32.toUInt32 31)).toInt32)) (q := 28) X dJ12_bitCount_27 rfl rfl ?_
  refine hr_iadd (v := (((((nI x) - ((((nI x).toUInt32 >>> ((nI 1).toUInt32 &&& Int32.toUInt32 31)).toInt32) &&& 1431655765)) &&& 858993459) + (((((nI x) - ((((nI x).toUInt32 >>> ((nI 1).toUInt32 &&& Int32.toUInt32 31)).toInt32) &&& 1431655765)).toUInt32 >>> ((nI 2).toUInt32 &&& Int32.toUInt32 31)).toInt32) &&& 858993459)) + ((((((nI x) - ((((nI x).toUInt32 >>> ((nI 1).toUInt32 &&& Int32.toUInt32 31)).toInt32) &&& 1431655765)) &&& 858993459) + (((((nI x) - ((((nI x).toUInt32 >>> ((nI 1).toUInt32 &&& Int32.toUInt32 31)).toInt32) &&& 1431655765)).toUInt32 >>> ((nI 2).toUInt32 &&& Int32.toUInt32 31)).toInt32) &&& 858993459)).toUInt32 >>> ((nI 4).toUInt32 &&& Int32.toUInt32 31)).toInt32))) (q := 29) X dJ12_bitCount_28 rfl rfl ?_
  refine hr_ldcw (q := 32) X dJ12_bitCount_29 rfl q1085 ?_
  refine hr_iand (v := ((((((nI x) - ((((nI x).toUInt32 >>> ((nI 1).toUInt32 &&& Int32.toUInt32 31)).toInt32) &&& 1431655765)) &&& 858993459) + (((((nI x) - ((((nI x).toUInt32 >>> ((nI 1).toUInt32 &&& Int32.toUInt32 31)).toInt32) &&& 1431655765)).toUInt32 >>> ((nI 2).toUInt32 &&& Int32.toUInt32 31)).toInt32) &&& 858993459)) + ((((((nI x) - ((((nI x).toUInt32 >>> ((nI 1).toUInt32 &&& Int32.toUInt32 31)).toInt32) &&& 1431655765)) &&& 858993459) + (((((nI x) - ((((nI x).toUInt32 >>> ((nI 1).toUInt32 &&& Int32.toUInt32 31)).toInt32) &&& 1431655765)).toUInt32 >>> ((nI 2).toUInt32 &&& Int32.toUInt32 31)).toInt32) &&& 858993459)).toUInt32 >>> ((nI 4).toUInt32 &&& Int32.toUInt32 31)).toInt32)) &&& 252645135)) (q := 33) X dJ12_bitCount_32 rfl rfl ?_
  refine hr_istore0 (q := 34) X dJ12_bitCount_33 rfl (Nat.le_of_ble_eq_true rfl) ?_
  refine hr_iload0 (q := 35) X dJ12_bitCount_34 rfl ?_
  refine hr_iload0 (q := 36) X dJ12_bitCount_35 rfl ?_
  refine hr_bipush (v := (nI 8)) (q := 38) X dJ12_bitCount_36 rfl rfl ?_
  refine hr_iushr (v := ((((((((nI x) - ((((nI x).toUInt32 >>> ((nI 1).toUInt32 &&& Int32.toUInt32 31)).toInt32) &&& 1431655765)) &&& 858993459) + (((((nI x) - ((((nI x).toUInt32 >>> ((nI 1).toUInt32 &&& Int32.toUInt32 31)).toInt32) &&& 1431655765)).toUInt32 >>> ((nI 2).toUInt32 &&& Int32.toUInt32 31)).toInt32) &&& 858993459)) + ((((((nI x) - ((((nI x).toUInt32 >>> ((nI 1).toUInt32 &&& Int32.toUInt32 31)).toInt32) &&& 1431655765)) &&& 858993459) + (((((nI x) - ((((nI x).toUInt32 >>> ((nI 1).toUInt32 &&& Int32.toUInt32 31)).toInt32) &&& 1431655765)).toUInt32 >>> ((nI 2).toUInt32 &&& Int32.toUInt32 31)).toInt32) &&& 858993459)).toUInt32 >>> ((nI 4).toUInt32 &&& Int32.toUInt32 31)).toInt32)) &&& 252645135).toUInt32 >>> ((nI 8).toUInt32 &&& Int32.toUInt32 31)).toInt32)) (q := 39) X dJ12_bitCount_38 rfl rfl ?_
  refine hr_iadd (v := (((((((nI x) - ((((nI x).toUInt32 >>> ((nI 1).toUInt32 &&& Int32.toUInt32 31)).toInt32) &&& 1431655765)) &&& 858993459) + (((((nI x) - ((((nI x).toUInt32 >>> ((nI 1).toUInt32 &&& Int32.toUInt32 31)).toInt32) &&& 1431655765)).toUInt32 >>> ((nI 2).toUInt32 &&& Int32.toUInt32 31)).toInt32) &&& 858993459)) + ((((((nI x) - ((((nI x).toUInt32 >>> ((nI 1).toUInt32 &&& Int32.toUInt32 31)).toInt32) &&& 1431655765)) &&& 858993459) + (((((nI x) - ((((nI x).toUInt32 >>> ((nI 1).toUInt32 &&& Int32.toUInt32 31)).toInt32) &&& 1431655765)).toUInt32 >>> ((nI 2).toUInt32 &&& Int32.toUInt32 31)).toInt32) &&& 858993459)).toUInt32 >>> ((nI 4).toUInt32 &&& Int32.toUInt32 31)).toInt32)) &&& 252645135) + ((((((((nI x) - ((((nI x).toUInt32 >>> ((nI 1).toUInt32 &&& Int32.toUInt32 31)).toInt32) &&& 1431655765)) &&& 858993459) + (((((nI x) - ((((nI x).toUInt32 >>> ((nI 1).toUInt32 &&& Int32.toUInt32 31)).toInt32) &&& 1431655765)).toUInt32 >>> ((nI 2).toUInt32 &&& Int32.toUInt32 31)).toInt32) &&& 858993459)) + ((((((nI x) - ((((nI x).toUInt32 >>> ((nI 1).toUInt32 &&& Int32.toUInt32 31)).toInt32) &&& 1431655765)) &&& 858993459) + (((((nI x) - ((((nI x).toUInt32 >>> ((nI 1).toUInt32 &&& Int32.toUInt32 31)).toInt32) &&& 1431655765)).toUInt32 >>> ((nI 2).toUInt32 &&& Int32.toUInt32 31)).toInt32) &&& 858993459)).toUInt32 >>> ((nI 4).toUInt32 &&& Int32.toUInt32 31)).toInt32)) &&& 252645135).toUInt32 >>> ((nI 8).toUInt32 &&& Int32.toUInt32 31)).toInt32))) (q := 40) X dJ12_bitCount_39 rfl rfl ?_
  refine hr_istore0 (q := 41) X dJ12_bitCount_40 rfl (Nat.le_of_ble_eq_true rfl) ?_
  refine hr_iload0 (q := 42) X dJ12_bitCount_41 rfl ?_
  refine hr_iload0 (q := 43) X dJ12_bitCount_42 rfl ?_
  refine hr_bipush (v := (nI 16)) (q := 45) X dJ12_bitCount_43 rfl rfl ?_
  refine hr_iushr (v := (((((((((nI x) - ((((nI x).toUInt32 >>> ((nI 1).toUInt32 &&& Int32.toUInt32 31)).toInt32) &&& 1431655765)) &&& 858993459) + (((((nI x) - ((((nI x).toUInt32 >>> ((nI 1).toUInt32 &&& Int32.toUInt32 31)).toInt32) &&& 1431655765)).toUInt32 >>> ((nI 2).toUInt32 &&& Int32.toUInt32 31)).toInt32) &&& 858993459)) + ((((((nI x) - ((((nI x).toUInt32 >>> ((nI 1).toUInt32 &&& Int32.toUInt32 31)).toInt32) &&& 1431655765)) &&& 858993459) + (((((nI x) - ((((nI x).toUInt32 >>> ((nI 1).toUInt32 &&& Int32.toUInt32 31)).toInt32) &&& 1431655765)).toUInt32 >>> ((nI 2).toUInt32 &&& Int32.toUInt32 31)).toInt32) &&& 858993459)).toUInt32 >>> ((nI 4).toUInt32 &&& Int32.toUInt32 31)).toInt32)) &&& 252645135) + ((((((((nI x) - ((((nI x).toUInt32 >>> ((nI 1).toUInt32 &&& Int32.toUInt32 31)).toInt32) &&& 1431655765)) &&& 858993459) + (((((nI x) - ((((nI x).toUInt32 >>> ((nI 1).toUInt32 &&& Int32.toUInt32 31)).toInt32) &&& 1431655765)).toUInt32 >>> ((nI 2).toUInt32 &&& Int32.toUInt32 31)).toInt32) &&& 858993459)) + ((((((nI x) - ((((nI x).toUInt32 >>> ((nI 1).toUInt32 &&& Int32.toUInt32 31)).toInt32) &&& 1431655765)) &&& 858993459) + (((((nI x) - ((((nI x).toUInt32 >>> ((nI 1).toUInt32 &&& Int32.toUInt32 31)).toInt32) &&& 1431655765)).toUInt32 >>> ((nI 2).toUInt32 &&& Int32.toUInt32 31)).toInt32) &&& 858993459)).toUInt32 >>> ((nI 4).toUInt32 &&& Int32.toUInt32 31)).toInt32)) &&& 252645135).toUInt32 >>> ((nI 8).toUInt32 &&& Int32.toUInt32 31)).toInt32)).toUInt32 >>> ((nI 16).toUInt32 &&& Int32.toUInt32 31)).toInt32)) (q := 46) X dJ12_bitCount_45 rfl rfl ?_
  refine hr_iadd (v := ((((((((nI x) - ((((nI x).toUInt32 >>> ((nI 1).toUInt32 &&& Int32.toUInt32 31)).toInt32) &&& 1431655765)) &&& 858993459) + (((((nI x) - ((((nI x).toUInt32 >>> ((nI 1).toUInt32 &&& Int32.toUInt32 31)).toInt32) &&& 1431655765)).toUInt32 >>> ((nI 2).toUInt32 &&& Int32.toUInt32 31)).toInt32) &&& 858993459)) + ((((((nI x) - ((((nI x).toUInt32 >>> ((nI 1).toUInt32 &&& Int32.toUInt32 31)).toInt32) &&& 1431655765)) &&& 858993459) + (((((nI x) - ((((nI x).toUInt32 >>> ((nI 1).toUInt32 &&& Int32.toUInt32 31)).toInt32) &&& 1431655765)).toUInt32 >>> ((nI 2).toUInt32 &&& Int32.toUInt32 31)).toInt32) &&& 858993459)).toUInt32 >>> ((nI 4).toUInt32 &&& Int32.toUInt32 31)).toInt32)) &&& 252645135) + ((((((((nI x) - ((((nI x).toUInt32 >>> ((nI 1).toUInt32 &&& Int32.toUInt32 31)).toInt32) &&& 1431655765)) &&& 858993459) + (((((nI x) - ((((nI x).toUInt32 >>> ((nI 1).toUInt32 &&& Int32.toUInt32 31)).toInt32) &&& 1431655765)).toUInt32 >>> ((nI 2).toUInt32 &&& Int32.toUInt32 31)).toInt32) &&& 858993459)) + ((((((nI x) - ((((nI x).toUInt32 >>> ((nI 1).toUInt32 &&& Int32.toUInt32 31)).toInt32) &&& 1431655765)) &&& 858993459) + (((((nI x) - ((((nI x).toUInt32 >>> ((nI 1).toUInt32 &&& Int32.toUInt32 31)).toInt32) &&& 1431655765)).toUInt32 >>> ((nI 2).toUInt32 &&& Int32.toUInt32 31)).toInt32) &&& 858993459)).toUInt32 >>> ((nI 4).toUInt32 &&& Int32.toUInt32 31)).toInt32)) &&& 252645135).toUInt32 >>> ((nI 8).toUInt32 &&& Int32.toUInt32 31)).toInt32)) + (((((((((nI x) - ((((nI x).toUInt32 >>> ((nI 1).toUInt32 &&& Int32.toUInt32 31)).toInt32) &&& 1431655765)) &&& 858993459) + (((((nI x) - ((((nI x).toUInt32 >>> ((nI 1).toUInt32 &&& Int32.toUInt32 31)).toInt32) &&& 1431655765)).toUInt32 >>> ((nI 2).toUInt32 &&& Int32.toUInt32 31)).toInt32) &&& 858993459)) + ((((((nI x) - ((((nI x).toUInt32 >>> ((nI 1).toUInt32 &&& Int32.toUInt32 31)).toInt32) &&& 1431655765)) &&& 858993459) + (((((nI x) - ((((nI x).toUInt32 >>> ((nI 1).toUInt32 &&& Int32.toUInt32 31)).toInt32) &&& 1431655765)).toUInt32 >>> ((nI 2).toUInt32 &&& Int32.toUInt32 31)).toInt32) &&& 858993459)).toUInt32 >>> ((nI 4).toUInt32 &&& Int32.toUInt32 31)).toInt32)) &&& 252645135) + ((((((((nI x) - ((((nI x).toUInt32 >>> ((nI 1).toUInt32 &&& Int32.toUInt32 31)).toInt32) &&& 1431655765)) &&& 858993459) + (((((nI x) - ((((nI x).toUInt32 >>> ((nI 1).toUInt32 &&& Int32.toUInt32 31)).toInt32) &&& 1431655765)).toUInt32 >>> ((nI 2).toUInt32 &&& Int32.toUInt32 31)).toInt32) &&& 858993459)) + ((((((nI x) - ((((nI x).toUInt32 >>> ((nI 1).toUInt32 &&& Int32.toUInt32 31)).toInt32) &&& 1431655765)) &&& 858993459) + (((((nI x) - ((((nI x).toUInt32 >>> ((nI 1).toUInt32 &&& Int32.toUInt32 31)).toInt32) &&& 1431655765)).toUInt32 >>> ((nI 2).toUInt32 &&& Int32.toUInt32 31)).toInt32) &&& 858993459)).toUInt32 >>> ((nI 4).toUInt32 &&& Int32.toUInt32 31)).toInt32)) &&& 252645135).toUInt32 >>> ((nI 8).toUInt32 &&& Int32.toUInt32 31)).toInt32)).toUInt32 >>> ((nI 16).toUInt32 &&& Int32.toUInt32 31)).toInt32))) (q := 47) X dJ12_bitCount_46 rfl rfl ?_
  refine hr_istore0 (q := 48) X dJ12_bitCount_47 rfl (Nat.le_of_ble_eq_true rfl) ?_
  refine hr_iload0 (q := 49) X dJ12_bitCount_48 rfl ?_
  refine hr_bipush (v := (nI 63)) (q := 51) X dJ12_bitCount_49 rfl rfl ?_
  refine hr_iand (v := (((((((((nI x) - ((((nI x).toUInt32 >>> ((nI 1).toUInt32 &&& Int32.toUInt32 31)).toInt32) &&& 1431655765)) &&& 858993459) + (((((nI x) - ((((nI x).toUInt32 >>> ((nI 1).toUInt32 &&& Int32.toUInt32 31)).toInt32) &&& 1431655765)).toUInt32 >>> ((nI 2).toUInt32 &&& Int32.toUInt32 31)).toInt32) &&& 858993459)) + ((((((nI x) - ((((nI x).toUInt32 >>> ((nI 1).toUInt32 &&& Int32.toUInt32 31)).toInt32) &&& 1431655765)) &&& 858993459) + (((((nI x) - ((((nI x).toUInt32 >>> ((nI 1).toUInt32 &&& Int32.toUInt32 31)).toInt32) &&& 1431655765)).toUInt32 >>> ((nI 2).toUInt32 &&& Int32.toUInt32 31)).toInt32) &&& 858993459)).toUInt32 >>> ((nI 4).toUInt32 &&& Int32.toUInt32 31)).toInt32)) &&& 252645135) + ((((((((nI x) - ((((nI x).toUInt32 >>> ((nI 1).toUInt32 &&& Int32.toUInt32 31)).toInt32) &&& 1431655765)) &&& 858993459) + (((((nI x) - ((((nI x).toUInt32 >>> ((nI 1).toUInt32 &&& Int32.toUInt32 31)).toInt32) &&& 1431655765)).toUInt32 >>> ((nI 2).toUInt32 &&& Int32.toUInt32 31)).toInt32) &&& 858993459)) + ((((((nI x) - ((((nI x).toUInt32 >>> ((nI 1).toUInt32 &&& Int32.toUInt32 31)).toInt32) &&& 1431655765)) &&& 858993459) + (((((nI x) - ((((nI x).toUInt32 >>> ((nI 1).toUInt32 &&& Int32.toUInt32 31)).toInt32) &&& 1431655765)).toUInt32 >>> ((nI 2).toUInt32 &&& Int32.toUInt32 31)).toInt32) &&& 858993459)).toUInt32 >>> ((nI 4).toUInt32 &&& Int32.toUInt32 31)).toInt32)) &&& 252645135).toUInt32 >>> ((nI 8).toUInt32 &&& Int32.toUInt32 31)).toInt32)) + (((((((((nI x) - ((((nI x).toUInt32 >>> ((nI 1).toUInt32 &&& Int32.toUInt32 31)).toInt32) &&& 1431655765)) &&& 858993459) + (((((nI x) - ((((nI x).toUInt32 >>> ((nI 1).toUInt32 &&& Int32.toUInt32 31)).toInt32) &&& 1431655765)).toUInt32 >>> ((nI 2).toUInt32 &&& Int32.toUInt32 31)).toInt32) &&& 858993459)) + ((((((nI x) - ((((nI x).toUInt32 >>> ((nI 1).toUInt32 &&& Int32.toUInt32 31)).toInt32) &&& 1431655765)) &&& 858993459) + (((((nI x) - ((((nI x).toUInt32 >>> ((nI 1).toUInt32 &&& Int32.toUInt32 31)).toInt32) &&& 1431655765)).toUInt32 >>> ((nI 2).toUInt32 &&& Int32.toUInt32 31)).toInt32) &&& 858993459)).toUInt32 >>> ((nI 4).toUInt32 &&& Int32.toUInt32 31)).toInt32)) &&& 252645135) + ((((((((nI x) - ((((nI x).toUInt32 >>> ((nI 1).toUInt32 &&& Int32.toUInt32 31)).toInt32) &&& 1431655765)) &&& 858993459) + (((((nI x) - ((((nI x).toUInt32 >>> ((nI 1).toUInt32 &&& Int32.toUInt32 31)).toInt32) &&& 1431655765)).toUInt32 >>> ((nI 2).toUInt32 &&& Int32.toUInt32 31)).toInt32) &&& 858993459)) + ((((((nI x) - ((((nI x).toUInt32 >>> ((nI 1).toUInt32 &&& Int32.toUInt32 31)).toInt32) &&& 1431655765)) &&& 858993459) + (((((nI x) - ((((nI x).toUInt32 >>> ((nI 1).toUInt32 &&& Int32.toUInt32 31)).toInt32) &&& 1431655765)).toUInt32 >>> ((nI 2).toUInt32 &&& Int32.toUInt32 31)).toInt32) &&& 858993459)).toUInt32 >>> ((nI 4).toUInt32 &&& Int32.toUInt32 31)).toInt32)) &&& 252645135).toUInt32 >>> ((nI 8).toUInt32 &&& Int32.toUInt32 31)).toInt32)).toUInt32 >>> ((nI 16).toUInt32 &&& Int32.toUInt32 31)).toInt32)) &&& (nI 63))) (q := 52) X dJ12_bitCount_51 rfl rfl ?_
  exact hr_iret X hr dJ12_bitCount_52 ⟨hz_i (by revert hx; revert x; decide +kernel), rfl⟩

theorem fp_q652 : ∀ k, k ≤ 6 → hg_Fd "TaxOnLooks$Person" 7 (12 + k) 0 := fun k hk => match k, hk with | 0, _ => fr_q652_12 | 1, _ => fr_q652_13 | 2, _ => fr_q652_14 | 3, _ => fr_q652_15 | 4, _ => fr_q652_16 | 5, _ => fr_q652_17 | 6, _ => fr_q652_18 | (k + 7), h => absurd h (by omega)

theorem fp_q655 : ∀ k, k = 2 → hg_Fd "TaxOnLooks$Shelf" 44 (12 + k) 0 := by
  intro k hk
  rcases hk with rfl
  · exact fr_q655_14

theorem fp_q659 : ∀ k, k = 5 → hg_Fd "TaxOnLooks$Shelf" 59 (12 + k) 0 := by
  intro k hk
  rcases hk with rfl
  · exact fr_q659_17

theorem fp_q661 : ∀ k, k ≤ 6 → hg_Fd "TaxOnLooks$Shelf" 66 (12 + k) 0 := fun k hk => match k, hk with | 0, _ => fr_q661_12 | 1, _ => fr_q661_13 | 2, _ => fr_q661_14 | 3, _ => fr_q661_15 | 4, _ => fr_q661_16 | 5, _ => fr_q661_17 | 6, _ => fr_q661_18 | (k + 7), h => absurd h (by omega)

theorem fp_q664 : ∀ k, k ≤ 6 → hg_Fd "TaxOnLooks" 116 (12 + k) 0 := fun k hk => match k, hk with | 0, _ => fr_q664_12 | 1, _ => fr_q664_13 | 2, _ => fr_q664_14 | 3, _ => fr_q664_15 | 4, _ => fr_q664_16 | 5, _ => fr_q664_17 | 6, _ => fr_q664_18 | (k + 7), h => absurd h (by omega)

theorem fp_q665 : ∀ k, k ≤ 6 → hg_Fd "TaxOnLooks$Person" 13 (12 + k) 1 := fun k hk => match k, hk with | 0, _ => fr_q665_12 | 1, _ => fr_q665_13 | 2, _ => fr_q665_14 | 3, _ => fr_q665_15 | 4, _ => fr_q665_16 | 5, _ => fr_q665_17 | 6, _ => fr_q665_18 | (k + 7), h => absurd h (by omega)

theorem fp_q666 : ∀ k, k = 2 → hg_Fd "TaxOnLooks$Actress" 13 (12 + k) 1 := by
  intro k hk
  rcases hk with rfl
  · exact fr_q666_14

theorem fp_q670 : ∀ k, k = 6 → hg_Fd "TaxOnLooks$Shamed" 35 (12 + k) 1 := by
  intro k hk
  rcases hk with rfl
  · exact fr_q670_18

theorem fp_q672 : ∀ k, k ≤ 6 → hg_Fd "TaxOnLooks" 247 (12 + k) 1 := fun k hk => match k, hk with | 0, _ => fr_q672_12 | 1, _ => fr_q672_13 | 2, _ => fr_q672_14 | 3, _ => fr_q672_15 | 4, _ => fr_q672_16 | 5, _ => fr_q672_17 | 6, _ => fr_q672_18 | (k + 7), h => absurd h (by omega)

theorem fp_q674 : ∀ k, k = 6 → hg_Fd "TaxOnLooks$Shamed" 13 (12 + k) 2 := by
  intro k hk
  rcases hk with rfl
  · exact fr_q674_18

theorem fp_q678 : ∀ k, k = 6 → hg_Fd "TaxOnLooks$Shelf" 62 (12 + k) 2 := by
  intro k hk
  rcases hk with rfl
  · exact fr_q678_18

theorem fp_q679 : ∀ k, k ≤ 6 → hg_Fd "TaxOnLooks$Town" 103 (12 + k) 2 := fun k hk => match k, hk with | 0, _ => fr_q679_12 | 1, _ => fr_q679_13 | 2, _ => fr_q679_14 | 3, _ => fr_q679_15 | 4, _ => fr_q679_16 | 5, _ => fr_q679_17 | 6, _ => fr_q679_18 | (k + 7), h => absurd h (by omega)

theorem fp_q680 : ∀ k, k ≤ 6 → hg_Fd "TaxOnLooks" 253 (12 + k) 2 := fun k hk => match k, hk with | 0, _ => fr_q680_12 | 1, _ => fr_q680_13 | 2, _ => fr_q680_14 | 3, _ => fr_q680_15 | 4, _ => fr_q680_16 | 5, _ => fr_q680_17 | 6, _ => fr_q680_18 | (k + 7), h => absurd h (by omega)

theorem fp_ft : ∀ k, k ≤ 6 → ∀ j, j < 3 → hg_ft (12 + k) j = 0 := by decide +kernel

theorem hg_clP : ∀ k, k ≤ 6 → ∃ r, hg_cl[12 + k]? = some r := fun k hk => match k, hk with | 0, _ => ⟨_, rfl⟩ | 1, _ => ⟨_, rfl⟩ | 2, _ => ⟨_, rfl⟩ | 3, _ => ⟨_, rfl⟩ | 4, _ => ⟨_, rfl⟩ | 5, _ => ⟨_, rfl⟩ | 6, _ => ⟨_, rfl⟩ | (k + 7), h => absurd h (by omega)

def sp_shK (k w b s : Nat) : Nat := if k = 1 then 2 * w else if k = 2 then 2 * w + b else if k = 6 then w - s else w
def sp_owK (k d : Nat) : Nat := if k = 5 then 0 else if k = 2 then d - d / 9 else d
def sp_atAll (k : Nat) : Bool := k != 3 && k != 5
def sp_atOne (k : Nat) : Bool := k == 4 || k == 6

theorem sp_max0_t {a b : Nat} (ha : a < 2 ^ 30) (hb : b < 2 ^ 30) (h : nI 0 < nI a - nI b) : nI a - nI b = nI (a - b) := by
  have h1 := Int32.lt_iff_toInt_lt.mp h
  rw [pk_sub_toInt ha hb] at h1
  have h0 : (nI 0).toInt = 0 := by decide
  exact pk_sub (by omega)
theorem sp_max0_f {a b : Nat} (ha : a < 2 ^ 30) (hb : b < 2 ^ 30) (h : ¬ nI 0 < nI a - nI b) : nI 0 = nI (a - b) := by
  have h1 : ¬ (nI 0).toInt < (nI a - nI b).toInt := fun z => h (Int32.lt_iff_toInt_lt.mpr z)
  rw [pk_sub_toInt ha hb] at h1
  have h0 : (nI 0).toInt = 0 := by decide
  exact congrArg nI (by omega)
theorem tj_maxZ {l : Launch} {D : hg_D} {lo : Nat} (htr : l.stackTraces = false) {G : hg_G} {a b : Nat} (ha : a < 2 ^ 30) (hb : b < 2 ^ 30) :
    hg_M l D lo yJ8_max (ws_ yJ8_max cJ8_max 2 ((some FieldType.int))) rm_J8_max [.int (nI 0), .int (nI a - nI b)] G (hg_Pv G (.int (nI (a - b)))) := by
  refine hg_M.ofF htr (by decide +kernel) [some (.int (nI 0)), some (.int (nI a - nI b))] rfl (Nat.le_of_ble_eq_true rfl) ?_
  intro p e s m args below meth c X hr hnm htab
  have X : hg_X p l s m args meth c D lo "java/lang/Math" cJ8_max 2 := X
  refine hr_iload0 (q := 1) X dJ8_max_0 rfl ?_
  refine hr_iload1 (q := 2) X dJ8_max_1 rfl ?_
  refine hr_icmp_lt (q := 5) (tgt := 9) X dJ8_max_2 rfl (by decide) (fun c2 => ?_) (fun c2 => ?_)
  · refine hr_iload1 (q := 10) X dJ8_max_9 rfl ?_
    exact hr_iret X hr dJ8_max_10 ⟨hz_i (sp_max0_t ha hb c2), rfl⟩
  · refine hr_iload0 (q := 6) X dJ8_max_5 rfl ?_
    refine hr_goto (tgt := 10) X dJ8_max_6 (by decide) ?_
    exact hr_iret X hr dJ8_max_10 ⟨hz_i (sp_max0_f ha hb c2), rfl⟩

theorem pm_X12_kind {l : Launch} {D : hg_D} {lo : Nat} (htr : l.stackTraces = false) {G : hg_G} {b k : Nat} (hk : k ≤ 6) (hb : G.1 b = some (0, 12 + k)) :
    hg_M l D lo yX12_kind (ws_ yX12_kind cX12_kind 1 ((some FieldType.int))) rm_X12_kind [.ref b] G (hg_Pv G (.int (nI 0))) := by
  refine hg_M.of htr (by decide) [some (.ref b)] rfl (Nat.le_of_ble_eq_true rfl) ?_
  intro p e s m args below meth c X hr hnm htab
  have X : hg_X p l s m args meth c D lo "TaxOnLooks$Person" cX12_kind 1 := X
  obtain ⟨rr, hrr⟩ := hg_clP k (by omega)
  refine hr_iconst (v := (nI 0)) (q := 1) X dX12_kind_0 rfl rfl ?_
  exact hr_iret X hr dX12_kind_1 ⟨rfl, rfl⟩

theorem pm_X13_kind {l : Launch} {D : hg_D} {lo : Nat} (htr : l.stackTraces = false) {G : hg_G} {b k : Nat} (hk : k = 1 ∨ k = 2) (hb : G.1 b = some (0, 12 + k)) :
    hg_M l D lo yX13_kind (ws_ yX13_kind cX13_kind 1 ((some FieldType.int))) rm_X13_kind [.ref b] G (hg_Pv G (.int (nI 1))) := by
  refine hg_M.of htr (by decide) [some (.ref b)] rfl (Nat.le_of_ble_eq_true rfl) ?_
  intro p e s m args below meth c X hr hnm htab
  have X : hg_X p l s m args meth c D lo "TaxOnLooks$Beauty" cX13_kind 1 := X
  obtain ⟨rr, hrr⟩ := hg_clP k (by omega)
  refine hr_iconst (v := (nI 1)) (q := 1) X dX13_kind_0 rfl rfl ?_
  exact hr_iret X hr dX13_kind_1 ⟨rfl, rfl⟩

theorem pm_X14_kind {l : Launch} {D : hg_D} {lo : Nat} (htr : l.stackTraces = false) {G : hg_G} {b k : Nat} (hk : k = 2) (hb : G.1 b = some (0, 12 + k)) :
    hg_M l D lo yX14_kind (ws_ yX14_kind cX14_kind 1 ((some FieldType.int))) rm_X14_kind [.ref b] G (hg_Pv G (.int (nI 2))) := by
  refine hg_M.of htr (by decide) [some (.ref b)] rfl (Nat.le_of_ble_eq_true rfl) ?_
  intro p e s m args below meth c X hr hnm htab
  have X : hg_X p l s m args meth c D lo "TaxOnLooks$Actress" cX14_kind 1 := X
  obtain ⟨rr, hrr⟩ := hg_clP k (by omega)
  refine hr_iconst (v := (nI 2)) (q := 1) X dX14_kind_0 rfl rfl ?_
  exact hr_iret X hr dX14_kind_1 ⟨rfl, rfl⟩

theorem pm_X15_kind {l : Launch} {D : hg_D} {lo : Nat} (htr : l.stackTraces = false) {G : hg_G} {b k : Nat} (hk : k = 3 ∨ k = 5) (hb : G.1 b = some (0, 12 + k)) :
    hg_M l D lo yX15_kind (ws_ yX15_kind cX15_kind 1 ((some FieldType.int))) rm_X15_kind [.ref b] G (hg_Pv G (.int (nI 3))) := by
  refine hg_M.of htr (by decide) [some (.ref b)] rfl (Nat.le_of_ble_eq_true rfl) ?_
  intro p e s m args below meth c X hr hnm htab
  have X : hg_X p l s m args meth c D lo "TaxOnLooks$Blind" cX15_kind 1 := X
  obtain ⟨rr, hrr⟩ := hg_clP k (by omega)
  refine hr_iconst (v := (nI 3)) (q := 1) X dX15_kind_0 rfl rfl ?_
  exact hr_iret X hr dX15_kind_1 ⟨rfl, rfl⟩

theorem pm_X16_kind {l : Launch} {D : hg_D} {lo : Nat} (htr : l.stackTraces = false) {G : hg_G} {b k : Nat} (hk : k = 4 ∨ k = 6) (hb : G.1 b = some (0, 12 + k)) :
    hg_M l D lo yX16_kind (ws_ yX16_kind cX16_kind 1 ((some FieldType.int))) rm_X16_kind [.ref b] G (hg_Pv G (.int (nI 4))) := by
  refine hg_M.of htr (by decide) [some (.ref b)] rfl (Nat.le_of_ble_eq_true rfl) ?_
  intro p e s m args below meth c X hr hnm htab
  have X : hg_X p l s m args meth c D lo "TaxOnLooks$Lover" cX16_kind 1 := X
  obtain ⟨rr, hrr⟩ := hg_clP k (by omega)
  refine hr_iconst (v := (nI 4)) (q := 1) X dX16_kind_0 rfl rfl ?_
  exact hr_iret X hr dX16_kind_1 ⟨rfl, rfl⟩

theorem pm_X17_kind {l : Launch} {D : hg_D} {lo : Nat} (htr : l.stackTraces = false) {G : hg_G} {b k : Nat} (hk : k = 5) (hb : G.1 b = some (0, 12 + k)) :
    hg_M l D lo yX17_kind (ws_ yX17_kind cX17_kind 1 ((some FieldType.int))) rm_X17_kind [.ref b] G (hg_Pv G (.int (nI 5))) := by
  refine hg_M.of htr (by decide) [some (.ref b)] rfl (Nat.le_of_ble_eq_true rfl) ?_
  intro p e s m args below meth c X hr hnm htab
  have X : hg_X p l s m args meth c D lo "TaxOnLooks$Child" cX17_kind 1 := X
  obtain ⟨rr, hrr⟩ := hg_clP k (by omega)
  refine hr_iconst (v := (nI 5)) (q := 1) X dX17_kind_0 rfl rfl ?_
  exact hr_iret X hr dX17_kind_1 ⟨rfl, rfl⟩

theorem pm_X18_kind {l : Launch} {D : hg_D} {lo : Nat} (htr : l.stackTraces = false) {G : hg_G} {b k : Nat} (hk : k = 6) (hb : G.1 b = some (0, 12 + k)) :
    hg_M l D lo yX18_kind (ws_ yX18_kind cX18_kind 1 ((some FieldType.int))) rm_X18_kind [.ref b] G (hg_Pv G (.int (nI 6))) := by
  refine hg_M.of htr (by decide) [some (.ref b)] rfl (Nat.le_of_ble_eq_true rfl) ?_
  intro p e s m args below meth c X hr hnm htab
  have X : hg_X p l s m args meth c D lo "TaxOnLooks$Shamed" cX18_kind 1 := X
  obtain ⟨rr, hrr⟩ := hg_clP k (by omega)
  refine hr_bipush (v := (nI 6)) (q := 2) X dX18_kind_0 rfl rfl ?_
  exact hr_iret X hr dX18_kind_2 ⟨rfl, rfl⟩

theorem pm_X12_shows {l : Launch} {D : hg_D} {lo : Nat} (htr : l.stackTraces = false) {G : hg_G} {b k : Nat} (hk : k ≤ 6) (hb : G.1 b = some (0, 12 + k)) {w : Nat} (hw : w ≤ 20) {b1 s1 : Nat} (h1 : G.2.1 b 1 = nI b1) (h2 : G.2.1 b 2 = nI s1) (hb1 : b1 ≤ 9) (hs1 : s1 ≤ 9) :
    hg_M l D lo yX12_shows (ws_ yX12_shows cX12_shows 2 ((some FieldType.int))) rm_X12_shows [.ref b, .int (nI w)] G (hg_Pv G (.int (nI (sp_shK 0 w b1 s1)))) := by
  refine hg_M.of htr (by decide) [some (.ref b), some (.int (nI w))] rfl (Nat.le_of_ble_eq_true rfl) ?_
  intro p e s m args below meth c X hr hnm htab
  have X : hg_X p l s m args meth c D lo "TaxOnLooks$Person" cX12_shows 2 := X
  obtain ⟨rr, hrr⟩ := hg_clP k (by omega)
  refine hr_iload1 (q := 1) X dX12_shows_0 rfl ?_
  exact hr_iret X hr dX12_shows_1 ⟨hz_i (congrArg nI (by simp [sp_shK, sp_owK])), rfl⟩

theorem pm_X13_shows {l : Launch} {D : hg_D} {lo : Nat} (htr : l.stackTraces = false) {G : hg_G} {b k : Nat} (hk : k = 1 ∨ k = 2) (hb : G.1 b = some (0, 12 + k)) {w : Nat} (hw : w ≤ 20) {b1 s1 : Nat} (h1 : G.2.1 b 1 = nI b1) (h2 : G.2.1 b 2 = nI s1) (hb1 : b1 ≤ 9) (hs1 : s1 ≤ 9) :
    hg_M l D lo yX13_shows (ws_ yX13_shows cX13_shows 2 ((some FieldType.int))) rm_X13_shows [.ref b, .int (nI w)] G (hg_Pv G (.int (nI (sp_shK 1 w b1 s1)))) := by
  refine hg_M.of htr (by decide) [some (.ref b), some (.int (nI w))] rfl (Nat.le_of_ble_eq_true rfl) ?_
  intro p e s m args below meth c X hr hnm htab
  have X : hg_X p l s m args meth c D lo "TaxOnLooks$Beauty" cX13_shows 2 := X
  obtain ⟨rr, hrr⟩ := hg_clP k (by omega)
  refine hr_iconst (v := (nI 2)) (q := 1) X dX13_shows_0 rfl rfl ?_
  refine hr_aload0 (q := 2) X dX13_shows_1 rfl ?_
  refine hr_iload1 (q := 3) X dX13_shows_2 rfl ?_
  refine hr_callP (v := .int (nI w)) (q := 6) (hc_SU (n := 1) (As := [.int (nI w)]) X dX13_shows_3 rfl (pm_X12_shows X.tr (k := k) (by omega) hb (w := w) hw h1 h2 hb1 hs1) q602 q594 q603 q592 q104 q604 ⟨by decide, by decide +kernel⟩ ⟨Nat.le_of_ble_eq_true rfl, Nat.le_of_ble_eq_true rfl⟩ rfl (Nat.le_of_ble_eq_true rfl) hb hrr) rfl ?_
  refine hr_imul (v := (nI (2 * w))) (q := 7) X dX13_shows_6 rfl (pk_mul _ _) ?_
  exact hr_iret X hr dX13_shows_7 ⟨hz_i (congrArg nI (by simp [sp_shK, sp_owK])), rfl⟩

theorem pm_X14_shows {l : Launch} {D : hg_D} {lo : Nat} (htr : l.stackTraces = false) {G : hg_G} {b k : Nat} (hk : k = 2) (hb : G.1 b = some (0, 12 + k)) {w : Nat} (hw : w ≤ 20) {b1 s1 : Nat} (h1 : G.2.1 b 1 = nI b1) (h2 : G.2.1 b 2 = nI s1) (hb1 : b1 ≤ 9) (hs1 : s1 ≤ 9) :
    hg_M l D lo yX14_shows (ws_ yX14_shows cX14_shows 2 ((some FieldType.int))) rm_X14_shows [.ref b, .int (nI w)] G (hg_Pv G (.int (nI (sp_shK 2 w b1 s1)))) := by
  refine hg_M.of htr (by decide) [some (.ref b), some (.int (nI w))] rfl (Nat.le_of_ble_eq_true rfl) ?_
  intro p e s m args below meth c X hr hnm htab
  have X : hg_X p l s m args meth c D lo "TaxOnLooks$Actress" cX14_shows 2 := X
  obtain ⟨rr, hrr⟩ := hg_clP k (by omega)
  refine hr_aload0 (q := 1) X dX14_shows_0 rfl ?_
  refine hr_iload1 (q := 2) X dX14_shows_1 rfl ?_
  refine hr_callP (v := .int (nI (2 * w))) (q := 5) (hc_SU (n := 1) (As := [.int (nI w)]) X dX14_shows_2 rfl (pm_X13_shows X.tr (k := k) (by omega) hb (w := w) hw h1 h2 hb1 hs1) q598 q1863 q599 q600 q105 q601 ⟨by decide, by decide +kernel⟩ ⟨Nat.le_of_ble_eq_true rfl, Nat.le_of_ble_eq_true rfl⟩ rfl (Nat.le_of_ble_eq_true rfl) hb hrr) rfl ?_
  refine hr_aload0 (q := 6) X dX14_shows_5 rfl ?_
  refine hr_getI (v := (nI b1)) (q := 9) X dX14_shows_6 rfl (fp_q666 _ hk) (fp_ft _ (by omega) 1 (by decide)) hb h1 ?_
  refine hr_iadd (v := (nI (2 * w + b1))) (q := 10) X dX14_shows_9 rfl (nI_add _ _) ?_
  exact hr_iret X hr dX14_shows_10 ⟨hz_i (congrArg nI (by simp [sp_shK, sp_owK])), rfl⟩

theorem pm_X18_shows {l : Launch} {D : hg_D} {lo : Nat} (htr : l.stackTraces = false) {G : hg_G} {b k : Nat} (hk : k = 6) (hb : G.1 b = some (0, 12 + k)) {w : Nat} (hw : w ≤ 20) {b1 s1 : Nat} (h1 : G.2.1 b 1 = nI b1) (h2 : G.2.1 b 2 = nI s1) (hb1 : b1 ≤ 9) (hs1 : s1 ≤ 9) :
    hg_M l D lo yX18_shows (ws_ yX18_shows cX18_shows 2 ((some FieldType.int))) rm_X18_shows [.ref b, .int (nI w)] G (hg_Pv G (.int (nI (sp_shK 6 w b1 s1)))) := by
  refine hg_M.of htr (by decide) [some (.ref b), some (.int (nI w))] rfl (Nat.le_of_ble_eq_true rfl) ?_
  intro p e s m args below meth c X hr hnm htab
  have X : hg_X p l s m args meth c D lo "TaxOnLooks$Shamed" cX18_shows 2 := X
  obtain ⟨rr, hrr⟩ := hg_clP k (by omega)
  refine hr_iconst (v := (nI 0)) (q := 1) X dX18_shows_0 rfl rfl ?_
  refine hr_aload0 (q := 2) X dX18_shows_1 rfl ?_
  refine hr_iload1 (q := 3) X dX18_shows_2 rfl ?_
  refine hr_callP (v := .int (nI w)) (q := 6) (hc_SG (P := "TaxOnLooks$Lover") (n := 1) (As := [.int (nI w)]) X dX18_shows_3 rfl (pm_X12_shows X.tr (k := k) (by omega) hb (w := w) hw h1 h2 hb1 hs1) q612 q613 q615 q616 q592 q104 q604 ⟨by decide, by decide +kernel⟩ ⟨Nat.le_of_ble_eq_true rfl, Nat.le_of_ble_eq_true rfl⟩ rfl (Nat.le_of_ble_eq_true rfl) hb hrr) rfl ?_
  refine hr_aload0 (q := 7) X dX18_shows_6 rfl ?_
  refine hr_getI (v := (nI s1)) (q := 10) X dX18_shows_7 rfl (fp_q674 _ hk) (fp_ft _ (by omega) 2 (by decide)) hb h2 ?_
  refine hr_isub (v := (nI w - nI s1)) (q := 11) X dX18_shows_10 rfl rfl ?_
  refine hr_callP (v := .int (nI (w - s1))) (q := 14) (hc_S (n := 2) (As := [.int (nI 0), .int (nI w - nI s1)]) X dX18_shows_11 rfl (tj_maxZ X.tr (a := w) (b := s1) (by omega) (by omega)) q617 cs_J8_max ⟨Nat.le_of_ble_eq_true rfl, Nat.le_of_ble_eq_true rfl⟩ rfl (Nat.le_of_ble_eq_true rfl)) rfl ?_
  exact hr_iret X hr dX18_shows_14 ⟨hz_i (congrArg nI (by simp [sp_shK, sp_owK])), rfl⟩

theorem pm_X12_owes {l : Launch} {D : hg_D} {lo : Nat} (htr : l.stackTraces = false) {G : hg_G} {b k : Nat} (hk : k ≤ 6) (hb : G.1 b = some (0, 12 + k)) {d : Nat} (hd : d ≤ 63) :
    hg_M l D lo yX12_owes (ws_ yX12_owes cX12_owes 2 ((some FieldType.int))) rm_X12_owes [.ref b, .int (nI d)] G (hg_Pv G (.int (nI (sp_owK 0 d)))) := by
  refine hg_M.of htr (by decide) [some (.ref b), some (.int (nI d))] rfl (Nat.le_of_ble_eq_true rfl) ?_
  intro p e s m args below meth c X hr hnm htab
  have X : hg_X p l s m args meth c D lo "TaxOnLooks$Person" cX12_owes 2 := X
  obtain ⟨rr, hrr⟩ := hg_clP k (by omega)
  refine hr_iload1 (q := 1) X dX12_owes_0 rfl ?_
  exact hr_iret X hr dX12_owes_1 ⟨hz_i (congrArg nI (by simp [sp_shK, sp_owK])), rfl⟩

theorem pm_X14_owes {l : Launch} {D : hg_D} {lo : Nat} (htr : l.stackTraces = false) {G : hg_G} {b k : Nat} (hk : k = 2) (hb : G.1 b = some (0, 12 + k)) {d : Nat} (hd : d ≤ 63) :
    hg_M l D lo yX14_owes (ws_ yX14_owes cX14_owes 2 ((some FieldType.int))) rm_X14_owes [.ref b, .int (nI d)] G (hg_Pv G (.int (nI (sp_owK 2 d)))) := by
  refine hg_M.of htr (by decide) [some (.ref b), some (.int (nI d))] rfl (Nat.le_of_ble_eq_true rfl) ?_
  intro p e s m args below meth c X hr hnm htab
  have X : hg_X p l s m args meth c D lo "TaxOnLooks$Actress" cX14_owes 2 := X
  obtain ⟨rr, hrr⟩ := hg_clP k (by omega)
  refine hr_iload1 (q := 1) X dX14_owes_0 rfl ?_
  refine hr_iload1 (q := 2) X dX14_owes_1 rfl ?_
  refine hr_bipush (v := (nI 9)) (q := 4) X dX14_owes_2 rfl rfl ?_
  refine hr_idiv (v := (nI (d / 9))) (q := 5) X dX14_owes_4 rfl (by decide) (pk_div (by omega) (by decide) (by decide)) ?_
  refine hr_isub (v := (nI (d - (d / 9)))) (q := 6) X dX14_owes_5 rfl (pk_sub (by omega)) ?_
  exact hr_iret X hr dX14_owes_6 ⟨hz_i (congrArg nI (by simp [sp_shK, sp_owK])), rfl⟩

theorem pm_X17_owes {l : Launch} {D : hg_D} {lo : Nat} (htr : l.stackTraces = false) {G : hg_G} {b k : Nat} (hk : k = 5) (hb : G.1 b = some (0, 12 + k)) {d : Nat} (hd : d ≤ 63) :
    hg_M l D lo yX17_owes (ws_ yX17_owes cX17_owes 2 ((some FieldType.int))) rm_X17_owes [.ref b, .int (nI d)] G (hg_Pv G (.int (nI (sp_owK 5 d)))) := by
  refine hg_M.of htr (by decide) [some (.ref b), some (.int (nI d))] rfl (Nat.le_of_ble_eq_true rfl) ?_
  intro p e s m args below meth c X hr hnm htab
  have X : hg_X p l s m args meth c D lo "TaxOnLooks$Child" cX17_owes 2 := X
  obtain ⟨rr, hrr⟩ := hg_clP k (by omega)
  refine hr_iconst (v := (nI 0)) (q := 1) X dX17_owes_0 rfl rfl ?_
  exact hr_iret X hr dX17_owes_1 ⟨rfl, rfl⟩

theorem pm_X12_looksAtAll {l : Launch} {D : hg_D} {lo : Nat} (htr : l.stackTraces = false) {G : hg_G} {b k : Nat} (hk : k ≤ 6) (hb : G.1 b = some (0, 12 + k)) :
    hg_M l D lo yX12_looksAtAll (ws_ yX12_looksAtAll cX12_looksAtAll 1 ((some FieldType.boolean))) rm_X12_looksAtAll [.ref b] G (hg_Pv G (.int (bI (sp_atAll 0)))) := by
  refine hg_M.of htr (by decide) [some (.ref b)] rfl (Nat.le_of_ble_eq_true rfl) ?_
  intro p e s m args below meth c X hr hnm htab
  have X : hg_X p l s m args meth c D lo "TaxOnLooks$Person" cX12_looksAtAll 1 := X
  obtain ⟨rr, hrr⟩ := hg_clP k (by omega)
  refine hr_iconst (v := (nI 1)) (q := 1) X dX12_looksAtAll_0 rfl rfl ?_
  exact hr_zret X hr rfl dX12_looksAtAll_1 ⟨hz_b1 rfl, rfl⟩

theorem pm_X15_looksAtAll {l : Launch} {D : hg_D} {lo : Nat} (htr : l.stackTraces = false) {G : hg_G} {b k : Nat} (hk : k = 3 ∨ k = 5) (hb : G.1 b = some (0, 12 + k)) :
    hg_M l D lo yX15_looksAtAll (ws_ yX15_looksAtAll cX15_looksAtAll 1 ((some FieldType.boolean))) rm_X15_looksAtAll [.ref b] G (hg_Pv G (.int (bI (sp_atAll 3)))) := by
  refine hg_M.of htr (by decide) [some (.ref b)] rfl (Nat.le_of_ble_eq_true rfl) ?_
  intro p e s m args below meth c X hr hnm htab
  have X : hg_X p l s m args meth c D lo "TaxOnLooks$Blind" cX15_looksAtAll 1 := X
  obtain ⟨rr, hrr⟩ := hg_clP k (by omega)
  refine hr_iconst (v := (nI 0)) (q := 1) X dX15_looksAtAll_0 rfl rfl ?_
  exact hr_zret X hr rfl dX15_looksAtAll_1 ⟨hz_b0 rfl, rfl⟩

theorem pm_X12_looksAtOne {l : Launch} {D : hg_D} {lo : Nat} (htr : l.stackTraces = false) {G : hg_G} {b k : Nat} (hk : k ≤ 6) (hb : G.1 b = some (0, 12 + k)) :
    hg_M l D lo yX12_looksAtOne (ws_ yX12_looksAtOne cX12_looksAtOne 1 ((some FieldType.boolean))) rm_X12_looksAtOne [.ref b] G (hg_Pv G (.int (bI (sp_atOne 0)))) := by
  refine hg_M.of htr (by decide) [some (.ref b)] rfl (Nat.le_of_ble_eq_true rfl) ?_
  intro p e s m args below meth c X hr hnm htab
  have X : hg_X p l s m args meth c D lo "TaxOnLooks$Person" cX12_looksAtOne 1 := X
  obtain ⟨rr, hrr⟩ := hg_clP k (by omega)
  refine hr_iconst (v := (nI 0)) (q := 1) X dX12_looksAtOne_0 rfl rfl ?_
  exact hr_zret X hr rfl dX12_looksAtOne_1 ⟨hz_b0 rfl, rfl⟩

theorem pm_X16_looksAtOne {l : Launch} {D : hg_D} {lo : Nat} (htr : l.stackTraces = false) {G : hg_G} {b k : Nat} (hk : k = 4 ∨ k = 6) (hb : G.1 b = some (0, 12 + k)) :
    hg_M l D lo yX16_looksAtOne (ws_ yX16_looksAtOne cX16_looksAtOne 1 ((some FieldType.boolean))) rm_X16_looksAtOne [.ref b] G (hg_Pv G (.int (bI (sp_atOne 4)))) := by
  refine hg_M.of htr (by decide) [some (.ref b)] rfl (Nat.le_of_ble_eq_true rfl) ?_
  intro p e s m args below meth c X hr hnm htab
  have X : hg_X p l s m args meth c D lo "TaxOnLooks$Lover" cX16_looksAtOne 1 := X
  obtain ⟨rr, hrr⟩ := hg_clP k (by omega)
  refine hr_iconst (v := (nI 1)) (q := 1) X dX16_looksAtOne_0 rfl rfl ?_
  exact hr_zret X hr rfl dX16_looksAtOne_1 ⟨hz_b1 rfl, rfl⟩

theorem hcP_kind {p : Program} {l : Launch} {e : Env} {R : Room} {s : State} {m : MethodId} {args : Array Value} {below : List Frame} {meth : Method} {c : Code} {D : hg_D} {lo : Nat} {C0 : hg_K} {nL : Nat} {G : hg_G} {own : String} {cc : ByteArray} {pc : Nat} {L : List (Option Value)} {rest : List Value} {index : Nat} {b k : Nat} (hk : k ≤ 6) (hb : G.1 b = some (0, 12 + k)) (X : hg_X p l s m args meth c D lo own cc nL) (hdc : decode cc pc = .ok (.invokevirtual index, 3)) (hl : Cond.methodLink own index yX12_kind ∈ lw_all) (hR : 1 ≤ R.frames ∧ 20 ≤ R.locals) (hrest : (rest.map fun v => v.category).sum ≤ 8) :
    hg_Call p l e R s m args below meth c D lo C0 nL G pc L (.ref b :: rest) rest 0 0 (hg_Pv G (.int (nI k))) := by
  match k, hk with
  | 0, _ => exact hc_U (n := 0) (As := []) (owner := "TaxOnLooks$Person") X hdc rfl (pm_X12_kind X.tr (k := 0) (by decide) hb) hl q785 q784 q783 q104 q804 (Or.inr ⟨_, _, _, q783, q804⟩) ⟨by decide +kernel, by decide +kernel, by decide +kernel⟩ ⟨Nat.le_trans (by decide) hR.1, Nat.le_trans (by decide) hR.2⟩ rfl hrest hb rfl rfl
  | 1, _ => exact hc_U (n := 0) (As := []) (owner := "TaxOnLooks$Person") X hdc rfl (pm_X13_kind X.tr (k := 1) (by decide) hb) hl q785 q789 q790 q105 q791 (Or.inr ⟨_, _, _, q783, q804⟩) ⟨by decide +kernel, by decide +kernel, by decide +kernel⟩ ⟨Nat.le_trans (by decide) hR.1, Nat.le_trans (by decide) hR.2⟩ rfl hrest hb rfl rfl
  | 2, _ => exact hc_U (n := 0) (As := []) (owner := "TaxOnLooks$Person") X hdc rfl (pm_X14_kind X.tr (k := 2) (by decide) hb) hl q785 q786 q787 q106 q788 (Or.inr ⟨_, _, _, q783, q804⟩) ⟨by decide +kernel, by decide +kernel, by decide +kernel⟩ ⟨Nat.le_trans (by decide) hR.1, Nat.le_trans (by decide) hR.2⟩ rfl hrest hb rfl rfl
  | 3, _ => exact hc_U (n := 0) (As := []) (owner := "TaxOnLooks$Person") X hdc rfl (pm_X15_kind X.tr (k := 3) (by decide) hb) hl q785 q792 q793 q107 q794 (Or.inr ⟨_, _, _, q783, q804⟩) ⟨by decide +kernel, by decide +kernel, by decide +kernel⟩ ⟨Nat.le_trans (by decide) hR.1, Nat.le_trans (by decide) hR.2⟩ rfl hrest hb rfl rfl
  | 4, _ => exact hc_U (n := 0) (As := []) (owner := "TaxOnLooks$Person") X hdc rfl (pm_X16_kind X.tr (k := 4) (by decide) hb) hl q785 q798 q799 q108 q800 (Or.inr ⟨_, _, _, q783, q804⟩) ⟨by decide +kernel, by decide +kernel, by decide +kernel⟩ ⟨Nat.le_trans (by decide) hR.1, Nat.le_trans (by decide) hR.2⟩ rfl hrest hb rfl rfl
  | 5, _ => exact hc_U (n := 0) (As := []) (owner := "TaxOnLooks$Person") X hdc rfl (pm_X17_kind X.tr (k := 5) (by decide) hb) hl q785 q795 q796 q109 q797 (Or.inr ⟨_, _, _, q783, q804⟩) ⟨by decide +kernel, by decide +kernel, by decide +kernel⟩ ⟨Nat.le_trans (by decide) hR.1, Nat.le_trans (by decide) hR.2⟩ rfl hrest hb rfl rfl
  | 6, _ => exact hc_U (n := 0) (As := []) (owner := "TaxOnLooks$Person") X hdc rfl (pm_X18_kind X.tr (k := 6) (by decide) hb) hl q785 q801 q802 q110 q803 (Or.inr ⟨_, _, _, q783, q804⟩) ⟨by decide +kernel, by decide +kernel, by decide +kernel⟩ ⟨Nat.le_trans (by decide) hR.1, Nat.le_trans (by decide) hR.2⟩ rfl hrest hb rfl rfl
  | (k + 7), h => omega

theorem hcP_shows {p : Program} {l : Launch} {e : Env} {R : Room} {s : State} {m : MethodId} {args : Array Value} {below : List Frame} {meth : Method} {c : Code} {D : hg_D} {lo : Nat} {C0 : hg_K} {nL : Nat} {G : hg_G} {own : String} {cc : ByteArray} {pc : Nat} {L : List (Option Value)} {rest : List Value} {index : Nat} {b k : Nat} (hk : k ≤ 6) (hb : G.1 b = some (0, 12 + k)) {w : Nat} (hw : w ≤ 20) {b1 s1 : Nat} (h1 : G.2.1 b 1 = nI b1) (h2 : G.2.1 b 2 = nI s1) (hb1 : b1 ≤ 9) (hs1 : s1 ≤ 9) (X : hg_X p l s m args meth c D lo own cc nL) (hdc : decode cc pc = .ok (.invokevirtual index, 3)) (hl : Cond.methodLink own index yX12_shows ∈ lw_all) (hR : 3 ≤ R.frames ∧ 63 ≤ R.locals) (hrest : (rest.map fun v => v.category).sum ≤ 8) :
    hg_Call p l e R s m args below meth c D lo C0 nL G pc L (.int (nI w) :: .ref b :: rest) rest 0 0 (hg_Pv G (.int (nI (sp_shK k w b1 s1)))) := by
  match k, hk with
  | 0, _ => exact hc_U (n := 1) (As := [.int (nI w)]) (owner := "TaxOnLooks$Person") X hdc rfl (pm_X12_shows X.tr (k := 0) (by decide) hb (w := w) hw h1 h2 hb1 hs1) hl q594 q593 q592 q104 q604 (Or.inl (by decide)) ⟨by decide +kernel, by decide +kernel, by decide +kernel⟩ ⟨Nat.le_trans (by decide) hR.1, Nat.le_trans (by decide) hR.2⟩ rfl hrest hb rfl rfl
  | 1, _ => exact hc_U (n := 1) (As := [.int (nI w)]) (owner := "TaxOnLooks$Person") X hdc rfl (pm_X13_shows X.tr (k := 1) (by decide) hb (w := w) hw h1 h2 hb1 hs1) hl q594 q605 q600 q105 q601 (Or.inl (by decide)) ⟨by decide +kernel, by decide +kernel, by decide +kernel⟩ ⟨Nat.le_trans (by decide) hR.1, Nat.le_trans (by decide) hR.2⟩ rfl hrest hb rfl rfl
  | 2, _ => exact hc_U (n := 1) (As := [.int (nI w)]) (owner := "TaxOnLooks$Person") X hdc rfl (pm_X14_shows X.tr (k := 2) (by decide) hb (w := w) hw h1 h2 hb1 hs1) hl q594 q595 q596 q106 q597 (Or.inl (by decide)) ⟨by decide +kernel, by decide +kernel, by decide +kernel⟩ ⟨Nat.le_trans (by decide) hR.1, Nat.le_trans (by decide) hR.2⟩ rfl hrest hb rfl rfl
  | 3, _ => exact hc_U (n := 1) (As := [.int (nI w)]) (owner := "TaxOnLooks$Person") X hdc rfl (pm_X12_shows X.tr (k := 3) (by decide) hb (w := w) hw h1 h2 hb1 hs1) hl q594 q606 q592 q104 q604 (Or.inl (by decide)) ⟨by decide +kernel, by decide +kernel, by decide +kernel⟩ ⟨Nat.le_trans (by decide) hR.1, Nat.le_trans (by decide) hR.2⟩ rfl hrest hb rfl rfl
  | 4, _ => exact hc_U (n := 1) (As := [.int (nI w)]) (owner := "TaxOnLooks$Person") X hdc rfl (pm_X12_shows X.tr (k := 4) (by decide) hb (w := w) hw h1 h2 hb1 hs1) hl q594 q608 q592 q104 q604 (Or.inl (by decide)) ⟨by decide +kernel, by decide +kernel, by decide +kernel⟩ ⟨Nat.le_trans (by decide) hR.1, Nat.le_trans (by decide) hR.2⟩ rfl hrest hb rfl rfl
  | 5, _ => exact hc_U (n := 1) (As := [.int (nI w)]) (owner := "TaxOnLooks$Person") X hdc rfl (pm_X12_shows X.tr (k := 5) (by decide) hb (w := w) hw h1 h2 hb1 hs1) hl q594 q607 q592 q104 q604 (Or.inl (by decide)) ⟨by decide +kernel, by decide +kernel, by decide +kernel⟩ ⟨Nat.le_trans (by decide) hR.1, Nat.le_trans (by decide) hR.2⟩ rfl hrest hb rfl rfl
  | 6, _ => exact hc_U (n := 1) (As := [.int (nI w)]) (owner := "TaxOnLooks$Person") X hdc rfl (pm_X18_shows X.tr (k := 6) (by decide) hb (w := w) hw h1 h2 hb1 hs1) hl q594 q609 q610 q110 q611 (Or.inl (by decide)) ⟨by decide +kernel, by decide +kernel, by decide +kernel⟩ ⟨Nat.le_trans (by decide) hR.1, Nat.le_trans (by decide) hR.2⟩ rfl hrest hb rfl rfl
  | (k + 7), h => omega

theorem hcP_owes {p : Program} {l : Launch} {e : Env} {R : Room} {s : State} {m : MethodId} {args : Array Value} {below : List Frame} {meth : Method} {c : Code} {D : hg_D} {lo : Nat} {C0 : hg_K} {nL : Nat} {G : hg_G} {own : String} {cc : ByteArray} {pc : Nat} {L : List (Option Value)} {rest : List Value} {index : Nat} {b k : Nat} (hk : k ≤ 6) (hb : G.1 b = some (0, 12 + k)) {d : Nat} (hd : d ≤ 63) (X : hg_X p l s m args meth c D lo own cc nL) (hdc : decode cc pc = .ok (.invokevirtual index, 3)) (hl : Cond.methodLink own index yX12_owes ∈ lw_all) (hR : 1 ≤ R.frames ∧ 21 ≤ R.locals) (hrest : (rest.map fun v => v.category).sum ≤ 8) :
    hg_Call p l e R s m args below meth c D lo C0 nL G pc L (.int (nI d) :: .ref b :: rest) rest 0 0 (hg_Pv G (.int (nI (sp_owK k d)))) := by
  match k, hk with
  | 0, _ => exact hc_U (n := 1) (As := [.int (nI d)]) (owner := "TaxOnLooks$Person") X hdc rfl (pm_X12_owes X.tr (k := 0) (by decide) hb (d := d) hd) hl q1089 q1088 q1087 q104 q1100 (Or.inr ⟨_, _, _, q1087, q1100⟩) ⟨by decide +kernel, by decide +kernel, by decide +kernel⟩ ⟨Nat.le_trans (by decide) hR.1, Nat.le_trans (by decide) hR.2⟩ rfl hrest hb rfl rfl
  | 1, _ => exact hc_U (n := 1) (As := [.int (nI d)]) (owner := "TaxOnLooks$Person") X hdc rfl (pm_X12_owes X.tr (k := 1) (by decide) hb (d := d) hd) hl q1089 q1093 q1087 q104 q1100 (Or.inr ⟨_, _, _, q1087, q1100⟩) ⟨by decide +kernel, by decide +kernel, by decide +kernel⟩ ⟨Nat.le_trans (by decide) hR.1, Nat.le_trans (by decide) hR.2⟩ rfl hrest hb rfl rfl
  | 2, _ => exact hc_U (n := 1) (As := [.int (nI d)]) (owner := "TaxOnLooks$Person") X hdc rfl (pm_X14_owes X.tr (k := 2) (by decide) hb (d := d) hd) hl q1089 q1090 q1091 q106 q1092 (Or.inr ⟨_, _, _, q1087, q1100⟩) ⟨by decide +kernel, by decide +kernel, by decide +kernel⟩ ⟨Nat.le_trans (by decide) hR.1, Nat.le_trans (by decide) hR.2⟩ rfl hrest hb rfl rfl
  | 3, _ => exact hc_U (n := 1) (As := [.int (nI d)]) (owner := "TaxOnLooks$Person") X hdc rfl (pm_X12_owes X.tr (k := 3) (by decide) hb (d := d) hd) hl q1089 q1094 q1087 q104 q1100 (Or.inr ⟨_, _, _, q1087, q1100⟩) ⟨by decide +kernel, by decide +kernel, by decide +kernel⟩ ⟨Nat.le_trans (by decide) hR.1, Nat.le_trans (by decide) hR.2⟩ rfl hrest hb rfl rfl
  | 4, _ => exact hc_U (n := 1) (As := [.int (nI d)]) (owner := "TaxOnLooks$Person") X hdc rfl (pm_X12_owes X.tr (k := 4) (by decide) hb (d := d) hd) hl q1089 q1098 q1087 q104 q1100 (Or.inr ⟨_, _, _, q1087, q1100⟩) ⟨by decide +kernel, by decide +kernel, by decide +kernel⟩ ⟨Nat.le_trans (by decide) hR.1, Nat.le_trans (by decide) hR.2⟩ rfl hrest hb rfl rfl
  | 5, _ => exact hc_U (n := 1) (As := [.int (nI d)]) (owner := "TaxOnLooks$Person") X hdc rfl (pm_X17_owes X.tr (k := 5) (by decide) hb (d := d) hd) hl q1089 q1095 q1096 q109 q1097 (Or.inr ⟨_, _, _, q1087, q1100⟩) ⟨by decide +kernel, by decide +kernel, by decide +kernel⟩ ⟨Nat.le_trans (by decide) hR.1, Nat.le_trans (by decide) hR.2⟩ rfl hrest hb rfl rfl
  | 6, _ => exact hc_U (n := 1) (As := [.int (nI d)]) (owner := "TaxOnLooks$Person") X hdc rfl (pm_X12_owes X.tr (k := 6) (by decide) hb (d := d) hd) hl q1089 q1099 q1087 q104 q1100 (Or.inr ⟨_, _, _, q1087, q1100⟩) ⟨by decide +kernel, by decide +kernel, by decide +kernel⟩ ⟨Nat.le_trans (by decide) hR.1, Nat.le_trans (by decide) hR.2⟩ rfl hrest hb rfl rfl
  | (k + 7), h => omega

theorem hcP_looksAtAll {p : Program} {l : Launch} {e : Env} {R : Room} {s : State} {m : MethodId} {args : Array Value} {below : List Frame} {meth : Method} {c : Code} {D : hg_D} {lo : Nat} {C0 : hg_K} {nL : Nat} {G : hg_G} {own : String} {cc : ByteArray} {pc : Nat} {L : List (Option Value)} {rest : List Value} {index : Nat} {b k : Nat} (hk : k ≤ 6) (hb : G.1 b = some (0, 12 + k)) (X : hg_X p l s m args meth c D lo own cc nL) (hdc : decode cc pc = .ok (.invokevirtual index, 3)) (hl : Cond.methodLink own index yX12_looksAtAll ∈ lw_all) (hR : 1 ≤ R.frames ∧ 20 ≤ R.locals) (hrest : (rest.map fun v => v.category).sum ≤ 8) :
    hg_Call p l e R s m args below meth c D lo C0 nL G pc L (.ref b :: rest) rest 0 0 (hg_Pv G (.int (bI (sp_atAll k)))) := by
  match k, hk with
  | 0, _ => exact hc_U (n := 0) (As := []) (owner := "TaxOnLooks$Person") X hdc rfl (pm_X12_looksAtAll X.tr (k := 0) (by decide) hb) hl q1033 q1032 q1031 q104 q1042 (Or.inr ⟨_, _, _, q1031, q1042⟩) ⟨by decide +kernel, by decide +kernel, by decide +kernel⟩ ⟨Nat.le_trans (by decide) hR.1, Nat.le_trans (by decide) hR.2⟩ rfl hrest hb rfl rfl
  | 1, _ => exact hc_U (n := 0) (As := []) (owner := "TaxOnLooks$Person") X hdc rfl (pm_X12_looksAtAll X.tr (k := 1) (by decide) hb) hl q1033 q1035 q1031 q104 q1042 (Or.inr ⟨_, _, _, q1031, q1042⟩) ⟨by decide +kernel, by decide +kernel, by decide +kernel⟩ ⟨Nat.le_trans (by decide) hR.1, Nat.le_trans (by decide) hR.2⟩ rfl hrest hb rfl rfl
  | 2, _ => exact hc_U (n := 0) (As := []) (owner := "TaxOnLooks$Person") X hdc rfl (pm_X12_looksAtAll X.tr (k := 2) (by decide) hb) hl q1033 q1034 q1031 q104 q1042 (Or.inr ⟨_, _, _, q1031, q1042⟩) ⟨by decide +kernel, by decide +kernel, by decide +kernel⟩ ⟨Nat.le_trans (by decide) hR.1, Nat.le_trans (by decide) hR.2⟩ rfl hrest hb rfl rfl
  | 3, _ => exact hc_U (n := 0) (As := []) (owner := "TaxOnLooks$Person") X hdc rfl (pm_X15_looksAtAll X.tr (k := 3) (by decide) hb) hl q1033 q1036 q1037 q107 q1038 (Or.inr ⟨_, _, _, q1031, q1042⟩) ⟨by decide +kernel, by decide +kernel, by decide +kernel⟩ ⟨Nat.le_trans (by decide) hR.1, Nat.le_trans (by decide) hR.2⟩ rfl hrest hb rfl rfl
  | 4, _ => exact hc_U (n := 0) (As := []) (owner := "TaxOnLooks$Person") X hdc rfl (pm_X12_looksAtAll X.tr (k := 4) (by decide) hb) hl q1033 q1040 q1031 q104 q1042 (Or.inr ⟨_, _, _, q1031, q1042⟩) ⟨by decide +kernel, by decide +kernel, by decide +kernel⟩ ⟨Nat.le_trans (by decide) hR.1, Nat.le_trans (by decide) hR.2⟩ rfl hrest hb rfl rfl
  | 5, _ => exact hc_U (n := 0) (As := []) (owner := "TaxOnLooks$Person") X hdc rfl (pm_X15_looksAtAll X.tr (k := 5) (by decide) hb) hl q1033 q1039 q1037 q107 q1038 (Or.inr ⟨_, _, _, q1031, q1042⟩) ⟨by decide +kernel, by decide +kernel, by decide +kernel⟩ ⟨Nat.le_trans (by decide) hR.1, Nat.le_trans (by decide) hR.2⟩ rfl hrest hb rfl rfl
  | 6, _ => exact hc_U (n := 0) (As := []) (owner := "TaxOnLooks$Person") X hdc rfl (pm_X12_looksAtAll X.tr (k := 6) (by decide) hb) hl q1033 q1041 q1031 q104 q1042 (Or.inr ⟨_, _, _, q1031, q1042⟩) ⟨by decide +kernel, by decide +kernel, by decide +kernel⟩ ⟨Nat.le_trans (by decide) hR.1, Nat.le_trans (by decide) hR.2⟩ rfl hrest hb rfl rfl
  | (k + 7), h => omega

theorem hcP_looksAtOne {p : Program} {l : Launch} {e : Env} {R : Room} {s : State} {m : MethodId} {args : Array Value} {below : List Frame} {meth : Method} {c : Code} {D : hg_D} {lo : Nat} {C0 : hg_K} {nL : Nat} {G : hg_G} {own : String} {cc : ByteArray} {pc : Nat} {L : List (Option Value)} {rest : List Value} {index : Nat} {b k : Nat} (hk : k ≤ 6) (hb : G.1 b = some (0, 12 + k)) (X : hg_X p l s m args meth c D lo own cc nL) (hdc : decode cc pc = .ok (.invokevirtual index, 3)) (hl : Cond.methodLink own index yX12_looksAtOne ∈ lw_all) (hR : 1 ≤ R.frames ∧ 20 ≤ R.locals) (hrest : (rest.map fun v => v.category).sum ≤ 8) :
    hg_Call p l e R s m args below meth c D lo C0 nL G pc L (.ref b :: rest) rest 0 0 (hg_Pv G (.int (bI (sp_atOne k)))) := by
  match k, hk with
  | 0, _ => exact hc_U (n := 0) (As := []) (owner := "TaxOnLooks$Person") X hdc rfl (pm_X12_looksAtOne X.tr (k := 0) (by decide) hb) hl q1052 q1051 q1050 q104 q1061 (Or.inr ⟨_, _, _, q1050, q1061⟩) ⟨by decide +kernel, by decide +kernel, by decide +kernel⟩ ⟨Nat.le_trans (by decide) hR.1, Nat.le_trans (by decide) hR.2⟩ rfl hrest hb rfl rfl
  | 1, _ => exact hc_U (n := 0) (As := []) (owner := "TaxOnLooks$Person") X hdc rfl (pm_X12_looksAtOne X.tr (k := 1) (by decide) hb) hl q1052 q1054 q1050 q104 q1061 (Or.inr ⟨_, _, _, q1050, q1061⟩) ⟨by decide +kernel, by decide +kernel, by decide +kernel⟩ ⟨Nat.le_trans (by decide) hR.1, Nat.le_trans (by decide) hR.2⟩ rfl hrest hb rfl rfl
  | 2, _ => exact hc_U (n := 0) (As := []) (owner := "TaxOnLooks$Person") X hdc rfl (pm_X12_looksAtOne X.tr (k := 2) (by decide) hb) hl q1052 q1053 q1050 q104 q1061 (Or.inr ⟨_, _, _, q1050, q1061⟩) ⟨by decide +kernel, by decide +kernel, by decide +kernel⟩ ⟨Nat.le_trans (by decide) hR.1, Nat.le_trans (by decide) hR.2⟩ rfl hrest hb rfl rfl
  | 3, _ => exact hc_U (n := 0) (As := []) (owner := "TaxOnLooks$Person") X hdc rfl (pm_X12_looksAtOne X.tr (k := 3) (by decide) hb) hl q1052 q1055 q1050 q104 q1061 (Or.inr ⟨_, _, _, q1050, q1061⟩) ⟨by decide +kernel, by decide +kernel, by decide +kernel⟩ ⟨Nat.le_trans (by decide) hR.1, Nat.le_trans (by decide) hR.2⟩ rfl hrest hb rfl rfl
  | 4, _ => exact hc_U (n := 0) (As := []) (owner := "TaxOnLooks$Person") X hdc rfl (pm_X16_looksAtOne X.tr (k := 4) (by decide) hb) hl q1052 q1057 q1058 q108 q1059 (Or.inr ⟨_, _, _, q1050, q1061⟩) ⟨by decide +kernel, by decide +kernel, by decide +kernel⟩ ⟨Nat.le_trans (by decide) hR.1, Nat.le_trans (by decide) hR.2⟩ rfl hrest hb rfl rfl
  | 5, _ => exact hc_U (n := 0) (As := []) (owner := "TaxOnLooks$Person") X hdc rfl (pm_X12_looksAtOne X.tr (k := 5) (by decide) hb) hl q1052 q1056 q1050 q104 q1061 (Or.inr ⟨_, _, _, q1050, q1061⟩) ⟨by decide +kernel, by decide +kernel, by decide +kernel⟩ ⟨Nat.le_trans (by decide) hR.1, Nat.le_trans (by decide) hR.2⟩ rfl hrest hb rfl rfl
  | 6, _ => exact hc_U (n := 0) (As := []) (owner := "TaxOnLooks$Person") X hdc rfl (pm_X16_looksAtOne X.tr (k := 6) (by decide) hb) hl q1052 q1060 q1058 q108 q1059 (Or.inr ⟨_, _, _, q1050, q1061⟩) ⟨by decide +kernel, by decide +kernel, by decide +kernel⟩ ⟨Nat.le_trans (by decide) hR.1, Nat.le_trans (by decide) hR.2⟩ rfl hrest hb rfl rfl
  | (k + 7), h => omega

