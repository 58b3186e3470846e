/-! a string that the class holds -/
def js_S (G : hg_G) (a : Nat) (l : List Nat) : Prop := G.1 a = some (0, 20) ∧ G.2.1 a 1 = 0 ∧ l.length ≤ 8 ∧ (∀ j, j < l.length → l.getD j 0 < 128) ∧ ∃ b, G.2.2.2 a 0 = some b ∧ G.1 b = some (7, l.length) ∧ ∀ j, j < l.length → G.2.1 b j = nI (l.getD j 0)
theorem js_and : ∀ c, c < 128 → nI c &&& nI 255 = nI c := by decide +kernel
theorem js_i2c : ∀ c, c < 128 → ((nI c).toUInt32 % 65536).toInt32 = nI c := by decide +kernel
theorem js_nar : ∀ c, c < 128 → narrow .char (.int (nI c)) = .int (nI c) := by decide +kernel
theorem js_shr0 : ∀ n, n ≤ 8 → nI n >>> (nI 0 &&& 31) = nI n := by decide +kernel
theorem js_coder {l : Launch} {D : hg_D} {lo : Nat} (htr : l.stackTraces = false) {G : hg_G} {a : Nat} {l9 : List Nat} (hS : js_S G a l9) :
    hg_M l D lo yJ5_coder (ws_ yJ5_coder cJ5_coder 1 ((some FieldType.byte))) rm_J5_coder [.ref a] G (hg_Pv G (.int (nI 0))) := by
  refine hg_M.of htr (by decide) [some (.ref a)] rfl (Nat.le_of_ble_eq_true rfl) ?_
  intro p e s m args below meth c X hr hnm htab
  have X : hg_X p l s m args meth c D lo "java/lang/String" cJ5_coder 1 := X
  obtain ⟨h20, hcd, hl8, hch, b, hb, hbk, hbe⟩ := hS
  refine hr_gets (v := .int 1) (q := 3) X dJ5_coder_0 rfl X.old.2.2.1 q897 ?_
  refine hr_st1 (v' := .int (nI 1)) rfl ?_
  refine hr_if_eq (q := 6) (tgt := 13) X dJ5_coder_3 rfl (by decide) (fun z => absurd z (by decide)) (fun _ => ?_)
  refine hr_aload0 (q := 7) X dJ5_coder_6 rfl ?_
  refine hr_getI (v := (nI 0)) (q := 10) X dJ5_coder_7 rfl fr_q1881_20 rfl h20 hcd ?_
  refine hr_goto (tgt := 14) X dJ5_coder_10 (by decide) ?_
  exact hr_zret X hr rfl dJ5_coder_14 ⟨rfl, rfl⟩

theorem js_isLatin1 {l : Launch} {D : hg_D} {lo : Nat} (htr : l.stackTraces = false) {G : hg_G} {a : Nat} {l9 : List Nat} (hS : js_S G a l9) :
    hg_M l D lo yJ5_isLatin1 (ws_ yJ5_isLatin1 cJ5_isLatin1 1 ((some FieldType.boolean))) rm_J5_isLatin1 [.ref a] G (hg_Pv G (.int (nI 1))) := by
  refine hg_M.of htr (by decide) [some (.ref a)] rfl (Nat.le_of_ble_eq_true rfl) ?_
  intro p e s m args below meth c X hr hnm htab
  have X : hg_X p l s m args meth c D lo "java/lang/String" cJ5_isLatin1 1 := X
  obtain ⟨h20, hcd, hl8, hch, b, hb, hbk, hbe⟩ := hS
  refine hr_gets (v := .int 1) (q := 3) X dJ5_isLatin1_0 rfl X.old.2.2.1 q897 ?_
  refine hr_st1 (v' := .int (nI 1)) rfl ?_
  refine hr_if_eq (q := 6) (tgt := 17) X dJ5_isLatin1_3 rfl (by decide) (fun z => absurd z (by decide)) (fun _ => ?_)
  refine hr_aload0 (q := 7) X dJ5_isLatin1_6 rfl ?_
  refine hr_getI (v := (nI 0)) (q := 10) X dJ5_isLatin1_7 rfl fr_q1881_20 rfl h20 hcd ?_
  refine hr_if_ne (q := 13) (tgt := 17) X dJ5_isLatin1_10 rfl (by decide) (fun z => absurd z (by decide)) (fun _ => ?_)
  refine hr_iconst (v := (nI 1)) (q := 14) X dJ5_isLatin1_13 rfl rfl ?_
  refine hr_goto (tgt := 18) X dJ5_isLatin1_14 (by decide) ?_
  exact hr_zret X hr rfl dJ5_isLatin1_18 ⟨rfl, rfl⟩

theorem js_length {l : Launch} {D : hg_D} {lo : Nat} (htr : l.stackTraces = false) {G : hg_G} {a : Nat} {l9 : List Nat} (hS : js_S G a l9) :
    hg_M l D lo yJ5_length (ws_ yJ5_length cJ5_length 1 ((some FieldType.int))) rm_J5_length [.ref a] G (hg_Pv G (.int (nI l9.length))) := by
  refine hg_M.of htr (by decide) [some (.ref a)] rfl (Nat.le_of_ble_eq_true rfl) ?_
  intro p e s m args below meth c X hr hnm htab
  have X : hg_X p l s m args meth c D lo "java/lang/String" cJ5_length 1 := X
  obtain ⟨h20, hcd, hl8, hch, b, hb, hbk, hbe⟩ := hS
  refine hr_aload0 (q := 1) X dJ5_length_0 rfl ?_
  refine hr_getR (v := b) (q := 4) X dJ5_length_1 rfl fr_q1880_20 rfl h20 hb ?_
  refine hr_alen (v := nI l9.length) (q := 5) X dJ5_length_4 rfl hbk (by decide) rfl ?_
  refine hr_aload0 (q := 6) X dJ5_length_5 rfl ?_
  refine hr_callP (v := .int (nI 0)) (q := 9) (hc_V (n := 0) (ci := 20) (As := []) X dJ5_length_6 rfl (js_coder X.tr (l9 := l9) ⟨h20, hcd, hl8, hch, b, hb, hbk, hbe⟩) q893 cv_J5_coder ⟨Nat.le_of_ble_eq_true rfl, Nat.le_of_ble_eq_true rfl⟩ rfl (Nat.le_of_ble_eq_true rfl) h20 rfl rfl) rfl ?_
  refine hr_ishr (v := (nI l9.length)) (q := 10) X dJ5_length_9 rfl (js_shr0 _ hl8) ?_
  exact hr_iret X hr dJ5_length_10 ⟨rfl, rfl⟩

theorem js_check_z {l : Launch} {D : hg_D} {lo : Nat} (htr : l.stackTraces = false) {G : hg_G} {i n9 : Nat} (hi : i < n9) (hn : n9 ≤ 8) :
    hg_M l D lo yJ10_checkIndex (ws_ yJ10_checkIndex cJ10_checkIndex 3 ((some FieldType.int))) rm_J10_checkIndex [.int (nI i), .int (nI n9), .null] G (hg_Pv G (.int (nI i))) := by
  refine hg_M.of htr (by decide) [some (.int (nI i)), some (.int (nI n9)), some (.null)] rfl (Nat.le_of_ble_eq_true rfl) ?_
  intro p e s m args below meth c X hr hnm htab
  have X : hg_X p l s m args meth c D lo "jdk/internal/util/Preconditions" cJ10_checkIndex 3 := X
  refine hr_iload0 (q := 1) X dJ10_checkIndex_0 rfl ?_
  refine hr_ifN_lt (q := 4) (tgt := 9) X dJ10_checkIndex_1 rfl (by decide) (by omega) ?_
  refine hr_iload0 (q := 5) X dJ10_checkIndex_4 rfl ?_
  refine hr_iload1 (q := 6) X dJ10_checkIndex_5 rfl ?_
  refine hr_icmpN_lt (q := 9) (tgt := 16) X dJ10_checkIndex_6 rfl (by decide) (by omega) (by omega) (fun c6 => ?_) (fun c6 => ?_)
  · refine hr_iload0 (q := 17) X dJ10_checkIndex_16 rfl ?_
    exact hr_iret X hr dJ10_checkIndex_17 ⟨rfl, rfl⟩
  · exact False.elim (by omega)

theorem js_check_r {l : Launch} {D : hg_D} {lo : Nat} (htr : l.stackTraces = false) {G : hg_G} {i n9 o : Nat} (hi : i < n9) (hn : n9 ≤ 8) :
    hg_M l D lo yJ10_checkIndex (ws_ yJ10_checkIndex cJ10_checkIndex 3 ((some FieldType.int))) rm_J10_checkIndex [.int (nI i), .int (nI n9), .ref o] G (hg_Pv G (.int (nI i))) := by
  refine hg_M.of htr (by decide) [some (.int (nI i)), some (.int (nI n9)), some (.ref o)] rfl (Nat.le_of_ble_eq_true rfl) ?_
  intro p e s m args below meth c X hr hnm htab
  have X : hg_X p l s m args meth c D lo "jdk/internal/util/Preconditions" cJ10_checkIndex 3 := X
  refine hr_iload0 (q := 1) X dJ10_checkIndex_0 rfl ?_
  refine hr_ifN_lt (q := 4) (tgt := 9) X dJ10_checkIndex_1 rfl (by decide) (by omega) ?_
  refine hr_iload0 (q := 5) X dJ10_checkIndex_4 rfl ?_
  refine hr_iload1 (q := 6) X dJ10_checkIndex_5 rfl ?_
  refine hr_icmpN_lt (q := 9) (tgt := 16) X dJ10_checkIndex_6 rfl (by decide) (by omega) (by omega) (fun c6 => ?_) (fun c6 => ?_)
  · refine hr_iload0 (q := 17) X dJ10_checkIndex_16 rfl ?_
    exact hr_iret X hr dJ10_checkIndex_17 ⟨rfl, rfl⟩
  · exact False.elim (by omega)

theorem js_checkS {l : Launch} {D : hg_D} {lo : Nat} (htr : l.stackTraces = false) {G : hg_G} {i n9 : Nat} (hi : i < n9) (hn : n9 ≤ 8) :
    hg_M l D lo yJ5_checkIndex (ws_ yJ5_checkIndex cJ5_checkIndex 2 (none)) rm_J5_checkIndex [.int (nI i), .int (nI n9)] G (fun r G' => r = .inl none ∧ G' = G) := by
  refine hg_M.of htr (by decide) [some (.int (nI i)), some (.int (nI n9))] rfl (Nat.le_of_ble_eq_true rfl) ?_
  intro p e s m args below meth c X hr hnm htab
  have X : hg_X p l s m args meth c D lo "java/lang/String" cJ5_checkIndex 2 := X
  refine hr_iload0 (q := 1) X dJ5_checkIndex_0 rfl ?_
  refine hr_iload1 (q := 2) X dJ5_checkIndex_1 rfl ?_
  refine hr_getsq (q := 5) X dJ5_checkIndex_2 rfl X.old.2.2.2 q913 (fun o2 => ?_)
  rcases o2 with _ | q9
  · refine hr_st1 (v' := .null) rfl ?_
    refine hr_callP (v := .int (nI i)) (q := 8) (hc_S (n := 3) (As := [.int (nI i), .int (nI n9), .null]) X dJ5_checkIndex_5 rfl (js_check_z X.tr (i := i) (n9 := n9) hi hn) q915 cs_J10_checkIndex ⟨Nat.le_of_ble_eq_true rfl, Nat.le_of_ble_eq_true rfl⟩ rfl (Nat.le_of_ble_eq_true rfl)) rfl ?_
    refine hr_pop (q := 9) X dJ5_checkIndex_8 rfl rfl ?_
    exact hr_vret X hr dJ5_checkIndex_9 ⟨rfl, rfl⟩
  · refine hr_st1 (v' := .ref q9) rfl ?_
    refine hr_callP (v := .int (nI i)) (q := 8) (hc_S (n := 3) (As := [.int (nI i), .int (nI n9), .ref q9]) X dJ5_checkIndex_5 rfl (js_check_r X.tr (i := i) (n9 := n9) (o := q9) hi hn) q915 cs_J10_checkIndex ⟨Nat.le_of_ble_eq_true rfl, Nat.le_of_ble_eq_true rfl⟩ rfl (Nat.le_of_ble_eq_true rfl)) rfl ?_
    refine hr_pop (q := 9) X dJ5_checkIndex_8 rfl rfl ?_
    exact hr_vret X hr dJ5_checkIndex_9 ⟨rfl, rfl⟩

theorem js_lchar {l : Launch} {D : hg_D} {lo : Nat} (htr : l.stackTraces = false) {G : hg_G} {b i : Nat} {l9 : List Nat} (hbk : G.1 b = some (7, l9.length)) (hl8 : l9.length ≤ 8) (hch : ∀ j, j < l9.length → l9.getD j 0 < 128) (hbe : ∀ j, j < l9.length → G.2.1 b j = nI (l9.getD j 0)) (hi : i < l9.length) :
    hg_M l D lo yJ9_charAt (ws_ yJ9_charAt cJ9_charAt 2 ((some FieldType.char))) rm_J9_charAt [.ref b, .int (nI i)] G (hg_Pv G (.int (nI (l9.getD i 0)))) := by
  refine hg_M.of htr (by decide) [some (.ref b), some (.int (nI i))] rfl (Nat.le_of_ble_eq_true rfl) ?_
  intro p e s m args below meth c X hr hnm htab
  have X : hg_X p l s m args meth c D lo "java/lang/StringLatin1" cJ9_charAt 2 := X
  refine hr_iload1 (q := 1) X dJ9_charAt_0 rfl ?_
  refine hr_aload0 (q := 2) X dJ9_charAt_1 rfl ?_
  refine hr_alen (v := nI l9.length) (q := 3) X dJ9_charAt_2 rfl hbk (by decide) rfl ?_
  refine hr_call0 (q := 6) (hc_S (n := 2) (As := [.int (nI i), .int (nI l9.length)]) X dJ9_charAt_3 rfl (js_checkS X.tr (i := i) (n9 := l9.length) hi hl8) q910 cs_J5_checkIndex ⟨Nat.le_of_ble_eq_true rfl, Nat.le_of_ble_eq_true rfl⟩ rfl (Nat.le_of_ble_eq_true rfl)) rfl (fun qx E G' hp => by cases hp.1) (fun r G1 hp _ => ?_)
  obtain ⟨hv1, hG1⟩ := hp
  cases hv1
  have hG1 := hG1.symm
  subst hG1
  refine hr_aload0 (q := 7) X dJ9_charAt_6 rfl ?_
  refine hr_iload1 (q := 8) X dJ9_charAt_7 rfl ?_
  refine hr_bald (v := nI (l9.getD i 0)) (q := 9) X dJ9_charAt_8 rfl hbk (Or.inr rfl) (vp_in_nI hi (by omega)) ((congrArg (G.2.1 b) (iN_nI (by omega))).trans (hbe i hi)) ?_
  refine hr_sipush (v := (nI 255)) (q := 12) X dJ9_charAt_9 rfl rfl ?_
  refine hr_iand (v := (nI (l9.getD i 0))) (q := 13) X dJ9_charAt_12 rfl (js_and _ (hch i hi)) ?_
  refine hr_i2c (v := (nI (l9.getD i 0))) (q := 14) X dJ9_charAt_13 rfl (js_i2c _ (hch i hi)) ?_
  exact hr_zret X hr (js_nar _ (hch i hi)) dJ9_charAt_14 ⟨rfl, rfl⟩

theorem js_charAt {l : Launch} {D : hg_D} {lo : Nat} (htr : l.stackTraces = false) {G : hg_G} {a : Nat} {l9 : List Nat} (hS : js_S G a l9) {i : Nat} (hi : i < l9.length) :
    hg_M l D lo yJ5_charAt (ws_ yJ5_charAt cJ5_charAt 2 ((some FieldType.char))) rm_J5_charAt [.ref a, .int (nI i)] G (hg_Pv G (.int (nI (l9.getD i 0)))) := by
  refine hg_M.of htr (by decide) [some (.ref a), some (.int (nI i))] rfl (Nat.le_of_ble_eq_true rfl) ?_
  intro p e s m args below meth c X hr hnm htab
  have X : hg_X p l s m args meth c D lo "java/lang/String" cJ5_charAt 2 := X
  obtain ⟨h20, hcd, hl8, hch, b, hb, hbk, hbe⟩ := hS
  refine hr_aload0 (q := 1) X dJ5_charAt_0 rfl ?_
  refine hr_callP (v := .int (nI 1)) (q := 4) (hc_V (n := 0) (ci := 20) (As := []) X dJ5_charAt_1 rfl (js_isLatin1 X.tr (l9 := l9) ⟨h20, hcd, hl8, hch, b, hb, hbk, hbe⟩) q903 cv_J5_isLatin1 ⟨Nat.le_of_ble_eq_true rfl, Nat.le_of_ble_eq_true rfl⟩ rfl (Nat.le_of_ble_eq_true rfl) h20 rfl rfl) rfl ?_
  refine hr_if_eq (q := 7) (tgt := 16) X dJ5_charAt_4 rfl (by decide) (fun z => absurd z (by decide)) (fun _ => ?_)
  refine hr_aload0 (q := 8) X dJ5_charAt_7 rfl ?_
  refine hr_getR (v := b) (q := 11) X dJ5_charAt_8 rfl fr_q1880_20 rfl h20 hb ?_
  refine hr_iload1 (q := 12) X dJ5_charAt_11 rfl ?_
  refine hr_callP (v := .int (nI (l9.getD i 0))) (q := 15) (hc_S (n := 2) (As := [.ref b, .int (nI i)]) X dJ5_charAt_12 rfl (js_lchar X.tr (b := b) (i := i) (l9 := l9) hbk hl8 hch hbe hi) q907 cs_J9_charAt ⟨Nat.le_of_ble_eq_true rfl, Nat.le_of_ble_eq_true rfl⟩ rfl (Nat.le_of_ble_eq_true rfl)) rfl ?_
  exact hr_zret X hr (js_nar _ (hch i hi)) dJ5_charAt_15 ⟨rfl, rfl⟩

