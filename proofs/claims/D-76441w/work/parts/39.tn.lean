theorem tn_isWall {l : Launch} {D : hg_D} {lo : Nat} (htr : l.stackTraces = false) {G : hg_G} {ta : Nat → Nat} {t : sp_S} (hT : tn_R G ta t) (hw : sp_wf t) {z : Nat} (hz : z < 36) :
    hg_M l D lo yX2_isWall (ws_ yX2_isWall cX2_isWall 2 ((some FieldType.boolean))) rm_X2_isWall [.ref (ta 0), .int (nI z)] G (hg_Pv G (.int (bI (t.1 16 z == 1)))) := by
  refine hg_M.of htr (by decide) [some (.ref (ta 0)), some (.int (nI z))] rfl (Nat.le_of_ble_eq_true rfl) ?_
  intro p e s m args below meth c X hr hnm htab
  have X : hg_X p l s m args meth c D lo "TaxOnLooks$Town" cX2_isWall 2 := X
  have w0 := hw.b0; have w1 := hw.b1; have w2 := hw.b2; have w3 := hw.b3; have w36 := hw.b36
  have hpw := sp_wpk hw; have hpb := sp_bpk hw
  obtain ⟨K, hK, hKs, hKb⟩ := hT.sk
  refine hr_aload0 (q := 1) X dX2_isWall_0 rfl ?_
  refine hr_getJ (v := (lN (sp_pk (t.1 16) 36))) (q := 4) X dX2_isWall_1 rfl fr_q169_2 rfl hT.ob hT.f7 ?_
  refine hr_iload1 (q := 5) X dX2_isWall_4 rfl ?_
  refine hr_lshr (v := (lN ((sp_pk (t.1 16) 36) / 2 ^ z))) (q := 6) X dX2_isWall_5 rfl (lN_shr (by omega) (by omega)) ?_
  refine hr_lconst (v := (lN 1)) (q := 7) X dX2_isWall_6 rfl rfl ?_
  refine hr_land (v := (lN (((sp_pk (t.1 16) 36) / 2 ^ z) % 2))) (q := 8) X dX2_isWall_7 rfl (lN_and1 (Nat.lt_of_le_of_lt (Nat.div_le_self _ _) (by omega))) ?_
  refine hr_lconst (v := (lN 0)) (q := 9) X dX2_isWall_8 rfl rfl ?_
  refine hr_lcmp (v := (nI (((sp_pk (t.1 16) 36) / 2 ^ z) % 2))) (q := 10) X dX2_isWall_9 rfl (lN_cmp0 (by omega)) ?_
  have hb1 := sp_wbit hw hz; have hb2 := hw.b16 hz
  refine hr_ifN_eq (q := 13) (tgt := 17) X dX2_isWall_10 rfl (by decide) (by omega) (fun c10 => ?_) (fun c10 => ?_)
  · refine hr_iconst (v := (nI 0)) (q := 18) X dX2_isWall_17 rfl rfl ?_
    exact hr_zret X hr rfl dX2_isWall_18 ⟨hz_b0 (beq_eq_false_iff_ne.mpr (by omega)), rfl⟩
  · refine hr_iconst (v := (nI 1)) (q := 14) X dX2_isWall_13 rfl rfl ?_
    refine hr_goto (tgt := 18) X dX2_isWall_14 (by decide) ?_
    exact hr_zret X hr rfl dX2_isWall_18 ⟨hz_b1 (beq_iff_eq.mpr (by omega)), rfl⟩

theorem tn_isFree {l : Launch} {D : hg_D} {lo : Nat} (htr : l.stackTraces = false) {G : hg_G} {ta : Nat → Nat} {t : sp_S} (hT : tn_R G ta t) (hw : sp_wf t) {x : Int32} :
    hg_M l D lo yX2_isFree (ws_ yX2_isFree cX2_isFree 2 ((some FieldType.boolean))) rm_X2_isFree [.ref (ta 0), .int x] G (hg_Pv G (.int (bI (sp_free t x)))) := by
  refine hg_M.of htr (by decide) [some (.ref (ta 0)), some (.int x)] rfl (Nat.le_of_ble_eq_true rfl) ?_
  intro p e s m args below meth c X hr hnm htab
  have X : hg_X p l s m args meth c D lo "TaxOnLooks$Town" cX2_isFree 2 := X
  have w0 := hw.b0; have w1 := hw.b1; have w2 := hw.b2; have w3 := hw.b3; have w36 := hw.b36
  have hpw := sp_wpk hw; have hpb := sp_bpk hw
  obtain ⟨K, hK, hKs, hKb⟩ := hT.sk
  refine hr_iload1 (q := 1) X dX2_isFree_0 rfl ?_
  refine hr_if_lt (q := 4) (tgt := 22) X dX2_isFree_1 rfl (by decide) (fun c1 => ?_) (fun c1 => ?_)
  · refine hr_iconst (v := (nI 0)) (q := 23) X dX2_isFree_22 rfl rfl ?_
    exact hr_zret X hr rfl dX2_isFree_23 ⟨hz_b0 (by rw [sp_free, sp_in_a c1]; rfl), rfl⟩
  · refine hr_iload1 (q := 5) X dX2_isFree_4 rfl ?_
    refine hr_bipush (v := (nI 36)) (q := 7) X dX2_isFree_5 rfl rfl ?_
    refine hr_icmp_ge (q := 10) (tgt := 22) X dX2_isFree_7 rfl (by decide) (fun c7 => ?_) (fun c7 => ?_)
    · refine hr_iconst (v := (nI 0)) (q := 23) X dX2_isFree_22 rfl rfl ?_
      exact hr_zret X hr rfl dX2_isFree_23 ⟨hz_b0 (by rw [sp_free, sp_in, decide_eq_false (fun z => Int32.not_le.mpr z.2 c7)]; rfl), rfl⟩
    · have n10_1 := sp_ltN (by decide) c1 (Int32.not_le.mp c7)
      refine hr_L (L' := [some (.ref (ta 0)), some (.int (nI (iN x)))]) (by rw [← n10_1.1]) ?_
      refine hr_aload0 (q := 11) X dX2_isFree_10 rfl ?_
      refine hr_iload1 (q := 12) X dX2_isFree_11 rfl ?_
      refine hr_callP (q := 15) (hc_V (n := 1) (ci := 2) (As := [.int (nI (iN x))]) X dX2_isFree_12 rfl (tn_isWall X.tr hT hw (z := iN x) (by omega)) q636 cv_X2_isWall ⟨Nat.le_of_ble_eq_true rfl, Nat.le_of_ble_eq_true rfl⟩ rfl (Nat.le_of_ble_eq_true rfl) hT.ob rfl rfl) rfl ?_
      refine hr_ifB_ne (q := 18) (tgt := 22) X dX2_isFree_15 rfl (by decide) (fun c15 => ?_) (fun c15 => ?_)
      · refine hr_iconst (v := (nI 0)) (q := 23) X dX2_isFree_22 rfl rfl ?_
        exact hr_zret X hr rfl dX2_isFree_23 ⟨hz_b0 (by rw [sp_free, n10_1.1, sp_in_t n10_1.2 (by decide), ← n10_1.1, c15]; rfl), rfl⟩
      · refine hr_iconst (v := (nI 1)) (q := 19) X dX2_isFree_18 rfl rfl ?_
        refine hr_goto (tgt := 23) X dX2_isFree_19 (by decide) ?_
        exact hr_zret X hr rfl dX2_isFree_23 ⟨hz_b1 (by rw [sp_free, n10_1.1, sp_in_t n10_1.2 (by decide), ← n10_1.1, c15]; rfl), rfl⟩

theorem tn_isFreeN {l : Launch} {D : hg_D} {lo : Nat} (htr : l.stackTraces = false) {G : hg_G} {ta : Nat → Nat} {t : sp_S} (hT : tn_R G ta t) (hw : sp_wf t) {z : Nat} (hz : z < 36) :
    hg_M l D lo yX2_isFree (ws_ yX2_isFree cX2_isFree 2 (some FieldType.boolean)) rm_X2_isFree [.ref (ta 0), .int (nI z)] G (hg_Pv G (.int (bI (!(t.1 16 z == 1))))) := by
  have h := tn_isFree (D := D) (lo := lo) htr hT hw (x := nI z)
  rw [sp_free, sp_in_t hz (by decide), iN_nI (by omega), Bool.true_and] at h
  exact h

theorem tn_isPerson {l : Launch} {D : hg_D} {lo : Nat} (htr : l.stackTraces = false) {G : hg_G} {ta : Nat → Nat} {t : sp_S} (hT : tn_R G ta t) (hw : sp_wf t) {x : Int32} :
    hg_M l D lo yX2_isPerson (ws_ yX2_isPerson cX2_isPerson 2 ((some FieldType.boolean))) rm_X2_isPerson [.ref (ta 0), .int x] G (hg_Pv G (.int (bI (sp_in x (t.1 0 0))))) := by
  refine hg_M.of htr (by decide) [some (.ref (ta 0)), some (.int x)] rfl (Nat.le_of_ble_eq_true rfl) ?_
  intro p e s m args below meth c X hr hnm htab
  have X : hg_X p l s m args meth c D lo "TaxOnLooks$Town" cX2_isPerson 2 := X
  have w0 := hw.b0; have w1 := hw.b1; have w2 := hw.b2; have w3 := hw.b3; have w36 := hw.b36
  have hpw := sp_wpk hw; have hpb := sp_bpk hw
  obtain ⟨K, hK, hKs, hKb⟩ := hT.sk
  refine hr_iload1 (q := 1) X dX2_isPerson_0 rfl ?_
  refine hr_if_lt (q := 4) (tgt := 16) X dX2_isPerson_1 rfl (by decide) (fun c1 => ?_) (fun c1 => ?_)
  · refine hr_iconst (v := (nI 0)) (q := 17) X dX2_isPerson_16 rfl rfl ?_
    exact hr_zret X hr rfl dX2_isPerson_17 ⟨hz_b0 (sp_in_a c1), rfl⟩
  · refine hr_iload1 (q := 5) X dX2_isPerson_4 rfl ?_
    refine hr_aload0 (q := 6) X dX2_isPerson_5 rfl ?_
    refine hr_getI (v := (nI (t.1 0 0))) (q := 9) X dX2_isPerson_6 rfl fr_q152_2 rfl hT.ob hT.f0 ?_
    refine hr_icmp_ge (q := 12) (tgt := 16) X dX2_isPerson_9 rfl (by decide) (fun c9 => ?_) (fun c9 => ?_)
    · refine hr_iconst (v := (nI 0)) (q := 17) X dX2_isPerson_16 rfl rfl ?_
      exact hr_zret X hr rfl dX2_isPerson_17 ⟨hz_b0 (decide_eq_false (fun z => Int32.not_le.mpr z.2 c9)), rfl⟩
    · refine hr_iconst (v := (nI 1)) (q := 13) X dX2_isPerson_12 rfl rfl ?_
      refine hr_goto (tgt := 17) X dX2_isPerson_13 (by decide) ?_
      exact hr_zret X hr rfl dX2_isPerson_17 ⟨hz_b1 (decide_eq_true ⟨Int32.not_lt.mp c1, Int32.not_le.mp c9⟩), rfl⟩

theorem tn_standAt {l : Launch} {D : hg_D} {lo : Nat} (htr : l.stackTraces = false) {G : hg_G} {ta : Nat → Nat} {t : sp_S} (hT : tn_R G ta t) (hw : sp_wf t) {z : Nat} (hz : z < 36) :
    hg_M l D lo yX2_standAt (ws_ yX2_standAt cX2_standAt 4 ((some FieldType.int))) rm_X2_standAt [.ref (ta 0), .int (nI z)] G (hg_Pv G (.int (nI (sp_there t z)))) := by
  refine hg_M.of htr (by decide) [some (.ref (ta 0)), some (.int (nI z)), none, none] rfl (Nat.le_of_ble_eq_true rfl) ?_
  intro p e s m args below meth c X hr hnm htab
  have X : hg_X p l s m args meth c D lo "TaxOnLooks$Town" cX2_standAt 4 := X
  have w0 := hw.b0; have w1 := hw.b1; have w2 := hw.b2; have w3 := hw.b3; have w36 := hw.b36
  have hpw := sp_wpk hw; have hpb := sp_bpk hw
  obtain ⟨K, hK, hKs, hKb⟩ := hT.sk
  refine hr_iconst (v := (nI 0)) (q := 1) X dX2_standAt_0 rfl rfl ?_
  refine hr_istore2 (q := 2) X dX2_standAt_1 rfl rfl (Nat.le_of_ble_eq_true rfl) ?_
  refine hr_iconst (v := (nI 0)) (q := 3) X dX2_standAt_2 rfl rfl ?_
  refine hr_istore3 (q := 4) X dX2_standAt_3 rfl rfl (Nat.le_of_ble_eq_true rfl) ?_
  have loop4 : ∀ (kr nr n : Nat) (i S : Nat), (i ≤ t.1 0 0) → (t.1 0 0 + 1 ≤ i + n) → (S = sp_bits (fun x => t.1 14 x == z) i) → hg_W p l e rm_X2_standAt s m args below meth c (hg_Q below D lo args s rm_X2_standAt G (hg_Pv G (.int (nI (sp_there t z))))) D lo G.1 4 kr nr G 4 [some (.ref (ta 0)), some (.int (nI z)), some (.int (nI S)), some (.int (nI i))] [] := by
    intro kr nr n
    induction n with
    | zero =>
      intro i S h4_0 h4_1 h4_2
      omega
    | succ n ih4 =>
      intro i S h4_0 h4_1 h4_2
      refine hr_iload3 (q := 5) X dX2_standAt_4 rfl ?_
      refine hr_aload0 (q := 6) X dX2_standAt_5 rfl ?_
      refine hr_getI (v := (nI (t.1 0 0))) (q := 9) X dX2_standAt_6 rfl fr_q152_2 rfl hT.ob hT.f0 ?_
      refine hr_icmpN_ge (q := 12) (tgt := 38) X dX2_standAt_9 rfl (by decide) (by omega) (by omega) (fun c9 => ?_) (fun c9 => ?_)
      · refine hr_iload2 (q := 39) X dX2_standAt_38 rfl ?_
        exact hr_iret X hr dX2_standAt_39 ⟨hz_i (congrArg nI (by rw [h4_2, show i = t.1 0 0 by omega]; rfl)), rfl⟩
      · have hSl : S < 2 ^ i := by rw [h4_2]; exact sp_bits_lt _ i
        refine hr_iload2 (q := 13) X dX2_standAt_12 rfl ?_
        refine hr_aload0 (q := 14) X dX2_standAt_13 rfl ?_
        refine hr_getR (v := (ta 4)) (q := 17) X dX2_standAt_14 rfl fr_q187_2 rfl hT.ob hT.f14 ?_
        refine hr_iload3 (q := 18) X dX2_standAt_17 rfl ?_
        have b1 := hw.b14 (p := i) (by omega)
        refine hr_ialdN (v := (nI (t.1 14 i))) (q := 19) X dX2_standAt_18 rfl hT.k4 (Or.inl rfl) (by omega) (by decide) (hT.e4 (by omega)) ?_
        refine hr_iload1 (q := 20) X dX2_standAt_19 rfl ?_
        refine hr_icmpN_ne (q := 23) (tgt := 29) X dX2_standAt_20 rfl (by decide) (by omega) (by omega) (fun c20 => ?_) (fun c20 => ?_)
        · refine hr_iconst (v := (nI 0)) (q := 30) X dX2_standAt_29 rfl rfl ?_
          refine hr_ior (v := (nI S)) (q := 31) X dX2_standAt_30 rfl (sp_or0 _) ?_
          refine hr_istore2 (q := 32) X dX2_standAt_31 rfl rfl (Nat.le_of_ble_eq_true rfl) ?_
          refine hr_iinc3 (v := (nI (i + 1))) (q := 35) X dX2_standAt_32 rfl (nI_add _ _) rfl (Nat.le_of_ble_eq_true rfl) ?_
          refine hr_goto (tgt := 4) X dX2_standAt_35 (by decide) ?_
          exact ih4 (i + 1) S (by omega) (by omega) (by rw [h4_2, sp_bits_f (f := fun x => t.1 14 x == z) (by simp [c20])])
        · refine hr_iconst (v := (nI 1)) (q := 24) X dX2_standAt_23 rfl rfl ?_
          refine hr_iload3 (q := 25) X dX2_standAt_24 rfl ?_
          refine hr_ishl (v := (nI (2 ^ i))) (q := 26) X dX2_standAt_25 rfl (sp_shl (by omega)) ?_
          refine hr_goto (tgt := 30) X dX2_standAt_26 (by decide) ?_
          refine hr_ior (v := (nI (S + 2 ^ i))) (q := 31) X dX2_standAt_30 rfl (sp_or2 (by omega) hSl) ?_
          refine hr_istore2 (q := 32) X dX2_standAt_31 rfl rfl (Nat.le_of_ble_eq_true rfl) ?_
          refine hr_iinc3 (v := (nI (i + 1))) (q := 35) X dX2_standAt_32 rfl (nI_add _ _) rfl (Nat.le_of_ble_eq_true rfl) ?_
          refine hr_goto (tgt := 4) X dX2_standAt_35 (by decide) ?_
          exact ih4 (i + 1) (S + 2 ^ i) (by omega) (by omega) (by rw [h4_2, sp_bits_t (f := fun x => t.1 14 x == z) (by simp [c20])])
  exact loop4 _ _ (t.1 0 0 + 1) 0 0 (by omega) (by omega) rfl

theorem tn_distance {l : Launch} {D : hg_D} {lo : Nat} (htr : l.stackTraces = false) {G : hg_G} {a b : Nat} (ha : a < 36) (hb : b < 36) :
    hg_M l D lo yX2_distance (ws_ yX2_distance cX2_distance 2 ((some FieldType.int))) rm_X2_distance [.int (nI a), .int (nI b)] G (hg_Pv G (.int (nI (sp_dist a b)))) := by
  refine hg_M.of htr (by decide) [some (.int (nI a)), some (.int (nI b))] rfl (Nat.le_of_ble_eq_true rfl) ?_
  intro p e s m args below meth c X hr hnm htab
  have X : hg_X p l s m args meth c D lo "TaxOnLooks$Town" cX2_distance 2 := X
  refine hr_iload0 (q := 1) X dX2_distance_0 rfl ?_
  refine hr_bipush (v := (nI 6)) (q := 3) X dX2_distance_1 rfl rfl ?_
  refine hr_idiv (v := (nI (a / 6))) (q := 4) X dX2_distance_3 rfl (by decide) (pk_div (by omega) (by decide) (by decide)) ?_
  refine hr_iload1 (q := 5) X dX2_distance_4 rfl ?_
  refine hr_bipush (v := (nI 6)) (q := 7) X dX2_distance_5 rfl rfl ?_
  refine hr_idiv (v := (nI (b / 6))) (q := 8) X dX2_distance_7 rfl (by decide) (pk_div (by omega) (by decide) (by decide)) ?_
  refine hr_isub (v := (nI (a / 6) - nI (b / 6))) (q := 9) X dX2_distance_8 rfl rfl ?_
  refine hr_callP (q := 12) (hc_S (n := 1) (As := [.int (nI (a / 6) - nI (b / 6))]) X dX2_distance_9 rfl (tj_abs X.tr (a := a / 6) (b := b / 6) (by omega) (by omega)) q1007 cs_J8_abs ⟨Nat.le_of_ble_eq_true rfl, Nat.le_of_ble_eq_true rfl⟩ rfl (Nat.le_of_ble_eq_true rfl)) rfl ?_
  refine hr_iload0 (q := 13) X dX2_distance_12 rfl ?_
  refine hr_bipush (v := (nI 6)) (q := 15) X dX2_distance_13 rfl rfl ?_
  refine hr_irem (v := (nI (a % 6))) (q := 16) X dX2_distance_15 rfl (by decide) (pk_rem (by omega) (by decide) (by decide)) ?_
  refine hr_iload1 (q := 17) X dX2_distance_16 rfl ?_
  refine hr_bipush (v := (nI 6)) (q := 19) X dX2_distance_17 rfl rfl ?_
  refine hr_irem (v := (nI (b % 6))) (q := 20) X dX2_distance_19 rfl (by decide) (pk_rem (by omega) (by decide) (by decide)) ?_
  refine hr_isub (v := (nI (a % 6) - nI (b % 6))) (q := 21) X dX2_distance_20 rfl rfl ?_
  refine hr_callP (q := 24) (hc_S (n := 1) (As := [.int (nI (a % 6) - nI (b % 6))]) X dX2_distance_21 rfl (tj_abs X.tr (a := a % 6) (b := b % 6) (by omega) (by omega)) q1007 cs_J8_abs ⟨Nat.le_of_ble_eq_true rfl, Nat.le_of_ble_eq_true rfl⟩ rfl (Nat.le_of_ble_eq_true rfl)) rfl ?_
  refine hr_iadd (v := (nI ((a / 6 - b / 6) + (b / 6 - a / 6) + ((a % 6 - b % 6) + (b % 6 - a % 6))))) (q := 25) X dX2_distance_24 rfl (nI_add _ _) ?_
  exact hr_iret X hr dX2_distance_25 ⟨hz_i (congrArg nI (by rw [sp_dist])), rfl⟩

theorem tn_isInView {l : Launch} {D : hg_D} {lo : Nat} (htr : l.stackTraces = false) {G : hg_G} {ta : Nat → Nat} {t : sp_S} (hT : tn_R G ta t) (hw : sp_wf t) {a b : Nat} (ha : a < 36) (hb : b < 36) :
    hg_M l D lo yX2_isInView (ws_ yX2_isInView cX2_isInView 6 ((some FieldType.boolean))) rm_X2_isInView [.ref (ta 0), .int (nI a), .int (nI b)] G (hg_Pv G (.int (bI (sp_sees t a b)))) := by
  refine hg_M.of htr (by decide) [some (.ref (ta 0)), some (.int (nI a)), some (.int (nI b)), none, none, none] rfl (Nat.le_of_ble_eq_true rfl) ?_
  intro p e s m args below meth c X hr hnm htab
  have X : hg_X p l s m args meth c D lo "TaxOnLooks$Town" cX2_isInView 6 := X
  have w0 := hw.b0; have w1 := hw.b1; have w2 := hw.b2; have w3 := hw.b3; have w36 := hw.b36
  have hpw := sp_wpk hw; have hpb := sp_bpk hw
  obtain ⟨K, hK, hKs, hKb⟩ := hT.sk
  refine hr_iload1 (q := 1) X dX2_isInView_0 rfl ?_
  refine hr_bipush (v := (nI 6)) (q := 3) X dX2_isInView_1 rfl rfl ?_
  refine hr_idiv (v := (nI (a / 6))) (q := 4) X dX2_isInView_3 rfl (by decide) (pk_div (by omega) (by decide) (by decide)) ?_
  refine hr_iload2 (q := 5) X dX2_isInView_4 rfl ?_
  refine hr_bipush (v := (nI 6)) (q := 7) X dX2_isInView_5 rfl rfl ?_
  refine hr_idiv (v := (nI (b / 6))) (q := 8) X dX2_isInView_7 rfl (by decide) (pk_div (by omega) (by decide) (by decide)) ?_
  refine hr_icmpN_ne (q := 11) (tgt := 15) X dX2_isInView_8 rfl (by decide) (by omega) (by omega) (fun c8 => ?_) (fun c8 => ?_)
  · refine hr_iconst (v := (nI 0)) (q := 16) X dX2_isInView_15 rfl rfl ?_
    refine hr_istore3 (q := 17) X dX2_isInView_16 rfl rfl (Nat.le_of_ble_eq_true rfl) ?_
    refine hr_iload1 (q := 18) X dX2_isInView_17 rfl ?_
    refine hr_iload2 (q := 19) X dX2_isInView_18 rfl ?_
    refine hr_icmpN_ne (q := 22) (tgt := 24) X dX2_isInView_19 rfl (by decide) (by omega) (by omega) (fun c19 => ?_) (fun c19 => ?_)
    · refine hr_iload3 (q := 25) X dX2_isInView_24 rfl ?_
      refine hr_if_ne (q := 28) (tgt := 39) X dX2_isInView_25 rfl (by decide) (fun z => absurd z (by decide)) (fun _ => ?_)
      refine hr_iload1 (q := 29) X dX2_isInView_28 rfl ?_
      refine hr_bipush (v := (nI 6)) (q := 31) X dX2_isInView_29 rfl rfl ?_
      refine hr_irem (v := (nI (a % 6))) (q := 32) X dX2_isInView_31 rfl (by decide) (pk_rem (by omega) (by decide) (by decide)) ?_
      refine hr_iload2 (q := 33) X dX2_isInView_32 rfl ?_
      refine hr_bipush (v := (nI 6)) (q := 35) X dX2_isInView_33 rfl rfl ?_
      refine hr_irem (v := (nI (b % 6))) (q := 36) X dX2_isInView_35 rfl (by decide) (pk_rem (by omega) (by decide) (by decide)) ?_
      refine hr_icmpN_ne (q := 39) (tgt := 51) X dX2_isInView_36 rfl (by decide) (by omega) (by omega) (fun c36 => ?_) (fun c36 => ?_)
      · refine hr_iconst (v := (nI 0)) (q := 52) X dX2_isInView_51 rfl rfl ?_
        exact hr_zret X hr rfl dX2_isInView_52 ⟨hz_b0 (sp_sees_no c19 (by omega)), rfl⟩
      · refine hr_iload1 (q := 40) X dX2_isInView_39 rfl ?_
        refine hr_iload2 (q := 41) X dX2_isInView_40 rfl ?_
        refine hr_callP (v := .int (nI (sp_dist a b))) (q := 44) (hc_S (n := 2) (As := [.int (nI a), .int (nI b)]) X dX2_isInView_41 rfl (tn_distance X.tr (a := a) (b := b) (by omega) (by omega)) q1004 cs_X2_distance ⟨Nat.le_of_ble_eq_true rfl, Nat.le_of_ble_eq_true rfl⟩ rfl (Nat.le_of_ble_eq_true rfl)) rfl ?_
        have := sp_dist_le (a := a) (b := b) (by omega) (by omega)
        refine hr_aload0 (q := 45) X dX2_isInView_44 rfl ?_
        refine hr_getI (v := (nI (t.1 2 0))) (q := 48) X dX2_isInView_45 rfl fr_q158_2 rfl hT.ob hT.f2 ?_
        refine hr_icmpN_le (q := 51) (tgt := 53) X dX2_isInView_48 rfl (by decide) (by omega) (by omega) (fun c48 => ?_) (fun c48 => ?_)
        · refine hr_iload3 (q := 54) X dX2_isInView_53 rfl ?_
          refine hr_if_eq (q := 57) (tgt := 61) X dX2_isInView_54 rfl (by decide) (fun _ => ?_) (fun z => absurd z (by decide))
          refine hr_bipush (v := (nI 6)) (q := 63) X dX2_isInView_61 rfl rfl ?_
          refine hr_istore4 (q := 65) X dX2_isInView_63 rfl rfl (Nat.le_of_ble_eq_true rfl) ?_
          refine hr_iload1 (q := 66) X dX2_isInView_65 rfl ?_
          refine hr_iload2 (q := 67) X dX2_isInView_66 rfl ?_
          refine hr_callP (v := .int (nI (min a b))) (q := 70) (hc_S (n := 2) (As := [.int (nI a), .int (nI b)]) X dX2_isInView_67 rfl (tj_min X.tr (a := a) (b := b) (by omega) (by omega)) q1010 cs_J8_min ⟨Nat.le_of_ble_eq_true rfl, Nat.le_of_ble_eq_true rfl⟩ rfl (Nat.le_of_ble_eq_true rfl)) rfl ?_
          refine hr_iload4 (q := 72) X dX2_isInView_70 rfl ?_
          refine hr_iadd (v := (nI (min a b + 6))) (q := 73) X dX2_isInView_72 rfl (nI_add _ _) ?_
          refine hr_istore5 (q := 75) X dX2_isInView_73 rfl rfl (Nat.le_of_ble_eq_true rfl) ?_
          have hd : ¬ ((a / 6 ≠ b / 6 ∧ a % 6 ≠ b % 6) ∨ t.1 2 0 < sp_dist a b) := by omega
          have loop75 : ∀ (kr nr n : Nat) (v : Nat), (v ≤ max a b + 6) → (max a b + 7 ≤ v + n) → (1 ≤ v) → (sp_clr (t.1 16) 6 (max a b) n v = sp_sees t a b) → hg_W p l e rm_X2_isInView s m args below meth c (hg_Q below D lo args s rm_X2_isInView G (hg_Pv G (.int (bI (sp_sees t a b))))) D lo G.1 6 kr nr G 75 [some (.ref (ta 0)), some (.int (nI a)), some (.int (nI b)), some (.int (nI 0)), some (.int (nI 6)), some (.int (nI v))] [] := by
            intro kr nr n
            induction n with
            | zero =>
              intro v h75_0 h75_1 h75_2 h75_3
              omega
            | succ n ih =>
              intro v h75_0 h75_1 h75_2 h75_3
              refine hr_iload5 (q := 77) X dX2_isInView_75 rfl ?_
              refine hr_iload1 (q := 78) X dX2_isInView_77 rfl ?_
              refine hr_iload2 (q := 79) X dX2_isInView_78 rfl ?_
              refine hr_callP (v := .int (nI (max a b))) (q := 82) (hc_S (n := 2) (As := [.int (nI a), .int (nI b)]) X dX2_isInView_79 rfl (tj_max X.tr (a := a) (b := b) (by omega) (by omega)) q1013 cs_J8_max ⟨Nat.le_of_ble_eq_true rfl, Nat.le_of_ble_eq_true rfl⟩ rfl (Nat.le_of_ble_eq_true rfl)) rfl ?_
              refine hr_icmpN_ge (q := 85) (tgt := 106) X dX2_isInView_82 rfl (by decide) (by omega) (by omega) (fun c82 => ?_) (fun c82 => ?_)
              · refine hr_iconst (v := (nI 1)) (q := 107) X dX2_isInView_106 rfl rfl ?_
                exact hr_zret X hr rfl dX2_isInView_107 ⟨hz_b1 (by rw [← h75_3, sp_clr_e (by omega)]), rfl⟩
              · refine hr_aload0 (q := 86) X dX2_isInView_85 rfl ?_
                refine hr_iload5 (q := 88) X dX2_isInView_86 rfl ?_
                refine hr_callP (q := 91) (hc_V (n := 1) (ci := 2) (As := [.int (nI v)]) X dX2_isInView_88 rfl (tn_isWall X.tr hT hw (z := v) (by omega)) q636 cv_X2_isWall ⟨Nat.le_of_ble_eq_true rfl, Nat.le_of_ble_eq_true rfl⟩ rfl (Nat.le_of_ble_eq_true rfl) hT.ob rfl rfl) rfl ?_
                refine hr_ifB_eq (q := 94) (tgt := 96) X dX2_isInView_91 rfl (by decide) (fun c91 => ?_) (fun c91 => ?_)
                · refine hr_iload5 (q := 98) X dX2_isInView_96 rfl ?_
                  refine hr_iload4 (q := 100) X dX2_isInView_98 rfl ?_
                  refine hr_iadd (v := (nI (v + 6))) (q := 101) X dX2_isInView_100 rfl (nI_add _ _) ?_
                  refine hr_istore5 (q := 103) X dX2_isInView_101 rfl rfl (Nat.le_of_ble_eq_true rfl) ?_
                  refine hr_goto (tgt := 75) X dX2_isInView_103 (by decide) ?_
                  exact ih (v + 6) (by omega) (by omega) (by omega) (by rw [← h75_3, sp_clr_s (by omega) (by simpa using c91)])
                · refine hr_iconst (v := (nI 0)) (q := 95) X dX2_isInView_94 rfl rfl ?_
                  exact hr_zret X hr rfl dX2_isInView_95 ⟨hz_b0 (by rw [← h75_3, sp_clr_w (by omega) (beq_iff_eq.mp c91)]), rfl⟩
          exact loop75 _ _ 50 (min a b + 6) (by omega) (by omega) (by omega) (by have h := sp_sees_go (t := t) c19 hd; rw [if_neg c8] at h; exact h)
        · refine hr_iconst (v := (nI 0)) (q := 52) X dX2_isInView_51 rfl rfl ?_
          exact hr_zret X hr rfl dX2_isInView_52 ⟨hz_b0 (sp_sees_no c19 (by omega)), rfl⟩
    · refine hr_iconst (v := (nI 1)) (q := 23) X dX2_isInView_22 rfl rfl ?_
      exact hr_zret X hr rfl dX2_isInView_23 ⟨hz_b1 (sp_sees_eq c19), rfl⟩
  · refine hr_iconst (v := (nI 1)) (q := 12) X dX2_isInView_11 rfl rfl ?_
    refine hr_goto (tgt := 16) X dX2_isInView_12 (by decide) ?_
    refine hr_istore3 (q := 17) X dX2_isInView_16 rfl rfl (Nat.le_of_ble_eq_true rfl) ?_
    refine hr_iload1 (q := 18) X dX2_isInView_17 rfl ?_
    refine hr_iload2 (q := 19) X dX2_isInView_18 rfl ?_
    refine hr_icmpN_ne (q := 22) (tgt := 24) X dX2_isInView_19 rfl (by decide) (by omega) (by omega) (fun c19 => ?_) (fun c19 => ?_)
    · refine hr_iload3 (q := 25) X dX2_isInView_24 rfl ?_
      refine hr_if_ne (q := 28) (tgt := 39) X dX2_isInView_25 rfl (by decide) (fun _ => ?_) (fun z => absurd z (by decide))
      refine hr_iload1 (q := 40) X dX2_isInView_39 rfl ?_
      refine hr_iload2 (q := 41) X dX2_isInView_40 rfl ?_
      refine hr_callP (v := .int (nI (sp_dist a b))) (q := 44) (hc_S (n := 2) (As := [.int (nI a), .int (nI b)]) X dX2_isInView_41 rfl (tn_distance X.tr (a := a) (b := b) (by omega) (by omega)) q1004 cs_X2_distance ⟨Nat.le_of_ble_eq_true rfl, Nat.le_of_ble_eq_true rfl⟩ rfl (Nat.le_of_ble_eq_true rfl)) rfl ?_
      have := sp_dist_le (a := a) (b := b) (by omega) (by omega)
      refine hr_aload0 (q := 45) X dX2_isInView_44 rfl ?_
      refine hr_getI (v := (nI (t.1 2 0))) (q := 48) X dX2_isInView_45 rfl fr_q158_2 rfl hT.ob hT.f2 ?_
      refine hr_icmpN_le (q := 51) (tgt := 53) X dX2_isInView_48 rfl (by decide) (by omega) (by omega) (fun c48 => ?_) (fun c48 => ?_)
      · refine hr_iload3 (q := 54) X dX2_isInView_53 rfl ?_
        refine hr_if_eq (q := 57) (tgt := 61) X dX2_isInView_54 rfl (by decide) (fun z => absurd z (by decide)) (fun _ => ?_)
        refine hr_iconst (v := (nI 1)) (q := 58) X dX2_isInView_57 rfl rfl ?_
        refine hr_goto (tgt := 63) X dX2_isInView_58 (by decide) ?_
        refine hr_istore4 (q := 65) X dX2_isInView_63 rfl rfl (Nat.le_of_ble_eq_true rfl) ?_
        refine hr_iload1 (q := 66) X dX2_isInView_65 rfl ?_
        refine hr_iload2 (q := 67) X dX2_isInView_66 rfl ?_
        refine hr_callP (v := .int (nI (min a b))) (q := 70) (hc_S (n := 2) (As := [.int (nI a), .int (nI b)]) X dX2_isInView_67 rfl (tj_min X.tr (a := a) (b := b) (by omega) (by omega)) q1010 cs_J8_min ⟨Nat.le_of_ble_eq_true rfl, Nat.le_of_ble_eq_true rfl⟩ rfl (Nat.le_of_ble_eq_true rfl)) rfl ?_
        refine hr_iload4 (q := 72) X dX2_isInView_70 rfl ?_
        refine hr_iadd (v := (nI (min a b + 1))) (q := 73) X dX2_isInView_72 rfl (nI_add _ _) ?_
        refine hr_istore5 (q := 75) X dX2_isInView_73 rfl rfl (Nat.le_of_ble_eq_true rfl) ?_
        have hd : ¬ ((a / 6 ≠ b / 6 ∧ a % 6 ≠ b % 6) ∨ t.1 2 0 < sp_dist a b) := by omega
        have loop75 : ∀ (kr nr n : Nat) (v : Nat), (v ≤ max a b + 6) → (max a b + 7 ≤ v + n) → (1 ≤ v) → (sp_clr (t.1 16) 1 (max a b) n v = sp_sees t a b) → hg_W p l e rm_X2_isInView s m args below meth c (hg_Q below D lo args s rm_X2_isInView G (hg_Pv G (.int (bI (sp_sees t a b))))) D lo G.1 6 kr nr G 75 [some (.ref (ta 0)), some (.int (nI a)), some (.int (nI b)), some (.int (nI 1)), some (.int (nI 1)), some (.int (nI v))] [] := by
          intro kr nr n
          induction n with
          | zero =>
            intro v h75_0 h75_1 h75_2 h75_3
            omega
          | succ n ih =>
            intro v h75_0 h75_1 h75_2 h75_3
            refine hr_iload5 (q := 77) X dX2_isInView_75 rfl ?_
            refine hr_iload1 (q := 78) X dX2_isInView_77 rfl ?_
            refine hr_iload2 (q := 79) X dX2_isInView_78 rfl ?_
            refine hr_callP (v := .int (nI (max a b))) (q := 82) (hc_S (n := 2) (As := [.int (nI a), .int (nI b)]) X dX2_isInView_79 rfl (tj_max X.tr (a := a) (b := b) (by omega) (by omega)) q1013 cs_J8_max ⟨Nat.le_of_ble_eq_true rfl, Nat.le_of_ble_eq_true rfl⟩ rfl (Nat.le_of_ble_eq_true rfl)) rfl ?_
            refine hr_icmpN_ge (q := 85) (tgt := 106) X dX2_isInView_82 rfl (by decide) (by omega) (by omega) (fun c82 => ?_) (fun c82 => ?_)
            · refine hr_iconst (v := (nI 1)) (q := 107) X dX2_isInView_106 rfl rfl ?_
              exact hr_zret X hr rfl dX2_isInView_107 ⟨hz_b1 (by rw [← h75_3, sp_clr_e (by omega)]), rfl⟩
            · refine hr_aload0 (q := 86) X dX2_isInView_85 rfl ?_
              refine hr_iload5 (q := 88) X dX2_isInView_86 rfl ?_
              refine hr_callP (q := 91) (hc_V (n := 1) (ci := 2) (As := [.int (nI v)]) X dX2_isInView_88 rfl (tn_isWall X.tr hT hw (z := v) (by omega)) q636 cv_X2_isWall ⟨Nat.le_of_ble_eq_true rfl, Nat.le_of_ble_eq_true rfl⟩ rfl (Nat.le_of_ble_eq_true rfl) hT.ob rfl rfl) rfl ?_
              refine hr_ifB_eq (q := 94) (tgt := 96) X dX2_isInView_91 rfl (by decide) (fun c91 => ?_) (fun c91 => ?_)
              · refine hr_iload5 (q := 98) X dX2_isInView_96 rfl ?_
                refine hr_iload4 (q := 100) X dX2_isInView_98 rfl ?_
                refine hr_iadd (v := (nI (v + 1))) (q := 101) X dX2_isInView_100 rfl (nI_add _ _) ?_
                refine hr_istore5 (q := 103) X dX2_isInView_101 rfl rfl (Nat.le_of_ble_eq_true rfl) ?_
                refine hr_goto (tgt := 75) X dX2_isInView_103 (by decide) ?_
                exact ih (v + 1) (by omega) (by omega) (by omega) (by rw [← h75_3, sp_clr_s (by omega) (by simpa using c91)])
              · refine hr_iconst (v := (nI 0)) (q := 95) X dX2_isInView_94 rfl rfl ?_
                exact hr_zret X hr rfl dX2_isInView_95 ⟨hz_b0 (by rw [← h75_3, sp_clr_w (by omega) (beq_iff_eq.mp c91)]), rfl⟩
        exact loop75 _ _ 50 (min a b + 1) (by omega) (by omega) (by omega) (by have h := sp_sees_go (t := t) c19 hd; rw [if_pos c8] at h; exact h)
      · refine hr_iconst (v := (nI 0)) (q := 52) X dX2_isInView_51 rfl rfl ?_
        exact hr_zret X hr rfl dX2_isInView_52 ⟨hz_b0 (sp_sees_no c19 (by omega)), rfl⟩
    · refine hr_iconst (v := (nI 1)) (q := 23) X dX2_isInView_22 rfl rfl ?_
      exact hr_zret X hr rfl dX2_isInView_23 ⟨hz_b1 (sp_sees_eq c19), rfl⟩

theorem tn_isLit {l : Launch} {D : hg_D} {lo : Nat} (htr : l.stackTraces = false) {G : hg_G} {ta : Nat → Nat} {t : sp_S} (hT : tn_R G ta t) (hw : sp_wf t) {z : Nat} (hz : z < 36) :
    hg_M l D lo yX2_isLit (ws_ yX2_isLit cX2_isLit 3 ((some FieldType.boolean))) rm_X2_isLit [.ref (ta 0), .int (nI z)] G (hg_Pv G (.int (bI (sp_lit t z)))) := by
  refine hg_M.of htr (by decide) [some (.ref (ta 0)), some (.int (nI z)), none] rfl (Nat.le_of_ble_eq_true rfl) ?_
  intro p e s m args below meth c X hr hnm htab
  have X : hg_X p l s m args meth c D lo "TaxOnLooks$Town" cX2_isLit 3 := X
  have w0 := hw.b0; have w1 := hw.b1; have w2 := hw.b2; have w3 := hw.b3; have w36 := hw.b36
  have hpw := sp_wpk hw; have hpb := sp_bpk hw
  obtain ⟨K, hK, hKs, hKb⟩ := hT.sk
  refine hr_iconst (v := (nI 0)) (q := 1) X dX2_isLit_0 rfl rfl ?_
  refine hr_istore2 (q := 2) X dX2_isLit_1 rfl rfl (Nat.le_of_ble_eq_true rfl) ?_
  have loop2 : ∀ (kr nr n : Nat) (b : Nat), (b ≤ 36) → (37 ≤ b + n) → (∀ j, j < b → (t.1 17 j == 1 && sp_sees t j z) = false) → hg_W p l e rm_X2_isLit s m args below meth c (hg_Q below D lo args s rm_X2_isLit G (hg_Pv G (.int (bI (sp_lit t z))))) D lo G.1 3 kr nr G 2 [some (.ref (ta 0)), some (.int (nI z)), some (.int (nI b))] [] := by
    intro kr nr n
    induction n with
    | zero =>
      intro b h2_0 h2_1 h2_2
      omega
    | succ n ih2 =>
      intro b h2_0 h2_1 h2_2
      refine hr_iload2 (q := 3) X dX2_isLit_2 rfl ?_
      refine hr_bipush (v := (nI 36)) (q := 5) X dX2_isLit_3 rfl rfl ?_
      refine hr_icmpN_ge (q := 8) (tgt := 38) X dX2_isLit_5 rfl (by decide) (by omega) (by omega) (fun c5 => ?_) (fun c5 => ?_)
      · refine hr_iconst (v := (nI 0)) (q := 39) X dX2_isLit_38 rfl rfl ?_
        exact hr_zret X hr rfl dX2_isLit_39 ⟨hz_b0 (sp_lit_f (fun j hj => h2_2 j (by omega))), rfl⟩
      · refine hr_aload0 (q := 9) X dX2_isLit_8 rfl ?_
        refine hr_getJ (v := (lN (sp_pk (t.1 17) 36))) (q := 12) X dX2_isLit_9 rfl fr_q172_2 rfl hT.ob hT.f8 ?_
        refine hr_iload2 (q := 13) X dX2_isLit_12 rfl ?_
        refine hr_lshr (v := (lN ((sp_pk (t.1 17) 36) / 2 ^ b))) (q := 14) X dX2_isLit_13 rfl (lN_shr (by omega) (by omega)) ?_
        refine hr_lconst (v := (lN 1)) (q := 15) X dX2_isLit_14 rfl rfl ?_
        refine hr_land (v := (lN (((sp_pk (t.1 17) 36) / 2 ^ b) % 2))) (q := 16) X dX2_isLit_15 rfl (lN_and1 (Nat.lt_of_le_of_lt (Nat.div_le_self _ _) (by omega))) ?_
        refine hr_lconst (v := (lN 0)) (q := 17) X dX2_isLit_16 rfl rfl ?_
        refine hr_lcmp (v := (nI (((sp_pk (t.1 17) 36) / 2 ^ b) % 2))) (q := 18) X dX2_isLit_17 rfl (lN_cmp0 (by omega)) ?_
        have hb1 := sp_bbit hw (c := b) (by omega); have hb2 := hw.b17 (c := b) (by omega)
        refine hr_ifN_eq (q := 21) (tgt := 32) X dX2_isLit_18 rfl (by decide) (by omega) (fun c18 => ?_) (fun c18 => ?_)
        · refine hr_iinc2 (v := (nI (b + 1))) (q := 35) X dX2_isLit_32 rfl (nI_add _ _) rfl (Nat.le_of_ble_eq_true rfl) ?_
          refine hr_goto (tgt := 2) X dX2_isLit_35 (by decide) ?_
          exact ih2 (b + 1) (by omega) (by omega) (sp_ext h2_2 (by rw [beq_eq_false_iff_ne.mpr (by omega : ¬ t.1 17 b = 1), Bool.false_and]))
        · refine hr_aload0 (q := 22) X dX2_isLit_21 rfl ?_
          refine hr_iload2 (q := 23) X dX2_isLit_22 rfl ?_
          refine hr_iload1 (q := 24) X dX2_isLit_23 rfl ?_
          refine hr_callP (q := 27) (hc_V (n := 2) (ci := 2) (As := [.int (nI b), .int (nI z)]) X dX2_isLit_24 rfl (tn_isInView X.tr hT hw (a := b) (b := z) (by omega) (by omega)) q1043 cv_X2_isInView ⟨Nat.le_of_ble_eq_true rfl, Nat.le_of_ble_eq_true rfl⟩ rfl (Nat.le_of_ble_eq_true rfl) hT.ob rfl rfl) rfl ?_
          refine hr_ifB_eq (q := 30) (tgt := 32) X dX2_isLit_27 rfl (by decide) (fun c27 => ?_) (fun c27 => ?_)
          · refine hr_iinc2 (v := (nI (b + 1))) (q := 35) X dX2_isLit_32 rfl (nI_add _ _) rfl (Nat.le_of_ble_eq_true rfl) ?_
            refine hr_goto (tgt := 2) X dX2_isLit_35 (by decide) ?_
            exact ih2 (b + 1) (by omega) (by omega) (sp_ext h2_2 (by rw [c27, Bool.and_false]))
          · refine hr_iconst (v := (nI 1)) (q := 31) X dX2_isLit_30 rfl rfl ?_
            exact hr_zret X hr rfl dX2_isLit_31 ⟨hz_b1 (sp_lit_t (b := b) (by omega) (by omega) c27), rfl⟩
  exact loop2 _ _ 37 0 (by omega) (by omega) (fun j hj => absurd hj (Nat.not_lt_zero _))

theorem tn_show {l : Launch} {D : hg_D} {lo : Nat} (htr : l.stackTraces = false) {G : hg_G} {ta : Nat → Nat} {t : sp_S} (hT : tn_R G ta t) (hw : sp_wf t) {x : Nat} (hx : x < t.1 0 0) :
    hg_M l D lo yX2_show (ws_ yX2_show cX2_show 3 ((some FieldType.int))) rm_X2_show [.ref (ta 0), .int (nI x)] G (hg_Pv G (.int (nI (sp_shows t x)))) := by
  refine hg_M.of htr (by decide) [some (.ref (ta 0)), some (.int (nI x)), none] rfl (Nat.le_of_ble_eq_true rfl) ?_
  intro p e s m args below meth c X hr hnm htab
  have X : hg_X p l s m args meth c D lo "TaxOnLooks$Town" cX2_show 3 := X
  have w0 := hw.b0; have w1 := hw.b1; have w2 := hw.b2; have w3 := hw.b3; have w36 := hw.b36
  have hpw := sp_wpk hw; have hpb := sp_bpk hw
  obtain ⟨K, hK, hKs, hKb⟩ := hT.sk
  refine hr_aload0 (q := 1) X dX2_show_0 rfl ?_
  refine hr_getR (v := (ta 1)) (q := 4) X dX2_show_1 rfl fr_q180_2 rfl hT.ob hT.f11 ?_
  refine hr_iload1 (q := 5) X dX2_show_4 rfl ?_
  obtain ⟨q1, hq1a, hq1k, hq1i, hq1b, hq1s⟩ := hT.pe (p := x) (by omega)
  have hq19 := hw.b9 (p := x) (by omega)
  refine hr_aaldN (v := q1) (q := 6) X dX2_show_5 rfl hT.k1 (by decide) (by omega) (by decide) hq1a ?_
  refine hr_aload0 (q := 7) X dX2_show_6 rfl ?_
  refine hr_getR (v := (ta 2)) (q := 10) X dX2_show_7 rfl fr_q182_2 rfl hT.ob hT.f12 ?_
  refine hr_iload1 (q := 11) X dX2_show_10 rfl ?_
  have b2 := hw.b11 (p := x) (by omega)
  refine hr_ialdN (v := (nI (t.1 11 x))) (q := 12) X dX2_show_11 rfl hT.k2 (Or.inl rfl) (by omega) (by decide) (hT.e2 (by omega)) ?_
  refine hr_callP (q := 15) (hcP_shows (k := t.1 9 x) (by omega) hq1k (w := t.1 11 x) (by have := hw.b11 (p := x) (by omega); omega) hq1b hq1s (hw.b10 (by omega)) (hw.b12 (by omega)) X dX2_show_12 q591 ⟨Nat.le_of_ble_eq_true rfl, Nat.le_of_ble_eq_true rfl⟩ (Nat.le_of_ble_eq_true rfl)) rfl ?_
  refine hr_istore2 (q := 16) X dX2_show_15 rfl rfl (Nat.le_of_ble_eq_true rfl) ?_
  refine hr_aload0 (q := 17) X dX2_show_16 rfl ?_
  refine hr_getI (v := (nI K)) (q := 20) X dX2_show_17 rfl fr_q175_2 rfl hT.ob hKs ?_
  refine hr_iload1 (q := 21) X dX2_show_20 rfl ?_
  refine hr_ishr (v := (nI (K / 2 ^ x))) (q := 22) X dX2_show_21 rfl (sp_shr (by omega) (by omega)) ?_
  refine hr_iconst (v := (nI 1)) (q := 23) X dX2_show_22 rfl rfl ?_
  refine hr_iand (v := (nI ((K / 2 ^ x) % 2))) (q := 24) X dX2_show_23 rfl (sp_and1 (Nat.lt_of_le_of_lt (Nat.div_le_self _ _) (by omega))) ?_
  have hkb := hKb x hx; have hsb := hw.b15 (p := x) (by omega)
  have hsk : sp_shK (t.1 9 x) (t.1 11 x) (t.1 10 x) (t.1 12 x) ≤ 49 := by unfold sp_shK; have g1 := hw.b10 (p := x) (by omega); have g2 := hw.b11 (p := x) (by omega); (repeat' split) <;> omega
  refine hr_ifN_eq (q := 27) (tgt := 31) X dX2_show_24 rfl (by decide) (by omega) (fun c24 => ?_) (fun c24 => ?_)
  · refine hr_aload0 (q := 32) X dX2_show_31 rfl ?_
    refine hr_getI (v := (nI (t.1 3 0))) (q := 35) X dX2_show_32 rfl fr_q161_2 rfl hT.ob hT.f3 ?_
    refine hr_ifN_eq (q := 38) (tgt := 44) X dX2_show_35 rfl (by decide) (by omega) (fun c35 => ?_) (fun c35 => ?_)
    · refine hr_iload2 (q := 45) X dX2_show_44 rfl ?_
      exact hr_iret X hr dX2_show_45 ⟨hz_i (congrArg nI (by unfold sp_shows; rw [if_neg (by omega)]; show _ = if t.1 3 0 = 1 then _ else _; rw [if_neg (by omega)]; rfl)), rfl⟩
    · refine hr_iload2 (q := 39) X dX2_show_38 rfl ?_
      refine hr_iconst (v := (nI 2)) (q := 40) X dX2_show_39 rfl rfl ?_
      refine hr_idiv (v := (nI ((sp_shK (t.1 9 x) (t.1 11 x) (t.1 10 x) (t.1 12 x)) / 2))) (q := 41) X dX2_show_40 rfl (by decide) (pk_div (by omega) (by decide) (by decide)) ?_
      refine hr_goto (tgt := 45) X dX2_show_41 (by decide) ?_
      exact hr_iret X hr dX2_show_45 ⟨hz_i (congrArg nI (by unfold sp_shows; rw [if_neg (by omega)]; show _ = if t.1 3 0 = 1 then _ else _; rw [if_pos (by omega)]; rfl)), rfl⟩
  · refine hr_iconst (v := (nI 0)) (q := 28) X dX2_show_27 rfl rfl ?_
    refine hr_goto (tgt := 45) X dX2_show_28 (by decide) ?_
    exact hr_iret X hr dX2_show_45 ⟨hz_i (congrArg nI (by unfold sp_shows; rw [if_pos (by omega)])), rfl⟩

theorem sp_atAll_f {t : sp_S} {x y : Nat} (h : sp_atAll (t.1 9 x) = false) : x = y ∨ x = t.1 36 0 ∨ y = t.1 36 0 ∨ t.1 9 x = 3 ∨ t.1 9 x = 5 := by
  by_cases h3 : t.1 9 x = 3
  · simp [h3]
  · by_cases h5 : t.1 9 x = 5
    · simp [h5]
    · simp [sp_atAll, h3, h5] at h

theorem tn_catches {l : Launch} {D : hg_D} {lo : Nat} (htr : l.stackTraces = false) {G : hg_G} {ta : Nat → Nat} {t : sp_S} (hT : tn_R G ta t) (hw : sp_wf t) {x y : Nat} (hx : x < t.1 0 0) (hy : y < t.1 0 0) :
    hg_M l D lo yX2_catches (ws_ yX2_catches cX2_catches 3 ((some FieldType.boolean))) rm_X2_catches [.ref (ta 0), .int (nI x), .int (nI y)] G (hg_Pv G (.int (bI (sp_would t x y)))) := by
  refine hg_M.of htr (by decide) [some (.ref (ta 0)), some (.int (nI x)), some (.int (nI y))] rfl (Nat.le_of_ble_eq_true rfl) ?_
  intro p e s m args below meth c X hr hnm htab
  have X : hg_X p l s m args meth c D lo "TaxOnLooks$Town" cX2_catches 3 := X
  have w0 := hw.b0; have w1 := hw.b1; have w2 := hw.b2; have w3 := hw.b3; have w36 := hw.b36
  have hpw := sp_wpk hw; have hpb := sp_bpk hw
  obtain ⟨K, hK, hKs, hKb⟩ := hT.sk
  refine hr_iload1 (q := 1) X dX2_catches_0 rfl ?_
  refine hr_iload2 (q := 2) X dX2_catches_1 rfl ?_
  refine hr_icmpN_eq (q := 5) (tgt := 33) X dX2_catches_2 rfl (by decide) (by omega) (by omega) (fun c2 => ?_) (fun c2 => ?_)
  · refine hr_iconst (v := (nI 0)) (q := 34) X dX2_catches_33 rfl rfl ?_
    exact hr_zret X hr rfl dX2_catches_34 ⟨hz_b0 (sp_would_n (by omega)), rfl⟩
  · refine hr_iload1 (q := 6) X dX2_catches_5 rfl ?_
    refine hr_aload0 (q := 7) X dX2_catches_6 rfl ?_
    refine hr_getI (v := (oI (t.1 36 0))) (q := 10) X dX2_catches_7 rfl fr_q178_2 rfl hT.ob hT.f10 ?_
    refine hr_icmpM_eq (q := 13) (tgt := 33) X dX2_catches_10 rfl (by decide) (by omega) (by omega) (fun c10 => ?_) (fun c10 => ?_)
    · refine hr_iconst (v := (nI 0)) (q := 34) X dX2_catches_33 rfl rfl ?_
      exact hr_zret X hr rfl dX2_catches_34 ⟨hz_b0 (sp_would_n (by omega)), rfl⟩
    · refine hr_iload2 (q := 14) X dX2_catches_13 rfl ?_
      refine hr_aload0 (q := 15) X dX2_catches_14 rfl ?_
      refine hr_getI (v := (oI (t.1 36 0))) (q := 18) X dX2_catches_15 rfl fr_q178_2 rfl hT.ob hT.f10 ?_
      refine hr_icmpM_eq (q := 21) (tgt := 33) X dX2_catches_18 rfl (by decide) (by omega) (by omega) (fun c18 => ?_) (fun c18 => ?_)
      · refine hr_iconst (v := (nI 0)) (q := 34) X dX2_catches_33 rfl rfl ?_
        exact hr_zret X hr rfl dX2_catches_34 ⟨hz_b0 (sp_would_n (by omega)), rfl⟩
      · refine hr_aload0 (q := 22) X dX2_catches_21 rfl ?_
        refine hr_getR (v := (ta 1)) (q := 25) X dX2_catches_22 rfl fr_q180_2 rfl hT.ob hT.f11 ?_
        refine hr_iload1 (q := 26) X dX2_catches_25 rfl ?_
        obtain ⟨q1, hq1a, hq1k, hq1i, hq1b, hq1s⟩ := hT.pe (p := x) (by omega)
        have hq19 := hw.b9 (p := x) (by omega)
        refine hr_aaldN (v := q1) (q := 27) X dX2_catches_26 rfl hT.k1 (by decide) (by omega) (by decide) hq1a ?_
        refine hr_callP (q := 30) (hcP_looksAtAll (k := t.1 9 x) (by omega) hq1k X dX2_catches_27 q1030 ⟨Nat.le_of_ble_eq_true rfl, Nat.le_of_ble_eq_true rfl⟩ (Nat.le_of_ble_eq_true rfl)) rfl ?_
        refine hr_ifB_ne (q := 33) (tgt := 35) X dX2_catches_30 rfl (by decide) (fun c30 => ?_) (fun c30 => ?_)
        · have hk : ¬ (t.1 9 x = 3 ∨ t.1 9 x = 5) := fun z => by rcases z with z | z <;> rw [z] at c30 <;> cases c30
          refine hr_aload0 (q := 36) X dX2_catches_35 rfl ?_
          refine hr_aload0 (q := 37) X dX2_catches_36 rfl ?_
          refine hr_getR (v := (ta 4)) (q := 40) X dX2_catches_37 rfl fr_q187_2 rfl hT.ob hT.f14 ?_
          refine hr_iload1 (q := 41) X dX2_catches_40 rfl ?_
          have b2 := hw.b14 (p := x) (by omega)
          refine hr_ialdN (v := (nI (t.1 14 x))) (q := 42) X dX2_catches_41 rfl hT.k4 (Or.inl rfl) (by omega) (by decide) (hT.e4 (by omega)) ?_
          refine hr_aload0 (q := 43) X dX2_catches_42 rfl ?_
          refine hr_getR (v := (ta 4)) (q := 46) X dX2_catches_43 rfl fr_q187_2 rfl hT.ob hT.f14 ?_
          refine hr_iload2 (q := 47) X dX2_catches_46 rfl ?_
          have b3 := hw.b14 (p := y) (by omega)
          refine hr_ialdN (v := (nI (t.1 14 y))) (q := 48) X dX2_catches_47 rfl hT.k4 (Or.inl rfl) (by omega) (by decide) (hT.e4 (by omega)) ?_
          refine hr_callP (q := 51) (hc_V (n := 2) (ci := 2) (As := [.int (nI (t.1 14 x)), .int (nI (t.1 14 y))]) X dX2_catches_48 rfl (tn_isInView X.tr hT hw (a := t.1 14 x) (b := t.1 14 y) (by omega) (by omega)) q1043 cv_X2_isInView ⟨Nat.le_of_ble_eq_true rfl, Nat.le_of_ble_eq_true rfl⟩ rfl (Nat.le_of_ble_eq_true rfl) hT.ob rfl rfl) rfl ?_
          refine hr_ifB_eq (q := 54) (tgt := 91) X dX2_catches_51 rfl (by decide) (fun c51 => ?_) (fun c51 => ?_)
          · refine hr_iconst (v := (nI 0)) (q := 92) X dX2_catches_91 rfl rfl ?_
            exact hr_zret X hr rfl dX2_catches_92 ⟨hz_b0 (sp_would_s c51), rfl⟩
          · refine hr_aload0 (q := 55) X dX2_catches_54 rfl ?_
            refine hr_iload2 (q := 56) X dX2_catches_55 rfl ?_
            refine hr_callP (q := 59) (hc_V (n := 1) (ci := 2) (As := [.int (nI y)]) X dX2_catches_56 rfl (tn_show X.tr hT hw (x := y) (by omega)) q1044 cv_X2_show ⟨Nat.le_of_ble_eq_true rfl, Nat.le_of_ble_eq_true rfl⟩ rfl (Nat.le_of_ble_eq_true rfl) hT.ob rfl rfl) rfl ?_
            have := sp_shows_lt (t := t) hw (x := y) (by omega)
            refine hr_aload0 (q := 60) X dX2_catches_59 rfl ?_
            refine hr_getR (v := (ta 1)) (q := 63) X dX2_catches_60 rfl fr_q180_2 rfl hT.ob hT.f11 ?_
            refine hr_iload1 (q := 64) X dX2_catches_63 rfl ?_
            obtain ⟨q4, hq4a, hq4k, hq4i, hq4b, hq4s⟩ := hT.pe (p := x) (by omega)
            have hq49 := hw.b9 (p := x) (by omega)
            refine hr_aaldN (v := q4) (q := 65) X dX2_catches_64 rfl hT.k1 (by decide) (by omega) (by decide) hq4a ?_
            refine hr_getI (v := (nI (t.1 12 x))) (q := 68) X dX2_catches_65 rfl (fp_q679 _ (by omega)) (fp_ft _ (by omega) 2 (by decide)) hq4k hq4s ?_
            refine hr_aload0 (q := 69) X dX2_catches_68 rfl ?_
            refine hr_getR (v := (ta 4)) (q := 72) X dX2_catches_69 rfl fr_q187_2 rfl hT.ob hT.f14 ?_
            refine hr_iload1 (q := 73) X dX2_catches_72 rfl ?_
            have b5 := hw.b14 (p := x) (by omega)
            refine hr_ialdN (v := (nI (t.1 14 x))) (q := 74) X dX2_catches_73 rfl hT.k4 (Or.inl rfl) (by omega) (by decide) (hT.e4 (by omega)) ?_
            refine hr_aload0 (q := 75) X dX2_catches_74 rfl ?_
            refine hr_getR (v := (ta 4)) (q := 78) X dX2_catches_75 rfl fr_q187_2 rfl hT.ob hT.f14 ?_
            refine hr_iload2 (q := 79) X dX2_catches_78 rfl ?_
            have b6 := hw.b14 (p := y) (by omega)
            refine hr_ialdN (v := (nI (t.1 14 y))) (q := 80) X dX2_catches_79 rfl hT.k4 (Or.inl rfl) (by omega) (by decide) (hT.e4 (by omega)) ?_
            refine hr_callP (v := .int (nI (sp_dist (t.1 14 x) (t.1 14 y)))) (q := 83) (hc_S (n := 2) (As := [.int (nI (t.1 14 x)), .int (nI (t.1 14 y))]) X dX2_catches_80 rfl (tn_distance X.tr (a := t.1 14 x) (b := t.1 14 y) (by omega) (by omega)) q1004 cs_X2_distance ⟨Nat.le_of_ble_eq_true rfl, Nat.le_of_ble_eq_true rfl⟩ rfl (Nat.le_of_ble_eq_true rfl)) rfl ?_
            have := sp_dist_le (a := t.1 14 x) (b := t.1 14 y) (by omega) (by omega)
            have hb12 := hw.b12 (p := x) (by omega)
            refine hr_iadd (v := (nI (t.1 12 x + (sp_dist (t.1 14 x) (t.1 14 y))))) (q := 84) X dX2_catches_83 rfl (nI_add _ _) ?_
            refine hr_icmpN_le (q := 87) (tgt := 91) X dX2_catches_84 rfl (by decide) (by omega) (by omega) (fun c84 => ?_) (fun c84 => ?_)
            · refine hr_iconst (v := (nI 0)) (q := 92) X dX2_catches_91 rfl rfl ?_
              exact hr_zret X hr rfl dX2_catches_92 ⟨hz_b0 (sp_would_f (by omega)), rfl⟩
            · refine hr_iconst (v := (nI 1)) (q := 88) X dX2_catches_87 rfl rfl ?_
              refine hr_goto (tgt := 92) X dX2_catches_88 (by decide) ?_
              exact hr_zret X hr rfl dX2_catches_92 ⟨hz_b1 (sp_would_t (by omega) c51 (by omega)), rfl⟩
        · refine hr_iconst (v := (nI 0)) (q := 34) X dX2_catches_33 rfl rfl ?_
          exact hr_zret X hr rfl dX2_catches_34 ⟨hz_b0 (sp_would_n (sp_atAll_f c30)), rfl⟩

theorem tn_isBefore {l : Launch} {D : hg_D} {lo : Nat} (htr : l.stackTraces = false) {G : hg_G} {ta : Nat → Nat} {t : sp_S} (hT : tn_R G ta t) (hw : sp_wf t) {x y z : Nat} (hx : x < t.1 0 0) (hy : y < t.1 0 0) (hz : z < t.1 0 0) :
    hg_M l D lo yX2_isBefore (ws_ yX2_isBefore cX2_isBefore 5 ((some FieldType.boolean))) rm_X2_isBefore [.ref (ta 0), .int (nI x), .int (nI y), .int (nI z)] G (hg_Pv G (.int (bI (sp_before t x y z)))) := by
  refine hg_M.of htr (by decide) [some (.ref (ta 0)), some (.int (nI x)), some (.int (nI y)), some (.int (nI z)), none] rfl (Nat.le_of_ble_eq_true rfl) ?_
  intro p e s m args below meth c X hr hnm htab
  have X : hg_X p l s m args meth c D lo "TaxOnLooks$Town" cX2_isBefore 5 := X
  have w0 := hw.b0; have w1 := hw.b1; have w2 := hw.b2; have w3 := hw.b3; have w36 := hw.b36
  have hpw := sp_wpk hw; have hpb := sp_bpk hw
  obtain ⟨K, hK, hKs, hKb⟩ := hT.sk
  refine hr_aload0 (q := 1) X dX2_isBefore_0 rfl ?_
  refine hr_getR (v := (ta 4)) (q := 4) X dX2_isBefore_1 rfl fr_q187_2 rfl hT.ob hT.f14 ?_
  refine hr_iload1 (q := 5) X dX2_isBefore_4 rfl ?_
  have b1 := hw.b14 (p := x) (by omega)
  refine hr_ialdN (v := (nI (t.1 14 x))) (q := 6) X dX2_isBefore_5 rfl hT.k4 (Or.inl rfl) (by omega) (by decide) (hT.e4 (by omega)) ?_
  refine hr_aload0 (q := 7) X dX2_isBefore_6 rfl ?_
  refine hr_getR (v := (ta 4)) (q := 10) X dX2_isBefore_7 rfl fr_q187_2 rfl hT.ob hT.f14 ?_
  refine hr_iload3 (q := 11) X dX2_isBefore_10 rfl ?_
  have b2 := hw.b14 (p := z) (by omega)
  refine hr_ialdN (v := (nI (t.1 14 z))) (q := 12) X dX2_isBefore_11 rfl hT.k4 (Or.inl rfl) (by omega) (by decide) (hT.e4 (by omega)) ?_
  refine hr_callP (v := .int (nI (sp_dist (t.1 14 x) (t.1 14 z)))) (q := 15) (hc_S (n := 2) (As := [.int (nI (t.1 14 x)), .int (nI (t.1 14 z))]) X dX2_isBefore_12 rfl (tn_distance X.tr (a := t.1 14 x) (b := t.1 14 z) (by omega) (by omega)) q1004 cs_X2_distance ⟨Nat.le_of_ble_eq_true rfl, Nat.le_of_ble_eq_true rfl⟩ rfl (Nat.le_of_ble_eq_true rfl)) rfl ?_
  have := sp_dist_le (a := t.1 14 x) (b := t.1 14 z) (by omega) (by omega)
  refine hr_aload0 (q := 16) X dX2_isBefore_15 rfl ?_
  refine hr_getR (v := (ta 4)) (q := 19) X dX2_isBefore_16 rfl fr_q187_2 rfl hT.ob hT.f14 ?_
  refine hr_iload1 (q := 20) X dX2_isBefore_19 rfl ?_
  have b3 := hw.b14 (p := x) (by omega)
  refine hr_ialdN (v := (nI (t.1 14 x))) (q := 21) X dX2_isBefore_20 rfl hT.k4 (Or.inl rfl) (by omega) (by decide) (hT.e4 (by omega)) ?_
  refine hr_aload0 (q := 22) X dX2_isBefore_21 rfl ?_
  refine hr_getR (v := (ta 4)) (q := 25) X dX2_isBefore_22 rfl fr_q187_2 rfl hT.ob hT.f14 ?_
  refine hr_iload2 (q := 26) X dX2_isBefore_25 rfl ?_
  have b4 := hw.b14 (p := y) (by omega)
  refine hr_ialdN (v := (nI (t.1 14 y))) (q := 27) X dX2_isBefore_26 rfl hT.k4 (Or.inl rfl) (by omega) (by decide) (hT.e4 (by omega)) ?_
  refine hr_callP (v := .int (nI (sp_dist (t.1 14 x) (t.1 14 y)))) (q := 30) (hc_S (n := 2) (As := [.int (nI (t.1 14 x)), .int (nI (t.1 14 y))]) X dX2_isBefore_27 rfl (tn_distance X.tr (a := t.1 14 x) (b := t.1 14 y) (by omega) (by omega)) q1004 cs_X2_distance ⟨Nat.le_of_ble_eq_true rfl, Nat.le_of_ble_eq_true rfl⟩ rfl (Nat.le_of_ble_eq_true rfl)) rfl ?_
  have := sp_dist_le (a := t.1 14 x) (b := t.1 14 y) (by omega) (by omega)
  refine hr_isub (v := (nI (sp_dist (t.1 14 x) (t.1 14 z)) - nI (sp_dist (t.1 14 x) (t.1 14 y)))) (q := 31) X dX2_isBefore_30 rfl rfl ?_
  refine hr_istore4 (q := 33) X dX2_isBefore_31 rfl rfl (Nat.le_of_ble_eq_true rfl) ?_
  refine hr_iload4 (q := 35) X dX2_isBefore_33 rfl ?_
  refine hr_if_gt (q := 38) (tgt := 56) X dX2_isBefore_35 rfl (by decide) (fun c35 => ?_) (fun c35 => ?_)
  · have g35 := (sp_sub_gt (a := sp_dist (t.1 14 x) (t.1 14 z)) (b := sp_dist (t.1 14 x) (t.1 14 y)) (by omega) (by omega)).mp c35
    refine hr_iconst (v := (nI 1)) (q := 57) X dX2_isBefore_56 rfl rfl ?_
    refine hr_goto (tgt := 61) X dX2_isBefore_57 (by decide) ?_
    exact hr_zret X hr rfl dX2_isBefore_61 ⟨hz_b1 (decide_eq_true (by omega)), rfl⟩
  · have g35 := Nat.not_lt.mp fun g => c35 ((sp_sub_gt (a := sp_dist (t.1 14 x) (t.1 14 z)) (b := sp_dist (t.1 14 x) (t.1 14 y)) (by omega) (by omega)).mpr g)
    refine hr_iload4 (q := 40) X dX2_isBefore_38 rfl ?_
    refine hr_if_ne (q := 43) (tgt := 60) X dX2_isBefore_40 rfl (by decide) (fun c40 => ?_) (fun c40 => ?_)
    · have g40 : ¬ sp_dist (t.1 14 x) (t.1 14 z) = sp_dist (t.1 14 x) (t.1 14 y) := fun g => c40 ((sp_sub_z (by omega) (by omega)).mpr g)
      refine hr_iconst (v := (nI 0)) (q := 61) X dX2_isBefore_60 rfl rfl ?_
      exact hr_zret X hr rfl dX2_isBefore_61 ⟨hz_b0 (decide_eq_false (by omega)), rfl⟩
    · have g40 : sp_dist (t.1 14 x) (t.1 14 z) = sp_dist (t.1 14 x) (t.1 14 y) := (sp_sub_z (by omega) (by omega)).mp c40
      refine hr_aload0 (q := 44) X dX2_isBefore_43 rfl ?_
      refine hr_iload2 (q := 45) X dX2_isBefore_44 rfl ?_
      refine hr_callP (q := 48) (hc_V (n := 1) (ci := 2) (As := [.int (nI y)]) X dX2_isBefore_45 rfl (tn_show X.tr hT hw (x := y) (by omega)) q1044 cv_X2_show ⟨Nat.le_of_ble_eq_true rfl, Nat.le_of_ble_eq_true rfl⟩ rfl (Nat.le_of_ble_eq_true rfl) hT.ob rfl rfl) rfl ?_
      have := sp_shows_lt (t := t) hw (x := y) (by omega)
      refine hr_aload0 (q := 49) X dX2_isBefore_48 rfl ?_
      refine hr_iload3 (q := 50) X dX2_isBefore_49 rfl ?_
      refine hr_callP (q := 53) (hc_V (n := 1) (ci := 2) (As := [.int (nI z)]) X dX2_isBefore_50 rfl (tn_show X.tr hT hw (x := z) (by omega)) q1044 cv_X2_show ⟨Nat.le_of_ble_eq_true rfl, Nat.le_of_ble_eq_true rfl⟩ rfl (Nat.le_of_ble_eq_true rfl) hT.ob rfl rfl) rfl ?_
      have := sp_shows_lt (t := t) hw (x := z) (by omega)
      refine hr_icmpN_le (q := 56) (tgt := 60) X dX2_isBefore_53 rfl (by decide) (by omega) (by omega) (fun c53 => ?_) (fun c53 => ?_)
      · refine hr_iconst (v := (nI 0)) (q := 61) X dX2_isBefore_60 rfl rfl ?_
        exact hr_zret X hr rfl dX2_isBefore_61 ⟨hz_b0 (decide_eq_false (by omega)), rfl⟩
      · refine hr_iconst (v := (nI 1)) (q := 57) X dX2_isBefore_56 rfl rfl ?_
        refine hr_goto (tgt := 61) X dX2_isBefore_57 (by decide) ?_
        exact hr_zret X hr rfl dX2_isBefore_61 ⟨hz_b1 (decide_eq_true (by omega)), rfl⟩

theorem sp_atOne_f {k : Nat} (h : sp_atOne k = false) : ¬ (k = 4 ∨ k = 6) := fun z => by rcases z with rfl | rfl <;> cases h
theorem sp_atOne_t {k : Nat} (h : sp_atOne k = true) : k = 4 ∨ k = 6 := by simpa [sp_atOne] using h
theorem sp_best_none {t : sp_S} {x : Nat} : ∀ n, sp_best t x n = 99 → n ≤ 99 → ∀ i, i < n → sp_would t x i = false
  | 0, _, _, i, hi => absurd hi (Nat.not_lt_zero i)
  | n + 1, h, hn, i, hi => by
    rw [sp_best] at h
    split at h
    · omega
    · rename_i g
      by_cases e : i = n
      · subst e
        cases g2 : sp_would t x i with
        | false => rfl
        | true => exact absurd ⟨g2, Or.inl h⟩ g
      · exact sp_best_none n h (by omega) i (by omega)
theorem sp_bits_best {t : sp_S} {x : Nat} (h : sp_best t x (t.1 0 0) = 99) (h7 : t.1 0 0 ≤ 7) : sp_bits (sp_would t x) (t.1 0 0) = 0 := sp_bits_none _ (sp_best_none _ h (by omega))
theorem sp_lookedAt_0 {t : sp_S} {x : Nat} (h : sp_best t x (t.1 0 0) = 99) (h7 : t.1 0 0 ≤ 7) : sp_lookedAt t x = 0 := by
  unfold sp_lookedAt
  split
  · first
    | rfl
    | rw [if_pos h]
  · exact sp_bits_best h h7

theorem tn_glances {l : Launch} {D : hg_D} {lo : Nat} (htr : l.stackTraces = false) {G : hg_G} {ta : Nat → Nat} {t : sp_S} (hT : tn_R G ta t) (hw : sp_wf t) {x : Nat} (hx : x < t.1 0 0) :
    hg_M l D lo yX2_glances (ws_ yX2_glances cX2_glances 5 ((some FieldType.int))) rm_X2_glances [.ref (ta 0), .int (nI x)] G (hg_Pv G (.int (nI (sp_lookedAt t x)))) := by
  refine hg_M.of htr (by decide) [some (.ref (ta 0)), some (.int (nI x)), none, none, none] rfl (Nat.le_of_ble_eq_true rfl) ?_
  intro p e s m args below meth c X hr hnm htab
  have X : hg_X p l s m args meth c D lo "TaxOnLooks$Town" cX2_glances 5 := X
  have w0 := hw.b0; have w1 := hw.b1; have w2 := hw.b2; have w3 := hw.b3; have w36 := hw.b36
  have hpw := sp_wpk hw; have hpb := sp_bpk hw
  obtain ⟨K, hK, hKs, hKb⟩ := hT.sk
  refine hr_iconst (v := (nI 0)) (q := 1) X dX2_glances_0 rfl rfl ?_
  refine hr_istore2 (q := 2) X dX2_glances_1 rfl rfl (Nat.le_of_ble_eq_true rfl) ?_
  refine hr_iconst (v := (-1)) (q := 3) X dX2_glances_2 rfl rfl ?_
  refine hr_istore3 (q := 4) X dX2_glances_3 rfl rfl (Nat.le_of_ble_eq_true rfl) ?_
  refine hr_iconst (v := (nI 0)) (q := 5) X dX2_glances_4 rfl rfl ?_
  refine hr_istore4 (q := 7) X dX2_glances_5 rfl rfl (Nat.le_of_ble_eq_true rfl) ?_
  have loop7 : ∀ (kr nr n : Nat) (i S B : Nat), (i ≤ t.1 0 0) → (t.1 0 0 + 1 ≤ i + n) → (S = sp_bits (sp_would t x) i) → (B = sp_best t x i) → hg_W p l e rm_X2_glances s m args below meth c (hg_Q below D lo args s rm_X2_glances G (hg_Pv G (.int (nI (sp_lookedAt t x))))) D lo G.1 5 kr nr G 7 [some (.ref (ta 0)), some (.int (nI x)), some (.int (nI S)), some (.int (oI B)), some (.int (nI i))] [] := by
    intro kr nr n
    induction n with
    | zero =>
      intro i S B h7_0 h7_1 h7_2 h7_3
      omega
    | succ n ih7 =>
      intro i S B h7_0 h7_1 h7_2 h7_3
      refine hr_iload4 (q := 9) X dX2_glances_7 rfl ?_
      refine hr_aload0 (q := 10) X dX2_glances_9 rfl ?_
      refine hr_getI (v := (nI (t.1 0 0))) (q := 13) X dX2_glances_10 rfl fr_q152_2 rfl hT.ob hT.f0 ?_
      refine hr_icmpN_ge (q := 16) (tgt := 62) X dX2_glances_13 rfl (by decide) (by omega) (by omega) (fun c13 => ?_) (fun c13 => ?_)
      · have hi : i = t.1 0 0 := by omega
        have hB := sp_best_lt t x (t.1 0 0)
        rw [hi] at h7_3 h7_2
        rw [← h7_3] at hB
        refine hr_aload0 (q := 63) X dX2_glances_62 rfl ?_
        refine hr_getR (v := (ta 1)) (q := 66) X dX2_glances_63 rfl fr_q180_2 rfl hT.ob hT.f11 ?_
        refine hr_iload1 (q := 67) X dX2_glances_66 rfl ?_
        obtain ⟨q1, hq1a, hq1k, hq1i, hq1b, hq1s⟩ := hT.pe (p := x) (by omega)
        have hq19 := hw.b9 (p := x) (by omega)
        refine hr_aaldN (v := q1) (q := 68) X dX2_glances_67 rfl hT.k1 (by decide) (by omega) (by decide) hq1a ?_
        refine hr_callP (q := 71) (hcP_looksAtOne (k := t.1 9 x) (by omega) hq1k X dX2_glances_68 q1049 ⟨Nat.le_of_ble_eq_true rfl, Nat.le_of_ble_eq_true rfl⟩ (Nat.le_of_ble_eq_true rfl)) rfl ?_
        refine hr_ifB_eq (q := 74) (tgt := 85) X dX2_glances_71 rfl (by decide) (fun c71 => ?_) (fun c71 => ?_)
        · refine hr_iload2 (q := 86) X dX2_glances_85 rfl ?_
          exact hr_iret X hr dX2_glances_86 ⟨hz_i (congrArg nI (sp_lookedAt_a (i := t.1 0 0) rfl h7_2 (sp_atOne_f c71))), rfl⟩
        · refine hr_iload3 (q := 75) X dX2_glances_74 rfl ?_
          refine hr_iconst (v := (-1)) (q := 76) X dX2_glances_75 rfl rfl ?_
          refine hr_icmpO_eq (q := 79) (tgt := 85) X dX2_glances_76 rfl (by decide) (by omega) (fun c76 => ?_) (fun c76 => ?_)
          · refine hr_iload2 (q := 86) X dX2_glances_85 rfl ?_
            exact hr_iret X hr dX2_glances_86 ⟨hz_i (congrArg nI (by rw [h7_2, sp_bits_best (h7_3.symm.trans c76) w0]; exact (sp_lookedAt_0 (h7_3.symm.trans c76) w0).symm)), rfl⟩
          · refine hr_iconst (v := (nI 1)) (q := 80) X dX2_glances_79 rfl rfl ?_
            refine hr_iload3 (q := 81) X dX2_glances_80 rfl ?_
            refine hr_st1 (v' := .int (nI B)) (congrArg Value.int (oI_of c76)) ?_
            refine hr_ishl (v := (nI (2 ^ B))) (q := 82) X dX2_glances_81 rfl (sp_shl (by omega)) ?_
            refine hr_goto (tgt := 86) X dX2_glances_82 (by decide) ?_
            exact hr_iret X hr dX2_glances_86 ⟨hz_i (congrArg nI (by rw [sp_lookedAt, if_pos (sp_atOne_t c71), ← h7_3, if_neg c76])), rfl⟩
      · have hB := sp_best_lt t x i
        rw [← h7_3] at hB
        have hSl : S < 2 ^ i := by rw [h7_2]; exact sp_bits_lt _ i
        refine hr_aload0 (q := 17) X dX2_glances_16 rfl ?_
        refine hr_iload1 (q := 18) X dX2_glances_17 rfl ?_
        refine hr_iload4 (q := 20) X dX2_glances_18 rfl ?_
        refine hr_callP (q := 23) (hc_V (n := 2) (ci := 2) (As := [.int (nI x), .int (nI i)]) X dX2_glances_20 rfl (tn_catches X.tr hT hw (x := x) (y := i) (by omega) (by omega)) q1026 cv_X2_catches ⟨Nat.le_of_ble_eq_true rfl, Nat.le_of_ble_eq_true rfl⟩ rfl (Nat.le_of_ble_eq_true rfl) hT.ob rfl rfl) rfl ?_
        refine hr_ifB_eq (q := 26) (tgt := 56) X dX2_glances_23 rfl (by decide) (fun c23 => ?_) (fun c23 => ?_)
        · refine hr_iinc4 (v := (nI (i + 1))) (q := 59) X dX2_glances_56 rfl (nI_add _ _) rfl (Nat.le_of_ble_eq_true rfl) ?_
          refine hr_goto (tgt := 7) X dX2_glances_59 (by decide) ?_
          exact ih7 (i + 1) S B (by omega) (by omega) (by rw [h7_2, sp_bits_f c23]) (by rw [h7_3, sp_best_n c23])
        · refine hr_iload2 (q := 27) X dX2_glances_26 rfl ?_
          refine hr_iconst (v := (nI 1)) (q := 28) X dX2_glances_27 rfl rfl ?_
          refine hr_iload4 (q := 30) X dX2_glances_28 rfl ?_
          refine hr_ishl (v := (nI (2 ^ i))) (q := 31) X dX2_glances_30 rfl (sp_shl (by omega)) ?_
          refine hr_ior (v := (nI (S + 2 ^ i))) (q := 32) X dX2_glances_31 rfl (sp_or2 (by omega) hSl) ?_
          refine hr_istore2 (q := 33) X dX2_glances_32 rfl rfl (Nat.le_of_ble_eq_true rfl) ?_
          refine hr_iload3 (q := 34) X dX2_glances_33 rfl ?_
          refine hr_iconst (v := (-1)) (q := 35) X dX2_glances_34 rfl rfl ?_
          refine hr_icmpO_eq (q := 38) (tgt := 49) X dX2_glances_35 rfl (by decide) (by omega) (fun c35 => ?_) (fun c35 => ?_)
          · refine hr_iload4 (q := 51) X dX2_glances_49 rfl ?_
            refine hr_goto (tgt := 55) X dX2_glances_51 (by decide) ?_
            refine hr_st1 (v' := .int (oI i)) (congrArg Value.int (oI_of (by omega)).symm) ?_
            refine hr_istore3 (q := 56) X dX2_glances_55 rfl rfl (Nat.le_of_ble_eq_true rfl) ?_
            refine hr_iinc4 (v := (nI (i + 1))) (q := 59) X dX2_glances_56 rfl (nI_add _ _) rfl (Nat.le_of_ble_eq_true rfl) ?_
            refine hr_goto (tgt := 7) X dX2_glances_59 (by decide) ?_
            exact ih7 (i + 1) (S + 2 ^ i) i (by omega) (by omega) (by rw [h7_2, sp_bits_t c23]) (sp_best_y h7_3 c23 (Or.inl c35))
          · refine hr_aload0 (q := 39) X dX2_glances_38 rfl ?_
            refine hr_iload1 (q := 40) X dX2_glances_39 rfl ?_
            refine hr_iload4 (q := 42) X dX2_glances_40 rfl ?_
            refine hr_iload3 (q := 43) X dX2_glances_42 rfl ?_
            refine hr_st1 (v' := .int (nI B)) (congrArg Value.int (oI_of c35)) ?_
            refine hr_callP (q := 46) (hc_V (n := 3) (ci := 2) (As := [.int (nI x), .int (nI i), .int (nI B)]) X dX2_glances_43 rfl (tn_isBefore X.tr hT hw (x := x) (y := i) (z := B) (by omega) (by omega) (by omega)) q1045 cv_X2_isBefore ⟨Nat.le_of_ble_eq_true rfl, Nat.le_of_ble_eq_true rfl⟩ rfl (Nat.le_of_ble_eq_true rfl) hT.ob rfl rfl) rfl ?_
            refine hr_ifB_eq (q := 49) (tgt := 54) X dX2_glances_46 rfl (by decide) (fun c46 => ?_) (fun c46 => ?_)
            · refine hr_iload3 (q := 55) X dX2_glances_54 rfl ?_
              refine hr_istore3 (q := 56) X dX2_glances_55 rfl rfl (Nat.le_of_ble_eq_true rfl) ?_
              refine hr_iinc4 (v := (nI (i + 1))) (q := 59) X dX2_glances_56 rfl (nI_add _ _) rfl (Nat.le_of_ble_eq_true rfl) ?_
              refine hr_goto (tgt := 7) X dX2_glances_59 (by decide) ?_
              exact ih7 (i + 1) (S + 2 ^ i) B (by omega) (by omega) (by rw [h7_2, sp_bits_t c23]) (sp_best_k h7_3 (fun g => g.elim c35 (fun g => of_decide_eq_false c46 g)))
            · refine hr_iload4 (q := 51) X dX2_glances_49 rfl ?_
              refine hr_goto (tgt := 55) X dX2_glances_51 (by decide) ?_
              refine hr_st1 (v' := .int (oI i)) (congrArg Value.int (oI_of (by omega)).symm) ?_
              refine hr_istore3 (q := 56) X dX2_glances_55 rfl rfl (Nat.le_of_ble_eq_true rfl) ?_
              refine hr_iinc4 (v := (nI (i + 1))) (q := 59) X dX2_glances_56 rfl (nI_add _ _) rfl (Nat.le_of_ble_eq_true rfl) ?_
              refine hr_goto (tgt := 7) X dX2_glances_59 (by decide) ?_
              exact ih7 (i + 1) (S + 2 ^ i) i (by omega) (by omega) (by rw [h7_2, sp_bits_t c23]) (sp_best_y h7_3 c23 (Or.inr (of_decide_eq_true c46)))
  exact loop7 _ _ (t.1 0 0 + 1) 0 0 99 (by omega) (by omega) rfl rfl

theorem tn_glancers {l : Launch} {D : hg_D} {lo : Nat} (htr : l.stackTraces = false) {G : hg_G} {ta : Nat → Nat} {t : sp_S} (hT : tn_R G ta t) (hw : sp_wf t) {x : Nat} (hx : x < t.1 0 0) :
    hg_M l D lo yX2_glancers (ws_ yX2_glancers cX2_glancers 4 ((some FieldType.int))) rm_X2_glancers [.ref (ta 0), .int (nI x)] G (hg_Pv G (.int (nI (sp_lookers t x)))) := by
  refine hg_M.of htr (by decide) [some (.ref (ta 0)), some (.int (nI x)), none, none] rfl (Nat.le_of_ble_eq_true rfl) ?_
  intro p e s m args below meth c X hr hnm htab
  have X : hg_X p l s m args meth c D lo "TaxOnLooks$Town" cX2_glancers 4 := X
  have w0 := hw.b0; have w1 := hw.b1; have w2 := hw.b2; have w3 := hw.b3; have w36 := hw.b36
  have hpw := sp_wpk hw; have hpb := sp_bpk hw
  obtain ⟨K, hK, hKs, hKb⟩ := hT.sk
  refine hr_iconst (v := (nI 0)) (q := 1) X dX2_glancers_0 rfl rfl ?_
  refine hr_istore2 (q := 2) X dX2_glancers_1 rfl rfl (Nat.le_of_ble_eq_true rfl) ?_
  refine hr_iconst (v := (nI 0)) (q := 3) X dX2_glancers_2 rfl rfl ?_
  refine hr_istore3 (q := 4) X dX2_glancers_3 rfl rfl (Nat.le_of_ble_eq_true rfl) ?_
  have loop4 : ∀ (kr nr n : Nat) (i S : Nat), (i ≤ t.1 0 0) → (t.1 0 0 + 1 ≤ i + n) → (S = sp_bits (fun z => sp_bit (sp_lookedAt t z) x) i) → hg_W p l e rm_X2_glancers s m args below meth c (hg_Q below D lo args s rm_X2_glancers G (hg_Pv G (.int (nI (sp_lookers t x))))) D lo G.1 4 kr nr G 4 [some (.ref (ta 0)), some (.int (nI x)), some (.int (nI S)), some (.int (nI i))] [] := by
    intro kr nr n
    induction n with
    | zero =>
      intro i S h4_0 h4_1 h4_2
      omega
    | succ n ih4 =>
      intro i S h4_0 h4_1 h4_2
      refine hr_iload3 (q := 5) X dX2_glancers_4 rfl ?_
      refine hr_aload0 (q := 6) X dX2_glancers_5 rfl ?_
      refine hr_getI (v := (nI (t.1 0 0))) (q := 9) X dX2_glancers_6 rfl fr_q152_2 rfl hT.ob hT.f0 ?_
      refine hr_icmpN_ge (q := 12) (tgt := 40) X dX2_glancers_9 rfl (by decide) (by omega) (by omega) (fun c9 => ?_) (fun c9 => ?_)
      · refine hr_iload2 (q := 41) X dX2_glancers_40 rfl ?_
        exact hr_iret X hr dX2_glancers_41 ⟨hz_i (congrArg nI (by rw [h4_2, show i = t.1 0 0 by omega]; rfl)), rfl⟩
      · have hSl : S < 2 ^ i := by rw [h4_2]; exact sp_bits_lt _ i
        refine hr_iload2 (q := 13) X dX2_glancers_12 rfl ?_
        refine hr_aload0 (q := 14) X dX2_glancers_13 rfl ?_
        refine hr_iload3 (q := 15) X dX2_glancers_14 rfl ?_
        refine hr_callP (q := 18) (hc_V (n := 1) (ci := 2) (As := [.int (nI i)]) X dX2_glancers_15 rfl (tn_glances X.tr hT hw (x := i) (by omega)) q1022 cv_X2_glances ⟨Nat.le_of_ble_eq_true rfl, Nat.le_of_ble_eq_true rfl⟩ rfl (Nat.le_of_ble_eq_true rfl) hT.ob rfl rfl) rfl ?_
        have := sp_lookedAt_lt (t := t) hw i
        refine hr_iload1 (q := 19) X dX2_glancers_18 rfl ?_
        refine hr_ishr (v := (nI ((sp_lookedAt t i) / 2 ^ x))) (q := 20) X dX2_glancers_19 rfl (sp_shr (by omega) (by omega)) ?_
        refine hr_iconst (v := (nI 1)) (q := 21) X dX2_glancers_20 rfl rfl ?_
        refine hr_iand (v := (nI (((sp_lookedAt t i) / 2 ^ x) % 2))) (q := 22) X dX2_glancers_21 rfl (sp_and1 (Nat.lt_of_le_of_lt (Nat.div_le_self _ _) (by omega))) ?_
        refine hr_ifN_eq (q := 25) (tgt := 31) X dX2_glancers_22 rfl (by decide) (by omega) (fun c22 => ?_) (fun c22 => ?_)
        · refine hr_iconst (v := (nI 0)) (q := 32) X dX2_glancers_31 rfl rfl ?_
          refine hr_ior (v := (nI S)) (q := 33) X dX2_glancers_32 rfl (sp_or0 _) ?_
          refine hr_istore2 (q := 34) X dX2_glancers_33 rfl rfl (Nat.le_of_ble_eq_true rfl) ?_
          refine hr_iinc3 (v := (nI (i + 1))) (q := 37) X dX2_glancers_34 rfl (nI_add _ _) rfl (Nat.le_of_ble_eq_true rfl) ?_
          refine hr_goto (tgt := 4) X dX2_glancers_37 (by decide) ?_
          exact ih4 (i + 1) S (by omega) (by omega) (by rw [h4_2, sp_bits_f (f := fun z => sp_bit (sp_lookedAt t z) x) (sp_bit_0.mpr (by omega))])
        · refine hr_iconst (v := (nI 1)) (q := 26) X dX2_glancers_25 rfl rfl ?_
          refine hr_iload3 (q := 27) X dX2_glancers_26 rfl ?_
          refine hr_ishl (v := (nI (2 ^ i))) (q := 28) X dX2_glancers_27 rfl (sp_shl (by omega)) ?_
          refine hr_goto (tgt := 32) X dX2_glancers_28 (by decide) ?_
          refine hr_ior (v := (nI (S + 2 ^ i))) (q := 33) X dX2_glancers_32 rfl (sp_or2 (by omega) hSl) ?_
          refine hr_istore2 (q := 34) X dX2_glancers_33 rfl rfl (Nat.le_of_ble_eq_true rfl) ?_
          refine hr_iinc3 (v := (nI (i + 1))) (q := 37) X dX2_glancers_34 rfl (nI_add _ _) rfl (Nat.le_of_ble_eq_true rfl) ?_
          refine hr_goto (tgt := 4) X dX2_glancers_37 (by decide) ?_
          exact ih4 (i + 1) (S + 2 ^ i) (by omega) (by omega) (by rw [h4_2, sp_bits_t (f := fun z => sp_bit (sp_lookedAt t z) x) (sp_bit_1.mpr (by omega))])
  exact loop4 _ _ (t.1 0 0 + 1) 0 0 (by omega) (by omega) rfl

theorem tn_entered {l : Launch} {D : hg_D} {lo : Nat} (htr : l.stackTraces = false) {G : hg_G} {ta : Nat → Nat} {t : sp_S} (hT : tn_R G ta t) (hw : sp_wf t) {x : Nat} (hx : x < t.1 0 0) :
    hg_M l D lo yX2_entered (ws_ yX2_entered cX2_entered 2 ((some FieldType.int))) rm_X2_entered [.ref (ta 0), .int (nI x)] G (hg_Pv G (.int (nI (sp_entered t x)))) := by
  refine hg_M.of htr (by decide) [some (.ref (ta 0)), some (.int (nI x))] rfl (Nat.le_of_ble_eq_true rfl) ?_
  intro p e s m args below meth c X hr hnm htab
  have X : hg_X p l s m args meth c D lo "TaxOnLooks$Town" cX2_entered 2 := X
  have w0 := hw.b0; have w1 := hw.b1; have w2 := hw.b2; have w3 := hw.b3; have w36 := hw.b36
  have hpw := sp_wpk hw; have hpb := sp_bpk hw
  obtain ⟨K, hK, hKs, hKb⟩ := hT.sk
  refine hr_aload0 (q := 1) X dX2_entered_0 rfl ?_
  refine hr_aload0 (q := 2) X dX2_entered_1 rfl ?_
  refine hr_getR (v := (ta 4)) (q := 5) X dX2_entered_2 rfl fr_q187_2 rfl hT.ob hT.f14 ?_
  refine hr_iload1 (q := 6) X dX2_entered_5 rfl ?_
  have b1 := hw.b14 (p := x) (by omega)
  refine hr_ialdN (v := (nI (t.1 14 x))) (q := 7) X dX2_entered_6 rfl hT.k4 (Or.inl rfl) (by omega) (by decide) (hT.e4 (by omega)) ?_
  refine hr_callP (q := 10) (hc_V (n := 1) (ci := 2) (As := [.int (nI (t.1 14 x))]) X dX2_entered_7 rfl (tn_isLit X.tr hT hw (z := t.1 14 x) (by omega)) q1075 cv_X2_isLit ⟨Nat.le_of_ble_eq_true rfl, Nat.le_of_ble_eq_true rfl⟩ rfl (Nat.le_of_ble_eq_true rfl) hT.ob rfl rfl) rfl ?_
  refine hr_ifB_eq (q := 13) (tgt := 24) X dX2_entered_10 rfl (by decide) (fun c10 => ?_) (fun c10 => ?_)
  · refine hr_iconst (v := (nI 0)) (q := 25) X dX2_entered_24 rfl rfl ?_
    exact hr_iret X hr dX2_entered_25 ⟨hz_i (congrArg nI (by rw [sp_entered, if_neg (by rw [c10]; decide)])), rfl⟩
  · refine hr_aload0 (q := 14) X dX2_entered_13 rfl ?_
    refine hr_iload1 (q := 15) X dX2_entered_14 rfl ?_
    refine hr_callP (q := 18) (hc_V (n := 1) (ci := 2) (As := [.int (nI x)]) X dX2_entered_15 rfl (tn_glancers X.tr hT hw (x := x) (by omega)) q1079 cv_X2_glancers ⟨Nat.le_of_ble_eq_true rfl, Nat.le_of_ble_eq_true rfl⟩ rfl (Nat.le_of_ble_eq_true rfl) hT.ob rfl rfl) rfl ?_
    have := sp_lookers_lt (t := t) hw x
    refine hr_callP (v := .int (nI (sp_cnt (sp_lookers t x) 7))) (q := 21) (hc_S (n := 1) (As := [.int (nI (sp_lookers t x))]) X dX2_entered_18 rfl (tj_bits X.tr (x := sp_lookers t x) (by omega)) q1080 cs_J12_bitCount ⟨Nat.le_of_ble_eq_true rfl, Nat.le_of_ble_eq_true rfl⟩ rfl (Nat.le_of_ble_eq_true rfl)) rfl ?_
    have := sp_cnt_le (sp_lookers t x) 7
    refine hr_goto (tgt := 25) X dX2_entered_21 (by decide) ?_
    exact hr_iret X hr dX2_entered_25 ⟨hz_i (congrArg nI (by rw [sp_entered, if_pos c10])), rfl⟩

theorem tn_duty {l : Launch} {D : hg_D} {lo : Nat} (htr : l.stackTraces = false) {G : hg_G} {ta : Nat → Nat} {t : sp_S} (hT : tn_R G ta t) (hw : sp_wf t) {x : Nat} (hx : x < t.1 0 0) :
    hg_M l D lo yX2_duty (ws_ yX2_duty cX2_duty 2 ((some FieldType.int))) rm_X2_duty [.ref (ta 0), .int (nI x)] G (hg_Pv G (.int (nI (sp_owes t x)))) := by
  refine hg_M.of htr (by decide) [some (.ref (ta 0)), some (.int (nI x))] rfl (Nat.le_of_ble_eq_true rfl) ?_
  intro p e s m args below meth c X hr hnm htab
  have X : hg_X p l s m args meth c D lo "TaxOnLooks$Town" cX2_duty 2 := X
  have w0 := hw.b0; have w1 := hw.b1; have w2 := hw.b2; have w3 := hw.b3; have w36 := hw.b36
  have hpw := sp_wpk hw; have hpb := sp_bpk hw
  obtain ⟨K, hK, hKs, hKb⟩ := hT.sk
  refine hr_aload0 (q := 1) X dX2_duty_0 rfl ?_
  refine hr_getR (v := (ta 1)) (q := 4) X dX2_duty_1 rfl fr_q180_2 rfl hT.ob hT.f11 ?_
  refine hr_iload1 (q := 5) X dX2_duty_4 rfl ?_
  obtain ⟨q1, hq1a, hq1k, hq1i, hq1b, hq1s⟩ := hT.pe (p := x) (by omega)
  have hq19 := hw.b9 (p := x) (by omega)
  refine hr_aaldN (v := q1) (q := 6) X dX2_duty_5 rfl hT.k1 (by decide) (by omega) (by decide) hq1a ?_
  refine hr_aload0 (q := 7) X dX2_duty_6 rfl ?_
  refine hr_getI (v := (nI (t.1 1 0))) (q := 10) X dX2_duty_7 rfl fr_q155_2 rfl hT.ob hT.f1 ?_
  refine hr_aload0 (q := 11) X dX2_duty_10 rfl ?_
  refine hr_iload1 (q := 12) X dX2_duty_11 rfl ?_
  refine hr_callP (q := 15) (hc_V (n := 1) (ci := 2) (As := [.int (nI x)]) X dX2_duty_12 rfl (tn_entered X.tr hT hw (x := x) (by omega)) q1071 cv_X2_entered ⟨Nat.le_of_ble_eq_true rfl, Nat.le_of_ble_eq_true rfl⟩ rfl (Nat.le_of_ble_eq_true rfl) hT.ob rfl rfl) rfl ?_
  have := sp_entered_le t x
  refine hr_imul (v := (nI ((t.1 1 0) * (sp_entered t x)))) (q := 16) X dX2_duty_15 rfl (pk_mul _ _) ?_
  have hd : t.1 1 0 * sp_entered t x ≤ 9 * 7 := Nat.mul_le_mul w1.2 (sp_entered_le t x)
  refine hr_callP (q := 19) (hcP_owes (k := t.1 9 x) (by omega) hq1k (d := (t.1 1 0) * (sp_entered t x)) (by omega) X dX2_duty_16 q1086 ⟨Nat.le_of_ble_eq_true rfl, Nat.le_of_ble_eq_true rfl⟩ (Nat.le_of_ble_eq_true rfl)) rfl ?_
  exact hr_iret X hr dX2_duty_19 ⟨hz_i (congrArg nI sp_owes_owK), rfl⟩

theorem tn_fine {l : Launch} {D : hg_D} {lo : Nat} (htr : l.stackTraces = false) {G : hg_G} {ta : Nat → Nat} {t : sp_S} (hT : tn_R G ta t) (hw : sp_wf t) {x : Nat} (hx : x < t.1 0 0) :
    hg_M l D lo yX2_fine (ws_ yX2_fine cX2_fine 5 ((some FieldType.int))) rm_X2_fine [.ref (ta 0), .int (nI x)] G (hg_Pv G (.int (nI (sp_wouldPay t x)))) := by
  refine hg_M.of htr (by decide) [some (.ref (ta 0)), some (.int (nI x)), none, none, none] rfl (Nat.le_of_ble_eq_true rfl) ?_
  intro p e s m args below meth c X hr hnm htab
  have X : hg_X p l s m args meth c D lo "TaxOnLooks$Town" cX2_fine 5 := X
  have w0 := hw.b0; have w1 := hw.b1; have w2 := hw.b2; have w3 := hw.b3; have w36 := hw.b36
  have hpw := sp_wpk hw; have hpb := sp_bpk hw
  obtain ⟨K, hK, hKs, hKb⟩ := hT.sk
  refine hr_aload0 (q := 1) X dX2_fine_0 rfl ?_
  refine hr_iload1 (q := 2) X dX2_fine_1 rfl ?_
  refine hr_callP (q := 5) (hc_V (n := 1) (ci := 2) (As := [.int (nI x)]) X dX2_fine_2 rfl (tn_glances X.tr hT hw (x := x) (by omega)) q1022 cv_X2_glances ⟨Nat.le_of_ble_eq_true rfl, Nat.le_of_ble_eq_true rfl⟩ rfl (Nat.le_of_ble_eq_true rfl) hT.ob rfl rfl) rfl ?_
  have := sp_lookedAt_lt (t := t) hw x
  refine hr_istore2 (q := 6) X dX2_fine_5 rfl rfl (Nat.le_of_ble_eq_true rfl) ?_
  refine hr_iconst (v := (nI 0)) (q := 7) X dX2_fine_6 rfl rfl ?_
  refine hr_istore3 (q := 8) X dX2_fine_7 rfl rfl (Nat.le_of_ble_eq_true rfl) ?_
  refine hr_iconst (v := (nI 0)) (q := 9) X dX2_fine_8 rfl rfl ?_
  refine hr_istore4 (q := 11) X dX2_fine_9 rfl rfl (Nat.le_of_ble_eq_true rfl) ?_
  have loop11 : ∀ (kr nr n : Nat) (i S : Nat), (i ≤ t.1 0 0) → (t.1 0 0 + 1 ≤ i + n) → (S = t.1 1 0 * sp_sum (fun y => if (sp_bit (sp_lookedAt t x) y && sp_lit t (t.1 14 y)) = true then 1 else 0) i) → hg_W p l e rm_X2_fine s m args below meth c (hg_Q below D lo args s rm_X2_fine G (hg_Pv G (.int (nI (sp_wouldPay t x))))) D lo G.1 5 kr nr G 11 [some (.ref (ta 0)), some (.int (nI x)), some (.int (nI (sp_lookedAt t x))), some (.int (nI S)), some (.int (nI i))] [] := by
    intro kr nr n
    induction n with
    | zero =>
      intro i S h11_0 h11_1 h11_2
      omega
    | succ n ih11 =>
      intro i S h11_0 h11_1 h11_2
      refine hr_iload4 (q := 13) X dX2_fine_11 rfl ?_
      refine hr_aload0 (q := 14) X dX2_fine_13 rfl ?_
      refine hr_getI (v := (nI (t.1 0 0))) (q := 17) X dX2_fine_14 rfl fr_q152_2 rfl hT.ob hT.f0 ?_
      refine hr_icmpN_ge (q := 20) (tgt := 60) X dX2_fine_17 rfl (by decide) (by omega) (by omega) (fun c17 => ?_) (fun c17 => ?_)
      · refine hr_iload3 (q := 61) X dX2_fine_60 rfl ?_
        exact hr_iret X hr dX2_fine_61 ⟨hz_i (congrArg nI (by rw [h11_2, show i = t.1 0 0 by omega]; rfl)), rfl⟩
      · refine hr_iload3 (q := 21) X dX2_fine_20 rfl ?_
        refine hr_iload2 (q := 22) X dX2_fine_21 rfl ?_
        refine hr_iload4 (q := 24) X dX2_fine_22 rfl ?_
        refine hr_ishr (v := (nI ((sp_lookedAt t x) / 2 ^ i))) (q := 25) X dX2_fine_24 rfl (sp_shr (by omega) (by omega)) ?_
        refine hr_iconst (v := (nI 1)) (q := 26) X dX2_fine_25 rfl rfl ?_
        refine hr_iand (v := (nI (((sp_lookedAt t x) / 2 ^ i) % 2))) (q := 27) X dX2_fine_26 rfl (sp_and1 (Nat.lt_of_le_of_lt (Nat.div_le_self _ _) (by omega))) ?_
        refine hr_ifN_eq (q := 30) (tgt := 51) X dX2_fine_27 rfl (by decide) (by omega) (fun c27 => ?_) (fun c27 => ?_)
        · refine hr_iconst (v := (nI 0)) (q := 52) X dX2_fine_51 rfl rfl ?_
          refine hr_iadd (v := (nI (S + 0))) (q := 53) X dX2_fine_52 rfl (nI_add _ _) ?_
          refine hr_istore3 (q := 54) X dX2_fine_53 rfl rfl (Nat.le_of_ble_eq_true rfl) ?_
          refine hr_iinc4 (v := (nI (i + 1))) (q := 57) X dX2_fine_54 rfl (nI_add _ _) rfl (Nat.le_of_ble_eq_true rfl) ?_
          refine hr_goto (tgt := 11) X dX2_fine_57 (by decide) ?_
          exact ih11 (i + 1) (S + 0) (by omega) (by omega) (by rw [h11_2, sp_sum, if_neg (by rw [sp_bit_0.mpr (by omega), Bool.false_and]; decide), Nat.add_zero, Nat.add_zero])
        · refine hr_aload0 (q := 31) X dX2_fine_30 rfl ?_
          refine hr_aload0 (q := 32) X dX2_fine_31 rfl ?_
          refine hr_getR (v := (ta 4)) (q := 35) X dX2_fine_32 rfl fr_q187_2 rfl hT.ob hT.f14 ?_
          refine hr_iload4 (q := 37) X dX2_fine_35 rfl ?_
          have b1 := hw.b14 (p := i) (by omega)
          refine hr_ialdN (v := (nI (t.1 14 i))) (q := 38) X dX2_fine_37 rfl hT.k4 (Or.inl rfl) (by omega) (by decide) (hT.e4 (by omega)) ?_
          refine hr_callP (q := 41) (hc_V (n := 1) (ci := 2) (As := [.int (nI (t.1 14 i))]) X dX2_fine_38 rfl (tn_isLit X.tr hT hw (z := t.1 14 i) (by omega)) q1075 cv_X2_isLit ⟨Nat.le_of_ble_eq_true rfl, Nat.le_of_ble_eq_true rfl⟩ rfl (Nat.le_of_ble_eq_true rfl) hT.ob rfl rfl) rfl ?_
          refine hr_ifB_eq (q := 44) (tgt := 51) X dX2_fine_41 rfl (by decide) (fun c41 => ?_) (fun c41 => ?_)
          · refine hr_iconst (v := (nI 0)) (q := 52) X dX2_fine_51 rfl rfl ?_
            refine hr_iadd (v := (nI (S + 0))) (q := 53) X dX2_fine_52 rfl (nI_add _ _) ?_
            refine hr_istore3 (q := 54) X dX2_fine_53 rfl rfl (Nat.le_of_ble_eq_true rfl) ?_
            refine hr_iinc4 (v := (nI (i + 1))) (q := 57) X dX2_fine_54 rfl (nI_add _ _) rfl (Nat.le_of_ble_eq_true rfl) ?_
            refine hr_goto (tgt := 11) X dX2_fine_57 (by decide) ?_
            exact ih11 (i + 1) (S + 0) (by omega) (by omega) (by rw [h11_2, sp_sum, if_neg (by rw [c41, Bool.and_false]; decide), Nat.add_zero, Nat.add_zero])
          · refine hr_aload0 (q := 45) X dX2_fine_44 rfl ?_
            refine hr_getI (v := (nI (t.1 1 0))) (q := 48) X dX2_fine_45 rfl fr_q155_2 rfl hT.ob hT.f1 ?_
            refine hr_goto (tgt := 52) X dX2_fine_48 (by decide) ?_
            refine hr_iadd (v := (nI (S + (t.1 1 0)))) (q := 53) X dX2_fine_52 rfl (nI_add _ _) ?_
            refine hr_istore3 (q := 54) X dX2_fine_53 rfl rfl (Nat.le_of_ble_eq_true rfl) ?_
            refine hr_iinc4 (v := (nI (i + 1))) (q := 57) X dX2_fine_54 rfl (nI_add _ _) rfl (Nat.le_of_ble_eq_true rfl) ?_
            refine hr_goto (tgt := 11) X dX2_fine_57 (by decide) ?_
            exact ih11 (i + 1) (S + (t.1 1 0)) (by omega) (by omega) (by rw [h11_2, sp_sum, if_pos (by rw [sp_bit_1.mpr (by omega), c41]; rfl), Nat.mul_add, Nat.mul_one])
  exact loop11 _ _ (t.1 0 0 + 1) 0 0 (by omega) (by omega) (by rw [sp_sum, Nat.mul_zero])

theorem tn_duties {l : Launch} {D : hg_D} {lo : Nat} (htr : l.stackTraces = false) {G : hg_G} {ta : Nat → Nat} {t : sp_S} (hT : tn_R G ta t) (hw : sp_wf t) :
    hg_M l D lo yX2_duties (ws_ yX2_duties cX2_duties 3 ((some FieldType.int))) rm_X2_duties [.ref (ta 0)] G (hg_Pv G (.int (nI (sp_duties t)))) := by
  refine hg_M.of htr (by decide) [some (.ref (ta 0)), none, none] rfl (Nat.le_of_ble_eq_true rfl) ?_
  intro p e s m args below meth c X hr hnm htab
  have X : hg_X p l s m args meth c D lo "TaxOnLooks$Town" cX2_duties 3 := X
  have w0 := hw.b0; have w1 := hw.b1; have w2 := hw.b2; have w3 := hw.b3; have w36 := hw.b36
  have hpw := sp_wpk hw; have hpb := sp_bpk hw
  obtain ⟨K, hK, hKs, hKb⟩ := hT.sk
  refine hr_iconst (v := (nI 0)) (q := 1) X dX2_duties_0 rfl rfl ?_
  refine hr_istore1 (q := 2) X dX2_duties_1 rfl rfl (Nat.le_of_ble_eq_true rfl) ?_
  refine hr_iconst (v := (nI 0)) (q := 3) X dX2_duties_2 rfl rfl ?_
  refine hr_istore2 (q := 4) X dX2_duties_3 rfl rfl (Nat.le_of_ble_eq_true rfl) ?_
  have loop4 : ∀ (kr nr n : Nat) (i S : Nat), (i ≤ t.1 0 0) → (t.1 0 0 + 1 ≤ i + n) → (S = sp_sum (sp_owes t) i) → hg_W p l e rm_X2_duties s m args below meth c (hg_Q below D lo args s rm_X2_duties G (hg_Pv G (.int (nI (sp_duties t))))) D lo G.1 3 kr nr G 4 [some (.ref (ta 0)), some (.int (nI S)), some (.int (nI i))] [] := by
    intro kr nr n
    induction n with
    | zero =>
      intro i S h4_0 h4_1 h4_2
      omega
    | succ n ih4 =>
      intro i S h4_0 h4_1 h4_2
      refine hr_iload2 (q := 5) X dX2_duties_4 rfl ?_
      refine hr_aload0 (q := 6) X dX2_duties_5 rfl ?_
      refine hr_getI (v := (nI (t.1 0 0))) (q := 9) X dX2_duties_6 rfl fr_q152_2 rfl hT.ob hT.f0 ?_
      refine hr_icmpN_ge (q := 12) (tgt := 26) X dX2_duties_9 rfl (by decide) (by omega) (by omega) (fun c9 => ?_) (fun c9 => ?_)
      · refine hr_iload1 (q := 27) X dX2_duties_26 rfl ?_
        exact hr_iret X hr dX2_duties_27 ⟨hz_i (congrArg nI (by rw [h4_2, show i = t.1 0 0 by omega]; rfl)), rfl⟩
      · refine hr_iload1 (q := 13) X dX2_duties_12 rfl ?_
        refine hr_aload0 (q := 14) X dX2_duties_13 rfl ?_
        refine hr_iload2 (q := 15) X dX2_duties_14 rfl ?_
        refine hr_callP (q := 18) (hc_V (n := 1) (ci := 2) (As := [.int (nI i)]) X dX2_duties_15 rfl (tn_duty X.tr hT hw (x := i) (by omega)) q1113 cv_X2_duty ⟨Nat.le_of_ble_eq_true rfl, Nat.le_of_ble_eq_true rfl⟩ rfl (Nat.le_of_ble_eq_true rfl) hT.ob rfl rfl) rfl ?_
        have := sp_owes_lt (t := t) hw i
        refine hr_iadd (v := (nI (S + (sp_owes t i)))) (q := 19) X dX2_duties_18 rfl (nI_add _ _) ?_
        refine hr_istore1 (q := 20) X dX2_duties_19 rfl rfl (Nat.le_of_ble_eq_true rfl) ?_
        refine hr_iinc2 (v := (nI (i + 1))) (q := 23) X dX2_duties_20 rfl (nI_add _ _) rfl (Nat.le_of_ble_eq_true rfl) ?_
        refine hr_goto (tgt := 4) X dX2_duties_23 (by decide) ?_
        exact ih4 (i + 1) (S + (sp_owes t i)) (by omega) (by omega) (by rw [h4_2]; rfl)
  exact loop4 _ _ (t.1 0 0 + 1) 0 0 (by omega) (by omega) rfl

theorem tn_enteredTogether {l : Launch} {D : hg_D} {lo : Nat} (htr : l.stackTraces = false) {G : hg_G} {ta : Nat → Nat} {t : sp_S} (hT : tn_R G ta t) (hw : sp_wf t) :
    hg_M l D lo yX2_enteredTogether (ws_ yX2_enteredTogether cX2_enteredTogether 3 ((some FieldType.int))) rm_X2_enteredTogether [.ref (ta 0)] G (hg_Pv G (.int (nI (sp_entAll t)))) := by
  refine hg_M.of htr (by decide) [some (.ref (ta 0)), none, none] rfl (Nat.le_of_ble_eq_true rfl) ?_
  intro p e s m args below meth c X hr hnm htab
  have X : hg_X p l s m args meth c D lo "TaxOnLooks$Town" cX2_enteredTogether 3 := X
  have w0 := hw.b0; have w1 := hw.b1; have w2 := hw.b2; have w3 := hw.b3; have w36 := hw.b36
  have hpw := sp_wpk hw; have hpb := sp_bpk hw
  obtain ⟨K, hK, hKs, hKb⟩ := hT.sk
  refine hr_iconst (v := (nI 0)) (q := 1) X dX2_enteredTogether_0 rfl rfl ?_
  refine hr_istore1 (q := 2) X dX2_enteredTogether_1 rfl rfl (Nat.le_of_ble_eq_true rfl) ?_
  refine hr_iconst (v := (nI 0)) (q := 3) X dX2_enteredTogether_2 rfl rfl ?_
  refine hr_istore2 (q := 4) X dX2_enteredTogether_3 rfl rfl (Nat.le_of_ble_eq_true rfl) ?_
  have loop4 : ∀ (kr nr n : Nat) (i S : Nat), (i ≤ t.1 0 0) → (t.1 0 0 + 1 ≤ i + n) → (S = sp_sum (sp_entered t) i) → hg_W p l e rm_X2_enteredTogether s m args below meth c (hg_Q below D lo args s rm_X2_enteredTogether G (hg_Pv G (.int (nI (sp_entAll t))))) D lo G.1 3 kr nr G 4 [some (.ref (ta 0)), some (.int (nI S)), some (.int (nI i))] [] := by
    intro kr nr n
    induction n with
    | zero =>
      intro i S h4_0 h4_1 h4_2
      omega
    | succ n ih4 =>
      intro i S h4_0 h4_1 h4_2
      refine hr_iload2 (q := 5) X dX2_enteredTogether_4 rfl ?_
      refine hr_aload0 (q := 6) X dX2_enteredTogether_5 rfl ?_
      refine hr_getI (v := (nI (t.1 0 0))) (q := 9) X dX2_enteredTogether_6 rfl fr_q152_2 rfl hT.ob hT.f0 ?_
      refine hr_icmpN_ge (q := 12) (tgt := 26) X dX2_enteredTogether_9 rfl (by decide) (by omega) (by omega) (fun c9 => ?_) (fun c9 => ?_)
      · refine hr_iload1 (q := 27) X dX2_enteredTogether_26 rfl ?_
        exact hr_iret X hr dX2_enteredTogether_27 ⟨hz_i (congrArg nI (by rw [h4_2, show i = t.1 0 0 by omega]; rfl)), rfl⟩
      · refine hr_iload1 (q := 13) X dX2_enteredTogether_12 rfl ?_
        refine hr_aload0 (q := 14) X dX2_enteredTogether_13 rfl ?_
        refine hr_iload2 (q := 15) X dX2_enteredTogether_14 rfl ?_
        refine hr_callP (q := 18) (hc_V (n := 1) (ci := 2) (As := [.int (nI i)]) X dX2_enteredTogether_15 rfl (tn_entered X.tr hT hw (x := i) (by omega)) q1071 cv_X2_entered ⟨Nat.le_of_ble_eq_true rfl, Nat.le_of_ble_eq_true rfl⟩ rfl (Nat.le_of_ble_eq_true rfl) hT.ob rfl rfl) rfl ?_
        have := sp_entered_le t i
        refine hr_iadd (v := (nI (S + (sp_entered t i)))) (q := 19) X dX2_enteredTogether_18 rfl (nI_add _ _) ?_
        refine hr_istore1 (q := 20) X dX2_enteredTogether_19 rfl rfl (Nat.le_of_ble_eq_true rfl) ?_
        refine hr_iinc2 (v := (nI (i + 1))) (q := 23) X dX2_enteredTogether_20 rfl (nI_add _ _) rfl (Nat.le_of_ble_eq_true rfl) ?_
        refine hr_goto (tgt := 4) X dX2_enteredTogether_23 (by decide) ?_
        exact ih4 (i + 1) (S + (sp_entered t i)) (by omega) (by omega) (by rw [h4_2]; rfl)
  exact loop4 _ _ (t.1 0 0 + 1) 0 0 (by omega) (by omega) rfl

theorem tn_pursesTogether {l : Launch} {D : hg_D} {lo : Nat} (htr : l.stackTraces = false) {G : hg_G} {ta : Nat → Nat} {t : sp_S} (hT : tn_R G ta t) (hw : sp_wf t) :
    hg_M l D lo yX2_pursesTogether (ws_ yX2_pursesTogether cX2_pursesTogether 3 ((some FieldType.int))) rm_X2_pursesTogether [.ref (ta 0)] G (hg_Pv G (.int (nI (sp_sum (t.1 13) (t.1 0 0))))) := by
  refine hg_M.of htr (by decide) [some (.ref (ta 0)), none, none] rfl (Nat.le_of_ble_eq_true rfl) ?_
  intro p e s m args below meth c X hr hnm htab
  have X : hg_X p l s m args meth c D lo "TaxOnLooks$Town" cX2_pursesTogether 3 := X
  have w0 := hw.b0; have w1 := hw.b1; have w2 := hw.b2; have w3 := hw.b3; have w36 := hw.b36
  have hpw := sp_wpk hw; have hpb := sp_bpk hw
  obtain ⟨K, hK, hKs, hKb⟩ := hT.sk
  refine hr_iconst (v := (nI 0)) (q := 1) X dX2_pursesTogether_0 rfl rfl ?_
  refine hr_istore1 (q := 2) X dX2_pursesTogether_1 rfl rfl (Nat.le_of_ble_eq_true rfl) ?_
  refine hr_iconst (v := (nI 0)) (q := 3) X dX2_pursesTogether_2 rfl rfl ?_
  refine hr_istore2 (q := 4) X dX2_pursesTogether_3 rfl rfl (Nat.le_of_ble_eq_true rfl) ?_
  have loop4 : ∀ (kr nr n : Nat) (i S : Nat), (i ≤ t.1 0 0) → (t.1 0 0 + 1 ≤ i + n) → (S = sp_sum (t.1 13) i) → hg_W p l e rm_X2_pursesTogether s m args below meth c (hg_Q below D lo args s rm_X2_pursesTogether G (hg_Pv G (.int (nI (sp_sum (t.1 13) (t.1 0 0)))))) D lo G.1 3 kr nr G 4 [some (.ref (ta 0)), some (.int (nI S)), some (.int (nI i))] [] := by
    intro kr nr n
    induction n with
    | zero =>
      intro i S h4_0 h4_1 h4_2
      omega
    | succ n ih4 =>
      intro i S h4_0 h4_1 h4_2
      refine hr_iload2 (q := 5) X dX2_pursesTogether_4 rfl ?_
      refine hr_aload0 (q := 6) X dX2_pursesTogether_5 rfl ?_
      refine hr_getI (v := (nI (t.1 0 0))) (q := 9) X dX2_pursesTogether_6 rfl fr_q152_2 rfl hT.ob hT.f0 ?_
      refine hr_icmpN_ge (q := 12) (tgt := 27) X dX2_pursesTogether_9 rfl (by decide) (by omega) (by omega) (fun c9 => ?_) (fun c9 => ?_)
      · refine hr_iload1 (q := 28) X dX2_pursesTogether_27 rfl ?_
        exact hr_iret X hr dX2_pursesTogether_28 ⟨hz_i (congrArg nI (by rw [h4_2, show i = t.1 0 0 by omega])), rfl⟩
      · refine hr_iload1 (q := 13) X dX2_pursesTogether_12 rfl ?_
        refine hr_aload0 (q := 14) X dX2_pursesTogether_13 rfl ?_
        refine hr_getR (v := (ta 3)) (q := 17) X dX2_pursesTogether_14 rfl fr_q184_2 rfl hT.ob hT.f13 ?_
        refine hr_iload2 (q := 18) X dX2_pursesTogether_17 rfl ?_
        have b1 := hw.b13 (p := i) (by omega)
        refine hr_ialdN (v := (nI (t.1 13 i))) (q := 19) X dX2_pursesTogether_18 rfl hT.k3 (Or.inl rfl) (by omega) (by decide) (hT.e3 (by omega)) ?_
        refine hr_iadd (v := (nI (S + (t.1 13 i)))) (q := 20) X dX2_pursesTogether_19 rfl (nI_add _ _) ?_
        refine hr_istore1 (q := 21) X dX2_pursesTogether_20 rfl rfl (Nat.le_of_ble_eq_true rfl) ?_
        refine hr_iinc2 (v := (nI (i + 1))) (q := 24) X dX2_pursesTogether_21 rfl (nI_add _ _) rfl (Nat.le_of_ble_eq_true rfl) ?_
        refine hr_goto (tgt := 4) X dX2_pursesTogether_24 (by decide) ?_
        exact ih4 (i + 1) (S + (t.1 13 i)) (by omega) (by omega) (by rw [h4_2]; rfl)
  exact loop4 _ _ (t.1 0 0 + 1) 0 0 (by omega) (by omega) rfl

