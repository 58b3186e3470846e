theorem cp_a0 {x : Int32} (h0 : ¬ x < 0) (h1 : x ≤ nI 1) (e1 : ¬ x = nI 1) : x = 0 := Decidable.byContradiction fun e => e1 (cp_a1 h0 h1 e)
theorem cp_tr {x : Int32} {m : Nat} (hm : m ≤ 20) : (0 ≤ x ∧ x ≤ nI m - nI 1) ↔ (¬ x < 0 ∧ x < nI m) := by
  rw [Int32.le_iff_toInt_le, Int32.le_iff_toInt_le, Int32.lt_iff_toInt_lt, Int32.lt_iff_toInt_lt, pk_sub_toInt (by omega) (by decide), nI_toInt (by omega)]
  have : (0 : Int32).toInt = 0 := by decide
  omega
theorem sp_add_hi {t : sp_S} {k b l s m c : Nat} {a : Nat} (ha : 18 ≤ a) : (sp_add t k b l s m c).1 a = t.1 a := funext fun i => by
  rw [sp_add_e, if_neg (by omega)]
  by_cases e : i = t.1 0 0
  · rw [if_pos e, if_neg (by omega), if_neg (by omega), if_neg (by omega), if_neg (by omega), if_neg (by omega), if_neg (by omega), if_neg (by omega), e]
  · rw [if_neg e]
theorem sp_add_0 {t : sp_S} {k b l s m c : Nat} : (sp_add t k b l s m c).1 0 0 = t.1 0 0 + 1 := by rw [sp_add_e, if_pos ⟨rfl, rfl⟩]
theorem cp_Ww {G G' : hg_G} {ca : Nat → Nat} {A : ab_S} (hf : hg_fr (tn_W (cp_w ca)) G G') : hg_fr (cp_W ca A (fun r => 21 ≤ r ∧ r < 26)) G G' := fun a ha => hf a (fun ⟨i, hi, e⟩ => ha ⟨21 + i, .w (by omega), ⟨by omega, by omega⟩, e⟩)
abbrev rk_X0_status : Room := { frames := 12, cells := 40, slots := 3000, locals := 400 }
theorem tc_status {l : Launch} {D : hg_D} {lo : Nat} (htr : l.stackTraces = false) {G : hg_G} {ca : Nat → Nat} {A : ab_S} (h : cp_R G ca A) (hW : ab_wf A) {a1 : Int32} :
    hg_M l D lo yX0_status (ws_ yX0_status cX0_status 2 ((some FieldType.int))) rk_X0_status [.ref (ca 0), .int a1] G (cp_Po ca (sq_status a1 A)) := by
  refine hg_M.of htr (by decide) [some (.ref (ca 0)), some (.int a1)] rfl (Nat.le_of_ble_eq_true rfl) ?_
  intro p e s m args below meth c X hr hnm htab
  have X : hg_X p l s m args meth c D lo "TaxOnLooks" cX0_status 2 := X
  refine hr_room (kr' := 40) (nr' := 3000) (Nat.le_of_ble_eq_true rfl) (Nat.le_of_ble_eq_true rfl) ?_
  have hw := hW.w; have w0 := hw.b0; have w1 := hw.b1; have w2 := hw.b2; have w3 := hw.b3; have w36 := hW.b36; have w43 := hW.b43
  have hpw := sp_wpk hw; have hpb := sp_bpk hw
  obtain ⟨K, hK, hKs, hKb⟩ := h.w.sk
  refine hr_iload1 (q := 1) X dX0_status_0 rfl ?_
  by_cases e1_0 : a1 = nI 0
  · refine hr_tableIn (off := 59) (tgt := 60) X dX0_status_1 (by rw [e1_0]; decide) (by rw [e1_0]; decide) (by rw [e1_0]; rfl) (by decide) ?_
    refine hr_aload0 (q := 61) X dX0_status_60 rfl ?_
    refine hr_getR (v := (cp_w ca 0)) (q := 64) X dX0_status_61 rfl fr_q250_0 rfl h.o.1 h.o.2.2.2.2.2.2.1 ?_
    refine hr_getI (v := (nI (A.1.1 0 0))) (q := 67) X dX0_status_64 rfl fr_q154_2 rfl h.w.ob h.w.f0 ?_
    have hq1 : sq_status a1 A = ((nI (A.1.1 0 0)), A) := by
      rw [sq_status, e1_0, if_pos (by decide), if_pos rfl]
    exact hr_iret X hr dX0_status_67 (by rw [hq1]; exact ⟨rfl, ca, rfl, h⟩)
  by_cases e1_1 : a1 = nI 1
  · refine hr_tableIn (off := 67) (tgt := 68) X dX0_status_1 (by rw [e1_1]; decide) (by rw [e1_1]; decide) (by rw [e1_1]; rfl) (by decide) ?_
    refine hr_aload0 (q := 69) X dX0_status_68 rfl ?_
    refine hr_getR (v := (cp_w ca 0)) (q := 72) X dX0_status_69 rfl fr_q250_0 rfl h.o.1 h.o.2.2.2.2.2.2.1 ?_
    refine hr_getJ (v := (lN (sp_pk (A.1.1 16) 36))) (q := 75) X dX0_status_72 rfl fr_q171_2 rfl h.w.ob h.w.f7 ?_
    refine hr_callP (v := .int (nI (bc_b (sp_pk (A.1.1 16) 36)))) (q := 78) (hc_S (n := 1) (As := [.long (lN (sp_pk (A.1.1 16) 36))]) X dX0_status_75 rfl (tj_lbits X.tr (x := sp_pk (A.1.1 16) 36) (by omega)) q1364 cs_J13_bitCount ⟨Nat.le_of_ble_eq_true rfl, Nat.le_of_ble_eq_true rfl⟩ rfl (Nat.le_of_ble_eq_true rfl)) rfl ?_
    refine hr_st1 (v' := .int (nI (sp_sum (A.1.1 16) 36))) (congrArg Value.int (congrArg nI (bc_pk (fun c hc => hw.b16 hc)))) ?_
    have hq2 : sq_status a1 A = ((nI (sp_sum (A.1.1 16) 36)), A) := by
      rw [sq_status, e1_1, if_pos (by decide), if_neg (by decide), if_pos rfl]
    exact hr_iret X hr dX0_status_78 (by rw [hq2]; exact ⟨rfl, ca, rfl, h⟩)
  by_cases e1_2 : a1 = nI 2
  · refine hr_tableIn (off := 78) (tgt := 79) X dX0_status_1 (by rw [e1_2]; decide) (by rw [e1_2]; decide) (by rw [e1_2]; rfl) (by decide) ?_
    refine hr_aload0 (q := 80) X dX0_status_79 rfl ?_
    refine hr_getR (v := (cp_w ca 0)) (q := 83) X dX0_status_80 rfl fr_q250_0 rfl h.o.1 h.o.2.2.2.2.2.2.1 ?_
    refine hr_getJ (v := (lN (sp_pk (A.1.1 17) 36))) (q := 86) X dX0_status_83 rfl fr_q174_2 rfl h.w.ob h.w.f8 ?_
    refine hr_callP (v := .int (nI (bc_b (sp_pk (A.1.1 17) 36)))) (q := 89) (hc_S (n := 1) (As := [.long (lN (sp_pk (A.1.1 17) 36))]) X dX0_status_86 rfl (tj_lbits X.tr (x := sp_pk (A.1.1 17) 36) (by omega)) q1364 cs_J13_bitCount ⟨Nat.le_of_ble_eq_true rfl, Nat.le_of_ble_eq_true rfl⟩ rfl (Nat.le_of_ble_eq_true rfl)) rfl ?_
    refine hr_st1 (v' := .int (nI (sp_sum (A.1.1 17) 36))) (congrArg Value.int (congrArg nI (bc_pk (fun c hc => hw.b17 hc)))) ?_
    have hq3 : sq_status a1 A = ((nI (sp_sum (A.1.1 17) 36)), A) := by
      rw [sq_status, e1_2, if_pos (by decide), if_neg (by decide), if_neg (by decide), if_pos rfl]
    exact hr_iret X hr dX0_status_89 (by rw [hq3]; exact ⟨rfl, ca, rfl, h⟩)
  by_cases e1_3 : a1 = nI 3
  · refine hr_tableIn (off := 89) (tgt := 90) X dX0_status_1 (by rw [e1_3]; decide) (by rw [e1_3]; decide) (by rw [e1_3]; rfl) (by decide) ?_
    refine hr_aload0 (q := 91) X dX0_status_90 rfl ?_
    refine hr_getR (v := (cp_w ca 0)) (q := 94) X dX0_status_91 rfl fr_q250_0 rfl h.o.1 h.o.2.2.2.2.2.2.1 ?_
    refine hr_getI (v := (nI (A.1.1 1 0))) (q := 97) X dX0_status_94 rfl fr_q157_2 rfl h.w.ob h.w.f1 ?_
    have hq4 : sq_status a1 A = ((nI (A.1.1 1 0)), A) := by
      rw [sq_status, e1_3, if_pos (by decide), if_neg (by decide), if_neg (by decide), if_neg (by decide), if_pos rfl]
    exact hr_iret X hr dX0_status_97 (by rw [hq4]; exact ⟨rfl, ca, rfl, h⟩)
  by_cases e1_4 : a1 = nI 4
  · refine hr_tableIn (off := 97) (tgt := 98) X dX0_status_1 (by rw [e1_4]; decide) (by rw [e1_4]; decide) (by rw [e1_4]; rfl) (by decide) ?_
    refine hr_aload0 (q := 99) X dX0_status_98 rfl ?_
    refine hr_getR (v := (cp_w ca 0)) (q := 102) X dX0_status_99 rfl fr_q250_0 rfl h.o.1 h.o.2.2.2.2.2.2.1 ?_
    refine hr_getI (v := (nI (A.1.1 2 0))) (q := 105) X dX0_status_102 rfl fr_q160_2 rfl h.w.ob h.w.f2 ?_
    have hq5 : sq_status a1 A = ((nI (A.1.1 2 0)), A) := by
      rw [sq_status, e1_4, if_pos (by decide), if_neg (by decide), if_neg (by decide), if_neg (by decide), if_neg (by decide), if_pos rfl]
    exact hr_iret X hr dX0_status_105 (by rw [hq5]; exact ⟨rfl, ca, rfl, h⟩)
  by_cases e1_5 : a1 = nI 5
  · refine hr_tableIn (off := 105) (tgt := 106) X dX0_status_1 (by rw [e1_5]; decide) (by rw [e1_5]; decide) (by rw [e1_5]; rfl) (by decide) ?_
    refine hr_aload0 (q := 107) X dX0_status_106 rfl ?_
    refine hr_getR (v := (cp_w ca 0)) (q := 110) X dX0_status_107 rfl fr_q250_0 rfl h.o.1 h.o.2.2.2.2.2.2.1 ?_
    refine hr_getI (v := (nI (A.1.1 3 0))) (q := 113) X dX0_status_110 rfl fr_q162_2 rfl h.w.ob h.w.f3 ?_
    refine hr_ifN_eq (q := 116) (tgt := 120) X dX0_status_113 rfl (by decide) (by omega) (fun c113 => ?_) (fun c113 => ?_)
    · refine hr_iconst (v := (nI 0)) (q := 121) X dX0_status_120 rfl rfl ?_
      have hq6 : sq_status a1 A = ((nI 0), A) := by
        rw [sq_status, e1_5, if_pos (by decide), if_neg (by decide), if_neg (by decide), if_neg (by decide), if_neg (by decide), if_neg (by decide), if_pos rfl]
        rw [show A.1.1 3 0 = 0 by omega]
      exact hr_iret X hr dX0_status_121 (by rw [hq6]; exact ⟨rfl, ca, rfl, h⟩)
    · refine hr_iconst (v := (nI 1)) (q := 117) X dX0_status_116 rfl rfl ?_
      refine hr_goto (tgt := 121) X dX0_status_117 (by decide) ?_
      have hq7 : sq_status a1 A = ((nI 1), A) := by
        rw [sq_status, e1_5, if_pos (by decide), if_neg (by decide), if_neg (by decide), if_neg (by decide), if_neg (by decide), if_neg (by decide), if_pos rfl]
        rw [show A.1.1 3 0 = 1 by omega]
      exact hr_iret X hr dX0_status_121 (by rw [hq7]; exact ⟨rfl, ca, rfl, h⟩)
  by_cases e1_6 : a1 = nI 6
  · refine hr_tableIn (off := 121) (tgt := 122) X dX0_status_1 (by rw [e1_6]; decide) (by rw [e1_6]; decide) (by rw [e1_6]; rfl) (by decide) ?_
    refine hr_aload0 (q := 123) X dX0_status_122 rfl ?_
    refine hr_getR (v := (cp_w ca 0)) (q := 126) X dX0_status_123 rfl fr_q250_0 rfl h.o.1 h.o.2.2.2.2.2.2.1 ?_
    refine hr_getI (v := (A.1.2 4)) (q := 129) X dX0_status_126 rfl fr_q164_2 rfl h.w.ob h.w.f4 ?_
    have hq8 : sq_status a1 A = ((A.1.2 4), A) := by
      rw [sq_status, e1_6, if_pos (by decide), if_neg (by decide), if_neg (by decide), if_neg (by decide), if_neg (by decide), if_neg (by decide), if_neg (by decide), if_pos rfl]
    exact hr_iret X hr dX0_status_129 (by rw [hq8]; exact ⟨rfl, ca, rfl, h⟩)
  by_cases e1_7 : a1 = nI 7
  · refine hr_tableIn (off := 129) (tgt := 130) X dX0_status_1 (by rw [e1_7]; decide) (by rw [e1_7]; decide) (by rw [e1_7]; rfl) (by decide) ?_
    refine hr_aload0 (q := 131) X dX0_status_130 rfl ?_
    refine hr_getR (v := (cp_w ca 0)) (q := 134) X dX0_status_131 rfl fr_q250_0 rfl h.o.1 h.o.2.2.2.2.2.2.1 ?_
    refine hr_getI (v := (A.1.2 5)) (q := 137) X dX0_status_134 rfl fr_q166_2 rfl h.w.ob h.w.f5 ?_
    have hq9 : sq_status a1 A = ((A.1.2 5), A) := by
      rw [sq_status, e1_7, if_pos (by decide), if_neg (by decide), if_neg (by decide), if_neg (by decide), if_neg (by decide), if_neg (by decide), if_neg (by decide), if_neg (by decide), if_pos rfl]
    exact hr_iret X hr dX0_status_137 (by rw [hq9]; exact ⟨rfl, ca, rfl, h⟩)
  by_cases e1_8 : a1 = nI 8
  · refine hr_tableIn (off := 137) (tgt := 138) X dX0_status_1 (by rw [e1_8]; decide) (by rw [e1_8]; decide) (by rw [e1_8]; rfl) (by decide) ?_
    refine hr_aload0 (q := 139) X dX0_status_138 rfl ?_
    refine hr_getR (v := (cp_w ca 0)) (q := 142) X dX0_status_139 rfl fr_q250_0 rfl h.o.1 h.o.2.2.2.2.2.2.1 ?_
    refine hr_callP (q := 145) (hc_V (n := 0) (ci := 2) (As := []) X dX0_status_142 rfl (tn_pursesTogether X.tr h.w hw ) q1370 cv_X2_pursesTogether ⟨Nat.le_of_ble_eq_true rfl, Nat.le_of_ble_eq_true rfl⟩ rfl (Nat.le_of_ble_eq_true rfl) h.w.ob rfl rfl) rfl ?_
    have hq10 : sq_status a1 A = ((nI (sp_sum (A.1.1 13) (A.1.1 0 0))), A) := by
      rw [sq_status, e1_8, if_pos (by decide), if_neg (by decide), if_neg (by decide), if_neg (by decide), if_neg (by decide), if_neg (by decide), if_neg (by decide), if_neg (by decide), if_neg (by decide), if_pos rfl]
    exact hr_iret X hr dX0_status_145 (by rw [hq10]; exact ⟨rfl, ca, rfl, h⟩)
  by_cases e1_9 : a1 = nI 9
  · refine hr_tableIn (off := 145) (tgt := 146) X dX0_status_1 (by rw [e1_9]; decide) (by rw [e1_9]; decide) (by rw [e1_9]; rfl) (by decide) ?_
    refine hr_aload0 (q := 147) X dX0_status_146 rfl ?_
    refine hr_getR (v := (cp_w ca 0)) (q := 150) X dX0_status_147 rfl fr_q250_0 rfl h.o.1 h.o.2.2.2.2.2.2.1 ?_
    refine hr_getI (v := (A.1.2 6)) (q := 153) X dX0_status_150 rfl fr_q168_2 rfl h.w.ob h.w.f6 ?_
    have hq11 : sq_status a1 A = ((A.1.2 6), A) := by
      rw [sq_status, e1_9, if_pos (by decide), if_neg (by decide), if_neg (by decide), if_neg (by decide), if_neg (by decide), if_neg (by decide), if_neg (by decide), if_neg (by decide), if_neg (by decide), if_neg (by decide), if_pos rfl]
    exact hr_iret X hr dX0_status_153 (by rw [hq11]; exact ⟨rfl, ca, rfl, h⟩)
  by_cases e1_10 : a1 = nI 10
  · refine hr_tableIn (off := 153) (tgt := 154) X dX0_status_1 (by rw [e1_10]; decide) (by rw [e1_10]; decide) (by rw [e1_10]; rfl) (by decide) ?_
    refine hr_aload0 (q := 155) X dX0_status_154 rfl ?_
    refine hr_getR (v := (ca 3)) (q := 158) X dX0_status_155 rfl fr_q247_0 rfl h.o.1 h.o.2.2.2.1 ?_
    refine hr_getI (v := (A.1.2 42)) (q := 161) X dX0_status_158 rfl fr_q137_1 rfl h.t.1 h.t.2.2.2.1 ?_
    have hq12 : sq_status a1 A = ((A.1.2 42), A) := by
      rw [sq_status, e1_10, if_pos (by decide), if_neg (by decide), if_neg (by decide), if_neg (by decide), if_neg (by decide), if_neg (by decide), if_neg (by decide), if_neg (by decide), if_neg (by decide), if_neg (by decide), if_neg (by decide), if_pos rfl]
    exact hr_iret X hr dX0_status_161 (by rw [hq12]; exact ⟨rfl, ca, rfl, h⟩)
  refine hr_tableOut (tgt := 162) X dX0_status_1 (sp_out (n := 11) (by decide) (fun i hi => by match i, hi with | 0, _ => exact e1_0 | 1, _ => exact e1_1 | 2, _ => exact e1_2 | 3, _ => exact e1_3 | 4, _ => exact e1_4 | 5, _ => exact e1_5 | 6, _ => exact e1_6 | 7, _ => exact e1_7 | 8, _ => exact e1_8 | 9, _ => exact e1_9 | 10, _ => exact e1_10 | (k + 11), hi => omega)) (by decide) ?_
  refine hr_iload1 (q := 163) X dX0_status_162 rfl ?_
  refine hr_i2l (v := a1.toInt64) (q := 164) X dX0_status_163 rfl rfl ?_
  refine hr_ldc2 (q := 167) X dX0_status_164 rfl q1374 ?_
  refine hr_ldc2 (q := 170) X dX0_status_167 rfl q1375 ?_
  refine hr_callP (v := .int (bI (sp_fr a1 (nI 11) (nI 17)))) (q := 173) (hc_S (n := 3) (As := [.long a1.toInt64, .long 11, .long 17]) X dX0_status_170 rfl (tc_in X.tr (x := a1) (b := 11) (z := 17) (by decide) (by decide)) q387 cs_X0_in ⟨Nat.le_of_ble_eq_true rfl, Nat.le_of_ble_eq_true rfl⟩ rfl (Nat.le_of_ble_eq_true rfl)) rfl ?_
  refine hr_ifB_eq (q := 176) (tgt := 188) X dX0_status_173 rfl (by decide) (fun c173 => ?_) (fun c173 => ?_)
  · have fc173 : a1 < nI 11 ∨ (¬ a1 < nI 11 ∧ ¬ a1 ≤ nI 17) := sp_fr_f c173
    refine hr_iconst (v := (-1)) (q := 189) X dX0_status_188 rfl rfl ?_
    have hq13 : sq_status a1 A = ((-1), A) := by
      rcases fc173 with g | ⟨g, g2⟩
      · rw [sq_status, if_pos g, if_neg e1_0, if_neg e1_1, if_neg e1_2, if_neg e1_3, if_neg e1_4, if_neg e1_5, if_neg e1_6, if_neg e1_7, if_neg e1_8, if_neg e1_9, if_neg e1_10]
      · rw [sq_status, if_neg g, if_pos (Int32.not_le.mp g2), if_neg e1_0, if_neg e1_1, if_neg e1_2, if_neg e1_3, if_neg e1_4, if_neg e1_5, if_neg e1_6, if_neg e1_7, if_neg e1_8, if_neg e1_9, if_neg e1_10]
    exact hr_iret X hr dX0_status_189 (by rw [hq13]; exact ⟨rfl, ca, rfl, h⟩)
  · have fc173 : ¬ a1 < nI 11 ∧ a1 ≤ nI 17 := sp_fr_t c173
    obtain ⟨ea1, la1, ma1⟩ := sp_fr_n (by decide) (by decide) fc173.1 fc173.2
    refine hr_L (L' := [some (.ref (ca 0)), some (.int (nI (iN a1)))]) (by rw [← ea1]) ?_
    refine hr_aload0 (q := 177) X dX0_status_176 rfl ?_
    refine hr_getR (v := (ca 2)) (q := 180) X dX0_status_177 rfl fr_q246_0 rfl h.o.1 h.o.2.2.1 ?_
    refine hr_iload1 (q := 181) X dX0_status_180 rfl ?_
    refine hr_bipush (v := (nI 10)) (q := 183) X dX0_status_181 rfl rfl ?_
    refine hr_isub (v := (nI ((iN a1) - 10))) (q := 184) X dX0_status_183 rfl (pk_sub (by omega)) ?_
    refine hr_ialdN (v := (A.2.2.1 8 ((iN a1) - 10))) (q := 185) X dX0_status_184 rfl h.f.1 (Or.inl rfl) (by omega) (by decide) (h.f.2 _ (by omega)) ?_
    refine hr_goto (tgt := 189) X dX0_status_185 (by decide) ?_
    have hq14 : sq_status a1 A = ((A.2.2.1 8 ((iN a1) - 10)), A) := by
      rw [sq_status, if_neg fc173.1, if_neg (Int32.not_lt.mpr fc173.2)]
    exact hr_iret X hr dX0_status_189 (by rw [hq14]; exact ⟨rfl, ca, rfl, h⟩)

theorem tc_inI {l : Launch} {D : hg_D} {lo : Nat} (htr : l.stackTraces = false) {G : hg_G} {x y : Int32} :
    hg_M l D lo yX0_in (ws_ yX0_in cX0_in 6 ((some FieldType.boolean))) rm_X0_in [.long x.toInt64, .long (lN 0), .long y.toInt64] G (hg_Pv G (.int (bI (decide (0 ≤ x ∧ x ≤ y))))) := by
  refine hg_M.of htr (by decide) [some (.long x.toInt64), none, some (.long (lN 0)), none, some (.long y.toInt64), none] rfl (Nat.le_of_ble_eq_true rfl) ?_
  intro p e s m args below meth c X hr hnm htab
  have X : hg_X p l s m args meth c D lo "TaxOnLooks" cX0_in 6 := X
  refine hr_lload0 (q := 1) X dX0_in_0 rfl ?_
  refine hr_lload2 (q := 2) X dX0_in_1 rfl ?_
  refine hr_lcmp (v := (lg_cmp x.toInt64 (lN 0))) (q := 3) X dX0_in_2 rfl rfl ?_
  refine hr_if_lt (q := 6) (tgt := 17) X dX0_in_3 rfl (by decide) (fun c3 => ?_) (fun c3 => ?_)
  · refine hr_iconst (v := (nI 0)) (q := 18) X dX0_in_17 rfl rfl ?_
    exact hr_zret X hr rfl dX0_in_18 ⟨hz_b0 (decide_eq_false (fun g => Int32.not_lt.mpr g.1 ((lg_in_t (b := 0) (by decide)).mp c3))), rfl⟩
  · refine hr_lload0 (q := 7) X dX0_in_6 rfl ?_
    refine hr_lload4 (q := 9) X dX0_in_7 rfl ?_
    refine hr_lcmp (v := (lg_cmp x.toInt64 y.toInt64)) (q := 10) X dX0_in_9 rfl rfl ?_
    refine hr_if_gt (q := 13) (tgt := 17) X dX0_in_10 rfl (by decide) (fun c10 => ?_) (fun c10 => ?_)
    · refine hr_iconst (v := (nI 0)) (q := 18) X dX0_in_17 rfl rfl ?_
      exact hr_zret X hr rfl dX0_in_18 ⟨hz_b0 (decide_eq_false (fun g => Int32.not_lt.mpr g.2 (lg_in_I.mp c10))), rfl⟩
    · refine hr_iconst (v := (nI 1)) (q := 14) X dX0_in_13 rfl rfl ?_
      refine hr_goto (tgt := 18) X dX0_in_14 (by decide) ?_
      exact hr_zret X hr rfl dX0_in_18 ⟨hz_b1 (decide_eq_true ⟨Int32.not_lt.mp (fun g => c3 ((lg_in_t (b := 0) (by decide)).mpr g)), Int32.not_lt.mp (fun g => c10 (lg_in_I.mpr g))⟩), rfl⟩

abbrev rk_X0_trace : Room := { frames := 12, cells := 40, slots := 3000, locals := 400 }
theorem tc_trace {l : Launch} {D : hg_D} {lo : Nat} (htr : l.stackTraces = false) {G : hg_G} {ca : Nat → Nat} {A : ab_S} (h : cp_R G ca A) (hW : ab_wf A) {a1 : Int32} {r : Nat} (hr40 : r ≤ 40) (h42 : A.1.2 42 = nI r) :
    hg_M l D lo yX0_trace (ws_ yX0_trace cX0_trace 2 ((some FieldType.int))) rk_X0_trace [.ref (ca 0), .int a1] G (cp_Po ca (sq_trace a1 A)) := by
  refine hg_M.of htr (by decide) [some (.ref (ca 0)), some (.int a1)] rfl (Nat.le_of_ble_eq_true rfl) ?_
  intro p e s m args below meth c X hr hnm htab
  have X : hg_X p l s m args meth c D lo "TaxOnLooks" cX0_trace 2 := X
  refine hr_room (kr' := 40) (nr' := 3000) (Nat.le_of_ble_eq_true rfl) (Nat.le_of_ble_eq_true rfl) ?_
  have hw := hW.w; have w0 := hw.b0; have w1 := hw.b1; have w2 := hw.b2; have w3 := hw.b3; have w36 := hW.b36; have w43 := hW.b43
  have hpw := sp_wpk hw; have hpb := sp_bpk hw
  obtain ⟨K, hK, hKs, hKb⟩ := h.w.sk
  refine hr_iload1 (q := 1) X dX0_trace_0 rfl ?_
  refine hr_i2l (v := a1.toInt64) (q := 2) X dX0_trace_1 rfl rfl ?_
  refine hr_lconst (v := (lN 0)) (q := 3) X dX0_trace_2 rfl rfl ?_
  refine hr_aload0 (q := 4) X dX0_trace_3 rfl ?_
  refine hr_getR (v := (ca 3)) (q := 7) X dX0_trace_4 rfl fr_q247_0 rfl h.o.1 h.o.2.2.2.1 ?_
  refine hr_getI (v := (nI r)) (q := 10) X dX0_trace_7 rfl fr_q137_1 rfl h.t.1 (h.t.2.2.2.1.trans h42) ?_
  refine hr_bipush (v := (nI 20)) (q := 12) X dX0_trace_10 rfl rfl ?_
  refine hr_callP (v := .int (nI (min r 20))) (q := 15) (hc_S (n := 2) (As := [.int (nI r), .int (nI 20)]) X dX0_trace_12 rfl (tj_min X.tr (a := r) (b := 20) (by omega) (by omega)) q1347 cs_J8_min ⟨Nat.le_of_ble_eq_true rfl, Nat.le_of_ble_eq_true rfl⟩ rfl (Nat.le_of_ble_eq_true rfl)) rfl ?_
  refine hr_iconst (v := (nI 1)) (q := 16) X dX0_trace_15 rfl rfl ?_
  refine hr_isub (v := (nI (min r 20) - nI 1)) (q := 17) X dX0_trace_16 rfl rfl ?_
  refine hr_i2l (v := ((nI (min r 20) - nI 1).toInt64)) (q := 18) X dX0_trace_17 rfl rfl ?_
  refine hr_callP (v := .int (bI (decide (0 ≤ a1 ∧ a1 ≤ nI (min r 20) - nI 1)))) (q := 21) (hc_S (n := 3) (As := [.long a1.toInt64, .long (lN 0), .long ((nI (min r 20) - nI 1).toInt64)]) X dX0_trace_18 rfl (tc_inI X.tr (x := a1) (y := nI (min r 20) - nI 1)) q387 cs_X0_in ⟨Nat.le_of_ble_eq_true rfl, Nat.le_of_ble_eq_true rfl⟩ rfl (Nat.le_of_ble_eq_true rfl)) rfl ?_
  refine hr_ifB_eq (q := 24) (tgt := 36) X dX0_trace_21 rfl (by decide) (fun c21 => ?_) (fun c21 => ?_)
  · have f1 := fun g => of_decide_eq_false c21 ((cp_tr (m := min r 20) (by omega)).mpr g)
    refine hr_iconst (v := (-1)) (q := 37) X dX0_trace_36 rfl rfl ?_
    have hq1 : sq_trace a1 A = ((-1), A) := by
      rw [sq_trace, h42]
      by_cases g0 : a1 < 0
      · rw [if_pos g0]
      · rw [if_neg g0]
        by_cases g1 : nI 20 ≤ a1
        · rw [if_pos g1]
        · rw [if_neg g1]
          by_cases g2 : nI r ≤ a1
          · rw [if_pos g2]
          · refine absurd ⟨g0, ?_⟩ f1
            have e := sp_geN g0
            rw [e.1] at g1 g2 ⊢
            have g1 := Nat.not_le.mp (fun z => g1 ((nI_leI (by decide) e.2).mpr z))
            have g2 := Nat.not_le.mp (fun z => g2 ((nI_leI (by omega) e.2).mpr z))
            exact (nI_ltI e.2 (by omega)).mpr (by omega)
    exact hr_iret X hr dX0_trace_37 (by rw [hq1]; exact ⟨rfl, ca, rfl, h⟩)
  · obtain ⟨f1, f2⟩ := (cp_tr (by omega)).mp (of_decide_eq_true c21)
    have f3 := sp_ltN (by omega) f1 f2
    refine hr_L (L' := [some (.ref (ca 0)), some (.int (nI (iN a1)))]) (by rw [← f3.1]) ?_
    refine hr_aload0 (q := 25) X dX0_trace_24 rfl ?_
    refine hr_getR (v := (ca 3)) (q := 28) X dX0_trace_25 rfl fr_q247_0 rfl h.o.1 h.o.2.2.2.1 ?_
    refine hr_getR (v := (ca 4)) (q := 31) X dX0_trace_28 rfl fr_q135_1 rfl h.t.1 h.t.2.1 ?_
    refine hr_iload1 (q := 32) X dX0_trace_31 rfl ?_
    refine hr_ialdN (v := (A.2.2.1 41 (iN a1))) (q := 33) X dX0_trace_32 rfl h.t.2.2.1 (Or.inl rfl) (by omega) (by decide) (h.t.2.2.2.2 _ (by omega)) ?_
    refine hr_goto (tgt := 37) X dX0_trace_33 (by decide) ?_
    have hq2 : sq_trace a1 A = ((A.2.2.1 41 (iN a1)), A) := by
      have g1 : ¬ nI 20 ≤ a1 := fun z => by
        rw [f3.1] at z
        have := (nI_leI (by decide) (by omega)).mp z
        omega
      have g2 : ¬ nI r ≤ a1 := fun z => by
        rw [f3.1] at z
        have := (nI_leI (by omega) (by omega)).mp z
        omega
      rw [sq_trace, h42, if_neg f1, if_neg g1, if_neg g2]
    exact hr_iret X hr dX0_trace_37 (by rw [hq2]; exact ⟨rfl, ca, rfl, h⟩)

theorem tc_changed {l : Launch} {D : hg_D} {lo : Nat} (htr : l.stackTraces = false) {G : hg_G} {f : Nat → Nat} (hf : ∀ c, c < 36 → f c ≤ 1) {c0 : Nat} (hc : c0 < 36) {b : Bool} :
    hg_M l D lo yX0_changed (ws_ yX0_changed cX0_changed 4 ((some FieldType.long))) rm_X0_changed [.long (lN (sp_pk f 36)), .int (nI c0), .int (bI b)] G (hg_Pv G (.long (lN (sp_pk (fun i => if i = c0 then (if b = true then 1 else 0) else f i) 36)))) := by
  refine hg_M.of htr (by decide) [some (.long (lN (sp_pk f 36))), none, some (.int (nI c0)), some (.int (bI b))] rfl (Nat.le_of_ble_eq_true rfl) ?_
  intro p e s m args below meth c X hr hnm htab
  have X : hg_X p l s m args meth c D lo "TaxOnLooks" cX0_changed 4 := X
  refine hr_iload3 (q := 1) X dX0_changed_0 rfl ?_
  refine hr_ifB_eq (q := 4) (tgt := 12) X dX0_changed_1 rfl (by decide) (fun c1 => ?_) (fun c1 => ?_)
  · refine hr_lload0 (q := 13) X dX0_changed_12 rfl ?_
    refine hr_lconst (v := (lN 1)) (q := 14) X dX0_changed_13 rfl rfl ?_
    refine hr_iload2 (q := 15) X dX0_changed_14 rfl ?_
    refine hr_lshl (v := (lN (2 ^ c0))) (q := 16) X dX0_changed_15 rfl (lN_shl hc) ?_
    refine hr_ldc2 (q := 19) X dX0_changed_16 rfl q756 ?_
    refine hr_lxor (v := (lN (2 ^ c0) ^^^ (-1))) (q := 20) X dX0_changed_19 rfl rfl ?_
    refine hr_land (v := (lN (sp_pk (fun i => if i = c0 then 0 else f i) 36))) (q := 21) X dX0_changed_20 rfl (lN_pk_clr hf) ?_
    exact hr_lret X hr dX0_changed_21 ⟨by rw [c1]; rfl, rfl⟩
  · refine hr_lload0 (q := 5) X dX0_changed_4 rfl ?_
    refine hr_lconst (v := (lN 1)) (q := 6) X dX0_changed_5 rfl rfl ?_
    refine hr_iload2 (q := 7) X dX0_changed_6 rfl ?_
    refine hr_lshl (v := (lN (2 ^ c0))) (q := 8) X dX0_changed_7 rfl (lN_shl hc) ?_
    refine hr_lor (v := (lN (sp_pk (fun i => if i = c0 then 1 else f i) 36))) (q := 9) X dX0_changed_8 rfl (lN_pk_or hf hc) ?_
    refine hr_goto (tgt := 21) X dX0_changed_9 (by decide) ?_
    exact hr_lret X hr dX0_changed_21 ⟨by rw [c1]; rfl, rfl⟩

abbrev rk_X0_build : Room := { frames := 12, cells := 40, slots := 3000, locals := 400 }
theorem tc_build {l : Launch} {D : hg_D} {lo : Nat} (htr : l.stackTraces = false) {G : hg_G} {ca : Nat → Nat} {A : ab_S} (h : cp_R G ca A) (hW : ab_wf A) {a1 a2 : Int32} {a3 : Bool} :
    hg_M l D lo yX0_build (wsW_ yX0_build cX0_build 6 ((some FieldType.int)) [(0, 159, 160, 21)]) rk_X0_build [.ref (ca 0), .int a1, .int a2, .int (bI a3)] G (cp_Po ca (sq_build a1 a2 a3 A)) := by
  refine hg_M.ofH htr (by decide) [some (.ref (ca 0)), some (.int a1), some (.int a2), some (.int (bI a3)), none, none] rfl (Nat.le_of_ble_eq_true rfl) ?_
  intro p e s m args below meth c X hr hnm htab
  have X : hg_X p l s m args meth c D lo "TaxOnLooks" cX0_build 6 := X
  refine hr_room (kr' := 40) (nr' := 3000) (Nat.le_of_ble_eq_true rfl) (Nat.le_of_ble_eq_true rfl) ?_
  have hw := hW.w; have w0 := hw.b0; have w1 := hw.b1; have w2 := hw.b2; have w3 := hw.b3; have w36 := hW.b36; have w43 := hW.b43
  have hpw := sp_wpk hw; have hpb := sp_bpk hw
  obtain ⟨K, hK, hKs, hKb⟩ := h.w.sk
  refine hr_iload1 (q := 1) X dX0_build_0 rfl ?_
  refine hr_i2l (v := a1.toInt64) (q := 2) X dX0_build_1 rfl rfl ?_
  refine hr_lconst (v := (lN 0)) (q := 3) X dX0_build_2 rfl rfl ?_
  refine hr_ldc2 (q := 6) X dX0_build_3 rfl q748 ?_
  refine hr_callP (v := .int (bI (sp_fr a1 (nI 0) (nI 35)))) (q := 9) (hc_S (n := 3) (As := [.long a1.toInt64, .long (lN 0), .long 35]) X dX0_build_6 rfl (tc_in X.tr (x := a1) (b := 0) (z := 35) (by decide) (by decide)) q387 cs_X0_in ⟨Nat.le_of_ble_eq_true rfl, Nat.le_of_ble_eq_true rfl⟩ rfl (Nat.le_of_ble_eq_true rfl)) rfl ?_
  refine hr_ifB_eq (q := 12) (tgt := 26) X dX0_build_9 rfl (by decide) (fun c9 => ?_) (fun c9 => ?_)
  · have fc9 := c9
    rw [sp_fr_in] at fc9
    refine hr_iconst (v := (bI false)) (q := 27) X dX0_build_26 rfl rfl ?_
    refine hr_bipush (v := (-6)) (q := 29) X dX0_build_27 rfl rfl ?_
    refine hr_call (kr := 39) (nr := 2993) (q := 32) (hc_S (n := 2) (As := [.int (bI false), .int (-6)]) X dX0_build_29 rfl (tc_need X.tr (g := false) (w := (-6))) q383 cs_X0_need ⟨Nat.le_of_ble_eq_true rfl, Nat.le_of_ble_eq_true rfl⟩ rfl (Nat.le_of_ble_eq_true rfl)) rfl (fun qxn1 E Gxn1 hpn1 _ => ?_) (fun r Gn1 hpn1 _ => ?_)
    · obtain ⟨hgn1, hrn1, -⟩ | ⟨hgn1, qn1, hrn1, htn1⟩ := hpn1
      · cases hrn1
      · cases hrn1
        have hxn1 := h.T htn1
        refine hx_catch (name := "TaxOnLooks$Refused") X [] ⟨0, 159, 160, 21⟩ [] htab (fun z hz => nomatch hz) (by decide) (by decide) q277 (by decide) ?_
        refine hr_astore4 (q := 162) X dX0_build_160 rfl rfl (Nat.le_of_ble_eq_true rfl) ?_
        refine hr_aload0 (q := 163) X dX0_build_162 rfl ?_
        refine hr_aload4 (q := 165) X dX0_build_163 rfl ?_
        refine hr_call0 (q := 168) (hc_V (n := 1) (ci := 0) (As := [.ref qxn1]) X dX0_build_165 rfl (tc_refused X.tr hxn1 hW (q := qxn1) htn1.2.1 htn1.2.2.1 (k := 6) (by decide) (by decide) (by decide)) q452 cv_X0_refused ⟨Nat.le_of_ble_eq_true rfl, Nat.le_of_ble_eq_true rfl⟩ rfl (Nat.le_of_ble_eq_true rfl) hxn1.o.1 rfl rfl) rfl (fun qx E G' hp => by cases hp.1) (fun r Gf2 hp _ => ?_)
        obtain ⟨hvf2, hhf2⟩ := hp
        cases hvf2
        have hq3 : sq_build a1 a2 a3 A = ((-6), (sq_no (-6) A).2) := by
          rw [sq_build, if_neg (by rw [fc9]; decide)]; rfl
        exact hr_iret X hr dX0_build_168 (by rw [hq3]; exact ⟨rfl, ca, rfl, hhf2⟩)
    · obtain ⟨hgn1, hrn1, hGn1⟩ | ⟨hgn1, qn1, hrn1, htn1⟩ := hpn1
      · cases hgn1
      · cases hrn1
  · have fc9 := c9
    rw [sp_fr_in] at fc9
    obtain ⟨ea1, la1⟩ := sp_in_n fc9 (by omega)
    refine hr_L (L' := [some (.ref (ca 0)), some (.int (nI (iN a1))), some (.int a2), some (.int (bI a3)), none, none]) (by rw [← ea1]) ?_
    refine hr_iload2 (q := 13) X dX0_build_12 rfl ?_
    refine hr_i2l (v := a2.toInt64) (q := 14) X dX0_build_13 rfl rfl ?_
    refine hr_lconst (v := (lN 0)) (q := 15) X dX0_build_14 rfl rfl ?_
    refine hr_lconst (v := (lN 1)) (q := 16) X dX0_build_15 rfl rfl ?_
    refine hr_callP (v := .int (bI (sp_fr a2 (nI 0) (nI 1)))) (q := 19) (hc_S (n := 3) (As := [.long a2.toInt64, .long (lN 0), .long (lN 1)]) X dX0_build_16 rfl (tc_in X.tr (x := a2) (b := 0) (z := 1) (by decide) (by decide)) q387 cs_X0_in ⟨Nat.le_of_ble_eq_true rfl, Nat.le_of_ble_eq_true rfl⟩ rfl (Nat.le_of_ble_eq_true rfl)) rfl ?_
    refine hr_ifB_eq (q := 22) (tgt := 26) X dX0_build_19 rfl (by decide) (fun c19 => ?_) (fun c19 => ?_)
    · have fc19 : a2 < (0 : Int32) ∨ (¬ a2 < (0 : Int32) ∧ ¬ a2 ≤ nI 1) := sp_fr_f c19
      refine hr_iconst (v := (bI false)) (q := 27) X dX0_build_26 rfl rfl ?_
      refine hr_bipush (v := (-6)) (q := 29) X dX0_build_27 rfl rfl ?_
      refine hr_call (kr := 39) (nr := 2993) (q := 32) (hc_S (n := 2) (As := [.int (bI false), .int (-6)]) X dX0_build_29 rfl (tc_need X.tr (g := false) (w := (-6))) q383 cs_X0_need ⟨Nat.le_of_ble_eq_true rfl, Nat.le_of_ble_eq_true rfl⟩ rfl (Nat.le_of_ble_eq_true rfl)) rfl (fun qxn4 E Gxn4 hpn4 _ => ?_) (fun r Gn4 hpn4 _ => ?_)
      · obtain ⟨hgn4, hrn4, -⟩ | ⟨hgn4, qn4, hrn4, htn4⟩ := hpn4
        · cases hrn4
        · cases hrn4
          have hxn4 := h.T htn4
          refine hx_catch (name := "TaxOnLooks$Refused") X [] ⟨0, 159, 160, 21⟩ [] htab (fun z hz => nomatch hz) (by decide) (by decide) q277 (by decide) ?_
          refine hr_astore4 (q := 162) X dX0_build_160 rfl rfl (Nat.le_of_ble_eq_true rfl) ?_
          refine hr_aload0 (q := 163) X dX0_build_162 rfl ?_
          refine hr_aload4 (q := 165) X dX0_build_163 rfl ?_
          refine hr_call0 (q := 168) (hc_V (n := 1) (ci := 0) (As := [.ref qxn4]) X dX0_build_165 rfl (tc_refused X.tr hxn4 hW (q := qxn4) htn4.2.1 htn4.2.2.1 (k := 6) (by decide) (by decide) (by decide)) q452 cv_X0_refused ⟨Nat.le_of_ble_eq_true rfl, Nat.le_of_ble_eq_true rfl⟩ rfl (Nat.le_of_ble_eq_true rfl) hxn4.o.1 rfl rfl) rfl (fun qx E G' hp => by cases hp.1) (fun r Gf5 hp _ => ?_)
          obtain ⟨hvf5, hhf5⟩ := hp
          cases hvf5
          have hq6 : sq_build a1 a2 a3 A = ((-6), (sq_no (-6) A).2) := by
            rcases fc19 with g | ⟨g, g2⟩
            · rw [sq_build, if_pos fc9, if_pos g]; rfl
            · rw [sq_build, if_pos fc9, if_neg g, if_pos (Int32.not_le.mp g2)]; rfl
          exact hr_iret X hr dX0_build_168 (by rw [hq6]; exact ⟨rfl, ca, rfl, hhf5⟩)
      · obtain ⟨hgn4, hrn4, hGn4⟩ | ⟨hgn4, qn4, hrn4, htn4⟩ := hpn4
        · cases hgn4
        · cases hrn4
    · have fc19 : ¬ a2 < (0 : Int32) ∧ a2 ≤ nI 1 := sp_fr_t c19
      refine hr_iconst (v := (bI true)) (q := 23) X dX0_build_22 rfl rfl ?_
      refine hr_goto (tgt := 27) X dX0_build_23 (by decide) ?_
      refine hr_bipush (v := (-6)) (q := 29) X dX0_build_27 rfl rfl ?_
      refine hr_call (kr := 39) (nr := 2993) (q := 32) (hc_S (n := 2) (As := [.int (bI true), .int (-6)]) X dX0_build_29 rfl (tc_need X.tr (g := true) (w := (-6))) q383 cs_X0_need ⟨Nat.le_of_ble_eq_true rfl, Nat.le_of_ble_eq_true rfl⟩ rfl (Nat.le_of_ble_eq_true rfl)) rfl (fun qxn7 E Gxn7 hpn7 _ => ?_) (fun r Gn7 hpn7 _ => ?_)
      · obtain ⟨hgn7, hrn7, -⟩ | ⟨hgn7, qn7, hrn7, htn7⟩ := hpn7
        · cases hrn7
        · cases hgn7
      · obtain ⟨hgn7, hrn7, hGn7⟩ | ⟨hgn7, qn7, hrn7, htn7⟩ := hpn7
        · cases hrn7
          have hGn7 := hGn7.symm
          subst hGn7
          refine hr_iload2 (q := 33) X dX0_build_32 rfl ?_
          refine hr_iconst (v := (nI 1)) (q := 34) X dX0_build_33 rfl rfl ?_
          refine hr_icmp_eq (q := 37) (tgt := 52) X dX0_build_34 rfl (by decide) (fun c34 => ?_) (fun c34 => ?_)
          · refine hr_L (L' := [some (.ref (ca 0)), some (.int (nI (iN a1))), some (.int (nI 1)), some (.int (bI a3)), none, none]) (by rw [c34]) ?_
            refine hr_iconst (v := (bI true)) (q := 53) X dX0_build_52 rfl rfl ?_
            refine hr_goto (tgt := 57) X dX0_build_53 (by decide) ?_
            refine hr_bipush (v := (-6)) (q := 59) X dX0_build_57 rfl rfl ?_
            refine hr_call (kr := 38) (nr := 2986) (q := 62) (hc_S (n := 2) (As := [.int (bI true), .int (-6)]) X dX0_build_59 rfl (tc_need X.tr (g := true) (w := (-6))) q383 cs_X0_need ⟨Nat.le_of_ble_eq_true rfl, Nat.le_of_ble_eq_true rfl⟩ rfl (Nat.le_of_ble_eq_true rfl)) rfl (fun qxn8 E Gxn8 hpn8 _ => ?_) (fun r Gn8 hpn8 _ => ?_)
            · obtain ⟨hgn8, hrn8, -⟩ | ⟨hgn8, qn8, hrn8, htn8⟩ := hpn8
              · cases hrn8
              · cases hgn8
            · obtain ⟨hgn8, hrn8, hGn8⟩ | ⟨hgn8, qn8, hrn8, htn8⟩ := hpn8
              · cases hrn8
                have hGn8 := hGn8.symm
                subst hGn8
                refine hr_iload2 (q := 63) X dX0_build_62 rfl ?_
                refine hr_if_ne (q := 66) (tgt := 76) X dX0_build_63 rfl (by decide) (fun _ => ?_) (fun z => absurd z (by decide))
                refine hr_aload0 (q := 77) X dX0_build_76 rfl ?_
                refine hr_getR (v := (cp_w ca 0)) (q := 80) X dX0_build_77 rfl fr_q250_0 rfl h.o.1 h.o.2.2.2.2.2.2.1 ?_
                refine hr_getJ (v := (lN (sp_pk (A.1.1 17) 36))) (q := 83) X dX0_build_80 rfl fr_q174_2 rfl h.w.ob h.w.f8 ?_
                refine hr_iload1 (q := 84) X dX0_build_83 rfl ?_
                refine hr_lshr (v := (lN ((sp_pk (A.1.1 17) 36) / 2 ^ (iN a1)))) (q := 85) X dX0_build_84 rfl (lN_shr (by omega) (by omega)) ?_
                refine hr_lconst (v := (lN 1)) (q := 86) X dX0_build_85 rfl rfl ?_
                refine hr_land (v := (lN (((sp_pk (A.1.1 17) 36) / 2 ^ (iN a1)) % 2))) (q := 87) X dX0_build_86 rfl (lN_and1 (Nat.lt_of_le_of_lt (Nat.div_le_self _ _) (by omega))) ?_
                refine hr_lstore4 (q := 89) X dX0_build_87 rfl rfl (Nat.le_of_ble_eq_true rfl) ?_
                refine hr_aload0 (q := 90) X dX0_build_89 rfl ?_
                refine hr_getR (v := (cp_w ca 0)) (q := 93) X dX0_build_90 rfl fr_q250_0 rfl h.o.1 h.o.2.2.2.2.2.2.1 ?_
                refine hr_iload2 (q := 94) X dX0_build_93 rfl ?_
                refine hr_if_ne (q := 97) (tgt := 112) X dX0_build_94 rfl (by decide) (fun _ => ?_) (fun z => absurd z (by decide))
                refine hr_aload0 (q := 113) X dX0_build_112 rfl ?_
                refine hr_getR (v := (cp_w ca 0)) (q := 116) X dX0_build_113 rfl fr_q250_0 rfl h.o.1 h.o.2.2.2.2.2.2.1 ?_
                refine hr_getJ (v := (lN (sp_pk (A.1.1 16) 36))) (q := 119) X dX0_build_116 rfl fr_q171_2 rfl h.w.ob h.w.f7 ?_
                refine hr_putJ (q := 122) X dX0_build_119 rfl fw_q171_2 (fun h => nomatch h) rfl h.w.ob ?_
                have z9 : cp_R (hs_J G (cp_w ca 0) 7 (lN (sp_pk (A.1.1 16) 36))) ca (A) := h.town (hg_fr.rf.J ⟨21, .w (by decide), ⟨by decide, by decide, by decide⟩, rfl⟩) (h.w.sets (k := 7) (Or.inl rfl)) (fun a h1 h2 => funext fun i => by first | rfl | exact sp_set_o (by omega)) rfl rfl
                refine hr_aload0 (q := 123) X dX0_build_122 rfl ?_
                refine hr_getR (v := (cp_w ca 0)) (q := 126) X dX0_build_123 rfl fr_q250_0 rfl z9.o.1 z9.o.2.2.2.2.2.2.1 ?_
                refine hr_iload2 (q := 127) X dX0_build_126 rfl ?_
                refine hr_iconst (v := (nI 1)) (q := 128) X dX0_build_127 rfl rfl ?_
                refine hr_icmpN_ne (q := 131) (tgt := 146) X dX0_build_128 rfl (by decide) (by omega) (by omega) (fun c128 => ?_) (fun c128 => ?_)
                · exact False.elim (by omega)
                · refine hr_aload0 (q := 132) X dX0_build_131 rfl ?_
                  refine hr_getR (v := (cp_w ca 0)) (q := 135) X dX0_build_132 rfl fr_q250_0 rfl z9.o.1 z9.o.2.2.2.2.2.2.1 ?_
                  refine hr_getJ (v := (lN (sp_pk (A.1.1 17) 36))) (q := 138) X dX0_build_135 rfl fr_q174_2 rfl z9.w.ob z9.w.f8 ?_
                  refine hr_iload1 (q := 139) X dX0_build_138 rfl ?_
                  refine hr_iload3 (q := 140) X dX0_build_139 rfl ?_
                  refine hr_callP (q := 143) (hc_S (n := 3) (As := [.long (lN (sp_pk (A.1.1 17) 36)), .int (nI (iN a1)), .int (bI a3)]) X dX0_build_140 rfl (tc_changed X.tr (f := A.1.1 17) (fun c hc => hw.b17 hc) (c0 := iN a1) (by omega) (b := a3)) q753 cs_X0_changed ⟨Nat.le_of_ble_eq_true rfl, Nat.le_of_ble_eq_true rfl⟩ rfl (Nat.le_of_ble_eq_true rfl)) rfl ?_
                  refine hr_goto (tgt := 153) X dX0_build_143 (by decide) ?_
                  refine hr_putJ (q := 156) X dX0_build_153 rfl fw_q174_2 (fun h => nomatch h) rfl z9.w.ob ?_
                  have z10 : cp_R (hs_J (hs_J G (cp_w ca 0) 7 (lN (sp_pk (A.1.1 16) 36))) (cp_w ca 0) 8 (lN (sp_pk (fun i => if i = iN a1 then (if a3 = true then 1 else 0) else A.1.1 17 i) 36))) ca ((ab_n A 17 (iN a1) (if a3 = true then 1 else 0))) := z9.town (hg_fr.rf.J ⟨21, .w (by decide), ⟨by decide, by decide, by decide⟩, rfl⟩) (z9.w.setw (k := 8) (c := iN a1) (n := if a3 = true then 1 else 0) (Or.inr rfl)) (fun a h1 h2 => funext fun i => by first | rfl | exact sp_set_o (by omega)) rfl rfl
                  refine hr_lload4 (q := 158) X dX0_build_156 rfl ?_
                  refine hr_l2i (v := ((lN (((sp_pk (A.1.1 17) 36) / 2 ^ (iN a1)) % 2)).toInt32)) (q := 159) X dX0_build_158 rfl rfl ?_
                  refine hr_st1 (v' := .int (nI (A.1.1 17 (iN a1)))) (congrArg Value.int (by rw [sp_bbit hw (by omega)]; exact lN_l2i (by have := hw.b17 (c := iN a1) (by omega); omega))) ?_
                  have hq11 : sq_build a1 a2 a3 A = ((nI (A.1.1 17 (iN a1))), (ab_n A 17 (iN a1) (if a3 = true then 1 else 0))) := by
                    rw [sq_build, if_pos fc9, c34, if_neg (by decide), if_neg (by decide), if_neg (by decide), if_neg (by decide), if_neg (by decide)]
                    by_cases h3 : a3 = true
                    · rw [if_pos h3, if_pos h3]
                    · rw [if_neg h3, if_neg h3]
                  exact hr_iret X hr dX0_build_159 (by rw [hq11]; exact ⟨rfl, ca, rfl, z10⟩)
              · cases hrn8
          · have ha0 : a2 = 0 := cp_a0 fc19.1 fc19.2 c34
            refine hr_L (L' := [some (.ref (ca 0)), some (.int (nI (iN a1))), some (.int (nI 0)), some (.int (bI a3)), none, none]) (by rw [ha0]; rfl) ?_
            refine hr_iload3 (q := 38) X dX0_build_37 rfl ?_
            refine hr_ifB_eq (q := 41) (tgt := 52) X dX0_build_38 rfl (by decide) (fun c38 => ?_) (fun c38 => ?_)
            · refine hr_iconst (v := (bI true)) (q := 53) X dX0_build_52 rfl rfl ?_
              refine hr_goto (tgt := 57) X dX0_build_53 (by decide) ?_
              refine hr_bipush (v := (-6)) (q := 59) X dX0_build_57 rfl rfl ?_
              refine hr_call (kr := 38) (nr := 2986) (q := 62) (hc_S (n := 2) (As := [.int (bI true), .int (-6)]) X dX0_build_59 rfl (tc_need X.tr (g := true) (w := (-6))) q383 cs_X0_need ⟨Nat.le_of_ble_eq_true rfl, Nat.le_of_ble_eq_true rfl⟩ rfl (Nat.le_of_ble_eq_true rfl)) rfl (fun qxn12 E Gxn12 hpn12 _ => ?_) (fun r Gn12 hpn12 _ => ?_)
              · obtain ⟨hgn12, hrn12, -⟩ | ⟨hgn12, qn12, hrn12, htn12⟩ := hpn12
                · cases hrn12
                · cases hgn12
              · obtain ⟨hgn12, hrn12, hGn12⟩ | ⟨hgn12, qn12, hrn12, htn12⟩ := hpn12
                · cases hrn12
                  have hGn12 := hGn12.symm
                  subst hGn12
                  refine hr_iload2 (q := 63) X dX0_build_62 rfl ?_
                  refine hr_if_ne (q := 66) (tgt := 76) X dX0_build_63 rfl (by decide) (fun z => absurd z (by decide)) (fun _ => ?_)
                  refine hr_aload0 (q := 67) X dX0_build_66 rfl ?_
                  refine hr_getR (v := (cp_w ca 0)) (q := 70) X dX0_build_67 rfl fr_q250_0 rfl h.o.1 h.o.2.2.2.2.2.2.1 ?_
                  refine hr_getJ (v := (lN (sp_pk (A.1.1 16) 36))) (q := 73) X dX0_build_70 rfl fr_q171_2 rfl h.w.ob h.w.f7 ?_
                  refine hr_goto (tgt := 83) X dX0_build_73 (by decide) ?_
                  refine hr_iload1 (q := 84) X dX0_build_83 rfl ?_
                  refine hr_lshr (v := (lN ((sp_pk (A.1.1 16) 36) / 2 ^ (iN a1)))) (q := 85) X dX0_build_84 rfl (lN_shr (by omega) (by omega)) ?_
                  refine hr_lconst (v := (lN 1)) (q := 86) X dX0_build_85 rfl rfl ?_
                  refine hr_land (v := (lN (((sp_pk (A.1.1 16) 36) / 2 ^ (iN a1)) % 2))) (q := 87) X dX0_build_86 rfl (lN_and1 (Nat.lt_of_le_of_lt (Nat.div_le_self _ _) (by omega))) ?_
                  refine hr_lstore4 (q := 89) X dX0_build_87 rfl rfl (Nat.le_of_ble_eq_true rfl) ?_
                  refine hr_aload0 (q := 90) X dX0_build_89 rfl ?_
                  refine hr_getR (v := (cp_w ca 0)) (q := 93) X dX0_build_90 rfl fr_q250_0 rfl h.o.1 h.o.2.2.2.2.2.2.1 ?_
                  refine hr_iload2 (q := 94) X dX0_build_93 rfl ?_
                  refine hr_if_ne (q := 97) (tgt := 112) X dX0_build_94 rfl (by decide) (fun z => absurd z (by decide)) (fun _ => ?_)
                  refine hr_aload0 (q := 98) X dX0_build_97 rfl ?_
                  refine hr_getR (v := (cp_w ca 0)) (q := 101) X dX0_build_98 rfl fr_q250_0 rfl h.o.1 h.o.2.2.2.2.2.2.1 ?_
                  refine hr_getJ (v := (lN (sp_pk (A.1.1 16) 36))) (q := 104) X dX0_build_101 rfl fr_q171_2 rfl h.w.ob h.w.f7 ?_
                  refine hr_iload1 (q := 105) X dX0_build_104 rfl ?_
                  refine hr_iload3 (q := 106) X dX0_build_105 rfl ?_
                  refine hr_callP (q := 109) (hc_S (n := 3) (As := [.long (lN (sp_pk (A.1.1 16) 36)), .int (nI (iN a1)), .int (bI a3)]) X dX0_build_106 rfl (tc_changed X.tr (f := A.1.1 16) (fun c hc => hw.b16 hc) (c0 := iN a1) (by omega) (b := a3)) q753 cs_X0_changed ⟨Nat.le_of_ble_eq_true rfl, Nat.le_of_ble_eq_true rfl⟩ rfl (Nat.le_of_ble_eq_true rfl)) rfl ?_
                  refine hr_goto (tgt := 119) X dX0_build_109 (by decide) ?_
                  refine hr_putJ (q := 122) X dX0_build_119 rfl fw_q171_2 (fun h => nomatch h) rfl h.w.ob ?_
                  have z13 : cp_R (hs_J G (cp_w ca 0) 7 (lN (sp_pk (fun i => if i = iN a1 then (if a3 = true then 1 else 0) else A.1.1 16 i) 36))) ca ((ab_n A 16 (iN a1) (if a3 = true then 1 else 0))) := h.town (hg_fr.rf.J ⟨21, .w (by decide), ⟨by decide, by decide, by decide⟩, rfl⟩) (h.w.setw (k := 7) (c := iN a1) (n := if a3 = true then 1 else 0) (Or.inl rfl)) (fun a h1 h2 => funext fun i => by first | rfl | exact sp_set_o (by omega)) rfl rfl
                  refine hr_aload0 (q := 123) X dX0_build_122 rfl ?_
                  refine hr_getR (v := (cp_w ca 0)) (q := 126) X dX0_build_123 rfl fr_q250_0 rfl z13.o.1 z13.o.2.2.2.2.2.2.1 ?_
                  refine hr_iload2 (q := 127) X dX0_build_126 rfl ?_
                  refine hr_iconst (v := (nI 1)) (q := 128) X dX0_build_127 rfl rfl ?_
                  refine hr_icmpN_ne (q := 131) (tgt := 146) X dX0_build_128 rfl (by decide) (by omega) (by omega) (fun c128 => ?_) (fun c128 => ?_)
                  · refine hr_aload0 (q := 147) X dX0_build_146 rfl ?_
                    refine hr_getR (v := (cp_w ca 0)) (q := 150) X dX0_build_147 rfl fr_q250_0 rfl z13.o.1 z13.o.2.2.2.2.2.2.1 ?_
                    refine hr_getJ (v := (lN (sp_pk ((ab_n A 16 (iN a1) (if a3 = true then 1 else 0)).1.1 17) 36))) (q := 153) X dX0_build_150 rfl fr_q174_2 rfl z13.w.ob z13.w.f8 ?_
                    refine hr_putJ (q := 156) X dX0_build_153 rfl fw_q174_2 (fun h => nomatch h) rfl z13.w.ob ?_
                    have z14 : cp_R (hs_J (hs_J G (cp_w ca 0) 7 (lN (sp_pk (fun i => if i = iN a1 then (if a3 = true then 1 else 0) else A.1.1 16 i) 36))) (cp_w ca 0) 8 (lN (sp_pk ((ab_n A 16 (iN a1) (if a3 = true then 1 else 0)).1.1 17) 36))) ca ((ab_n A 16 (iN a1) (if a3 = true then 1 else 0))) := z13.town (hg_fr.rf.J ⟨21, .w (by decide), ⟨by decide, by decide, by decide⟩, rfl⟩) (z13.w.sets (k := 8) (Or.inr rfl)) (fun a h1 h2 => funext fun i => by first | rfl | exact sp_set_o (by omega)) rfl rfl
                    refine hr_lload4 (q := 158) X dX0_build_156 rfl ?_
                    refine hr_l2i (v := ((lN (((sp_pk (A.1.1 16) 36) / 2 ^ (iN a1)) % 2)).toInt32)) (q := 159) X dX0_build_158 rfl rfl ?_
                    refine hr_st1 (v' := .int (nI (A.1.1 16 (iN a1)))) (congrArg Value.int (by rw [sp_wbit hw (by omega)]; exact lN_l2i (by have := hw.b16 (c := iN a1) (by omega); omega))) ?_
                    have hq15 : sq_build a1 a2 a3 A = ((nI (A.1.1 16 (iN a1))), (ab_n A 16 (iN a1) (if a3 = true then 1 else 0))) := by
                      rw [sq_build, if_pos fc9, ha0, if_neg (by decide), if_neg (by decide), if_pos rfl]
                      simp [c38, sq_no_1]
                    exact hr_iret X hr dX0_build_159 (by rw [hq15]; exact ⟨rfl, ca, rfl, z14⟩)
                  · exact False.elim (by omega)
                · cases hrn12
            · refine hr_aload0 (q := 42) X dX0_build_41 rfl ?_
              refine hr_getR (v := (cp_w ca 0)) (q := 45) X dX0_build_42 rfl fr_q250_0 rfl h.o.1 h.o.2.2.2.2.2.2.1 ?_
              refine hr_iload1 (q := 46) X dX0_build_45 rfl ?_
              refine hr_callP (q := 49) (hc_V (n := 1) (ci := 2) (As := [.int (nI (iN a1))]) X dX0_build_46 rfl (tn_standAt X.tr h.w hw (z := iN a1) (by omega)) q749 cv_X2_standAt ⟨Nat.le_of_ble_eq_true rfl, Nat.le_of_ble_eq_true rfl⟩ rfl (Nat.le_of_ble_eq_true rfl) h.w.ob rfl rfl) rfl ?_
              have := sp_there_lt (t := A.1) hw (iN a1)
              refine hr_ifN_ne (q := 52) (tgt := 56) X dX0_build_49 rfl (by decide) (by omega) (fun c49 => ?_) (fun c49 => ?_)
              · refine hr_iconst (v := (bI false)) (q := 57) X dX0_build_56 rfl rfl ?_
                refine hr_bipush (v := (-6)) (q := 59) X dX0_build_57 rfl rfl ?_
                refine hr_call (kr := 38) (nr := 2986) (q := 62) (hc_S (n := 2) (As := [.int (bI false), .int (-6)]) X dX0_build_59 rfl (tc_need X.tr (g := false) (w := (-6))) q383 cs_X0_need ⟨Nat.le_of_ble_eq_true rfl, Nat.le_of_ble_eq_true rfl⟩ rfl (Nat.le_of_ble_eq_true rfl)) rfl (fun qxn16 E Gxn16 hpn16 _ => ?_) (fun r Gn16 hpn16 _ => ?_)
                · obtain ⟨hgn16, hrn16, -⟩ | ⟨hgn16, qn16, hrn16, htn16⟩ := hpn16
                  · cases hrn16
                  · cases hrn16
                    have hxn16 := h.T htn16
                    refine hx_catch (name := "TaxOnLooks$Refused") X [] ⟨0, 159, 160, 21⟩ [] htab (fun z hz => nomatch hz) (by decide) (by decide) q277 (by decide) ?_
                    refine hr_astore4 (q := 162) X dX0_build_160 rfl rfl (Nat.le_of_ble_eq_true rfl) ?_
                    refine hr_aload0 (q := 163) X dX0_build_162 rfl ?_
                    refine hr_aload4 (q := 165) X dX0_build_163 rfl ?_
                    refine hr_call0 (q := 168) (hc_V (n := 1) (ci := 0) (As := [.ref qxn16]) X dX0_build_165 rfl (tc_refused X.tr hxn16 hW (q := qxn16) htn16.2.1 htn16.2.2.1 (k := 6) (by decide) (by decide) (by decide)) q452 cv_X0_refused ⟨Nat.le_of_ble_eq_true rfl, Nat.le_of_ble_eq_true rfl⟩ rfl (Nat.le_of_ble_eq_true rfl) hxn16.o.1 rfl rfl) rfl (fun qx E G' hp => by cases hp.1) (fun r Gf17 hp _ => ?_)
                    obtain ⟨hvf17, hhf17⟩ := hp
                    cases hvf17
                    have hq18 : sq_build a1 a2 a3 A = ((-6), (sq_no (-6) A).2) := by
                      have k49 : ¬ sp_there A.1 (iN a1) = 0 := by omega
                      rw [sq_build, if_pos fc9, ha0, if_neg (by decide), if_neg (by decide), if_pos rfl]
                      simp [c38, k49, sq_no_1]
                    exact hr_iret X hr dX0_build_168 (by rw [hq18]; exact ⟨rfl, ca, rfl, hhf17⟩)
                · obtain ⟨hgn16, hrn16, hGn16⟩ | ⟨hgn16, qn16, hrn16, htn16⟩ := hpn16
                  · cases hgn16
                  · cases hrn16
              · refine hr_iconst (v := (bI true)) (q := 53) X dX0_build_52 rfl rfl ?_
                refine hr_goto (tgt := 57) X dX0_build_53 (by decide) ?_
                refine hr_bipush (v := (-6)) (q := 59) X dX0_build_57 rfl rfl ?_
                refine hr_call (kr := 38) (nr := 2986) (q := 62) (hc_S (n := 2) (As := [.int (bI true), .int (-6)]) X dX0_build_59 rfl (tc_need X.tr (g := true) (w := (-6))) q383 cs_X0_need ⟨Nat.le_of_ble_eq_true rfl, Nat.le_of_ble_eq_true rfl⟩ rfl (Nat.le_of_ble_eq_true rfl)) rfl (fun qxn19 E Gxn19 hpn19 _ => ?_) (fun r Gn19 hpn19 _ => ?_)
                · obtain ⟨hgn19, hrn19, -⟩ | ⟨hgn19, qn19, hrn19, htn19⟩ := hpn19
                  · cases hrn19
                  · cases hgn19
                · obtain ⟨hgn19, hrn19, hGn19⟩ | ⟨hgn19, qn19, hrn19, htn19⟩ := hpn19
                  · cases hrn19
                    have hGn19 := hGn19.symm
                    subst hGn19
                    refine hr_iload2 (q := 63) X dX0_build_62 rfl ?_
                    refine hr_if_ne (q := 66) (tgt := 76) X dX0_build_63 rfl (by decide) (fun z => absurd z (by decide)) (fun _ => ?_)
                    refine hr_aload0 (q := 67) X dX0_build_66 rfl ?_
                    refine hr_getR (v := (cp_w ca 0)) (q := 70) X dX0_build_67 rfl fr_q250_0 rfl h.o.1 h.o.2.2.2.2.2.2.1 ?_
                    refine hr_getJ (v := (lN (sp_pk (A.1.1 16) 36))) (q := 73) X dX0_build_70 rfl fr_q171_2 rfl h.w.ob h.w.f7 ?_
                    refine hr_goto (tgt := 83) X dX0_build_73 (by decide) ?_
                    refine hr_iload1 (q := 84) X dX0_build_83 rfl ?_
                    refine hr_lshr (v := (lN ((sp_pk (A.1.1 16) 36) / 2 ^ (iN a1)))) (q := 85) X dX0_build_84 rfl (lN_shr (by omega) (by omega)) ?_
                    refine hr_lconst (v := (lN 1)) (q := 86) X dX0_build_85 rfl rfl ?_
                    refine hr_land (v := (lN (((sp_pk (A.1.1 16) 36) / 2 ^ (iN a1)) % 2))) (q := 87) X dX0_build_86 rfl (lN_and1 (Nat.lt_of_le_of_lt (Nat.div_le_self _ _) (by omega))) ?_
                    refine hr_lstore4 (q := 89) X dX0_build_87 rfl rfl (Nat.le_of_ble_eq_true rfl) ?_
                    refine hr_aload0 (q := 90) X dX0_build_89 rfl ?_
                    refine hr_getR (v := (cp_w ca 0)) (q := 93) X dX0_build_90 rfl fr_q250_0 rfl h.o.1 h.o.2.2.2.2.2.2.1 ?_
                    refine hr_iload2 (q := 94) X dX0_build_93 rfl ?_
                    refine hr_if_ne (q := 97) (tgt := 112) X dX0_build_94 rfl (by decide) (fun z => absurd z (by decide)) (fun _ => ?_)
                    refine hr_aload0 (q := 98) X dX0_build_97 rfl ?_
                    refine hr_getR (v := (cp_w ca 0)) (q := 101) X dX0_build_98 rfl fr_q250_0 rfl h.o.1 h.o.2.2.2.2.2.2.1 ?_
                    refine hr_getJ (v := (lN (sp_pk (A.1.1 16) 36))) (q := 104) X dX0_build_101 rfl fr_q171_2 rfl h.w.ob h.w.f7 ?_
                    refine hr_iload1 (q := 105) X dX0_build_104 rfl ?_
                    refine hr_iload3 (q := 106) X dX0_build_105 rfl ?_
                    refine hr_callP (q := 109) (hc_S (n := 3) (As := [.long (lN (sp_pk (A.1.1 16) 36)), .int (nI (iN a1)), .int (bI a3)]) X dX0_build_106 rfl (tc_changed X.tr (f := A.1.1 16) (fun c hc => hw.b16 hc) (c0 := iN a1) (by omega) (b := a3)) q753 cs_X0_changed ⟨Nat.le_of_ble_eq_true rfl, Nat.le_of_ble_eq_true rfl⟩ rfl (Nat.le_of_ble_eq_true rfl)) rfl ?_
                    refine hr_goto (tgt := 119) X dX0_build_109 (by decide) ?_
                    refine hr_putJ (q := 122) X dX0_build_119 rfl fw_q171_2 (fun h => nomatch h) rfl h.w.ob ?_
                    have z20 : cp_R (hs_J G (cp_w ca 0) 7 (lN (sp_pk (fun i => if i = iN a1 then (if a3 = true then 1 else 0) else A.1.1 16 i) 36))) ca ((ab_n A 16 (iN a1) (if a3 = true then 1 else 0))) := h.town (hg_fr.rf.J ⟨21, .w (by decide), ⟨by decide, by decide, by decide⟩, rfl⟩) (h.w.setw (k := 7) (c := iN a1) (n := if a3 = true then 1 else 0) (Or.inl rfl)) (fun a h1 h2 => funext fun i => by first | rfl | exact sp_set_o (by omega)) rfl rfl
                    refine hr_aload0 (q := 123) X dX0_build_122 rfl ?_
                    refine hr_getR (v := (cp_w ca 0)) (q := 126) X dX0_build_123 rfl fr_q250_0 rfl z20.o.1 z20.o.2.2.2.2.2.2.1 ?_
                    refine hr_iload2 (q := 127) X dX0_build_126 rfl ?_
                    refine hr_iconst (v := (nI 1)) (q := 128) X dX0_build_127 rfl rfl ?_
                    refine hr_icmpN_ne (q := 131) (tgt := 146) X dX0_build_128 rfl (by decide) (by omega) (by omega) (fun c128 => ?_) (fun c128 => ?_)
                    · refine hr_aload0 (q := 147) X dX0_build_146 rfl ?_
                      refine hr_getR (v := (cp_w ca 0)) (q := 150) X dX0_build_147 rfl fr_q250_0 rfl z20.o.1 z20.o.2.2.2.2.2.2.1 ?_
                      refine hr_getJ (v := (lN (sp_pk ((ab_n A 16 (iN a1) (if a3 = true then 1 else 0)).1.1 17) 36))) (q := 153) X dX0_build_150 rfl fr_q174_2 rfl z20.w.ob z20.w.f8 ?_
                      refine hr_putJ (q := 156) X dX0_build_153 rfl fw_q174_2 (fun h => nomatch h) rfl z20.w.ob ?_
                      have z21 : cp_R (hs_J (hs_J G (cp_w ca 0) 7 (lN (sp_pk (fun i => if i = iN a1 then (if a3 = true then 1 else 0) else A.1.1 16 i) 36))) (cp_w ca 0) 8 (lN (sp_pk ((ab_n A 16 (iN a1) (if a3 = true then 1 else 0)).1.1 17) 36))) ca ((ab_n A 16 (iN a1) (if a3 = true then 1 else 0))) := z20.town (hg_fr.rf.J ⟨21, .w (by decide), ⟨by decide, by decide, by decide⟩, rfl⟩) (z20.w.sets (k := 8) (Or.inr rfl)) (fun a h1 h2 => funext fun i => by first | rfl | exact sp_set_o (by omega)) rfl rfl
                      refine hr_lload4 (q := 158) X dX0_build_156 rfl ?_
                      refine hr_l2i (v := ((lN (((sp_pk (A.1.1 16) 36) / 2 ^ (iN a1)) % 2)).toInt32)) (q := 159) X dX0_build_158 rfl rfl ?_
                      refine hr_st1 (v' := .int (nI (A.1.1 16 (iN a1)))) (congrArg Value.int (by rw [sp_wbit hw (by omega)]; exact lN_l2i (by have := hw.b16 (c := iN a1) (by omega); omega))) ?_
                      have hq22 : sq_build a1 a2 a3 A = ((nI (A.1.1 16 (iN a1))), (ab_n A 16 (iN a1) (if a3 = true then 1 else 0))) := by
                        have k49 : sp_there A.1 (iN a1) = 0 := by omega
                        rw [sq_build, if_pos fc9, ha0, if_neg (by decide), if_neg (by decide), if_pos rfl]
                        simp [c38, k49, sq_no_1]
                      exact hr_iret X hr dX0_build_159 (by rw [hq22]; exact ⟨rfl, ca, rfl, z21⟩)
                    · exact False.elim (by omega)
                  · cases hrn19
        · cases hrn7

abbrev rk_X0_person : Room := { frames := 12, cells := 40, slots := 3000, locals := 400 }
theorem tc_personC {l : Launch} {D : hg_D} {lo : Nat} (htr : l.stackTraces = false) {G : hg_G} {ca : Nat → Nat} {A : ab_S} (h : cp_R G ca A) (hW : ab_wf A) {a1 a2 a3 a4 a5 a6 : Int32} :
    hg_M l D lo yX0_person (wsW_ yX0_person cX0_person 8 ((some FieldType.int)) [(0, 152, 153, 21)]) rk_X0_person [.ref (ca 0), .int a1, .int a2, .int a3, .int a4, .int a5, .int a6] G (cp_Po ca (sq_person a1 a2 a3 a4 a5 a6 A)) := by
  refine hg_M.ofH htr (by decide) [some (.ref (ca 0)), some (.int a1), some (.int a2), some (.int a3), some (.int a4), some (.int a5), some (.int a6), none] rfl (Nat.le_of_ble_eq_true rfl) ?_
  intro p e s m args below meth c X hr hnm htab
  have X : hg_X p l s m args meth c D lo "TaxOnLooks" cX0_person 8 := X
  refine hr_room (kr' := 40) (nr' := 3000) (Nat.le_of_ble_eq_true rfl) (Nat.le_of_ble_eq_true rfl) ?_
  have hw := hW.w; have w0 := hw.b0; have w1 := hw.b1; have w2 := hw.b2; have w3 := hw.b3; have w36 := hW.b36; have w43 := hW.b43
  have hpw := sp_wpk hw; have hpb := sp_bpk hw
  obtain ⟨K, hK, hKs, hKb⟩ := h.w.sk
  refine hr_iload1 (q := 1) X dX0_person_0 rfl ?_
  refine hr_i2l (v := a1.toInt64) (q := 2) X dX0_person_1 rfl rfl ?_
  refine hr_lconst (v := (lN 0)) (q := 3) X dX0_person_2 rfl rfl ?_
  refine hr_ldc2 (q := 6) X dX0_person_3 rfl q581 ?_
  refine hr_callP (v := .int (bI (sp_fr a1 (nI 0) (nI 6)))) (q := 9) (hc_S (n := 3) (As := [.long a1.toInt64, .long (lN 0), .long 6]) X dX0_person_6 rfl (tc_in X.tr (x := a1) (b := 0) (z := 6) (by decide) (by decide)) q387 cs_X0_in ⟨Nat.le_of_ble_eq_true rfl, Nat.le_of_ble_eq_true rfl⟩ rfl (Nat.le_of_ble_eq_true rfl)) rfl ?_
  refine hr_iconst (v := (-1)) (q := 10) X dX0_person_9 rfl rfl ?_
  refine hr_call (kr := 39) (nr := 2993) (q := 13) (hc_S (n := 2) (As := [.int (bI (sp_fr a1 (nI 0) (nI 6))), .int (-1)]) X dX0_person_10 rfl (tc_need X.tr (g := sp_fr a1 (nI 0) (nI 6)) (w := (-1))) q383 cs_X0_need ⟨Nat.le_of_ble_eq_true rfl, Nat.le_of_ble_eq_true rfl⟩ rfl (Nat.le_of_ble_eq_true rfl)) rfl (fun qxn1 E Gxn1 hpn1 _ => ?_) (fun r Gn1 hpn1 _ => ?_)
  · obtain ⟨hgn1, hrn1, -⟩ | ⟨hgn1, qn1, hrn1, htn1⟩ := hpn1
    · cases hrn1
    · cases hrn1
      have hxn1 := h.T htn1
      refine hx_catch (name := "TaxOnLooks$Refused") X [] ⟨0, 152, 153, 21⟩ [] htab (fun z hz => nomatch hz) (by decide) (by decide) q277 (by decide) ?_
      have fhgn1 : a1 < (0 : Int32) ∨ (¬ a1 < (0 : Int32) ∧ ¬ a1 ≤ nI 6) := sp_fr_f hgn1
      refine hr_astore7 (q := 155) X dX0_person_153 rfl rfl (Nat.le_of_ble_eq_true rfl) ?_
      refine hr_aload0 (q := 156) X dX0_person_155 rfl ?_
      refine hr_aload7 (q := 158) X dX0_person_156 rfl ?_
      refine hr_call0 (q := 161) (hc_V (n := 1) (ci := 0) (As := [.ref qxn1]) X dX0_person_158 rfl (tc_refused X.tr hxn1 hW (q := qxn1) htn1.2.1 htn1.2.2.1 (k := 1) (by decide) (by decide) (by decide)) q452 cv_X0_refused ⟨Nat.le_of_ble_eq_true rfl, Nat.le_of_ble_eq_true rfl⟩ rfl (Nat.le_of_ble_eq_true rfl) hxn1.o.1 rfl rfl) rfl (fun qx E G' hp => by cases hp.1) (fun r Gf2 hp _ => ?_)
      obtain ⟨hvf2, hhf2⟩ := hp
      cases hvf2
      have hq3 : sq_person a1 a2 a3 a4 a5 a6 A = ((-1), (sq_no (-1) A).2) := by
        rcases fhgn1 with g | ⟨g, g2⟩
        · simp [sq_person, sq_noTen, sq_no_1, hgn1, eq_true g]
        · simp [sq_person, sq_noTen, sq_no_1, hgn1, eq_false g, eq_false g2]
      exact hr_iret X hr dX0_person_161 (by rw [hq3]; exact ⟨rfl, ca, rfl, hhf2⟩)
  · obtain ⟨hgn1, hrn1, hGn1⟩ | ⟨hgn1, qn1, hrn1, htn1⟩ := hpn1
    · cases hrn1
      have hGn1 := hGn1.symm
      subst hGn1
      have fhgn1 : ¬ a1 < (0 : Int32) ∧ a1 ≤ nI 6 := sp_fr_t hgn1
      refine hr_iload2 (q := 14) X dX0_person_13 rfl ?_
      refine hr_i2l (v := a2.toInt64) (q := 15) X dX0_person_14 rfl rfl ?_
      refine hr_lconst (v := (lN 0)) (q := 16) X dX0_person_15 rfl rfl ?_
      refine hr_ldc2 (q := 19) X dX0_person_16 rfl q629 ?_
      refine hr_callP (v := .int (bI (sp_fr a2 (nI 0) (nI 9)))) (q := 22) (hc_S (n := 3) (As := [.long a2.toInt64, .long (lN 0), .long 9]) X dX0_person_19 rfl (tc_in X.tr (x := a2) (b := 0) (z := 9) (by decide) (by decide)) q387 cs_X0_in ⟨Nat.le_of_ble_eq_true rfl, Nat.le_of_ble_eq_true rfl⟩ rfl (Nat.le_of_ble_eq_true rfl)) rfl ?_
      refine hr_ifB_eq (q := 25) (tgt := 54) X dX0_person_22 rfl (by decide) (fun c22 => ?_) (fun c22 => ?_)
      · have fc22 : a2 < (0 : Int32) ∨ (¬ a2 < (0 : Int32) ∧ ¬ a2 ≤ nI 9) := sp_fr_f c22
        refine hr_iconst (v := (bI false)) (q := 55) X dX0_person_54 rfl rfl ?_
        refine hr_bipush (v := (-6)) (q := 57) X dX0_person_55 rfl rfl ?_
        refine hr_call (kr := 38) (nr := 2986) (q := 60) (hc_S (n := 2) (As := [.int (bI false), .int (-6)]) X dX0_person_57 rfl (tc_need X.tr (g := false) (w := (-6))) q383 cs_X0_need ⟨Nat.le_of_ble_eq_true rfl, Nat.le_of_ble_eq_true rfl⟩ rfl (Nat.le_of_ble_eq_true rfl)) rfl (fun qxn4 E Gxn4 hpn4 _ => ?_) (fun r Gn4 hpn4 _ => ?_)
        · obtain ⟨hgn4, hrn4, -⟩ | ⟨hgn4, qn4, hrn4, htn4⟩ := hpn4
          · cases hrn4
          · cases hrn4
            have hxn4 := h.T htn4
            refine hx_catch (name := "TaxOnLooks$Refused") X [] ⟨0, 152, 153, 21⟩ [] htab (fun z hz => nomatch hz) (by decide) (by decide) q277 (by decide) ?_
            refine hr_astore7 (q := 155) X dX0_person_153 rfl rfl (Nat.le_of_ble_eq_true rfl) ?_
            refine hr_aload0 (q := 156) X dX0_person_155 rfl ?_
            refine hr_aload7 (q := 158) X dX0_person_156 rfl ?_
            refine hr_call0 (q := 161) (hc_V (n := 1) (ci := 0) (As := [.ref qxn4]) X dX0_person_158 rfl (tc_refused X.tr hxn4 hW (q := qxn4) htn4.2.1 htn4.2.2.1 (k := 6) (by decide) (by decide) (by decide)) q452 cv_X0_refused ⟨Nat.le_of_ble_eq_true rfl, Nat.le_of_ble_eq_true rfl⟩ rfl (Nat.le_of_ble_eq_true rfl) hxn4.o.1 rfl rfl) rfl (fun qx E G' hp => by cases hp.1) (fun r Gf5 hp _ => ?_)
            obtain ⟨hvf5, hhf5⟩ := hp
            cases hvf5
            have hq6 : sq_person a1 a2 a3 a4 a5 a6 A = ((-6), (sq_no (-6) A).2) := by
              simp [sq_person, sq_noTen, sq_no_1, eq_false fhgn1.1, eq_true fhgn1.2, c22, c22]
            exact hr_iret X hr dX0_person_161 (by rw [hq6]; exact ⟨rfl, ca, rfl, hhf5⟩)
        · obtain ⟨hgn4, hrn4, hGn4⟩ | ⟨hgn4, qn4, hrn4, htn4⟩ := hpn4
          · cases hgn4
          · cases hrn4
      · have fc22 : ¬ a2 < (0 : Int32) ∧ a2 ≤ nI 9 := sp_fr_t c22
        refine hr_iload3 (q := 26) X dX0_person_25 rfl ?_
        refine hr_i2l (v := a3.toInt64) (q := 27) X dX0_person_26 rfl rfl ?_
        refine hr_lconst (v := (lN 0)) (q := 28) X dX0_person_27 rfl rfl ?_
        refine hr_ldc2 (q := 31) X dX0_person_28 rfl q630 ?_
        refine hr_callP (v := .int (bI (sp_fr a3 (nI 0) (nI 20)))) (q := 34) (hc_S (n := 3) (As := [.long a3.toInt64, .long (lN 0), .long 20]) X dX0_person_31 rfl (tc_in X.tr (x := a3) (b := 0) (z := 20) (by decide) (by decide)) q387 cs_X0_in ⟨Nat.le_of_ble_eq_true rfl, Nat.le_of_ble_eq_true rfl⟩ rfl (Nat.le_of_ble_eq_true rfl)) rfl ?_
        refine hr_ifB_eq (q := 37) (tgt := 54) X dX0_person_34 rfl (by decide) (fun c34 => ?_) (fun c34 => ?_)
        · have fc34 : a3 < (0 : Int32) ∨ (¬ a3 < (0 : Int32) ∧ ¬ a3 ≤ nI 20) := sp_fr_f c34
          refine hr_iconst (v := (bI false)) (q := 55) X dX0_person_54 rfl rfl ?_
          refine hr_bipush (v := (-6)) (q := 57) X dX0_person_55 rfl rfl ?_
          refine hr_call (kr := 38) (nr := 2986) (q := 60) (hc_S (n := 2) (As := [.int (bI false), .int (-6)]) X dX0_person_57 rfl (tc_need X.tr (g := false) (w := (-6))) q383 cs_X0_need ⟨Nat.le_of_ble_eq_true rfl, Nat.le_of_ble_eq_true rfl⟩ rfl (Nat.le_of_ble_eq_true rfl)) rfl (fun qxn7 E Gxn7 hpn7 _ => ?_) (fun r Gn7 hpn7 _ => ?_)
          · obtain ⟨hgn7, hrn7, -⟩ | ⟨hgn7, qn7, hrn7, htn7⟩ := hpn7
            · cases hrn7
            · cases hrn7
              have hxn7 := h.T htn7
              refine hx_catch (name := "TaxOnLooks$Refused") X [] ⟨0, 152, 153, 21⟩ [] htab (fun z hz => nomatch hz) (by decide) (by decide) q277 (by decide) ?_
              refine hr_astore7 (q := 155) X dX0_person_153 rfl rfl (Nat.le_of_ble_eq_true rfl) ?_
              refine hr_aload0 (q := 156) X dX0_person_155 rfl ?_
              refine hr_aload7 (q := 158) X dX0_person_156 rfl ?_
              refine hr_call0 (q := 161) (hc_V (n := 1) (ci := 0) (As := [.ref qxn7]) X dX0_person_158 rfl (tc_refused X.tr hxn7 hW (q := qxn7) htn7.2.1 htn7.2.2.1 (k := 6) (by decide) (by decide) (by decide)) q452 cv_X0_refused ⟨Nat.le_of_ble_eq_true rfl, Nat.le_of_ble_eq_true rfl⟩ rfl (Nat.le_of_ble_eq_true rfl) hxn7.o.1 rfl rfl) rfl (fun qx E G' hp => by cases hp.1) (fun r Gf8 hp _ => ?_)
              obtain ⟨hvf8, hhf8⟩ := hp
              cases hvf8
              have hq9 : sq_person a1 a2 a3 a4 a5 a6 A = ((-6), (sq_no (-6) A).2) := by
                simp [sq_person, sq_noTen, sq_no_1, eq_false fhgn1.1, eq_true fhgn1.2, eq_false fc22.1, eq_true fc22.2, c22, c34, c34]
              exact hr_iret X hr dX0_person_161 (by rw [hq9]; exact ⟨rfl, ca, rfl, hhf8⟩)
          · obtain ⟨hgn7, hrn7, hGn7⟩ | ⟨hgn7, qn7, hrn7, htn7⟩ := hpn7
            · cases hgn7
            · cases hrn7
        · have fc34 : ¬ a3 < (0 : Int32) ∧ a3 ≤ nI 20 := sp_fr_t c34
          refine hr_iload4 (q := 39) X dX0_person_37 rfl ?_
          refine hr_i2l (v := a4.toInt64) (q := 40) X dX0_person_39 rfl rfl ?_
          refine hr_lconst (v := (lN 0)) (q := 41) X dX0_person_40 rfl rfl ?_
          refine hr_ldc2 (q := 44) X dX0_person_41 rfl q629 ?_
          refine hr_callP (v := .int (bI (sp_fr a4 (nI 0) (nI 9)))) (q := 47) (hc_S (n := 3) (As := [.long a4.toInt64, .long (lN 0), .long 9]) X dX0_person_44 rfl (tc_in X.tr (x := a4) (b := 0) (z := 9) (by decide) (by decide)) q387 cs_X0_in ⟨Nat.le_of_ble_eq_true rfl, Nat.le_of_ble_eq_true rfl⟩ rfl (Nat.le_of_ble_eq_true rfl)) rfl ?_
          refine hr_ifB_eq (q := 50) (tgt := 54) X dX0_person_47 rfl (by decide) (fun c47 => ?_) (fun c47 => ?_)
          · have fc47 : a4 < (0 : Int32) ∨ (¬ a4 < (0 : Int32) ∧ ¬ a4 ≤ nI 9) := sp_fr_f c47
            refine hr_iconst (v := (bI false)) (q := 55) X dX0_person_54 rfl rfl ?_
            refine hr_bipush (v := (-6)) (q := 57) X dX0_person_55 rfl rfl ?_
            refine hr_call (kr := 38) (nr := 2986) (q := 60) (hc_S (n := 2) (As := [.int (bI false), .int (-6)]) X dX0_person_57 rfl (tc_need X.tr (g := false) (w := (-6))) q383 cs_X0_need ⟨Nat.le_of_ble_eq_true rfl, Nat.le_of_ble_eq_true rfl⟩ rfl (Nat.le_of_ble_eq_true rfl)) rfl (fun qxn10 E Gxn10 hpn10 _ => ?_) (fun r Gn10 hpn10 _ => ?_)
            · obtain ⟨hgn10, hrn10, -⟩ | ⟨hgn10, qn10, hrn10, htn10⟩ := hpn10
              · cases hrn10
              · cases hrn10
                have hxn10 := h.T htn10
                refine hx_catch (name := "TaxOnLooks$Refused") X [] ⟨0, 152, 153, 21⟩ [] htab (fun z hz => nomatch hz) (by decide) (by decide) q277 (by decide) ?_
                refine hr_astore7 (q := 155) X dX0_person_153 rfl rfl (Nat.le_of_ble_eq_true rfl) ?_
                refine hr_aload0 (q := 156) X dX0_person_155 rfl ?_
                refine hr_aload7 (q := 158) X dX0_person_156 rfl ?_
                refine hr_call0 (q := 161) (hc_V (n := 1) (ci := 0) (As := [.ref qxn10]) X dX0_person_158 rfl (tc_refused X.tr hxn10 hW (q := qxn10) htn10.2.1 htn10.2.2.1 (k := 6) (by decide) (by decide) (by decide)) q452 cv_X0_refused ⟨Nat.le_of_ble_eq_true rfl, Nat.le_of_ble_eq_true rfl⟩ rfl (Nat.le_of_ble_eq_true rfl) hxn10.o.1 rfl rfl) rfl (fun qx E G' hp => by cases hp.1) (fun r Gf11 hp _ => ?_)
                obtain ⟨hvf11, hhf11⟩ := hp
                cases hvf11
                have hq12 : sq_person a1 a2 a3 a4 a5 a6 A = ((-6), (sq_no (-6) A).2) := by
                  simp [sq_person, sq_noTen, sq_no_1, eq_false fhgn1.1, eq_true fhgn1.2, eq_false fc22.1, eq_true fc22.2, c22, eq_false fc34.1, eq_true fc34.2, c34, c47, c47]
                exact hr_iret X hr dX0_person_161 (by rw [hq12]; exact ⟨rfl, ca, rfl, hhf11⟩)
            · obtain ⟨hgn10, hrn10, hGn10⟩ | ⟨hgn10, qn10, hrn10, htn10⟩ := hpn10
              · cases hgn10
              · cases hrn10
          · have fc47 : ¬ a4 < (0 : Int32) ∧ a4 ≤ nI 9 := sp_fr_t c47
            refine hr_iconst (v := (bI true)) (q := 51) X dX0_person_50 rfl rfl ?_
            refine hr_goto (tgt := 55) X dX0_person_51 (by decide) ?_
            refine hr_bipush (v := (-6)) (q := 57) X dX0_person_55 rfl rfl ?_
            refine hr_call (kr := 38) (nr := 2986) (q := 60) (hc_S (n := 2) (As := [.int (bI true), .int (-6)]) X dX0_person_57 rfl (tc_need X.tr (g := true) (w := (-6))) q383 cs_X0_need ⟨Nat.le_of_ble_eq_true rfl, Nat.le_of_ble_eq_true rfl⟩ rfl (Nat.le_of_ble_eq_true rfl)) rfl (fun qxn13 E Gxn13 hpn13 _ => ?_) (fun r Gn13 hpn13 _ => ?_)
            · obtain ⟨hgn13, hrn13, -⟩ | ⟨hgn13, qn13, hrn13, htn13⟩ := hpn13
              · cases hrn13
              · cases hgn13
            · obtain ⟨hgn13, hrn13, hGn13⟩ | ⟨hgn13, qn13, hrn13, htn13⟩ := hpn13
              · cases hrn13
                have hGn13 := hGn13.symm
                subst hGn13
                refine hr_iload5 (q := 62) X dX0_person_60 rfl ?_
                refine hr_i2l (v := a5.toInt64) (q := 63) X dX0_person_62 rfl rfl ?_
                refine hr_lconst (v := (lN 0)) (q := 64) X dX0_person_63 rfl rfl ?_
                refine hr_ldc2 (q := 67) X dX0_person_64 rfl q631 ?_
                refine hr_callP (v := .int (bI (sp_fr a5 (nI 0) (nI 9999)))) (q := 70) (hc_S (n := 3) (As := [.long a5.toInt64, .long (lN 0), .long 9999]) X dX0_person_67 rfl (tc_in X.tr (x := a5) (b := 0) (z := 9999) (by decide) (by decide)) q387 cs_X0_in ⟨Nat.le_of_ble_eq_true rfl, Nat.le_of_ble_eq_true rfl⟩ rfl (Nat.le_of_ble_eq_true rfl)) rfl ?_
                refine hr_ifB_eq (q := 73) (tgt := 89) X dX0_person_70 rfl (by decide) (fun c70 => ?_) (fun c70 => ?_)
                · have fc70 : a5 < (0 : Int32) ∨ (¬ a5 < (0 : Int32) ∧ ¬ a5 ≤ nI 9999) := sp_fr_f c70
                  refine hr_iconst (v := (bI false)) (q := 90) X dX0_person_89 rfl rfl ?_
                  refine hr_bipush (v := (-6)) (q := 92) X dX0_person_90 rfl rfl ?_
                  refine hr_call (kr := 37) (nr := 2979) (q := 95) (hc_S (n := 2) (As := [.int (bI false), .int (-6)]) X dX0_person_92 rfl (tc_need X.tr (g := false) (w := (-6))) q383 cs_X0_need ⟨Nat.le_of_ble_eq_true rfl, Nat.le_of_ble_eq_true rfl⟩ rfl (Nat.le_of_ble_eq_true rfl)) rfl (fun qxn14 E Gxn14 hpn14 _ => ?_) (fun r Gn14 hpn14 _ => ?_)
                  · obtain ⟨hgn14, hrn14, -⟩ | ⟨hgn14, qn14, hrn14, htn14⟩ := hpn14
                    · cases hrn14
                    · cases hrn14
                      have hxn14 := h.T htn14
                      refine hx_catch (name := "TaxOnLooks$Refused") X [] ⟨0, 152, 153, 21⟩ [] htab (fun z hz => nomatch hz) (by decide) (by decide) q277 (by decide) ?_
                      refine hr_astore7 (q := 155) X dX0_person_153 rfl rfl (Nat.le_of_ble_eq_true rfl) ?_
                      refine hr_aload0 (q := 156) X dX0_person_155 rfl ?_
                      refine hr_aload7 (q := 158) X dX0_person_156 rfl ?_
                      refine hr_call0 (q := 161) (hc_V (n := 1) (ci := 0) (As := [.ref qxn14]) X dX0_person_158 rfl (tc_refused X.tr hxn14 hW (q := qxn14) htn14.2.1 htn14.2.2.1 (k := 6) (by decide) (by decide) (by decide)) q452 cv_X0_refused ⟨Nat.le_of_ble_eq_true rfl, Nat.le_of_ble_eq_true rfl⟩ rfl (Nat.le_of_ble_eq_true rfl) hxn14.o.1 rfl rfl) rfl (fun qx E G' hp => by cases hp.1) (fun r Gf15 hp _ => ?_)
                      obtain ⟨hvf15, hhf15⟩ := hp
                      cases hvf15
                      have hq16 : sq_person a1 a2 a3 a4 a5 a6 A = ((-6), (sq_no (-6) A).2) := by
                        simp [sq_person, sq_noTen, sq_no_1, eq_false fhgn1.1, eq_true fhgn1.2, eq_false fc22.1, eq_true fc22.2, c22, eq_false fc34.1, eq_true fc34.2, c34, eq_false fc47.1, eq_true fc47.2, c47, c70, c70]
                      exact hr_iret X hr dX0_person_161 (by rw [hq16]; exact ⟨rfl, ca, rfl, hhf15⟩)
                  · obtain ⟨hgn14, hrn14, hGn14⟩ | ⟨hgn14, qn14, hrn14, htn14⟩ := hpn14
                    · cases hgn14
                    · cases hrn14
                · have fc70 : ¬ a5 < (0 : Int32) ∧ a5 ≤ nI 9999 := sp_fr_t c70
                  refine hr_aload0 (q := 74) X dX0_person_73 rfl ?_
                  refine hr_getR (v := (cp_w ca 0)) (q := 77) X dX0_person_74 rfl fr_q250_0 rfl h.o.1 h.o.2.2.2.2.2.2.1 ?_
                  refine hr_iload6 (q := 79) X dX0_person_77 rfl ?_
                  refine hr_callP (q := 82) (hc_V (n := 1) (ci := 2) (As := [.int a6]) X dX0_person_79 rfl (tn_isFree X.tr h.w hw (x := a6)) q632 cv_X2_isFree ⟨Nat.le_of_ble_eq_true rfl, Nat.le_of_ble_eq_true rfl⟩ rfl (Nat.le_of_ble_eq_true rfl) h.w.ob rfl rfl) rfl ?_
                  refine hr_ifB_eq (q := 85) (tgt := 89) X dX0_person_82 rfl (by decide) (fun c82 => ?_) (fun c82 => ?_)
                  · have fc82 := sp_free_f c82
                    refine hr_iconst (v := (bI false)) (q := 90) X dX0_person_89 rfl rfl ?_
                    refine hr_bipush (v := (-6)) (q := 92) X dX0_person_90 rfl rfl ?_
                    refine hr_call (kr := 37) (nr := 2979) (q := 95) (hc_S (n := 2) (As := [.int (bI false), .int (-6)]) X dX0_person_92 rfl (tc_need X.tr (g := false) (w := (-6))) q383 cs_X0_need ⟨Nat.le_of_ble_eq_true rfl, Nat.le_of_ble_eq_true rfl⟩ rfl (Nat.le_of_ble_eq_true rfl)) rfl (fun qxn17 E Gxn17 hpn17 _ => ?_) (fun r Gn17 hpn17 _ => ?_)
                    · obtain ⟨hgn17, hrn17, -⟩ | ⟨hgn17, qn17, hrn17, htn17⟩ := hpn17
                      · cases hrn17
                      · cases hrn17
                        have hxn17 := h.T htn17
                        refine hx_catch (name := "TaxOnLooks$Refused") X [] ⟨0, 152, 153, 21⟩ [] htab (fun z hz => nomatch hz) (by decide) (by decide) q277 (by decide) ?_
                        refine hr_astore7 (q := 155) X dX0_person_153 rfl rfl (Nat.le_of_ble_eq_true rfl) ?_
                        refine hr_aload0 (q := 156) X dX0_person_155 rfl ?_
                        refine hr_aload7 (q := 158) X dX0_person_156 rfl ?_
                        refine hr_call0 (q := 161) (hc_V (n := 1) (ci := 0) (As := [.ref qxn17]) X dX0_person_158 rfl (tc_refused X.tr hxn17 hW (q := qxn17) htn17.2.1 htn17.2.2.1 (k := 6) (by decide) (by decide) (by decide)) q452 cv_X0_refused ⟨Nat.le_of_ble_eq_true rfl, Nat.le_of_ble_eq_true rfl⟩ rfl (Nat.le_of_ble_eq_true rfl) hxn17.o.1 rfl rfl) rfl (fun qx E G' hp => by cases hp.1) (fun r Gf18 hp _ => ?_)
                        obtain ⟨hvf18, hhf18⟩ := hp
                        cases hvf18
                        have hq19 : sq_person a1 a2 a3 a4 a5 a6 A = ((-6), (sq_no (-6) A).2) := by
                          rcases fc82 with g | ⟨g, g2⟩
                          · simp [sq_person, sq_noTen, sq_no_1, eq_false fhgn1.1, eq_true fhgn1.2, eq_false fc22.1, eq_true fc22.2, c22, eq_false fc34.1, eq_true fc34.2, c34, eq_false fc47.1, eq_true fc47.2, c47, eq_false fc70.1, eq_true fc70.2, c70, g]
                          · simp [sq_person, sq_noTen, sq_no_1, eq_false fhgn1.1, eq_true fhgn1.2, eq_false fc22.1, eq_true fc22.2, c22, eq_false fc34.1, eq_true fc34.2, c34, eq_false fc47.1, eq_true fc47.2, c47, eq_false fc70.1, eq_true fc70.2, c70, g, eq_true g2]
                        exact hr_iret X hr dX0_person_161 (by rw [hq19]; exact ⟨rfl, ca, rfl, hhf18⟩)
                    · obtain ⟨hgn17, hrn17, hGn17⟩ | ⟨hgn17, qn17, hrn17, htn17⟩ := hpn17
                      · cases hgn17
                      · cases hrn17
                  · obtain ⟨fc82, kc82⟩ := sp_free_t c82
                    obtain ⟨ea6, la6⟩ := sp_in_n fc82 (by omega)
                    refine hr_L (L' := [some (.ref (ca 0)), some (.int a1), some (.int a2), some (.int a3), some (.int a4), some (.int a5), some (.int (nI (iN a6))), none]) (by rw [← ea6]) ?_
                    refine hr_iconst (v := (bI true)) (q := 86) X dX0_person_85 rfl rfl ?_
                    refine hr_goto (tgt := 90) X dX0_person_86 (by decide) ?_
                    refine hr_bipush (v := (-6)) (q := 92) X dX0_person_90 rfl rfl ?_
                    refine hr_call (kr := 37) (nr := 2979) (q := 95) (hc_S (n := 2) (As := [.int (bI true), .int (-6)]) X dX0_person_92 rfl (tc_need X.tr (g := true) (w := (-6))) q383 cs_X0_need ⟨Nat.le_of_ble_eq_true rfl, Nat.le_of_ble_eq_true rfl⟩ rfl (Nat.le_of_ble_eq_true rfl)) rfl (fun qxn20 E Gxn20 hpn20 _ => ?_) (fun r Gn20 hpn20 _ => ?_)
                    · obtain ⟨hgn20, hrn20, -⟩ | ⟨hgn20, qn20, hrn20, htn20⟩ := hpn20
                      · cases hrn20
                      · cases hgn20
                    · obtain ⟨hgn20, hrn20, hGn20⟩ | ⟨hgn20, qn20, hrn20, htn20⟩ := hpn20
                      · cases hrn20
                        have hGn20 := hGn20.symm
                        subst hGn20
                        refine hr_aload0 (q := 96) X dX0_person_95 rfl ?_
                        refine hr_getR (v := (cp_w ca 0)) (q := 99) X dX0_person_96 rfl fr_q250_0 rfl h.o.1 h.o.2.2.2.2.2.2.1 ?_
                        refine hr_getI (v := (nI (A.1.1 0 0))) (q := 102) X dX0_person_99 rfl fr_q154_2 rfl h.w.ob h.w.f0 ?_
                        refine hr_bipush (v := (nI 7)) (q := 104) X dX0_person_102 rfl rfl ?_
                        refine hr_icmpN_ge (q := 107) (tgt := 111) X dX0_person_104 rfl (by decide) (by omega) (by omega) (fun c104 => ?_) (fun c104 => ?_)
                        · have hm9 : A.1.1 0 0 = 7 := by omega
                          refine hr_iconst (v := (bI false)) (q := 112) X dX0_person_111 rfl rfl ?_
                          refine hr_bipush (v := (-7)) (q := 114) X dX0_person_112 rfl rfl ?_
                          refine hr_call (kr := 36) (nr := 2972) (q := 117) (hc_S (n := 2) (As := [.int (bI false), .int (-7)]) X dX0_person_114 rfl (tc_need X.tr (g := false) (w := (-7))) q383 cs_X0_need ⟨Nat.le_of_ble_eq_true rfl, Nat.le_of_ble_eq_true rfl⟩ rfl (Nat.le_of_ble_eq_true rfl)) rfl (fun qxn21 E Gxn21 hpn21 _ => ?_) (fun r Gn21 hpn21 _ => ?_)
                          · obtain ⟨hgn21, hrn21, -⟩ | ⟨hgn21, qn21, hrn21, htn21⟩ := hpn21
                            · cases hrn21
                            · cases hrn21
                              have hxn21 := h.T htn21
                              refine hx_catch (name := "TaxOnLooks$Refused") X [] ⟨0, 152, 153, 21⟩ [] htab (fun z hz => nomatch hz) (by decide) (by decide) q277 (by decide) ?_
                              refine hr_astore7 (q := 155) X dX0_person_153 rfl rfl (Nat.le_of_ble_eq_true rfl) ?_
                              refine hr_aload0 (q := 156) X dX0_person_155 rfl ?_
                              refine hr_aload7 (q := 158) X dX0_person_156 rfl ?_
                              refine hr_call0 (q := 161) (hc_V (n := 1) (ci := 0) (As := [.ref qxn21]) X dX0_person_158 rfl (tc_refused X.tr hxn21 hW (q := qxn21) htn21.2.1 htn21.2.2.1 (k := 7) (by decide) (by decide) (by decide)) q452 cv_X0_refused ⟨Nat.le_of_ble_eq_true rfl, Nat.le_of_ble_eq_true rfl⟩ rfl (Nat.le_of_ble_eq_true rfl) hxn21.o.1 rfl rfl) rfl (fun qx E G' hp => by cases hp.1) (fun r Gf22 hp _ => ?_)
                              obtain ⟨hvf22, hhf22⟩ := hp
                              cases hvf22
                              have hq23 : sq_person a1 a2 a3 a4 a5 a6 A = ((-7), (sq_no (-7) A).2) := by
                                simp [sq_person, sq_noTen, sq_no_1, eq_false fhgn1.1, eq_true fhgn1.2, eq_false fc22.1, eq_true fc22.2, c22, eq_false fc34.1, eq_true fc34.2, c34, eq_false fc47.1, eq_true fc47.2, c47, eq_false fc70.1, eq_true fc70.2, c70, fc82, eq_false kc82, hm9]
                              exact hr_iret X hr dX0_person_161 (by rw [hq23]; exact ⟨rfl, ca, rfl, hhf22⟩)
                          · obtain ⟨hgn21, hrn21, hGn21⟩ | ⟨hgn21, qn21, hrn21, htn21⟩ := hpn21
                            · cases hgn21
                            · cases hrn21
                        · have hm9 : ¬ A.1.1 0 0 = 7 := by omega
                          refine hr_iconst (v := (bI true)) (q := 108) X dX0_person_107 rfl rfl ?_
                          refine hr_goto (tgt := 112) X dX0_person_108 (by decide) ?_
                          refine hr_bipush (v := (-7)) (q := 114) X dX0_person_112 rfl rfl ?_
                          refine hr_call (kr := 36) (nr := 2972) (q := 117) (hc_S (n := 2) (As := [.int (bI true), .int (-7)]) X dX0_person_114 rfl (tc_need X.tr (g := true) (w := (-7))) q383 cs_X0_need ⟨Nat.le_of_ble_eq_true rfl, Nat.le_of_ble_eq_true rfl⟩ rfl (Nat.le_of_ble_eq_true rfl)) rfl (fun qxn24 E Gxn24 hpn24 _ => ?_) (fun r Gn24 hpn24 _ => ?_)
                          · obtain ⟨hgn24, hrn24, -⟩ | ⟨hgn24, qn24, hrn24, htn24⟩ := hpn24
                            · cases hrn24
                            · cases hgn24
                          · obtain ⟨hgn24, hrn24, hGn24⟩ | ⟨hgn24, qn24, hrn24, htn24⟩ := hpn24
                            · cases hrn24
                              have hGn24 := hGn24.symm
                              subst hGn24
                              have hm7 : A.1.1 0 0 < 7 := by omega
                              obtain ⟨ea1, la1, ma1⟩ := sp_fr_n (by decide) (by decide) fhgn1.1 fhgn1.2
                              refine hr_L (L' := [some (.ref (ca 0)), some (.int (nI (iN a1))), some (.int a2), some (.int a3), some (.int a4), some (.int a5), some (.int (nI (iN a6))), none]) (by rw [← ea1]) ?_
                              obtain ⟨ea2, la2, ma2⟩ := sp_fr_n (by decide) (by decide) fc22.1 fc22.2
                              refine hr_L (L' := [some (.ref (ca 0)), some (.int (nI (iN a1))), some (.int (nI (iN a2))), some (.int a3), some (.int a4), some (.int a5), some (.int (nI (iN a6))), none]) (by rw [← ea2]) ?_
                              obtain ⟨ea3, la3, ma3⟩ := sp_fr_n (by decide) (by decide) fc34.1 fc34.2
                              refine hr_L (L' := [some (.ref (ca 0)), some (.int (nI (iN a1))), some (.int (nI (iN a2))), some (.int (nI (iN a3))), some (.int a4), some (.int a5), some (.int (nI (iN a6))), none]) (by rw [← ea3]) ?_
                              obtain ⟨ea4, la4, ma4⟩ := sp_fr_n (by decide) (by decide) fc47.1 fc47.2
                              refine hr_L (L' := [some (.ref (ca 0)), some (.int (nI (iN a1))), some (.int (nI (iN a2))), some (.int (nI (iN a3))), some (.int (nI (iN a4))), some (.int a5), some (.int (nI (iN a6))), none]) (by rw [← ea4]) ?_
                              obtain ⟨ea5, la5, ma5⟩ := sp_fr_n (by decide) (by decide) fc70.1 fc70.2
                              refine hr_L (L' := [some (.ref (ca 0)), some (.int (nI (iN a1))), some (.int (nI (iN a2))), some (.int (nI (iN a3))), some (.int (nI (iN a4))), some (.int (nI (iN a5))), some (.int (nI (iN a6))), none]) (by rw [← ea5]) ?_
                              have l9 := la1; have m9 := ma1
                              refine hr_aload0 (q := 118) X dX0_person_117 rfl ?_
                              refine hr_getR (v := (cp_w ca 0)) (q := 121) X dX0_person_118 rfl fr_q250_0 rfl h.o.1 h.o.2.2.2.2.2.2.1 ?_
                              refine hr_iload1 (q := 122) X dX0_person_121 rfl ?_
                              refine hr_aload0 (q := 123) X dX0_person_122 rfl ?_
                              refine hr_getR (v := (cp_w ca 0)) (q := 126) X dX0_person_123 rfl fr_q250_0 rfl h.o.1 h.o.2.2.2.2.2.2.1 ?_
                              refine hr_getI (v := (nI (A.1.1 0 0))) (q := 129) X dX0_person_126 rfl fr_q154_2 rfl h.w.ob h.w.f0 ?_
                              refine hr_iload2 (q := 130) X dX0_person_129 rfl ?_
                              refine hr_iload4 (q := 132) X dX0_person_130 rfl ?_
                              refine hr_call (kr := 35) (nr := 2969) (q := 135) (hc_S (n := 4) (As := [.int (nI (iN a1)), .int (nI (A.1.1 0 0)), .int (nI (iN a2)), .int (nI (iN a4))]) X dX0_person_132 rfl (tc_person X.tr (k := iN a1) (by omega) (x := (nI (A.1.1 0 0))) (y := (nI (iN a2))) (z := (nI (iN a4)))) q640 cs_X0_personOfKind ⟨Nat.le_of_ble_eq_true rfl, Nat.le_of_ble_eq_true rfl⟩ rfl (Nat.le_of_ble_eq_true rfl)) rfl (fun qx E G' hp _ => by obtain ⟨b, hb, -⟩ := hp; cases hb) (fun r Gp hp _ => ?_)
                              obtain ⟨b9, hv9, hb9, hG9⟩ := hp
                              cases hv9
                              have hp9 : cp_R Gp ca A := h.bt hb9 (by rw [hG9]; exact hg_bt.N.tr (hg_bt.I.tr (hg_bt.I.tr hg_bt.I)))
                              have hk9 : Gp.1 b9 = some (0, 12 + iN a1) := by rw [hG9]; exact if_pos rfl
                              have h09 : Gp.2.1 b9 0 = nI (A.1.1 0 0) := by rw [hG9]; simp [hs_II]
                              have h19 : Gp.2.1 b9 1 = nI (iN a2) := by rw [hG9]; simp [hs_II]
                              have h29 : Gp.2.1 b9 2 = nI (iN a4) := by rw [hG9]; simp [hs_II]
                              refine hr_iload3 (q := 136) X dX0_person_135 rfl ?_
                              refine hr_iload5 (q := 138) X dX0_person_136 rfl ?_
                              refine hr_iload6 (q := 140) X dX0_person_138 rfl ?_
                              refine hr_call0 (q := 143) (hc_V (n := 4) (ci := 2) (As := [.ref b9, .int (nI (iN a3)), .int (nI (iN a5)), .int (nI (iN a6))]) X dX0_person_140 rfl (tn_addPerson X.tr hp9.w hw hp9.wD hm7 (q := b9) (k := iN a1) (b1 := iN a2) (s1 := iN a4) (l1 := iN a3) (m1 := iN a5) (c1 := iN a6) (by omega) hk9 h09 h19 h29) q740 cv_X2_addPerson ⟨Nat.le_of_ble_eq_true rfl, Nat.le_of_ble_eq_true rfl⟩ rfl (Nat.le_of_ble_eq_true rfl) hp9.w.ob rfl rfl) rfl (fun qx E G' hp => by cases hp.1.1) (fun r Gq hp _ => ?_)
                              obtain ⟨⟨hvq, hTq, -, hfq, hpq⟩, -⟩ := hp
                              cases hvq
                              have hq9 : cp_R Gq ca (sp_add A.1 (iN a1) (iN a2) (iN a3) (iN a4) (iN a5) (iN a6), A.2) := hp9.town2 hW (cp_Ww hfq) hpq hTq (fun a h1 _ => sp_add_hi h1) rfl rfl
                              refine hr_aload0 (q := 144) X dX0_person_143 rfl ?_
                              refine hr_getR (v := (cp_w ca 0)) (q := 147) X dX0_person_144 rfl fr_q250_0 rfl hq9.o.1 hq9.o.2.2.2.2.2.2.1 ?_
                              refine hr_getI (v := (nI ((sp_add A.1 (iN a1) (iN a2) (iN a3) (iN a4) (iN a5) (iN a6), A.2).1.1 0 0))) (q := 150) X dX0_person_147 rfl fr_q154_2 rfl hq9.w.ob hq9.w.f0 ?_
                              refine hr_st1 (v' := .int (nI (A.1.1 0 0 + 1))) (congrArg Value.int (congrArg nI sp_add_0)) ?_
                              refine hr_iconst (v := (nI 1)) (q := 151) X dX0_person_150 rfl rfl ?_
                              refine hr_isub (v := (nI ((A.1.1 0 0 + 1) - 1))) (q := 152) X dX0_person_151 rfl (pk_sub (by omega)) ?_
                              refine hr_st1 (v' := .int ((sq_adds (iN a1) (iN a2) (iN a3) (iN a4) (iN a5) (iN a6) A).1)) (congrArg Value.int (congrArg nI (Nat.add_sub_cancel _ _))) ?_
                              have hq25 : sq_person a1 a2 a3 a4 a5 a6 A = (((sq_adds (iN a1) (iN a2) (iN a3) (iN a4) (iN a5) (iN a6) A).1), (sq_adds (iN a1) (iN a2) (iN a3) (iN a4) (iN a5) (iN a6) A).2) := by
                                simp [sq_person, sq_noTen, sq_no_1, eq_false fhgn1.1, eq_true fhgn1.2, eq_false fc22.1, eq_true fc22.2, c22, eq_false fc34.1, eq_true fc34.2, c34, eq_false fc47.1, eq_true fc47.2, c47, eq_false fc70.1, eq_true fc70.2, c70, fc82, eq_false kc82, eq_false hm9]
                              exact hr_iret X hr dX0_person_152 (by rw [hq25]; exact ⟨rfl, ca, rfl, hq9⟩)
                            · cases hrn24
                      · cases hrn20
              · cases hrn13
    · cases hrn1

