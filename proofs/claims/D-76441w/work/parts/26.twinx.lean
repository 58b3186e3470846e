theorem tk_carriesAll33F {l : Launch} {D : hg_D} {lo : Nat} (htr : l.stackTraces = false) {G : hg_G} {o : Nat} {am : Nat → Nat} {u : tw_S} (hR : tw_R G o am u) :
    hg_M l D lo yX5_carriesAll (ws_ yX5_carriesAll cX5_carriesAll 4 (none)) rm_X5_carriesAll [.ref o, .ref (am 33), .int (bI false)] G (fun r G' => r = .inl none ∧ tw_R G' o am (tw_carF u 33)) := by
  refine hg_M.of htr (by decide) [some (.ref o), some (.ref (am 33)), some (.int (bI false)), none] rfl (Nat.le_of_ble_eq_true rfl) ?_
  intro p e s m args below meth c X hr hnm htab
  have X : hg_X p l s m args meth c D lo "TaxOnLooksModel" cX5_carriesAll 4 := X
  refine hr_aload0 (q := 1) X dX5_carriesAll_0 rfl ?_
  refine hr_aload0 (q := 2) X dX5_carriesAll_1 rfl ?_
  refine hr_getR (v := am 9) (q := 5) X dX5_carriesAll_2 rfl fr_q1391_5 rfl hR.om (hR.f rfl) ?_
  refine hr_bipush (v := (nI 7)) (q := 7) X dX5_carriesAll_5 rfl rfl ?_
  refine hr_aload1 (q := 8) X dX5_carriesAll_7 rfl ?_
  refine hr_iconst (v := (nI 0)) (q := 9) X dX5_carriesAll_8 rfl rfl ?_
  refine hr_iload2 (q := 10) X dX5_carriesAll_9 rfl ?_
  refine hr_call0 (q := 13) (hc_V (n := 5) (ci := 5) (As := [.ref (am 9), .int (nI 7), .ref (am 33), .int (nI 0), .int (bI false)]) X dX5_carriesAll_10 rfl (tk_carriesF X.tr hR (k := 9) (q := 33) (N := 7) (M := 130) (f := 0) rfl rfl rfl rfl rfl rfl (by decide) (by decide) (by decide)) q1623 cv_X5_carries ⟨Nat.le_of_ble_eq_true rfl, Nat.le_of_ble_eq_true rfl⟩ rfl (Nat.le_of_ble_eq_true rfl) hR.om rfl rfl) rfl (fun qx E G' hp => by cases hp.1) (fun r G1 hp _ => ?_)
  obtain ⟨hv1, hS1⟩ := hp
  cases hv1
  refine hr_istore3 (q := 14) X dX5_carriesAll_13 rfl rfl (Nat.le_of_ble_eq_true rfl) ?_
  refine hr_aload0 (q := 15) X dX5_carriesAll_14 rfl ?_
  refine hr_aload0 (q := 16) X dX5_carriesAll_15 rfl ?_
  refine hr_getR (v := am 10) (q := 19) X dX5_carriesAll_16 rfl fr_q1392_5 rfl hS1.om (hS1.f rfl) ?_
  refine hr_bipush (v := (nI 7)) (q := 21) X dX5_carriesAll_19 rfl rfl ?_
  refine hr_aload1 (q := 22) X dX5_carriesAll_21 rfl ?_
  refine hr_iload3 (q := 23) X dX5_carriesAll_22 rfl ?_
  refine hr_iload2 (q := 24) X dX5_carriesAll_23 rfl ?_
  refine hr_call0 (q := 27) (hc_V (n := 5) (ci := 5) (As := [.ref (am 10), .int (nI 7), .ref (am 33), .int (nI 7), .int (bI false)]) X dX5_carriesAll_24 rfl (tk_carriesF X.tr hS1 (k := 10) (q := 33) (N := 7) (M := 130) (f := 7) rfl rfl rfl rfl rfl rfl (by decide) (by decide) (by decide)) q1623 cv_X5_carries ⟨Nat.le_of_ble_eq_true rfl, Nat.le_of_ble_eq_true rfl⟩ rfl (Nat.le_of_ble_eq_true rfl) hS1.om rfl rfl) rfl (fun qx E G' hp => by cases hp.1) (fun r G2 hp _ => ?_)
  obtain ⟨hv2, hS2⟩ := hp
  cases hv2
  refine hr_istore3 (q := 28) X dX5_carriesAll_27 rfl rfl (Nat.le_of_ble_eq_true rfl) ?_
  refine hr_aload0 (q := 29) X dX5_carriesAll_28 rfl ?_
  refine hr_aload0 (q := 30) X dX5_carriesAll_29 rfl ?_
  refine hr_getR (v := am 11) (q := 33) X dX5_carriesAll_30 rfl fr_q1393_5 rfl hS2.om (hS2.f rfl) ?_
  refine hr_bipush (v := (nI 7)) (q := 35) X dX5_carriesAll_33 rfl rfl ?_
  refine hr_aload1 (q := 36) X dX5_carriesAll_35 rfl ?_
  refine hr_iload3 (q := 37) X dX5_carriesAll_36 rfl ?_
  refine hr_iload2 (q := 38) X dX5_carriesAll_37 rfl ?_
  refine hr_call0 (q := 41) (hc_V (n := 5) (ci := 5) (As := [.ref (am 11), .int (nI 7), .ref (am 33), .int (nI 14), .int (bI false)]) X dX5_carriesAll_38 rfl (tk_carriesF X.tr hS2 (k := 11) (q := 33) (N := 7) (M := 130) (f := 14) rfl rfl rfl rfl rfl rfl (by decide) (by decide) (by decide)) q1623 cv_X5_carries ⟨Nat.le_of_ble_eq_true rfl, Nat.le_of_ble_eq_true rfl⟩ rfl (Nat.le_of_ble_eq_true rfl) hS2.om rfl rfl) rfl (fun qx E G' hp => by cases hp.1) (fun r G3 hp _ => ?_)
  obtain ⟨hv3, hS3⟩ := hp
  cases hv3
  refine hr_istore3 (q := 42) X dX5_carriesAll_41 rfl rfl (Nat.le_of_ble_eq_true rfl) ?_
  refine hr_aload0 (q := 43) X dX5_carriesAll_42 rfl ?_
  refine hr_aload0 (q := 44) X dX5_carriesAll_43 rfl ?_
  refine hr_getR (v := am 12) (q := 47) X dX5_carriesAll_44 rfl fr_q1394_5 rfl hS3.om (hS3.f rfl) ?_
  refine hr_bipush (v := (nI 7)) (q := 49) X dX5_carriesAll_47 rfl rfl ?_
  refine hr_aload1 (q := 50) X dX5_carriesAll_49 rfl ?_
  refine hr_iload3 (q := 51) X dX5_carriesAll_50 rfl ?_
  refine hr_iload2 (q := 52) X dX5_carriesAll_51 rfl ?_
  refine hr_call0 (q := 55) (hc_V (n := 5) (ci := 5) (As := [.ref (am 12), .int (nI 7), .ref (am 33), .int (nI 21), .int (bI false)]) X dX5_carriesAll_52 rfl (tk_carriesF X.tr hS3 (k := 12) (q := 33) (N := 7) (M := 130) (f := 21) rfl rfl rfl rfl rfl rfl (by decide) (by decide) (by decide)) q1623 cv_X5_carries ⟨Nat.le_of_ble_eq_true rfl, Nat.le_of_ble_eq_true rfl⟩ rfl (Nat.le_of_ble_eq_true rfl) hS3.om rfl rfl) rfl (fun qx E G' hp => by cases hp.1) (fun r G4 hp _ => ?_)
  obtain ⟨hv4, hS4⟩ := hp
  cases hv4
  refine hr_istore3 (q := 56) X dX5_carriesAll_55 rfl rfl (Nat.le_of_ble_eq_true rfl) ?_
  refine hr_aload0 (q := 57) X dX5_carriesAll_56 rfl ?_
  refine hr_aload0 (q := 58) X dX5_carriesAll_57 rfl ?_
  refine hr_getR (v := am 13) (q := 61) X dX5_carriesAll_58 rfl fr_q1395_5 rfl hS4.om (hS4.f rfl) ?_
  refine hr_bipush (v := (nI 7)) (q := 63) X dX5_carriesAll_61 rfl rfl ?_
  refine hr_aload1 (q := 64) X dX5_carriesAll_63 rfl ?_
  refine hr_iload3 (q := 65) X dX5_carriesAll_64 rfl ?_
  refine hr_iload2 (q := 66) X dX5_carriesAll_65 rfl ?_
  refine hr_call0 (q := 69) (hc_V (n := 5) (ci := 5) (As := [.ref (am 13), .int (nI 7), .ref (am 33), .int (nI 28), .int (bI false)]) X dX5_carriesAll_66 rfl (tk_carriesF X.tr hS4 (k := 13) (q := 33) (N := 7) (M := 130) (f := 28) rfl rfl rfl rfl rfl rfl (by decide) (by decide) (by decide)) q1623 cv_X5_carries ⟨Nat.le_of_ble_eq_true rfl, Nat.le_of_ble_eq_true rfl⟩ rfl (Nat.le_of_ble_eq_true rfl) hS4.om rfl rfl) rfl (fun qx E G' hp => by cases hp.1) (fun r G5 hp _ => ?_)
  obtain ⟨hv5, hS5⟩ := hp
  cases hv5
  refine hr_istore3 (q := 70) X dX5_carriesAll_69 rfl rfl (Nat.le_of_ble_eq_true rfl) ?_
  refine hr_aload0 (q := 71) X dX5_carriesAll_70 rfl ?_
  refine hr_aload0 (q := 72) X dX5_carriesAll_71 rfl ?_
  refine hr_getR (v := am 14) (q := 75) X dX5_carriesAll_72 rfl fr_q1396_5 rfl hS5.om (hS5.f rfl) ?_
  refine hr_bipush (v := (nI 7)) (q := 77) X dX5_carriesAll_75 rfl rfl ?_
  refine hr_aload1 (q := 78) X dX5_carriesAll_77 rfl ?_
  refine hr_iload3 (q := 79) X dX5_carriesAll_78 rfl ?_
  refine hr_iload2 (q := 80) X dX5_carriesAll_79 rfl ?_
  refine hr_call0 (q := 83) (hc_V (n := 5) (ci := 5) (As := [.ref (am 14), .int (nI 7), .ref (am 33), .int (nI 35), .int (bI false)]) X dX5_carriesAll_80 rfl (tk_carriesF X.tr hS5 (k := 14) (q := 33) (N := 7) (M := 130) (f := 35) rfl rfl rfl rfl rfl rfl (by decide) (by decide) (by decide)) q1623 cv_X5_carries ⟨Nat.le_of_ble_eq_true rfl, Nat.le_of_ble_eq_true rfl⟩ rfl (Nat.le_of_ble_eq_true rfl) hS5.om rfl rfl) rfl (fun qx E G' hp => by cases hp.1) (fun r G6 hp _ => ?_)
  obtain ⟨hv6, hS6⟩ := hp
  cases hv6
  refine hr_istore3 (q := 84) X dX5_carriesAll_83 rfl rfl (Nat.le_of_ble_eq_true rfl) ?_
  refine hr_aload0 (q := 85) X dX5_carriesAll_84 rfl ?_
  refine hr_aload0 (q := 86) X dX5_carriesAll_85 rfl ?_
  refine hr_getR (v := am 15) (q := 89) X dX5_carriesAll_86 rfl fr_q1397_5 rfl hS6.om (hS6.f rfl) ?_
  refine hr_bipush (v := (nI 7)) (q := 91) X dX5_carriesAll_89 rfl rfl ?_
  refine hr_aload1 (q := 92) X dX5_carriesAll_91 rfl ?_
  refine hr_iload3 (q := 93) X dX5_carriesAll_92 rfl ?_
  refine hr_iload2 (q := 94) X dX5_carriesAll_93 rfl ?_
  refine hr_call0 (q := 97) (hc_V (n := 5) (ci := 5) (As := [.ref (am 15), .int (nI 7), .ref (am 33), .int (nI 42), .int (bI false)]) X dX5_carriesAll_94 rfl (tk_carriesF X.tr hS6 (k := 15) (q := 33) (N := 7) (M := 130) (f := 42) rfl rfl rfl rfl rfl rfl (by decide) (by decide) (by decide)) q1623 cv_X5_carries ⟨Nat.le_of_ble_eq_true rfl, Nat.le_of_ble_eq_true rfl⟩ rfl (Nat.le_of_ble_eq_true rfl) hS6.om rfl rfl) rfl (fun qx E G' hp => by cases hp.1) (fun r G7 hp _ => ?_)
  obtain ⟨hv7, hS7⟩ := hp
  cases hv7
  refine hr_istore3 (q := 98) X dX5_carriesAll_97 rfl rfl (Nat.le_of_ble_eq_true rfl) ?_
  refine hr_aload0 (q := 99) X dX5_carriesAll_98 rfl ?_
  refine hr_aload0 (q := 100) X dX5_carriesAll_99 rfl ?_
  refine hr_getR (v := am 16) (q := 103) X dX5_carriesAll_100 rfl fr_q1398_5 rfl hS7.om (hS7.f rfl) ?_
  refine hr_bipush (v := (nI 36)) (q := 105) X dX5_carriesAll_103 rfl rfl ?_
  refine hr_aload1 (q := 106) X dX5_carriesAll_105 rfl ?_
  refine hr_iload3 (q := 107) X dX5_carriesAll_106 rfl ?_
  refine hr_iload2 (q := 108) X dX5_carriesAll_107 rfl ?_
  refine hr_call0 (q := 111) (hc_V (n := 5) (ci := 5) (As := [.ref (am 16), .int (nI 36), .ref (am 33), .int (nI 49), .int (bI false)]) X dX5_carriesAll_108 rfl (tk_carriesF X.tr hS7 (k := 16) (q := 33) (N := 36) (M := 130) (f := 49) rfl rfl rfl rfl rfl rfl (by decide) (by decide) (by decide)) q1623 cv_X5_carries ⟨Nat.le_of_ble_eq_true rfl, Nat.le_of_ble_eq_true rfl⟩ rfl (Nat.le_of_ble_eq_true rfl) hS7.om rfl rfl) rfl (fun qx E G' hp => by cases hp.1) (fun r G8 hp _ => ?_)
  obtain ⟨hv8, hS8⟩ := hp
  cases hv8
  refine hr_istore3 (q := 112) X dX5_carriesAll_111 rfl rfl (Nat.le_of_ble_eq_true rfl) ?_
  refine hr_aload0 (q := 113) X dX5_carriesAll_112 rfl ?_
  refine hr_aload0 (q := 114) X dX5_carriesAll_113 rfl ?_
  refine hr_getR (v := am 17) (q := 117) X dX5_carriesAll_114 rfl fr_q1399_5 rfl hS8.om (hS8.f rfl) ?_
  refine hr_bipush (v := (nI 36)) (q := 119) X dX5_carriesAll_117 rfl rfl ?_
  refine hr_aload1 (q := 120) X dX5_carriesAll_119 rfl ?_
  refine hr_iload3 (q := 121) X dX5_carriesAll_120 rfl ?_
  refine hr_iload2 (q := 122) X dX5_carriesAll_121 rfl ?_
  refine hr_call0 (q := 125) (hc_V (n := 5) (ci := 5) (As := [.ref (am 17), .int (nI 36), .ref (am 33), .int (nI 85), .int (bI false)]) X dX5_carriesAll_122 rfl (tk_carriesF X.tr hS8 (k := 17) (q := 33) (N := 36) (M := 130) (f := 85) rfl rfl rfl rfl rfl rfl (by decide) (by decide) (by decide)) q1623 cv_X5_carries ⟨Nat.le_of_ble_eq_true rfl, Nat.le_of_ble_eq_true rfl⟩ rfl (Nat.le_of_ble_eq_true rfl) hS8.om rfl rfl) rfl (fun qx E G' hp => by cases hp.1) (fun r G9 hp _ => ?_)
  obtain ⟨hv9, hS9⟩ := hp
  cases hv9
  refine hr_istore3 (q := 126) X dX5_carriesAll_125 rfl rfl (Nat.le_of_ble_eq_true rfl) ?_
  refine hr_iload2 (q := 127) X dX5_carriesAll_126 rfl ?_
  refine hr_ifB_eq (q := 130) (tgt := 195) X dX5_carriesAll_127 rfl (by decide) (fun c127 => ?_) (fun c127 => ?_)
  · refine hr_aload1 (q := 196) X dX5_carriesAll_195 rfl ?_
    refine hr_iload3 (q := 197) X dX5_carriesAll_196 rfl ?_
    refine hr_aload0 (q := 198) X dX5_carriesAll_197 rfl ?_
    refine hr_getI (v := u.1 0) (q := 201) X dX5_carriesAll_198 rfl fr_q1382_5 rfl hS9.om (hS9.sc 0) ?_
    refine hr_iastN (q := 202) X dX5_carriesAll_201 rfl (hS9.ka (n := 130) rfl rfl rfl) (by decide) (by decide) ?_
    have hR10 := hS9.setA (k := 33) rfl 121 (u.1 0)
    refine hr_aload1 (q := 203) X dX5_carriesAll_202 rfl ?_
    refine hr_iload3 (q := 204) X dX5_carriesAll_203 rfl ?_
    refine hr_iconst (v := (nI 1)) (q := 205) X dX5_carriesAll_204 rfl rfl ?_
    refine hr_iadd (v := (nI 122)) (q := 206) X dX5_carriesAll_205 rfl (by decide) ?_
    refine hr_aload0 (q := 207) X dX5_carriesAll_206 rfl ?_
    refine hr_getI (v := u.1 1) (q := 210) X dX5_carriesAll_207 rfl fr_q1383_5 rfl hR10.om (hR10.sc 1) ?_
    refine hr_iastN (q := 211) X dX5_carriesAll_210 rfl (hR10.ka (n := 130) rfl rfl rfl) (by decide) (by decide) ?_
    have hR11 := hR10.setA (k := 33) rfl 122 (u.1 1)
    refine hr_aload1 (q := 212) X dX5_carriesAll_211 rfl ?_
    refine hr_iload3 (q := 213) X dX5_carriesAll_212 rfl ?_
    refine hr_iconst (v := (nI 2)) (q := 214) X dX5_carriesAll_213 rfl rfl ?_
    refine hr_iadd (v := (nI 123)) (q := 215) X dX5_carriesAll_214 rfl (by decide) ?_
    refine hr_aload0 (q := 216) X dX5_carriesAll_215 rfl ?_
    refine hr_getI (v := u.1 2) (q := 219) X dX5_carriesAll_216 rfl fr_q1384_5 rfl hR11.om (hR11.sc 2) ?_
    refine hr_iastN (q := 220) X dX5_carriesAll_219 rfl (hR11.ka (n := 130) rfl rfl rfl) (by decide) (by decide) ?_
    have hR12 := hR11.setA (k := 33) rfl 123 (u.1 2)
    refine hr_aload1 (q := 221) X dX5_carriesAll_220 rfl ?_
    refine hr_iload3 (q := 222) X dX5_carriesAll_221 rfl ?_
    refine hr_iconst (v := (nI 3)) (q := 223) X dX5_carriesAll_222 rfl rfl ?_
    refine hr_iadd (v := (nI 124)) (q := 224) X dX5_carriesAll_223 rfl (by decide) ?_
    refine hr_aload0 (q := 225) X dX5_carriesAll_224 rfl ?_
    refine hr_getI (v := u.1 3) (q := 228) X dX5_carriesAll_225 rfl fr_q1385_5 rfl hR12.om (hR12.sc 3) ?_
    refine hr_iastN (q := 229) X dX5_carriesAll_228 rfl (hR12.ka (n := 130) rfl rfl rfl) (by decide) (by decide) ?_
    have hR13 := hR12.setA (k := 33) rfl 124 (u.1 3)
    refine hr_aload1 (q := 230) X dX5_carriesAll_229 rfl ?_
    refine hr_iload3 (q := 231) X dX5_carriesAll_230 rfl ?_
    refine hr_iconst (v := (nI 4)) (q := 232) X dX5_carriesAll_231 rfl rfl ?_
    refine hr_iadd (v := (nI 125)) (q := 233) X dX5_carriesAll_232 rfl (by decide) ?_
    refine hr_aload0 (q := 234) X dX5_carriesAll_233 rfl ?_
    refine hr_getI (v := u.1 4) (q := 237) X dX5_carriesAll_234 rfl fr_q1386_5 rfl hR13.om (hR13.sc 4) ?_
    refine hr_iastN (q := 238) X dX5_carriesAll_237 rfl (hR13.ka (n := 130) rfl rfl rfl) (by decide) (by decide) ?_
    have hR14 := hR13.setA (k := 33) rfl 125 (u.1 4)
    refine hr_aload1 (q := 239) X dX5_carriesAll_238 rfl ?_
    refine hr_iload3 (q := 240) X dX5_carriesAll_239 rfl ?_
    refine hr_iconst (v := (nI 5)) (q := 241) X dX5_carriesAll_240 rfl rfl ?_
    refine hr_iadd (v := (nI 126)) (q := 242) X dX5_carriesAll_241 rfl (by decide) ?_
    refine hr_aload0 (q := 243) X dX5_carriesAll_242 rfl ?_
    refine hr_getI (v := u.1 5) (q := 246) X dX5_carriesAll_243 rfl fr_q1387_5 rfl hR14.om (hR14.sc 5) ?_
    refine hr_iastN (q := 247) X dX5_carriesAll_246 rfl (hR14.ka (n := 130) rfl rfl rfl) (by decide) (by decide) ?_
    have hR15 := hR14.setA (k := 33) rfl 126 (u.1 5)
    refine hr_aload1 (q := 248) X dX5_carriesAll_247 rfl ?_
    refine hr_iload3 (q := 249) X dX5_carriesAll_248 rfl ?_
    refine hr_bipush (v := (nI 6)) (q := 251) X dX5_carriesAll_249 rfl rfl ?_
    refine hr_iadd (v := (nI 127)) (q := 252) X dX5_carriesAll_251 rfl (by decide) ?_
    refine hr_aload0 (q := 253) X dX5_carriesAll_252 rfl ?_
    refine hr_getI (v := u.1 6) (q := 256) X dX5_carriesAll_253 rfl fr_q1388_5 rfl hR15.om (hR15.sc 6) ?_
    refine hr_iastN (q := 257) X dX5_carriesAll_256 rfl (hR15.ka (n := 130) rfl rfl rfl) (by decide) (by decide) ?_
    have hR16 := hR15.setA (k := 33) rfl 127 (u.1 6)
    exact hr_vret X hr dX5_carriesAll_257 ⟨rfl, hR16⟩
  · exact absurd c127 (by decide)

theorem tk_carriesAll33B {l : Launch} {D : hg_D} {lo : Nat} (htr : l.stackTraces = false) {G : hg_G} {o : Nat} {am : Nat → Nat} {u : tw_S} (hR : tw_R G o am u) :
    hg_M l D lo yX5_carriesAll (ws_ yX5_carriesAll cX5_carriesAll 4 (none)) rm_X5_carriesAll [.ref o, .ref (am 33), .int (bI true)] G (fun r G' => r = .inl none ∧ tw_R G' o am (tw_carB u 33)) := by
  refine hg_M.of htr (by decide) [some (.ref o), some (.ref (am 33)), some (.int (bI true)), none] rfl (Nat.le_of_ble_eq_true rfl) ?_
  intro p e s m args below meth c X hr hnm htab
  have X : hg_X p l s m args meth c D lo "TaxOnLooksModel" cX5_carriesAll 4 := X
  refine hr_aload0 (q := 1) X dX5_carriesAll_0 rfl ?_
  refine hr_aload0 (q := 2) X dX5_carriesAll_1 rfl ?_
  refine hr_getR (v := am 9) (q := 5) X dX5_carriesAll_2 rfl fr_q1391_5 rfl hR.om (hR.f rfl) ?_
  refine hr_bipush (v := (nI 7)) (q := 7) X dX5_carriesAll_5 rfl rfl ?_
  refine hr_aload1 (q := 8) X dX5_carriesAll_7 rfl ?_
  refine hr_iconst (v := (nI 0)) (q := 9) X dX5_carriesAll_8 rfl rfl ?_
  refine hr_iload2 (q := 10) X dX5_carriesAll_9 rfl ?_
  refine hr_call0 (q := 13) (hc_V (n := 5) (ci := 5) (As := [.ref (am 9), .int (nI 7), .ref (am 33), .int (nI 0), .int (bI true)]) X dX5_carriesAll_10 rfl (tk_carriesB X.tr hR (k := 9) (q := 33) (N := 7) (M := 130) (f := 0) rfl rfl rfl rfl rfl rfl (by decide) (by decide) (by decide)) q1623 cv_X5_carries ⟨Nat.le_of_ble_eq_true rfl, Nat.le_of_ble_eq_true rfl⟩ rfl (Nat.le_of_ble_eq_true rfl) hR.om rfl rfl) rfl (fun qx E G' hp => by cases hp.1) (fun r G1 hp _ => ?_)
  obtain ⟨hv1, hS1⟩ := hp
  cases hv1
  refine hr_istore3 (q := 14) X dX5_carriesAll_13 rfl rfl (Nat.le_of_ble_eq_true rfl) ?_
  refine hr_aload0 (q := 15) X dX5_carriesAll_14 rfl ?_
  refine hr_aload0 (q := 16) X dX5_carriesAll_15 rfl ?_
  refine hr_getR (v := am 10) (q := 19) X dX5_carriesAll_16 rfl fr_q1392_5 rfl hS1.om (hS1.f rfl) ?_
  refine hr_bipush (v := (nI 7)) (q := 21) X dX5_carriesAll_19 rfl rfl ?_
  refine hr_aload1 (q := 22) X dX5_carriesAll_21 rfl ?_
  refine hr_iload3 (q := 23) X dX5_carriesAll_22 rfl ?_
  refine hr_iload2 (q := 24) X dX5_carriesAll_23 rfl ?_
  refine hr_call0 (q := 27) (hc_V (n := 5) (ci := 5) (As := [.ref (am 10), .int (nI 7), .ref (am 33), .int (nI 7), .int (bI true)]) X dX5_carriesAll_24 rfl (tk_carriesB X.tr hS1 (k := 10) (q := 33) (N := 7) (M := 130) (f := 7) rfl rfl rfl rfl rfl rfl (by decide) (by decide) (by decide)) q1623 cv_X5_carries ⟨Nat.le_of_ble_eq_true rfl, Nat.le_of_ble_eq_true rfl⟩ rfl (Nat.le_of_ble_eq_true rfl) hS1.om rfl rfl) rfl (fun qx E G' hp => by cases hp.1) (fun r G2 hp _ => ?_)
  obtain ⟨hv2, hS2⟩ := hp
  cases hv2
  refine hr_istore3 (q := 28) X dX5_carriesAll_27 rfl rfl (Nat.le_of_ble_eq_true rfl) ?_
  refine hr_aload0 (q := 29) X dX5_carriesAll_28 rfl ?_
  refine hr_aload0 (q := 30) X dX5_carriesAll_29 rfl ?_
  refine hr_getR (v := am 11) (q := 33) X dX5_carriesAll_30 rfl fr_q1393_5 rfl hS2.om (hS2.f rfl) ?_
  refine hr_bipush (v := (nI 7)) (q := 35) X dX5_carriesAll_33 rfl rfl ?_
  refine hr_aload1 (q := 36) X dX5_carriesAll_35 rfl ?_
  refine hr_iload3 (q := 37) X dX5_carriesAll_36 rfl ?_
  refine hr_iload2 (q := 38) X dX5_carriesAll_37 rfl ?_
  refine hr_call0 (q := 41) (hc_V (n := 5) (ci := 5) (As := [.ref (am 11), .int (nI 7), .ref (am 33), .int (nI 14), .int (bI true)]) X dX5_carriesAll_38 rfl (tk_carriesB X.tr hS2 (k := 11) (q := 33) (N := 7) (M := 130) (f := 14) rfl rfl rfl rfl rfl rfl (by decide) (by decide) (by decide)) q1623 cv_X5_carries ⟨Nat.le_of_ble_eq_true rfl, Nat.le_of_ble_eq_true rfl⟩ rfl (Nat.le_of_ble_eq_true rfl) hS2.om rfl rfl) rfl (fun qx E G' hp => by cases hp.1) (fun r G3 hp _ => ?_)
  obtain ⟨hv3, hS3⟩ := hp
  cases hv3
  refine hr_istore3 (q := 42) X dX5_carriesAll_41 rfl rfl (Nat.le_of_ble_eq_true rfl) ?_
  refine hr_aload0 (q := 43) X dX5_carriesAll_42 rfl ?_
  refine hr_aload0 (q := 44) X dX5_carriesAll_43 rfl ?_
  refine hr_getR (v := am 12) (q := 47) X dX5_carriesAll_44 rfl fr_q1394_5 rfl hS3.om (hS3.f rfl) ?_
  refine hr_bipush (v := (nI 7)) (q := 49) X dX5_carriesAll_47 rfl rfl ?_
  refine hr_aload1 (q := 50) X dX5_carriesAll_49 rfl ?_
  refine hr_iload3 (q := 51) X dX5_carriesAll_50 rfl ?_
  refine hr_iload2 (q := 52) X dX5_carriesAll_51 rfl ?_
  refine hr_call0 (q := 55) (hc_V (n := 5) (ci := 5) (As := [.ref (am 12), .int (nI 7), .ref (am 33), .int (nI 21), .int (bI true)]) X dX5_carriesAll_52 rfl (tk_carriesB X.tr hS3 (k := 12) (q := 33) (N := 7) (M := 130) (f := 21) rfl rfl rfl rfl rfl rfl (by decide) (by decide) (by decide)) q1623 cv_X5_carries ⟨Nat.le_of_ble_eq_true rfl, Nat.le_of_ble_eq_true rfl⟩ rfl (Nat.le_of_ble_eq_true rfl) hS3.om rfl rfl) rfl (fun qx E G' hp => by cases hp.1) (fun r G4 hp _ => ?_)
  obtain ⟨hv4, hS4⟩ := hp
  cases hv4
  refine hr_istore3 (q := 56) X dX5_carriesAll_55 rfl rfl (Nat.le_of_ble_eq_true rfl) ?_
  refine hr_aload0 (q := 57) X dX5_carriesAll_56 rfl ?_
  refine hr_aload0 (q := 58) X dX5_carriesAll_57 rfl ?_
  refine hr_getR (v := am 13) (q := 61) X dX5_carriesAll_58 rfl fr_q1395_5 rfl hS4.om (hS4.f rfl) ?_
  refine hr_bipush (v := (nI 7)) (q := 63) X dX5_carriesAll_61 rfl rfl ?_
  refine hr_aload1 (q := 64) X dX5_carriesAll_63 rfl ?_
  refine hr_iload3 (q := 65) X dX5_carriesAll_64 rfl ?_
  refine hr_iload2 (q := 66) X dX5_carriesAll_65 rfl ?_
  refine hr_call0 (q := 69) (hc_V (n := 5) (ci := 5) (As := [.ref (am 13), .int (nI 7), .ref (am 33), .int (nI 28), .int (bI true)]) X dX5_carriesAll_66 rfl (tk_carriesB X.tr hS4 (k := 13) (q := 33) (N := 7) (M := 130) (f := 28) rfl rfl rfl rfl rfl rfl (by decide) (by decide) (by decide)) q1623 cv_X5_carries ⟨Nat.le_of_ble_eq_true rfl, Nat.le_of_ble_eq_true rfl⟩ rfl (Nat.le_of_ble_eq_true rfl) hS4.om rfl rfl) rfl (fun qx E G' hp => by cases hp.1) (fun r G5 hp _ => ?_)
  obtain ⟨hv5, hS5⟩ := hp
  cases hv5
  refine hr_istore3 (q := 70) X dX5_carriesAll_69 rfl rfl (Nat.le_of_ble_eq_true rfl) ?_
  refine hr_aload0 (q := 71) X dX5_carriesAll_70 rfl ?_
  refine hr_aload0 (q := 72) X dX5_carriesAll_71 rfl ?_
  refine hr_getR (v := am 14) (q := 75) X dX5_carriesAll_72 rfl fr_q1396_5 rfl hS5.om (hS5.f rfl) ?_
  refine hr_bipush (v := (nI 7)) (q := 77) X dX5_carriesAll_75 rfl rfl ?_
  refine hr_aload1 (q := 78) X dX5_carriesAll_77 rfl ?_
  refine hr_iload3 (q := 79) X dX5_carriesAll_78 rfl ?_
  refine hr_iload2 (q := 80) X dX5_carriesAll_79 rfl ?_
  refine hr_call0 (q := 83) (hc_V (n := 5) (ci := 5) (As := [.ref (am 14), .int (nI 7), .ref (am 33), .int (nI 35), .int (bI true)]) X dX5_carriesAll_80 rfl (tk_carriesB X.tr hS5 (k := 14) (q := 33) (N := 7) (M := 130) (f := 35) rfl rfl rfl rfl rfl rfl (by decide) (by decide) (by decide)) q1623 cv_X5_carries ⟨Nat.le_of_ble_eq_true rfl, Nat.le_of_ble_eq_true rfl⟩ rfl (Nat.le_of_ble_eq_true rfl) hS5.om rfl rfl) rfl (fun qx E G' hp => by cases hp.1) (fun r G6 hp _ => ?_)
  obtain ⟨hv6, hS6⟩ := hp
  cases hv6
  refine hr_istore3 (q := 84) X dX5_carriesAll_83 rfl rfl (Nat.le_of_ble_eq_true rfl) ?_
  refine hr_aload0 (q := 85) X dX5_carriesAll_84 rfl ?_
  refine hr_aload0 (q := 86) X dX5_carriesAll_85 rfl ?_
  refine hr_getR (v := am 15) (q := 89) X dX5_carriesAll_86 rfl fr_q1397_5 rfl hS6.om (hS6.f rfl) ?_
  refine hr_bipush (v := (nI 7)) (q := 91) X dX5_carriesAll_89 rfl rfl ?_
  refine hr_aload1 (q := 92) X dX5_carriesAll_91 rfl ?_
  refine hr_iload3 (q := 93) X dX5_carriesAll_92 rfl ?_
  refine hr_iload2 (q := 94) X dX5_carriesAll_93 rfl ?_
  refine hr_call0 (q := 97) (hc_V (n := 5) (ci := 5) (As := [.ref (am 15), .int (nI 7), .ref (am 33), .int (nI 42), .int (bI true)]) X dX5_carriesAll_94 rfl (tk_carriesB X.tr hS6 (k := 15) (q := 33) (N := 7) (M := 130) (f := 42) rfl rfl rfl rfl rfl rfl (by decide) (by decide) (by decide)) q1623 cv_X5_carries ⟨Nat.le_of_ble_eq_true rfl, Nat.le_of_ble_eq_true rfl⟩ rfl (Nat.le_of_ble_eq_true rfl) hS6.om rfl rfl) rfl (fun qx E G' hp => by cases hp.1) (fun r G7 hp _ => ?_)
  obtain ⟨hv7, hS7⟩ := hp
  cases hv7
  refine hr_istore3 (q := 98) X dX5_carriesAll_97 rfl rfl (Nat.le_of_ble_eq_true rfl) ?_
  refine hr_aload0 (q := 99) X dX5_carriesAll_98 rfl ?_
  refine hr_aload0 (q := 100) X dX5_carriesAll_99 rfl ?_
  refine hr_getR (v := am 16) (q := 103) X dX5_carriesAll_100 rfl fr_q1398_5 rfl hS7.om (hS7.f rfl) ?_
  refine hr_bipush (v := (nI 36)) (q := 105) X dX5_carriesAll_103 rfl rfl ?_
  refine hr_aload1 (q := 106) X dX5_carriesAll_105 rfl ?_
  refine hr_iload3 (q := 107) X dX5_carriesAll_106 rfl ?_
  refine hr_iload2 (q := 108) X dX5_carriesAll_107 rfl ?_
  refine hr_call0 (q := 111) (hc_V (n := 5) (ci := 5) (As := [.ref (am 16), .int (nI 36), .ref (am 33), .int (nI 49), .int (bI true)]) X dX5_carriesAll_108 rfl (tk_carriesB X.tr hS7 (k := 16) (q := 33) (N := 36) (M := 130) (f := 49) rfl rfl rfl rfl rfl rfl (by decide) (by decide) (by decide)) q1623 cv_X5_carries ⟨Nat.le_of_ble_eq_true rfl, Nat.le_of_ble_eq_true rfl⟩ rfl (Nat.le_of_ble_eq_true rfl) hS7.om rfl rfl) rfl (fun qx E G' hp => by cases hp.1) (fun r G8 hp _ => ?_)
  obtain ⟨hv8, hS8⟩ := hp
  cases hv8
  refine hr_istore3 (q := 112) X dX5_carriesAll_111 rfl rfl (Nat.le_of_ble_eq_true rfl) ?_
  refine hr_aload0 (q := 113) X dX5_carriesAll_112 rfl ?_
  refine hr_aload0 (q := 114) X dX5_carriesAll_113 rfl ?_
  refine hr_getR (v := am 17) (q := 117) X dX5_carriesAll_114 rfl fr_q1399_5 rfl hS8.om (hS8.f rfl) ?_
  refine hr_bipush (v := (nI 36)) (q := 119) X dX5_carriesAll_117 rfl rfl ?_
  refine hr_aload1 (q := 120) X dX5_carriesAll_119 rfl ?_
  refine hr_iload3 (q := 121) X dX5_carriesAll_120 rfl ?_
  refine hr_iload2 (q := 122) X dX5_carriesAll_121 rfl ?_
  refine hr_call0 (q := 125) (hc_V (n := 5) (ci := 5) (As := [.ref (am 17), .int (nI 36), .ref (am 33), .int (nI 85), .int (bI true)]) X dX5_carriesAll_122 rfl (tk_carriesB X.tr hS8 (k := 17) (q := 33) (N := 36) (M := 130) (f := 85) rfl rfl rfl rfl rfl rfl (by decide) (by decide) (by decide)) q1623 cv_X5_carries ⟨Nat.le_of_ble_eq_true rfl, Nat.le_of_ble_eq_true rfl⟩ rfl (Nat.le_of_ble_eq_true rfl) hS8.om rfl rfl) rfl (fun qx E G' hp => by cases hp.1) (fun r G9 hp _ => ?_)
  obtain ⟨hv9, hS9⟩ := hp
  cases hv9
  refine hr_istore3 (q := 126) X dX5_carriesAll_125 rfl rfl (Nat.le_of_ble_eq_true rfl) ?_
  refine hr_iload2 (q := 127) X dX5_carriesAll_126 rfl ?_
  refine hr_ifB_eq (q := 130) (tgt := 195) X dX5_carriesAll_127 rfl (by decide) (fun c127 => ?_) (fun c127 => ?_)
  · exact absurd c127 (by decide)
  · refine hr_aload0 (q := 131) X dX5_carriesAll_130 rfl ?_
    refine hr_aload1 (q := 132) X dX5_carriesAll_131 rfl ?_
    refine hr_iload3 (q := 133) X dX5_carriesAll_132 rfl ?_
    refine hr_ialdN (v := u.2.1 33 121) (q := 134) X dX5_carriesAll_133 rfl (hS9.ka (n := 130) rfl rfl rfl) (Or.inl rfl) (by decide) (by decide) (hS9.ar rfl _) ?_
    refine hr_putI (q := 137) X dX5_carriesAll_134 rfl fw_q1382_5 (fun h => nomatch h) rfl rfl rfl hS9.om ?_
    have hR10 := hS9.setS 0 (u.2.1 33 121)
    refine hr_aload0 (q := 138) X dX5_carriesAll_137 rfl ?_
    refine hr_aload1 (q := 139) X dX5_carriesAll_138 rfl ?_
    refine hr_iload3 (q := 140) X dX5_carriesAll_139 rfl ?_
    refine hr_iconst (v := (nI 1)) (q := 141) X dX5_carriesAll_140 rfl rfl ?_
    refine hr_iadd (v := (nI 122)) (q := 142) X dX5_carriesAll_141 rfl (by decide) ?_
    refine hr_ialdN (v := u.2.1 33 122) (q := 143) X dX5_carriesAll_142 rfl (hR10.ka (n := 130) rfl rfl rfl) (Or.inl rfl) (by decide) (by decide) (hR10.ar rfl _) ?_
    refine hr_putI (q := 146) X dX5_carriesAll_143 rfl fw_q1383_5 (fun h => nomatch h) rfl rfl rfl hR10.om ?_
    have hR11 := hR10.setS 1 (u.2.1 33 122)
    refine hr_aload0 (q := 147) X dX5_carriesAll_146 rfl ?_
    refine hr_aload1 (q := 148) X dX5_carriesAll_147 rfl ?_
    refine hr_iload3 (q := 149) X dX5_carriesAll_148 rfl ?_
    refine hr_iconst (v := (nI 2)) (q := 150) X dX5_carriesAll_149 rfl rfl ?_
    refine hr_iadd (v := (nI 123)) (q := 151) X dX5_carriesAll_150 rfl (by decide) ?_
    refine hr_ialdN (v := u.2.1 33 123) (q := 152) X dX5_carriesAll_151 rfl (hR11.ka (n := 130) rfl rfl rfl) (Or.inl rfl) (by decide) (by decide) (hR11.ar rfl _) ?_
    refine hr_putI (q := 155) X dX5_carriesAll_152 rfl fw_q1384_5 (fun h => nomatch h) rfl rfl rfl hR11.om ?_
    have hR12 := hR11.setS 2 (u.2.1 33 123)
    refine hr_aload0 (q := 156) X dX5_carriesAll_155 rfl ?_
    refine hr_aload1 (q := 157) X dX5_carriesAll_156 rfl ?_
    refine hr_iload3 (q := 158) X dX5_carriesAll_157 rfl ?_
    refine hr_iconst (v := (nI 3)) (q := 159) X dX5_carriesAll_158 rfl rfl ?_
    refine hr_iadd (v := (nI 124)) (q := 160) X dX5_carriesAll_159 rfl (by decide) ?_
    refine hr_ialdN (v := u.2.1 33 124) (q := 161) X dX5_carriesAll_160 rfl (hR12.ka (n := 130) rfl rfl rfl) (Or.inl rfl) (by decide) (by decide) (hR12.ar rfl _) ?_
    refine hr_putI (q := 164) X dX5_carriesAll_161 rfl fw_q1385_5 (fun h => nomatch h) rfl rfl rfl hR12.om ?_
    have hR13 := hR12.setS 3 (u.2.1 33 124)
    refine hr_aload0 (q := 165) X dX5_carriesAll_164 rfl ?_
    refine hr_aload1 (q := 166) X dX5_carriesAll_165 rfl ?_
    refine hr_iload3 (q := 167) X dX5_carriesAll_166 rfl ?_
    refine hr_iconst (v := (nI 4)) (q := 168) X dX5_carriesAll_167 rfl rfl ?_
    refine hr_iadd (v := (nI 125)) (q := 169) X dX5_carriesAll_168 rfl (by decide) ?_
    refine hr_ialdN (v := u.2.1 33 125) (q := 170) X dX5_carriesAll_169 rfl (hR13.ka (n := 130) rfl rfl rfl) (Or.inl rfl) (by decide) (by decide) (hR13.ar rfl _) ?_
    refine hr_putI (q := 173) X dX5_carriesAll_170 rfl fw_q1386_5 (fun h => nomatch h) rfl rfl rfl hR13.om ?_
    have hR14 := hR13.setS 4 (u.2.1 33 125)
    refine hr_aload0 (q := 174) X dX5_carriesAll_173 rfl ?_
    refine hr_aload1 (q := 175) X dX5_carriesAll_174 rfl ?_
    refine hr_iload3 (q := 176) X dX5_carriesAll_175 rfl ?_
    refine hr_iconst (v := (nI 5)) (q := 177) X dX5_carriesAll_176 rfl rfl ?_
    refine hr_iadd (v := (nI 126)) (q := 178) X dX5_carriesAll_177 rfl (by decide) ?_
    refine hr_ialdN (v := u.2.1 33 126) (q := 179) X dX5_carriesAll_178 rfl (hR14.ka (n := 130) rfl rfl rfl) (Or.inl rfl) (by decide) (by decide) (hR14.ar rfl _) ?_
    refine hr_putI (q := 182) X dX5_carriesAll_179 rfl fw_q1387_5 (fun h => nomatch h) rfl rfl rfl hR14.om ?_
    have hR15 := hR14.setS 5 (u.2.1 33 126)
    refine hr_aload0 (q := 183) X dX5_carriesAll_182 rfl ?_
    refine hr_aload1 (q := 184) X dX5_carriesAll_183 rfl ?_
    refine hr_iload3 (q := 185) X dX5_carriesAll_184 rfl ?_
    refine hr_bipush (v := (nI 6)) (q := 187) X dX5_carriesAll_185 rfl rfl ?_
    refine hr_iadd (v := (nI 127)) (q := 188) X dX5_carriesAll_187 rfl (by decide) ?_
    refine hr_ialdN (v := u.2.1 33 127) (q := 189) X dX5_carriesAll_188 rfl (hR15.ka (n := 130) rfl rfl rfl) (Or.inl rfl) (by decide) (by decide) (hR15.ar rfl _) ?_
    refine hr_putI (q := 192) X dX5_carriesAll_189 rfl fw_q1388_5 (fun h => nomatch h) rfl rfl rfl hR15.om ?_
    have hR16 := hR15.setS 6 (u.2.1 33 127)
    refine hr_goto (tgt := 257) X dX5_carriesAll_192 (by decide) ?_
    exact hr_vret X hr dX5_carriesAll_257 ⟨rfl, hR16⟩

theorem tk_carriesAll34F {l : Launch} {D : hg_D} {lo : Nat} (htr : l.stackTraces = false) {G : hg_G} {o : Nat} {am : Nat → Nat} {u : tw_S} (hR : tw_R G o am u) :
    hg_M l D lo yX5_carriesAll (ws_ yX5_carriesAll cX5_carriesAll 4 (none)) rm_X5_carriesAll [.ref o, .ref (am 34), .int (bI false)] G (fun r G' => r = .inl none ∧ tw_R G' o am (tw_carF u 34)) := by
  refine hg_M.of htr (by decide) [some (.ref o), some (.ref (am 34)), some (.int (bI false)), none] rfl (Nat.le_of_ble_eq_true rfl) ?_
  intro p e s m args below meth c X hr hnm htab
  have X : hg_X p l s m args meth c D lo "TaxOnLooksModel" cX5_carriesAll 4 := X
  refine hr_aload0 (q := 1) X dX5_carriesAll_0 rfl ?_
  refine hr_aload0 (q := 2) X dX5_carriesAll_1 rfl ?_
  refine hr_getR (v := am 9) (q := 5) X dX5_carriesAll_2 rfl fr_q1391_5 rfl hR.om (hR.f rfl) ?_
  refine hr_bipush (v := (nI 7)) (q := 7) X dX5_carriesAll_5 rfl rfl ?_
  refine hr_aload1 (q := 8) X dX5_carriesAll_7 rfl ?_
  refine hr_iconst (v := (nI 0)) (q := 9) X dX5_carriesAll_8 rfl rfl ?_
  refine hr_iload2 (q := 10) X dX5_carriesAll_9 rfl ?_
  refine hr_call0 (q := 13) (hc_V (n := 5) (ci := 5) (As := [.ref (am 9), .int (nI 7), .ref (am 34), .int (nI 0), .int (bI false)]) X dX5_carriesAll_10 rfl (tk_carriesF X.tr hR (k := 9) (q := 34) (N := 7) (M := 130) (f := 0) rfl rfl rfl rfl rfl rfl (by decide) (by decide) (by decide)) q1623 cv_X5_carries ⟨Nat.le_of_ble_eq_true rfl, Nat.le_of_ble_eq_true rfl⟩ rfl (Nat.le_of_ble_eq_true rfl) hR.om rfl rfl) rfl (fun qx E G' hp => by cases hp.1) (fun r G1 hp _ => ?_)
  obtain ⟨hv1, hS1⟩ := hp
  cases hv1
  refine hr_istore3 (q := 14) X dX5_carriesAll_13 rfl rfl (Nat.le_of_ble_eq_true rfl) ?_
  refine hr_aload0 (q := 15) X dX5_carriesAll_14 rfl ?_
  refine hr_aload0 (q := 16) X dX5_carriesAll_15 rfl ?_
  refine hr_getR (v := am 10) (q := 19) X dX5_carriesAll_16 rfl fr_q1392_5 rfl hS1.om (hS1.f rfl) ?_
  refine hr_bipush (v := (nI 7)) (q := 21) X dX5_carriesAll_19 rfl rfl ?_
  refine hr_aload1 (q := 22) X dX5_carriesAll_21 rfl ?_
  refine hr_iload3 (q := 23) X dX5_carriesAll_22 rfl ?_
  refine hr_iload2 (q := 24) X dX5_carriesAll_23 rfl ?_
  refine hr_call0 (q := 27) (hc_V (n := 5) (ci := 5) (As := [.ref (am 10), .int (nI 7), .ref (am 34), .int (nI 7), .int (bI false)]) X dX5_carriesAll_24 rfl (tk_carriesF X.tr hS1 (k := 10) (q := 34) (N := 7) (M := 130) (f := 7) rfl rfl rfl rfl rfl rfl (by decide) (by decide) (by decide)) q1623 cv_X5_carries ⟨Nat.le_of_ble_eq_true rfl, Nat.le_of_ble_eq_true rfl⟩ rfl (Nat.le_of_ble_eq_true rfl) hS1.om rfl rfl) rfl (fun qx E G' hp => by cases hp.1) (fun r G2 hp _ => ?_)
  obtain ⟨hv2, hS2⟩ := hp
  cases hv2
  refine hr_istore3 (q := 28) X dX5_carriesAll_27 rfl rfl (Nat.le_of_ble_eq_true rfl) ?_
  refine hr_aload0 (q := 29) X dX5_carriesAll_28 rfl ?_
  refine hr_aload0 (q := 30) X dX5_carriesAll_29 rfl ?_
  refine hr_getR (v := am 11) (q := 33) X dX5_carriesAll_30 rfl fr_q1393_5 rfl hS2.om (hS2.f rfl) ?_
  refine hr_bipush (v := (nI 7)) (q := 35) X dX5_carriesAll_33 rfl rfl ?_
  refine hr_aload1 (q := 36) X dX5_carriesAll_35 rfl ?_
  refine hr_iload3 (q := 37) X dX5_carriesAll_36 rfl ?_
  refine hr_iload2 (q := 38) X dX5_carriesAll_37 rfl ?_
  refine hr_call0 (q := 41) (hc_V (n := 5) (ci := 5) (As := [.ref (am 11), .int (nI 7), .ref (am 34), .int (nI 14), .int (bI false)]) X dX5_carriesAll_38 rfl (tk_carriesF X.tr hS2 (k := 11) (q := 34) (N := 7) (M := 130) (f := 14) rfl rfl rfl rfl rfl rfl (by decide) (by decide) (by decide)) q1623 cv_X5_carries ⟨Nat.le_of_ble_eq_true rfl, Nat.le_of_ble_eq_true rfl⟩ rfl (Nat.le_of_ble_eq_true rfl) hS2.om rfl rfl) rfl (fun qx E G' hp => by cases hp.1) (fun r G3 hp _ => ?_)
  obtain ⟨hv3, hS3⟩ := hp
  cases hv3
  refine hr_istore3 (q := 42) X dX5_carriesAll_41 rfl rfl (Nat.le_of_ble_eq_true rfl) ?_
  refine hr_aload0 (q := 43) X dX5_carriesAll_42 rfl ?_
  refine hr_aload0 (q := 44) X dX5_carriesAll_43 rfl ?_
  refine hr_getR (v := am 12) (q := 47) X dX5_carriesAll_44 rfl fr_q1394_5 rfl hS3.om (hS3.f rfl) ?_
  refine hr_bipush (v := (nI 7)) (q := 49) X dX5_carriesAll_47 rfl rfl ?_
  refine hr_aload1 (q := 50) X dX5_carriesAll_49 rfl ?_
  refine hr_iload3 (q := 51) X dX5_carriesAll_50 rfl ?_
  refine hr_iload2 (q := 52) X dX5_carriesAll_51 rfl ?_
  refine hr_call0 (q := 55) (hc_V (n := 5) (ci := 5) (As := [.ref (am 12), .int (nI 7), .ref (am 34), .int (nI 21), .int (bI false)]) X dX5_carriesAll_52 rfl (tk_carriesF X.tr hS3 (k := 12) (q := 34) (N := 7) (M := 130) (f := 21) rfl rfl rfl rfl rfl rfl (by decide) (by decide) (by decide)) q1623 cv_X5_carries ⟨Nat.le_of_ble_eq_true rfl, Nat.le_of_ble_eq_true rfl⟩ rfl (Nat.le_of_ble_eq_true rfl) hS3.om rfl rfl) rfl (fun qx E G' hp => by cases hp.1) (fun r G4 hp _ => ?_)
  obtain ⟨hv4, hS4⟩ := hp
  cases hv4
  refine hr_istore3 (q := 56) X dX5_carriesAll_55 rfl rfl (Nat.le_of_ble_eq_true rfl) ?_
  refine hr_aload0 (q := 57) X dX5_carriesAll_56 rfl ?_
  refine hr_aload0 (q := 58) X dX5_carriesAll_57 rfl ?_
  refine hr_getR (v := am 13) (q := 61) X dX5_carriesAll_58 rfl fr_q1395_5 rfl hS4.om (hS4.f rfl) ?_
  refine hr_bipush (v := (nI 7)) (q := 63) X dX5_carriesAll_61 rfl rfl ?_
  refine hr_aload1 (q := 64) X dX5_carriesAll_63 rfl ?_
  refine hr_iload3 (q := 65) X dX5_carriesAll_64 rfl ?_
  refine hr_iload2 (q := 66) X dX5_carriesAll_65 rfl ?_
  refine hr_call0 (q := 69) (hc_V (n := 5) (ci := 5) (As := [.ref (am 13), .int (nI 7), .ref (am 34), .int (nI 28), .int (bI false)]) X dX5_carriesAll_66 rfl (tk_carriesF X.tr hS4 (k := 13) (q := 34) (N := 7) (M := 130) (f := 28) rfl rfl rfl rfl rfl rfl (by decide) (by decide) (by decide)) q1623 cv_X5_carries ⟨Nat.le_of_ble_eq_true rfl, Nat.le_of_ble_eq_true rfl⟩ rfl (Nat.le_of_ble_eq_true rfl) hS4.om rfl rfl) rfl (fun qx E G' hp => by cases hp.1) (fun r G5 hp _ => ?_)
  obtain ⟨hv5, hS5⟩ := hp
  cases hv5
  refine hr_istore3 (q := 70) X dX5_carriesAll_69 rfl rfl (Nat.le_of_ble_eq_true rfl) ?_
  refine hr_aload0 (q := 71) X dX5_carriesAll_70 rfl ?_
  refine hr_aload0 (q := 72) X dX5_carriesAll_71 rfl ?_
  refine hr_getR (v := am 14) (q := 75) X dX5_carriesAll_72 rfl fr_q1396_5 rfl hS5.om (hS5.f rfl) ?_
  refine hr_bipush (v := (nI 7)) (q := 77) X dX5_carriesAll_75 rfl rfl ?_
  refine hr_aload1 (q := 78) X dX5_carriesAll_77 rfl ?_
  refine hr_iload3 (q := 79) X dX5_carriesAll_78 rfl ?_
  refine hr_iload2 (q := 80) X dX5_carriesAll_79 rfl ?_
  refine hr_call0 (q := 83) (hc_V (n := 5) (ci := 5) (As := [.ref (am 14), .int (nI 7), .ref (am 34), .int (nI 35), .int (bI false)]) X dX5_carriesAll_80 rfl (tk_carriesF X.tr hS5 (k := 14) (q := 34) (N := 7) (M := 130) (f := 35) rfl rfl rfl rfl rfl rfl (by decide) (by decide) (by decide)) q1623 cv_X5_carries ⟨Nat.le_of_ble_eq_true rfl, Nat.le_of_ble_eq_true rfl⟩ rfl (Nat.le_of_ble_eq_true rfl) hS5.om rfl rfl) rfl (fun qx E G' hp => by cases hp.1) (fun r G6 hp _ => ?_)
  obtain ⟨hv6, hS6⟩ := hp
  cases hv6
  refine hr_istore3 (q := 84) X dX5_carriesAll_83 rfl rfl (Nat.le_of_ble_eq_true rfl) ?_
  refine hr_aload0 (q := 85) X dX5_carriesAll_84 rfl ?_
  refine hr_aload0 (q := 86) X dX5_carriesAll_85 rfl ?_
  refine hr_getR (v := am 15) (q := 89) X dX5_carriesAll_86 rfl fr_q1397_5 rfl hS6.om (hS6.f rfl) ?_
  refine hr_bipush (v := (nI 7)) (q := 91) X dX5_carriesAll_89 rfl rfl ?_
  refine hr_aload1 (q := 92) X dX5_carriesAll_91 rfl ?_
  refine hr_iload3 (q := 93) X dX5_carriesAll_92 rfl ?_
  refine hr_iload2 (q := 94) X dX5_carriesAll_93 rfl ?_
  refine hr_call0 (q := 97) (hc_V (n := 5) (ci := 5) (As := [.ref (am 15), .int (nI 7), .ref (am 34), .int (nI 42), .int (bI false)]) X dX5_carriesAll_94 rfl (tk_carriesF X.tr hS6 (k := 15) (q := 34) (N := 7) (M := 130) (f := 42) rfl rfl rfl rfl rfl rfl (by decide) (by decide) (by decide)) q1623 cv_X5_carries ⟨Nat.le_of_ble_eq_true rfl, Nat.le_of_ble_eq_true rfl⟩ rfl (Nat.le_of_ble_eq_true rfl) hS6.om rfl rfl) rfl (fun qx E G' hp => by cases hp.1) (fun r G7 hp _ => ?_)
  obtain ⟨hv7, hS7⟩ := hp
  cases hv7
  refine hr_istore3 (q := 98) X dX5_carriesAll_97 rfl rfl (Nat.le_of_ble_eq_true rfl) ?_
  refine hr_aload0 (q := 99) X dX5_carriesAll_98 rfl ?_
  refine hr_aload0 (q := 100) X dX5_carriesAll_99 rfl ?_
  refine hr_getR (v := am 16) (q := 103) X dX5_carriesAll_100 rfl fr_q1398_5 rfl hS7.om (hS7.f rfl) ?_
  refine hr_bipush (v := (nI 36)) (q := 105) X dX5_carriesAll_103 rfl rfl ?_
  refine hr_aload1 (q := 106) X dX5_carriesAll_105 rfl ?_
  refine hr_iload3 (q := 107) X dX5_carriesAll_106 rfl ?_
  refine hr_iload2 (q := 108) X dX5_carriesAll_107 rfl ?_
  refine hr_call0 (q := 111) (hc_V (n := 5) (ci := 5) (As := [.ref (am 16), .int (nI 36), .ref (am 34), .int (nI 49), .int (bI false)]) X dX5_carriesAll_108 rfl (tk_carriesF X.tr hS7 (k := 16) (q := 34) (N := 36) (M := 130) (f := 49) rfl rfl rfl rfl rfl rfl (by decide) (by decide) (by decide)) q1623 cv_X5_carries ⟨Nat.le_of_ble_eq_true rfl, Nat.le_of_ble_eq_true rfl⟩ rfl (Nat.le_of_ble_eq_true rfl) hS7.om rfl rfl) rfl (fun qx E G' hp => by cases hp.1) (fun r G8 hp _ => ?_)
  obtain ⟨hv8, hS8⟩ := hp
  cases hv8
  refine hr_istore3 (q := 112) X dX5_carriesAll_111 rfl rfl (Nat.le_of_ble_eq_true rfl) ?_
  refine hr_aload0 (q := 113) X dX5_carriesAll_112 rfl ?_
  refine hr_aload0 (q := 114) X dX5_carriesAll_113 rfl ?_
  refine hr_getR (v := am 17) (q := 117) X dX5_carriesAll_114 rfl fr_q1399_5 rfl hS8.om (hS8.f rfl) ?_
  refine hr_bipush (v := (nI 36)) (q := 119) X dX5_carriesAll_117 rfl rfl ?_
  refine hr_aload1 (q := 120) X dX5_carriesAll_119 rfl ?_
  refine hr_iload3 (q := 121) X dX5_carriesAll_120 rfl ?_
  refine hr_iload2 (q := 122) X dX5_carriesAll_121 rfl ?_
  refine hr_call0 (q := 125) (hc_V (n := 5) (ci := 5) (As := [.ref (am 17), .int (nI 36), .ref (am 34), .int (nI 85), .int (bI false)]) X dX5_carriesAll_122 rfl (tk_carriesF X.tr hS8 (k := 17) (q := 34) (N := 36) (M := 130) (f := 85) rfl rfl rfl rfl rfl rfl (by decide) (by decide) (by decide)) q1623 cv_X5_carries ⟨Nat.le_of_ble_eq_true rfl, Nat.le_of_ble_eq_true rfl⟩ rfl (Nat.le_of_ble_eq_true rfl) hS8.om rfl rfl) rfl (fun qx E G' hp => by cases hp.1) (fun r G9 hp _ => ?_)
  obtain ⟨hv9, hS9⟩ := hp
  cases hv9
  refine hr_istore3 (q := 126) X dX5_carriesAll_125 rfl rfl (Nat.le_of_ble_eq_true rfl) ?_
  refine hr_iload2 (q := 127) X dX5_carriesAll_126 rfl ?_
  refine hr_ifB_eq (q := 130) (tgt := 195) X dX5_carriesAll_127 rfl (by decide) (fun c127 => ?_) (fun c127 => ?_)
  · refine hr_aload1 (q := 196) X dX5_carriesAll_195 rfl ?_
    refine hr_iload3 (q := 197) X dX5_carriesAll_196 rfl ?_
    refine hr_aload0 (q := 198) X dX5_carriesAll_197 rfl ?_
    refine hr_getI (v := u.1 0) (q := 201) X dX5_carriesAll_198 rfl fr_q1382_5 rfl hS9.om (hS9.sc 0) ?_
    refine hr_iastN (q := 202) X dX5_carriesAll_201 rfl (hS9.ka (n := 130) rfl rfl rfl) (by decide) (by decide) ?_
    have hR10 := hS9.setA (k := 34) rfl 121 (u.1 0)
    refine hr_aload1 (q := 203) X dX5_carriesAll_202 rfl ?_
    refine hr_iload3 (q := 204) X dX5_carriesAll_203 rfl ?_
    refine hr_iconst (v := (nI 1)) (q := 205) X dX5_carriesAll_204 rfl rfl ?_
    refine hr_iadd (v := (nI 122)) (q := 206) X dX5_carriesAll_205 rfl (by decide) ?_
    refine hr_aload0 (q := 207) X dX5_carriesAll_206 rfl ?_
    refine hr_getI (v := u.1 1) (q := 210) X dX5_carriesAll_207 rfl fr_q1383_5 rfl hR10.om (hR10.sc 1) ?_
    refine hr_iastN (q := 211) X dX5_carriesAll_210 rfl (hR10.ka (n := 130) rfl rfl rfl) (by decide) (by decide) ?_
    have hR11 := hR10.setA (k := 34) rfl 122 (u.1 1)
    refine hr_aload1 (q := 212) X dX5_carriesAll_211 rfl ?_
    refine hr_iload3 (q := 213) X dX5_carriesAll_212 rfl ?_
    refine hr_iconst (v := (nI 2)) (q := 214) X dX5_carriesAll_213 rfl rfl ?_
    refine hr_iadd (v := (nI 123)) (q := 215) X dX5_carriesAll_214 rfl (by decide) ?_
    refine hr_aload0 (q := 216) X dX5_carriesAll_215 rfl ?_
    refine hr_getI (v := u.1 2) (q := 219) X dX5_carriesAll_216 rfl fr_q1384_5 rfl hR11.om (hR11.sc 2) ?_
    refine hr_iastN (q := 220) X dX5_carriesAll_219 rfl (hR11.ka (n := 130) rfl rfl rfl) (by decide) (by decide) ?_
    have hR12 := hR11.setA (k := 34) rfl 123 (u.1 2)
    refine hr_aload1 (q := 221) X dX5_carriesAll_220 rfl ?_
    refine hr_iload3 (q := 222) X dX5_carriesAll_221 rfl ?_
    refine hr_iconst (v := (nI 3)) (q := 223) X dX5_carriesAll_222 rfl rfl ?_
    refine hr_iadd (v := (nI 124)) (q := 224) X dX5_carriesAll_223 rfl (by decide) ?_
    refine hr_aload0 (q := 225) X dX5_carriesAll_224 rfl ?_
    refine hr_getI (v := u.1 3) (q := 228) X dX5_carriesAll_225 rfl fr_q1385_5 rfl hR12.om (hR12.sc 3) ?_
    refine hr_iastN (q := 229) X dX5_carriesAll_228 rfl (hR12.ka (n := 130) rfl rfl rfl) (by decide) (by decide) ?_
    have hR13 := hR12.setA (k := 34) rfl 124 (u.1 3)
    refine hr_aload1 (q := 230) X dX5_carriesAll_229 rfl ?_
    refine hr_iload3 (q := 231) X dX5_carriesAll_230 rfl ?_
    refine hr_iconst (v := (nI 4)) (q := 232) X dX5_carriesAll_231 rfl rfl ?_
    refine hr_iadd (v := (nI 125)) (q := 233) X dX5_carriesAll_232 rfl (by decide) ?_
    refine hr_aload0 (q := 234) X dX5_carriesAll_233 rfl ?_
    refine hr_getI (v := u.1 4) (q := 237) X dX5_carriesAll_234 rfl fr_q1386_5 rfl hR13.om (hR13.sc 4) ?_
    refine hr_iastN (q := 238) X dX5_carriesAll_237 rfl (hR13.ka (n := 130) rfl rfl rfl) (by decide) (by decide) ?_
    have hR14 := hR13.setA (k := 34) rfl 125 (u.1 4)
    refine hr_aload1 (q := 239) X dX5_carriesAll_238 rfl ?_
    refine hr_iload3 (q := 240) X dX5_carriesAll_239 rfl ?_
    refine hr_iconst (v := (nI 5)) (q := 241) X dX5_carriesAll_240 rfl rfl ?_
    refine hr_iadd (v := (nI 126)) (q := 242) X dX5_carriesAll_241 rfl (by decide) ?_
    refine hr_aload0 (q := 243) X dX5_carriesAll_242 rfl ?_
    refine hr_getI (v := u.1 5) (q := 246) X dX5_carriesAll_243 rfl fr_q1387_5 rfl hR14.om (hR14.sc 5) ?_
    refine hr_iastN (q := 247) X dX5_carriesAll_246 rfl (hR14.ka (n := 130) rfl rfl rfl) (by decide) (by decide) ?_
    have hR15 := hR14.setA (k := 34) rfl 126 (u.1 5)
    refine hr_aload1 (q := 248) X dX5_carriesAll_247 rfl ?_
    refine hr_iload3 (q := 249) X dX5_carriesAll_248 rfl ?_
    refine hr_bipush (v := (nI 6)) (q := 251) X dX5_carriesAll_249 rfl rfl ?_
    refine hr_iadd (v := (nI 127)) (q := 252) X dX5_carriesAll_251 rfl (by decide) ?_
    refine hr_aload0 (q := 253) X dX5_carriesAll_252 rfl ?_
    refine hr_getI (v := u.1 6) (q := 256) X dX5_carriesAll_253 rfl fr_q1388_5 rfl hR15.om (hR15.sc 6) ?_
    refine hr_iastN (q := 257) X dX5_carriesAll_256 rfl (hR15.ka (n := 130) rfl rfl rfl) (by decide) (by decide) ?_
    have hR16 := hR15.setA (k := 34) rfl 127 (u.1 6)
    exact hr_vret X hr dX5_carriesAll_257 ⟨rfl, hR16⟩
  · exact absurd c127 (by decide)

theorem tk_carriesAll34B {l : Launch} {D : hg_D} {lo : Nat} (htr : l.stackTraces = false) {G : hg_G} {o : Nat} {am : Nat → Nat} {u : tw_S} (hR : tw_R G o am u) :
    hg_M l D lo yX5_carriesAll (ws_ yX5_carriesAll cX5_carriesAll 4 (none)) rm_X5_carriesAll [.ref o, .ref (am 34), .int (bI true)] G (fun r G' => r = .inl none ∧ tw_R G' o am (tw_carB u 34)) := by
  refine hg_M.of htr (by decide) [some (.ref o), some (.ref (am 34)), some (.int (bI true)), none] rfl (Nat.le_of_ble_eq_true rfl) ?_
  intro p e s m args below meth c X hr hnm htab
  have X : hg_X p l s m args meth c D lo "TaxOnLooksModel" cX5_carriesAll 4 := X
  refine hr_aload0 (q := 1) X dX5_carriesAll_0 rfl ?_
  refine hr_aload0 (q := 2) X dX5_carriesAll_1 rfl ?_
  refine hr_getR (v := am 9) (q := 5) X dX5_carriesAll_2 rfl fr_q1391_5 rfl hR.om (hR.f rfl) ?_
  refine hr_bipush (v := (nI 7)) (q := 7) X dX5_carriesAll_5 rfl rfl ?_
  refine hr_aload1 (q := 8) X dX5_carriesAll_7 rfl ?_
  refine hr_iconst (v := (nI 0)) (q := 9) X dX5_carriesAll_8 rfl rfl ?_
  refine hr_iload2 (q := 10) X dX5_carriesAll_9 rfl ?_
  refine hr_call0 (q := 13) (hc_V (n := 5) (ci := 5) (As := [.ref (am 9), .int (nI 7), .ref (am 34), .int (nI 0), .int (bI true)]) X dX5_carriesAll_10 rfl (tk_carriesB X.tr hR (k := 9) (q := 34) (N := 7) (M := 130) (f := 0) rfl rfl rfl rfl rfl rfl (by decide) (by decide) (by decide)) q1623 cv_X5_carries ⟨Nat.le_of_ble_eq_true rfl, Nat.le_of_ble_eq_true rfl⟩ rfl (Nat.le_of_ble_eq_true rfl) hR.om rfl rfl) rfl (fun qx E G' hp => by cases hp.1) (fun r G1 hp _ => ?_)
  obtain ⟨hv1, hS1⟩ := hp
  cases hv1
  refine hr_istore3 (q := 14) X dX5_carriesAll_13 rfl rfl (Nat.le_of_ble_eq_true rfl) ?_
  refine hr_aload0 (q := 15) X dX5_carriesAll_14 rfl ?_
  refine hr_aload0 (q := 16) X dX5_carriesAll_15 rfl ?_
  refine hr_getR (v := am 10) (q := 19) X dX5_carriesAll_16 rfl fr_q1392_5 rfl hS1.om (hS1.f rfl) ?_
  refine hr_bipush (v := (nI 7)) (q := 21) X dX5_carriesAll_19 rfl rfl ?_
  refine hr_aload1 (q := 22) X dX5_carriesAll_21 rfl ?_
  refine hr_iload3 (q := 23) X dX5_carriesAll_22 rfl ?_
  refine hr_iload2 (q := 24) X dX5_carriesAll_23 rfl ?_
  refine hr_call0 (q := 27) (hc_V (n := 5) (ci := 5) (As := [.ref (am 10), .int (nI 7), .ref (am 34), .int (nI 7), .int (bI true)]) X dX5_carriesAll_24 rfl (tk_carriesB X.tr hS1 (k := 10) (q := 34) (N := 7) (M := 130) (f := 7) rfl rfl rfl rfl rfl rfl (by decide) (by decide) (by decide)) q1623 cv_X5_carries ⟨Nat.le_of_ble_eq_true rfl, Nat.le_of_ble_eq_true rfl⟩ rfl (Nat.le_of_ble_eq_true rfl) hS1.om rfl rfl) rfl (fun qx E G' hp => by cases hp.1) (fun r G2 hp _ => ?_)
  obtain ⟨hv2, hS2⟩ := hp
  cases hv2
  refine hr_istore3 (q := 28) X dX5_carriesAll_27 rfl rfl (Nat.le_of_ble_eq_true rfl) ?_
  refine hr_aload0 (q := 29) X dX5_carriesAll_28 rfl ?_
  refine hr_aload0 (q := 30) X dX5_carriesAll_29 rfl ?_
  refine hr_getR (v := am 11) (q := 33) X dX5_carriesAll_30 rfl fr_q1393_5 rfl hS2.om (hS2.f rfl) ?_
  refine hr_bipush (v := (nI 7)) (q := 35) X dX5_carriesAll_33 rfl rfl ?_
  refine hr_aload1 (q := 36) X dX5_carriesAll_35 rfl ?_
  refine hr_iload3 (q := 37) X dX5_carriesAll_36 rfl ?_
  refine hr_iload2 (q := 38) X dX5_carriesAll_37 rfl ?_
  refine hr_call0 (q := 41) (hc_V (n := 5) (ci := 5) (As := [.ref (am 11), .int (nI 7), .ref (am 34), .int (nI 14), .int (bI true)]) X dX5_carriesAll_38 rfl (tk_carriesB X.tr hS2 (k := 11) (q := 34) (N := 7) (M := 130) (f := 14) rfl rfl rfl rfl rfl rfl (by decide) (by decide) (by decide)) q1623 cv_X5_carries ⟨Nat.le_of_ble_eq_true rfl, Nat.le_of_ble_eq_true rfl⟩ rfl (Nat.le_of_ble_eq_true rfl) hS2.om rfl rfl) rfl (fun qx E G' hp => by cases hp.1) (fun r G3 hp _ => ?_)
  obtain ⟨hv3, hS3⟩ := hp
  cases hv3
  refine hr_istore3 (q := 42) X dX5_carriesAll_41 rfl rfl (Nat.le_of_ble_eq_true rfl) ?_
  refine hr_aload0 (q := 43) X dX5_carriesAll_42 rfl ?_
  refine hr_aload0 (q := 44) X dX5_carriesAll_43 rfl ?_
  refine hr_getR (v := am 12) (q := 47) X dX5_carriesAll_44 rfl fr_q1394_5 rfl hS3.om (hS3.f rfl) ?_
  refine hr_bipush (v := (nI 7)) (q := 49) X dX5_carriesAll_47 rfl rfl ?_
  refine hr_aload1 (q := 50) X dX5_carriesAll_49 rfl ?_
  refine hr_iload3 (q := 51) X dX5_carriesAll_50 rfl ?_
  refine hr_iload2 (q := 52) X dX5_carriesAll_51 rfl ?_
  refine hr_call0 (q := 55) (hc_V (n := 5) (ci := 5) (As := [.ref (am 12), .int (nI 7), .ref (am 34), .int (nI 21), .int (bI true)]) X dX5_carriesAll_52 rfl (tk_carriesB X.tr hS3 (k := 12) (q := 34) (N := 7) (M := 130) (f := 21) rfl rfl rfl rfl rfl rfl (by decide) (by decide) (by decide)) q1623 cv_X5_carries ⟨Nat.le_of_ble_eq_true rfl, Nat.le_of_ble_eq_true rfl⟩ rfl (Nat.le_of_ble_eq_true rfl) hS3.om rfl rfl) rfl (fun qx E G' hp => by cases hp.1) (fun r G4 hp _ => ?_)
  obtain ⟨hv4, hS4⟩ := hp
  cases hv4
  refine hr_istore3 (q := 56) X dX5_carriesAll_55 rfl rfl (Nat.le_of_ble_eq_true rfl) ?_
  refine hr_aload0 (q := 57) X dX5_carriesAll_56 rfl ?_
  refine hr_aload0 (q := 58) X dX5_carriesAll_57 rfl ?_
  refine hr_getR (v := am 13) (q := 61) X dX5_carriesAll_58 rfl fr_q1395_5 rfl hS4.om (hS4.f rfl) ?_
  refine hr_bipush (v := (nI 7)) (q := 63) X dX5_carriesAll_61 rfl rfl ?_
  refine hr_aload1 (q := 64) X dX5_carriesAll_63 rfl ?_
  refine hr_iload3 (q := 65) X dX5_carriesAll_64 rfl ?_
  refine hr_iload2 (q := 66) X dX5_carriesAll_65 rfl ?_
  refine hr_call0 (q := 69) (hc_V (n := 5) (ci := 5) (As := [.ref (am 13), .int (nI 7), .ref (am 34), .int (nI 28), .int (bI true)]) X dX5_carriesAll_66 rfl (tk_carriesB X.tr hS4 (k := 13) (q := 34) (N := 7) (M := 130) (f := 28) rfl rfl rfl rfl rfl rfl (by decide) (by decide) (by decide)) q1623 cv_X5_carries ⟨Nat.le_of_ble_eq_true rfl, Nat.le_of_ble_eq_true rfl⟩ rfl (Nat.le_of_ble_eq_true rfl) hS4.om rfl rfl) rfl (fun qx E G' hp => by cases hp.1) (fun r G5 hp _ => ?_)
  obtain ⟨hv5, hS5⟩ := hp
  cases hv5
  refine hr_istore3 (q := 70) X dX5_carriesAll_69 rfl rfl (Nat.le_of_ble_eq_true rfl) ?_
  refine hr_aload0 (q := 71) X dX5_carriesAll_70 rfl ?_
  refine hr_aload0 (q := 72) X dX5_carriesAll_71 rfl ?_
  refine hr_getR (v := am 14) (q := 75) X dX5_carriesAll_72 rfl fr_q1396_5 rfl hS5.om (hS5.f rfl) ?_
  refine hr_bipush (v := (nI 7)) (q := 77) X dX5_carriesAll_75 rfl rfl ?_
  refine hr_aload1 (q := 78) X dX5_carriesAll_77 rfl ?_
  refine hr_iload3 (q := 79) X dX5_carriesAll_78 rfl ?_
  refine hr_iload2 (q := 80) X dX5_carriesAll_79 rfl ?_
  refine hr_call0 (q := 83) (hc_V (n := 5) (ci := 5) (As := [.ref (am 14), .int (nI 7), .ref (am 34), .int (nI 35), .int (bI true)]) X dX5_carriesAll_80 rfl (tk_carriesB X.tr hS5 (k := 14) (q := 34) (N := 7) (M := 130) (f := 35) rfl rfl rfl rfl rfl rfl (by decide) (by decide) (by decide)) q1623 cv_X5_carries ⟨Nat.le_of_ble_eq_true rfl, Nat.le_of_ble_eq_true rfl⟩ rfl (Nat.le_of_ble_eq_true rfl) hS5.om rfl rfl) rfl (fun qx E G' hp => by cases hp.1) (fun r G6 hp _ => ?_)
  obtain ⟨hv6, hS6⟩ := hp
  cases hv6
  refine hr_istore3 (q := 84) X dX5_carriesAll_83 rfl rfl (Nat.le_of_ble_eq_true rfl) ?_
  refine hr_aload0 (q := 85) X dX5_carriesAll_84 rfl ?_
  refine hr_aload0 (q := 86) X dX5_carriesAll_85 rfl ?_
  refine hr_getR (v := am 15) (q := 89) X dX5_carriesAll_86 rfl fr_q1397_5 rfl hS6.om (hS6.f rfl) ?_
  refine hr_bipush (v := (nI 7)) (q := 91) X dX5_carriesAll_89 rfl rfl ?_
  refine hr_aload1 (q := 92) X dX5_carriesAll_91 rfl ?_
  refine hr_iload3 (q := 93) X dX5_carriesAll_92 rfl ?_
  refine hr_iload2 (q := 94) X dX5_carriesAll_93 rfl ?_
  refine hr_call0 (q := 97) (hc_V (n := 5) (ci := 5) (As := [.ref (am 15), .int (nI 7), .ref (am 34), .int (nI 42), .int (bI true)]) X dX5_carriesAll_94 rfl (tk_carriesB X.tr hS6 (k := 15) (q := 34) (N := 7) (M := 130) (f := 42) rfl rfl rfl rfl rfl rfl (by decide) (by decide) (by decide)) q1623 cv_X5_carries ⟨Nat.le_of_ble_eq_true rfl, Nat.le_of_ble_eq_true rfl⟩ rfl (Nat.le_of_ble_eq_true rfl) hS6.om rfl rfl) rfl (fun qx E G' hp => by cases hp.1) (fun r G7 hp _ => ?_)
  obtain ⟨hv7, hS7⟩ := hp
  cases hv7
  refine hr_istore3 (q := 98) X dX5_carriesAll_97 rfl rfl (Nat.le_of_ble_eq_true rfl) ?_
  refine hr_aload0 (q := 99) X dX5_carriesAll_98 rfl ?_
  refine hr_aload0 (q := 100) X dX5_carriesAll_99 rfl ?_
  refine hr_getR (v := am 16) (q := 103) X dX5_carriesAll_100 rfl fr_q1398_5 rfl hS7.om (hS7.f rfl) ?_
  refine hr_bipush (v := (nI 36)) (q := 105) X dX5_carriesAll_103 rfl rfl ?_
  refine hr_aload1 (q := 106) X dX5_carriesAll_105 rfl ?_
  refine hr_iload3 (q := 107) X dX5_carriesAll_106 rfl ?_
  refine hr_iload2 (q := 108) X dX5_carriesAll_107 rfl ?_
  refine hr_call0 (q := 111) (hc_V (n := 5) (ci := 5) (As := [.ref (am 16), .int (nI 36), .ref (am 34), .int (nI 49), .int (bI true)]) X dX5_carriesAll_108 rfl (tk_carriesB X.tr hS7 (k := 16) (q := 34) (N := 36) (M := 130) (f := 49) rfl rfl rfl rfl rfl rfl (by decide) (by decide) (by decide)) q1623 cv_X5_carries ⟨Nat.le_of_ble_eq_true rfl, Nat.le_of_ble_eq_true rfl⟩ rfl (Nat.le_of_ble_eq_true rfl) hS7.om rfl rfl) rfl (fun qx E G' hp => by cases hp.1) (fun r G8 hp _ => ?_)
  obtain ⟨hv8, hS8⟩ := hp
  cases hv8
  refine hr_istore3 (q := 112) X dX5_carriesAll_111 rfl rfl (Nat.le_of_ble_eq_true rfl) ?_
  refine hr_aload0 (q := 113) X dX5_carriesAll_112 rfl ?_
  refine hr_aload0 (q := 114) X dX5_carriesAll_113 rfl ?_
  refine hr_getR (v := am 17) (q := 117) X dX5_carriesAll_114 rfl fr_q1399_5 rfl hS8.om (hS8.f rfl) ?_
  refine hr_bipush (v := (nI 36)) (q := 119) X dX5_carriesAll_117 rfl rfl ?_
  refine hr_aload1 (q := 120) X dX5_carriesAll_119 rfl ?_
  refine hr_iload3 (q := 121) X dX5_carriesAll_120 rfl ?_
  refine hr_iload2 (q := 122) X dX5_carriesAll_121 rfl ?_
  refine hr_call0 (q := 125) (hc_V (n := 5) (ci := 5) (As := [.ref (am 17), .int (nI 36), .ref (am 34), .int (nI 85), .int (bI true)]) X dX5_carriesAll_122 rfl (tk_carriesB X.tr hS8 (k := 17) (q := 34) (N := 36) (M := 130) (f := 85) rfl rfl rfl rfl rfl rfl (by decide) (by decide) (by decide)) q1623 cv_X5_carries ⟨Nat.le_of_ble_eq_true rfl, Nat.le_of_ble_eq_true rfl⟩ rfl (Nat.le_of_ble_eq_true rfl) hS8.om rfl rfl) rfl (fun qx E G' hp => by cases hp.1) (fun r G9 hp _ => ?_)
  obtain ⟨hv9, hS9⟩ := hp
  cases hv9
  refine hr_istore3 (q := 126) X dX5_carriesAll_125 rfl rfl (Nat.le_of_ble_eq_true rfl) ?_
  refine hr_iload2 (q := 127) X dX5_carriesAll_126 rfl ?_
  refine hr_ifB_eq (q := 130) (tgt := 195) X dX5_carriesAll_127 rfl (by decide) (fun c127 => ?_) (fun c127 => ?_)
  · exact absurd c127 (by decide)
  · refine hr_aload0 (q := 131) X dX5_carriesAll_130 rfl ?_
    refine hr_aload1 (q := 132) X dX5_carriesAll_131 rfl ?_
    refine hr_iload3 (q := 133) X dX5_carriesAll_132 rfl ?_
    refine hr_ialdN (v := u.2.1 34 121) (q := 134) X dX5_carriesAll_133 rfl (hS9.ka (n := 130) rfl rfl rfl) (Or.inl rfl) (by decide) (by decide) (hS9.ar rfl _) ?_
    refine hr_putI (q := 137) X dX5_carriesAll_134 rfl fw_q1382_5 (fun h => nomatch h) rfl rfl rfl hS9.om ?_
    have hR10 := hS9.setS 0 (u.2.1 34 121)
    refine hr_aload0 (q := 138) X dX5_carriesAll_137 rfl ?_
    refine hr_aload1 (q := 139) X dX5_carriesAll_138 rfl ?_
    refine hr_iload3 (q := 140) X dX5_carriesAll_139 rfl ?_
    refine hr_iconst (v := (nI 1)) (q := 141) X dX5_carriesAll_140 rfl rfl ?_
    refine hr_iadd (v := (nI 122)) (q := 142) X dX5_carriesAll_141 rfl (by decide) ?_
    refine hr_ialdN (v := u.2.1 34 122) (q := 143) X dX5_carriesAll_142 rfl (hR10.ka (n := 130) rfl rfl rfl) (Or.inl rfl) (by decide) (by decide) (hR10.ar rfl _) ?_
    refine hr_putI (q := 146) X dX5_carriesAll_143 rfl fw_q1383_5 (fun h => nomatch h) rfl rfl rfl hR10.om ?_
    have hR11 := hR10.setS 1 (u.2.1 34 122)
    refine hr_aload0 (q := 147) X dX5_carriesAll_146 rfl ?_
    refine hr_aload1 (q := 148) X dX5_carriesAll_147 rfl ?_
    refine hr_iload3 (q := 149) X dX5_carriesAll_148 rfl ?_
    refine hr_iconst (v := (nI 2)) (q := 150) X dX5_carriesAll_149 rfl rfl ?_
    refine hr_iadd (v := (nI 123)) (q := 151) X dX5_carriesAll_150 rfl (by decide) ?_
    refine hr_ialdN (v := u.2.1 34 123) (q := 152) X dX5_carriesAll_151 rfl (hR11.ka (n := 130) rfl rfl rfl) (Or.inl rfl) (by decide) (by decide) (hR11.ar rfl _) ?_
    refine hr_putI (q := 155) X dX5_carriesAll_152 rfl fw_q1384_5 (fun h => nomatch h) rfl rfl rfl hR11.om ?_
    have hR12 := hR11.setS 2 (u.2.1 34 123)
    refine hr_aload0 (q := 156) X dX5_carriesAll_155 rfl ?_
    refine hr_aload1 (q := 157) X dX5_carriesAll_156 rfl ?_
    refine hr_iload3 (q := 158) X dX5_carriesAll_157 rfl ?_
    refine hr_iconst (v := (nI 3)) (q := 159) X dX5_carriesAll_158 rfl rfl ?_
    refine hr_iadd (v := (nI 124)) (q := 160) X dX5_carriesAll_159 rfl (by decide) ?_
    refine hr_ialdN (v := u.2.1 34 124) (q := 161) X dX5_carriesAll_160 rfl (hR12.ka (n := 130) rfl rfl rfl) (Or.inl rfl) (by decide) (by decide) (hR12.ar rfl _) ?_
    refine hr_putI (q := 164) X dX5_carriesAll_161 rfl fw_q1385_5 (fun h => nomatch h) rfl rfl rfl hR12.om ?_
    have hR13 := hR12.setS 3 (u.2.1 34 124)
    refine hr_aload0 (q := 165) X dX5_carriesAll_164 rfl ?_
    refine hr_aload1 (q := 166) X dX5_carriesAll_165 rfl ?_
    refine hr_iload3 (q := 167) X dX5_carriesAll_166 rfl ?_
    refine hr_iconst (v := (nI 4)) (q := 168) X dX5_carriesAll_167 rfl rfl ?_
    refine hr_iadd (v := (nI 125)) (q := 169) X dX5_carriesAll_168 rfl (by decide) ?_
    refine hr_ialdN (v := u.2.1 34 125) (q := 170) X dX5_carriesAll_169 rfl (hR13.ka (n := 130) rfl rfl rfl) (Or.inl rfl) (by decide) (by decide) (hR13.ar rfl _) ?_
    refine hr_putI (q := 173) X dX5_carriesAll_170 rfl fw_q1386_5 (fun h => nomatch h) rfl rfl rfl hR13.om ?_
    have hR14 := hR13.setS 4 (u.2.1 34 125)
    refine hr_aload0 (q := 174) X dX5_carriesAll_173 rfl ?_
    refine hr_aload1 (q := 175) X dX5_carriesAll_174 rfl ?_
    refine hr_iload3 (q := 176) X dX5_carriesAll_175 rfl ?_
    refine hr_iconst (v := (nI 5)) (q := 177) X dX5_carriesAll_176 rfl rfl ?_
    refine hr_iadd (v := (nI 126)) (q := 178) X dX5_carriesAll_177 rfl (by decide) ?_
    refine hr_ialdN (v := u.2.1 34 126) (q := 179) X dX5_carriesAll_178 rfl (hR14.ka (n := 130) rfl rfl rfl) (Or.inl rfl) (by decide) (by decide) (hR14.ar rfl _) ?_
    refine hr_putI (q := 182) X dX5_carriesAll_179 rfl fw_q1387_5 (fun h => nomatch h) rfl rfl rfl hR14.om ?_
    have hR15 := hR14.setS 5 (u.2.1 34 126)
    refine hr_aload0 (q := 183) X dX5_carriesAll_182 rfl ?_
    refine hr_aload1 (q := 184) X dX5_carriesAll_183 rfl ?_
    refine hr_iload3 (q := 185) X dX5_carriesAll_184 rfl ?_
    refine hr_bipush (v := (nI 6)) (q := 187) X dX5_carriesAll_185 rfl rfl ?_
    refine hr_iadd (v := (nI 127)) (q := 188) X dX5_carriesAll_187 rfl (by decide) ?_
    refine hr_ialdN (v := u.2.1 34 127) (q := 189) X dX5_carriesAll_188 rfl (hR15.ka (n := 130) rfl rfl rfl) (Or.inl rfl) (by decide) (by decide) (hR15.ar rfl _) ?_
    refine hr_putI (q := 192) X dX5_carriesAll_189 rfl fw_q1388_5 (fun h => nomatch h) rfl rfl rfl hR15.om ?_
    have hR16 := hR15.setS 6 (u.2.1 34 127)
    refine hr_goto (tgt := 257) X dX5_carriesAll_192 (by decide) ?_
    exact hr_vret X hr dX5_carriesAll_257 ⟨rfl, hR16⟩

theorem tk_carriesAll35F {l : Launch} {D : hg_D} {lo : Nat} (htr : l.stackTraces = false) {G : hg_G} {o : Nat} {am : Nat → Nat} {u : tw_S} (hR : tw_R G o am u) :
    hg_M l D lo yX5_carriesAll (ws_ yX5_carriesAll cX5_carriesAll 4 (none)) rm_X5_carriesAll [.ref o, .ref (am 35), .int (bI false)] G (fun r G' => r = .inl none ∧ tw_R G' o am (tw_carF u 35)) := by
  refine hg_M.of htr (by decide) [some (.ref o), some (.ref (am 35)), some (.int (bI false)), none] rfl (Nat.le_of_ble_eq_true rfl) ?_
  intro p e s m args below meth c X hr hnm htab
  have X : hg_X p l s m args meth c D lo "TaxOnLooksModel" cX5_carriesAll 4 := X
  refine hr_aload0 (q := 1) X dX5_carriesAll_0 rfl ?_
  refine hr_aload0 (q := 2) X dX5_carriesAll_1 rfl ?_
  refine hr_getR (v := am 9) (q := 5) X dX5_carriesAll_2 rfl fr_q1391_5 rfl hR.om (hR.f rfl) ?_
  refine hr_bipush (v := (nI 7)) (q := 7) X dX5_carriesAll_5 rfl rfl ?_
  refine hr_aload1 (q := 8) X dX5_carriesAll_7 rfl ?_
  refine hr_iconst (v := (nI 0)) (q := 9) X dX5_carriesAll_8 rfl rfl ?_
  refine hr_iload2 (q := 10) X dX5_carriesAll_9 rfl ?_
  refine hr_call0 (q := 13) (hc_V (n := 5) (ci := 5) (As := [.ref (am 9), .int (nI 7), .ref (am 35), .int (nI 0), .int (bI false)]) X dX5_carriesAll_10 rfl (tk_carriesF X.tr hR (k := 9) (q := 35) (N := 7) (M := 130) (f := 0) rfl rfl rfl rfl rfl rfl (by decide) (by decide) (by decide)) q1623 cv_X5_carries ⟨Nat.le_of_ble_eq_true rfl, Nat.le_of_ble_eq_true rfl⟩ rfl (Nat.le_of_ble_eq_true rfl) hR.om rfl rfl) rfl (fun qx E G' hp => by cases hp.1) (fun r G1 hp _ => ?_)
  obtain ⟨hv1, hS1⟩ := hp
  cases hv1
  refine hr_istore3 (q := 14) X dX5_carriesAll_13 rfl rfl (Nat.le_of_ble_eq_true rfl) ?_
  refine hr_aload0 (q := 15) X dX5_carriesAll_14 rfl ?_
  refine hr_aload0 (q := 16) X dX5_carriesAll_15 rfl ?_
  refine hr_getR (v := am 10) (q := 19) X dX5_carriesAll_16 rfl fr_q1392_5 rfl hS1.om (hS1.f rfl) ?_
  refine hr_bipush (v := (nI 7)) (q := 21) X dX5_carriesAll_19 rfl rfl ?_
  refine hr_aload1 (q := 22) X dX5_carriesAll_21 rfl ?_
  refine hr_iload3 (q := 23) X dX5_carriesAll_22 rfl ?_
  refine hr_iload2 (q := 24) X dX5_carriesAll_23 rfl ?_
  refine hr_call0 (q := 27) (hc_V (n := 5) (ci := 5) (As := [.ref (am 10), .int (nI 7), .ref (am 35), .int (nI 7), .int (bI false)]) X dX5_carriesAll_24 rfl (tk_carriesF X.tr hS1 (k := 10) (q := 35) (N := 7) (M := 130) (f := 7) rfl rfl rfl rfl rfl rfl (by decide) (by decide) (by decide)) q1623 cv_X5_carries ⟨Nat.le_of_ble_eq_true rfl, Nat.le_of_ble_eq_true rfl⟩ rfl (Nat.le_of_ble_eq_true rfl) hS1.om rfl rfl) rfl (fun qx E G' hp => by cases hp.1) (fun r G2 hp _ => ?_)
  obtain ⟨hv2, hS2⟩ := hp
  cases hv2
  refine hr_istore3 (q := 28) X dX5_carriesAll_27 rfl rfl (Nat.le_of_ble_eq_true rfl) ?_
  refine hr_aload0 (q := 29) X dX5_carriesAll_28 rfl ?_
  refine hr_aload0 (q := 30) X dX5_carriesAll_29 rfl ?_
  refine hr_getR (v := am 11) (q := 33) X dX5_carriesAll_30 rfl fr_q1393_5 rfl hS2.om (hS2.f rfl) ?_
  refine hr_bipush (v := (nI 7)) (q := 35) X dX5_carriesAll_33 rfl rfl ?_
  refine hr_aload1 (q := 36) X dX5_carriesAll_35 rfl ?_
  refine hr_iload3 (q := 37) X dX5_carriesAll_36 rfl ?_
  refine hr_iload2 (q := 38) X dX5_carriesAll_37 rfl ?_
  refine hr_call0 (q := 41) (hc_V (n := 5) (ci := 5) (As := [.ref (am 11), .int (nI 7), .ref (am 35), .int (nI 14), .int (bI false)]) X dX5_carriesAll_38 rfl (tk_carriesF X.tr hS2 (k := 11) (q := 35) (N := 7) (M := 130) (f := 14) rfl rfl rfl rfl rfl rfl (by decide) (by decide) (by decide)) q1623 cv_X5_carries ⟨Nat.le_of_ble_eq_true rfl, Nat.le_of_ble_eq_true rfl⟩ rfl (Nat.le_of_ble_eq_true rfl) hS2.om rfl rfl) rfl (fun qx E G' hp => by cases hp.1) (fun r G3 hp _ => ?_)
  obtain ⟨hv3, hS3⟩ := hp
  cases hv3
  refine hr_istore3 (q := 42) X dX5_carriesAll_41 rfl rfl (Nat.le_of_ble_eq_true rfl) ?_
  refine hr_aload0 (q := 43) X dX5_carriesAll_42 rfl ?_
  refine hr_aload0 (q := 44) X dX5_carriesAll_43 rfl ?_
  refine hr_getR (v := am 12) (q := 47) X dX5_carriesAll_44 rfl fr_q1394_5 rfl hS3.om (hS3.f rfl) ?_
  refine hr_bipush (v := (nI 7)) (q := 49) X dX5_carriesAll_47 rfl rfl ?_
  refine hr_aload1 (q := 50) X dX5_carriesAll_49 rfl ?_
  refine hr_iload3 (q := 51) X dX5_carriesAll_50 rfl ?_
  refine hr_iload2 (q := 52) X dX5_carriesAll_51 rfl ?_
  refine hr_call0 (q := 55) (hc_V (n := 5) (ci := 5) (As := [.ref (am 12), .int (nI 7), .ref (am 35), .int (nI 21), .int (bI false)]) X dX5_carriesAll_52 rfl (tk_carriesF X.tr hS3 (k := 12) (q := 35) (N := 7) (M := 130) (f := 21) rfl rfl rfl rfl rfl rfl (by decide) (by decide) (by decide)) q1623 cv_X5_carries ⟨Nat.le_of_ble_eq_true rfl, Nat.le_of_ble_eq_true rfl⟩ rfl (Nat.le_of_ble_eq_true rfl) hS3.om rfl rfl) rfl (fun qx E G' hp => by cases hp.1) (fun r G4 hp _ => ?_)
  obtain ⟨hv4, hS4⟩ := hp
  cases hv4
  refine hr_istore3 (q := 56) X dX5_carriesAll_55 rfl rfl (Nat.le_of_ble_eq_true rfl) ?_
  refine hr_aload0 (q := 57) X dX5_carriesAll_56 rfl ?_
  refine hr_aload0 (q := 58) X dX5_carriesAll_57 rfl ?_
  refine hr_getR (v := am 13) (q := 61) X dX5_carriesAll_58 rfl fr_q1395_5 rfl hS4.om (hS4.f rfl) ?_
  refine hr_bipush (v := (nI 7)) (q := 63) X dX5_carriesAll_61 rfl rfl ?_
  refine hr_aload1 (q := 64) X dX5_carriesAll_63 rfl ?_
  refine hr_iload3 (q := 65) X dX5_carriesAll_64 rfl ?_
  refine hr_iload2 (q := 66) X dX5_carriesAll_65 rfl ?_
  refine hr_call0 (q := 69) (hc_V (n := 5) (ci := 5) (As := [.ref (am 13), .int (nI 7), .ref (am 35), .int (nI 28), .int (bI false)]) X dX5_carriesAll_66 rfl (tk_carriesF X.tr hS4 (k := 13) (q := 35) (N := 7) (M := 130) (f := 28) rfl rfl rfl rfl rfl rfl (by decide) (by decide) (by decide)) q1623 cv_X5_carries ⟨Nat.le_of_ble_eq_true rfl, Nat.le_of_ble_eq_true rfl⟩ rfl (Nat.le_of_ble_eq_true rfl) hS4.om rfl rfl) rfl (fun qx E G' hp => by cases hp.1) (fun r G5 hp _ => ?_)
  obtain ⟨hv5, hS5⟩ := hp
  cases hv5
  refine hr_istore3 (q := 70) X dX5_carriesAll_69 rfl rfl (Nat.le_of_ble_eq_true rfl) ?_
  refine hr_aload0 (q := 71) X dX5_carriesAll_70 rfl ?_
  refine hr_aload0 (q := 72) X dX5_carriesAll_71 rfl ?_
  refine hr_getR (v := am 14) (q := 75) X dX5_carriesAll_72 rfl fr_q1396_5 rfl hS5.om (hS5.f rfl) ?_
  refine hr_bipush (v := (nI 7)) (q := 77) X dX5_carriesAll_75 rfl rfl ?_
  refine hr_aload1 (q := 78) X dX5_carriesAll_77 rfl ?_
  refine hr_iload3 (q := 79) X dX5_carriesAll_78 rfl ?_
  refine hr_iload2 (q := 80) X dX5_carriesAll_79 rfl ?_
  refine hr_call0 (q := 83) (hc_V (n := 5) (ci := 5) (As := [.ref (am 14), .int (nI 7), .ref (am 35), .int (nI 35), .int (bI false)]) X dX5_carriesAll_80 rfl (tk_carriesF X.tr hS5 (k := 14) (q := 35) (N := 7) (M := 130) (f := 35) rfl rfl rfl rfl rfl rfl (by decide) (by decide) (by decide)) q1623 cv_X5_carries ⟨Nat.le_of_ble_eq_true rfl, Nat.le_of_ble_eq_true rfl⟩ rfl (Nat.le_of_ble_eq_true rfl) hS5.om rfl rfl) rfl (fun qx E G' hp => by cases hp.1) (fun r G6 hp _ => ?_)
  obtain ⟨hv6, hS6⟩ := hp
  cases hv6
  refine hr_istore3 (q := 84) X dX5_carriesAll_83 rfl rfl (Nat.le_of_ble_eq_true rfl) ?_
  refine hr_aload0 (q := 85) X dX5_carriesAll_84 rfl ?_
  refine hr_aload0 (q := 86) X dX5_carriesAll_85 rfl ?_
  refine hr_getR (v := am 15) (q := 89) X dX5_carriesAll_86 rfl fr_q1397_5 rfl hS6.om (hS6.f rfl) ?_
  refine hr_bipush (v := (nI 7)) (q := 91) X dX5_carriesAll_89 rfl rfl ?_
  refine hr_aload1 (q := 92) X dX5_carriesAll_91 rfl ?_
  refine hr_iload3 (q := 93) X dX5_carriesAll_92 rfl ?_
  refine hr_iload2 (q := 94) X dX5_carriesAll_93 rfl ?_
  refine hr_call0 (q := 97) (hc_V (n := 5) (ci := 5) (As := [.ref (am 15), .int (nI 7), .ref (am 35), .int (nI 42), .int (bI false)]) X dX5_carriesAll_94 rfl (tk_carriesF X.tr hS6 (k := 15) (q := 35) (N := 7) (M := 130) (f := 42) rfl rfl rfl rfl rfl rfl (by decide) (by decide) (by decide)) q1623 cv_X5_carries ⟨Nat.le_of_ble_eq_true rfl, Nat.le_of_ble_eq_true rfl⟩ rfl (Nat.le_of_ble_eq_true rfl) hS6.om rfl rfl) rfl (fun qx E G' hp => by cases hp.1) (fun r G7 hp _ => ?_)
  obtain ⟨hv7, hS7⟩ := hp
  cases hv7
  refine hr_istore3 (q := 98) X dX5_carriesAll_97 rfl rfl (Nat.le_of_ble_eq_true rfl) ?_
  refine hr_aload0 (q := 99) X dX5_carriesAll_98 rfl ?_
  refine hr_aload0 (q := 100) X dX5_carriesAll_99 rfl ?_
  refine hr_getR (v := am 16) (q := 103) X dX5_carriesAll_100 rfl fr_q1398_5 rfl hS7.om (hS7.f rfl) ?_
  refine hr_bipush (v := (nI 36)) (q := 105) X dX5_carriesAll_103 rfl rfl ?_
  refine hr_aload1 (q := 106) X dX5_carriesAll_105 rfl ?_
  refine hr_iload3 (q := 107) X dX5_carriesAll_106 rfl ?_
  refine hr_iload2 (q := 108) X dX5_carriesAll_107 rfl ?_
  refine hr_call0 (q := 111) (hc_V (n := 5) (ci := 5) (As := [.ref (am 16), .int (nI 36), .ref (am 35), .int (nI 49), .int (bI false)]) X dX5_carriesAll_108 rfl (tk_carriesF X.tr hS7 (k := 16) (q := 35) (N := 36) (M := 130) (f := 49) rfl rfl rfl rfl rfl rfl (by decide) (by decide) (by decide)) q1623 cv_X5_carries ⟨Nat.le_of_ble_eq_true rfl, Nat.le_of_ble_eq_true rfl⟩ rfl (Nat.le_of_ble_eq_true rfl) hS7.om rfl rfl) rfl (fun qx E G' hp => by cases hp.1) (fun r G8 hp _ => ?_)
  obtain ⟨hv8, hS8⟩ := hp
  cases hv8
  refine hr_istore3 (q := 112) X dX5_carriesAll_111 rfl rfl (Nat.le_of_ble_eq_true rfl) ?_
  refine hr_aload0 (q := 113) X dX5_carriesAll_112 rfl ?_
  refine hr_aload0 (q := 114) X dX5_carriesAll_113 rfl ?_
  refine hr_getR (v := am 17) (q := 117) X dX5_carriesAll_114 rfl fr_q1399_5 rfl hS8.om (hS8.f rfl) ?_
  refine hr_bipush (v := (nI 36)) (q := 119) X dX5_carriesAll_117 rfl rfl ?_
  refine hr_aload1 (q := 120) X dX5_carriesAll_119 rfl ?_
  refine hr_iload3 (q := 121) X dX5_carriesAll_120 rfl ?_
  refine hr_iload2 (q := 122) X dX5_carriesAll_121 rfl ?_
  refine hr_call0 (q := 125) (hc_V (n := 5) (ci := 5) (As := [.ref (am 17), .int (nI 36), .ref (am 35), .int (nI 85), .int (bI false)]) X dX5_carriesAll_122 rfl (tk_carriesF X.tr hS8 (k := 17) (q := 35) (N := 36) (M := 130) (f := 85) rfl rfl rfl rfl rfl rfl (by decide) (by decide) (by decide)) q1623 cv_X5_carries ⟨Nat.le_of_ble_eq_true rfl, Nat.le_of_ble_eq_true rfl⟩ rfl (Nat.le_of_ble_eq_true rfl) hS8.om rfl rfl) rfl (fun qx E G' hp => by cases hp.1) (fun r G9 hp _ => ?_)
  obtain ⟨hv9, hS9⟩ := hp
  cases hv9
  refine hr_istore3 (q := 126) X dX5_carriesAll_125 rfl rfl (Nat.le_of_ble_eq_true rfl) ?_
  refine hr_iload2 (q := 127) X dX5_carriesAll_126 rfl ?_
  refine hr_ifB_eq (q := 130) (tgt := 195) X dX5_carriesAll_127 rfl (by decide) (fun c127 => ?_) (fun c127 => ?_)
  · refine hr_aload1 (q := 196) X dX5_carriesAll_195 rfl ?_
    refine hr_iload3 (q := 197) X dX5_carriesAll_196 rfl ?_
    refine hr_aload0 (q := 198) X dX5_carriesAll_197 rfl ?_
    refine hr_getI (v := u.1 0) (q := 201) X dX5_carriesAll_198 rfl fr_q1382_5 rfl hS9.om (hS9.sc 0) ?_
    refine hr_iastN (q := 202) X dX5_carriesAll_201 rfl (hS9.ka (n := 130) rfl rfl rfl) (by decide) (by decide) ?_
    have hR10 := hS9.setA (k := 35) rfl 121 (u.1 0)
    refine hr_aload1 (q := 203) X dX5_carriesAll_202 rfl ?_
    refine hr_iload3 (q := 204) X dX5_carriesAll_203 rfl ?_
    refine hr_iconst (v := (nI 1)) (q := 205) X dX5_carriesAll_204 rfl rfl ?_
    refine hr_iadd (v := (nI 122)) (q := 206) X dX5_carriesAll_205 rfl (by decide) ?_
    refine hr_aload0 (q := 207) X dX5_carriesAll_206 rfl ?_
    refine hr_getI (v := u.1 1) (q := 210) X dX5_carriesAll_207 rfl fr_q1383_5 rfl hR10.om (hR10.sc 1) ?_
    refine hr_iastN (q := 211) X dX5_carriesAll_210 rfl (hR10.ka (n := 130) rfl rfl rfl) (by decide) (by decide) ?_
    have hR11 := hR10.setA (k := 35) rfl 122 (u.1 1)
    refine hr_aload1 (q := 212) X dX5_carriesAll_211 rfl ?_
    refine hr_iload3 (q := 213) X dX5_carriesAll_212 rfl ?_
    refine hr_iconst (v := (nI 2)) (q := 214) X dX5_carriesAll_213 rfl rfl ?_
    refine hr_iadd (v := (nI 123)) (q := 215) X dX5_carriesAll_214 rfl (by decide) ?_
    refine hr_aload0 (q := 216) X dX5_carriesAll_215 rfl ?_
    refine hr_getI (v := u.1 2) (q := 219) X dX5_carriesAll_216 rfl fr_q1384_5 rfl hR11.om (hR11.sc 2) ?_
    refine hr_iastN (q := 220) X dX5_carriesAll_219 rfl (hR11.ka (n := 130) rfl rfl rfl) (by decide) (by decide) ?_
    have hR12 := hR11.setA (k := 35) rfl 123 (u.1 2)
    refine hr_aload1 (q := 221) X dX5_carriesAll_220 rfl ?_
    refine hr_iload3 (q := 222) X dX5_carriesAll_221 rfl ?_
    refine hr_iconst (v := (nI 3)) (q := 223) X dX5_carriesAll_222 rfl rfl ?_
    refine hr_iadd (v := (nI 124)) (q := 224) X dX5_carriesAll_223 rfl (by decide) ?_
    refine hr_aload0 (q := 225) X dX5_carriesAll_224 rfl ?_
    refine hr_getI (v := u.1 3) (q := 228) X dX5_carriesAll_225 rfl fr_q1385_5 rfl hR12.om (hR12.sc 3) ?_
    refine hr_iastN (q := 229) X dX5_carriesAll_228 rfl (hR12.ka (n := 130) rfl rfl rfl) (by decide) (by decide) ?_
    have hR13 := hR12.setA (k := 35) rfl 124 (u.1 3)
    refine hr_aload1 (q := 230) X dX5_carriesAll_229 rfl ?_
    refine hr_iload3 (q := 231) X dX5_carriesAll_230 rfl ?_
    refine hr_iconst (v := (nI 4)) (q := 232) X dX5_carriesAll_231 rfl rfl ?_
    refine hr_iadd (v := (nI 125)) (q := 233) X dX5_carriesAll_232 rfl (by decide) ?_
    refine hr_aload0 (q := 234) X dX5_carriesAll_233 rfl ?_
    refine hr_getI (v := u.1 4) (q := 237) X dX5_carriesAll_234 rfl fr_q1386_5 rfl hR13.om (hR13.sc 4) ?_
    refine hr_iastN (q := 238) X dX5_carriesAll_237 rfl (hR13.ka (n := 130) rfl rfl rfl) (by decide) (by decide) ?_
    have hR14 := hR13.setA (k := 35) rfl 125 (u.1 4)
    refine hr_aload1 (q := 239) X dX5_carriesAll_238 rfl ?_
    refine hr_iload3 (q := 240) X dX5_carriesAll_239 rfl ?_
    refine hr_iconst (v := (nI 5)) (q := 241) X dX5_carriesAll_240 rfl rfl ?_
    refine hr_iadd (v := (nI 126)) (q := 242) X dX5_carriesAll_241 rfl (by decide) ?_
    refine hr_aload0 (q := 243) X dX5_carriesAll_242 rfl ?_
    refine hr_getI (v := u.1 5) (q := 246) X dX5_carriesAll_243 rfl fr_q1387_5 rfl hR14.om (hR14.sc 5) ?_
    refine hr_iastN (q := 247) X dX5_carriesAll_246 rfl (hR14.ka (n := 130) rfl rfl rfl) (by decide) (by decide) ?_
    have hR15 := hR14.setA (k := 35) rfl 126 (u.1 5)
    refine hr_aload1 (q := 248) X dX5_carriesAll_247 rfl ?_
    refine hr_iload3 (q := 249) X dX5_carriesAll_248 rfl ?_
    refine hr_bipush (v := (nI 6)) (q := 251) X dX5_carriesAll_249 rfl rfl ?_
    refine hr_iadd (v := (nI 127)) (q := 252) X dX5_carriesAll_251 rfl (by decide) ?_
    refine hr_aload0 (q := 253) X dX5_carriesAll_252 rfl ?_
    refine hr_getI (v := u.1 6) (q := 256) X dX5_carriesAll_253 rfl fr_q1388_5 rfl hR15.om (hR15.sc 6) ?_
    refine hr_iastN (q := 257) X dX5_carriesAll_256 rfl (hR15.ka (n := 130) rfl rfl rfl) (by decide) (by decide) ?_
    have hR16 := hR15.setA (k := 35) rfl 127 (u.1 6)
    exact hr_vret X hr dX5_carriesAll_257 ⟨rfl, hR16⟩
  · exact absurd c127 (by decide)

theorem tk_carriesAll35B {l : Launch} {D : hg_D} {lo : Nat} (htr : l.stackTraces = false) {G : hg_G} {o : Nat} {am : Nat → Nat} {u : tw_S} (hR : tw_R G o am u) :
    hg_M l D lo yX5_carriesAll (ws_ yX5_carriesAll cX5_carriesAll 4 (none)) rm_X5_carriesAll [.ref o, .ref (am 35), .int (bI true)] G (fun r G' => r = .inl none ∧ tw_R G' o am (tw_carB u 35)) := by
  refine hg_M.of htr (by decide) [some (.ref o), some (.ref (am 35)), some (.int (bI true)), none] rfl (Nat.le_of_ble_eq_true rfl) ?_
  intro p e s m args below meth c X hr hnm htab
  have X : hg_X p l s m args meth c D lo "TaxOnLooksModel" cX5_carriesAll 4 := X
  refine hr_aload0 (q := 1) X dX5_carriesAll_0 rfl ?_
  refine hr_aload0 (q := 2) X dX5_carriesAll_1 rfl ?_
  refine hr_getR (v := am 9) (q := 5) X dX5_carriesAll_2 rfl fr_q1391_5 rfl hR.om (hR.f rfl) ?_
  refine hr_bipush (v := (nI 7)) (q := 7) X dX5_carriesAll_5 rfl rfl ?_
  refine hr_aload1 (q := 8) X dX5_carriesAll_7 rfl ?_
  refine hr_iconst (v := (nI 0)) (q := 9) X dX5_carriesAll_8 rfl rfl ?_
  refine hr_iload2 (q := 10) X dX5_carriesAll_9 rfl ?_
  refine hr_call0 (q := 13) (hc_V (n := 5) (ci := 5) (As := [.ref (am 9), .int (nI 7), .ref (am 35), .int (nI 0), .int (bI true)]) X dX5_carriesAll_10 rfl (tk_carriesB X.tr hR (k := 9) (q := 35) (N := 7) (M := 130) (f := 0) rfl rfl rfl rfl rfl rfl (by decide) (by decide) (by decide)) q1623 cv_X5_carries ⟨Nat.le_of_ble_eq_true rfl, Nat.le_of_ble_eq_true rfl⟩ rfl (Nat.le_of_ble_eq_true rfl) hR.om rfl rfl) rfl (fun qx E G' hp => by cases hp.1) (fun r G1 hp _ => ?_)
  obtain ⟨hv1, hS1⟩ := hp
  cases hv1
  refine hr_istore3 (q := 14) X dX5_carriesAll_13 rfl rfl (Nat.le_of_ble_eq_true rfl) ?_
  refine hr_aload0 (q := 15) X dX5_carriesAll_14 rfl ?_
  refine hr_aload0 (q := 16) X dX5_carriesAll_15 rfl ?_
  refine hr_getR (v := am 10) (q := 19) X dX5_carriesAll_16 rfl fr_q1392_5 rfl hS1.om (hS1.f rfl) ?_
  refine hr_bipush (v := (nI 7)) (q := 21) X dX5_carriesAll_19 rfl rfl ?_
  refine hr_aload1 (q := 22) X dX5_carriesAll_21 rfl ?_
  refine hr_iload3 (q := 23) X dX5_carriesAll_22 rfl ?_
  refine hr_iload2 (q := 24) X dX5_carriesAll_23 rfl ?_
  refine hr_call0 (q := 27) (hc_V (n := 5) (ci := 5) (As := [.ref (am 10), .int (nI 7), .ref (am 35), .int (nI 7), .int (bI true)]) X dX5_carriesAll_24 rfl (tk_carriesB X.tr hS1 (k := 10) (q := 35) (N := 7) (M := 130) (f := 7) rfl rfl rfl rfl rfl rfl (by decide) (by decide) (by decide)) q1623 cv_X5_carries ⟨Nat.le_of_ble_eq_true rfl, Nat.le_of_ble_eq_true rfl⟩ rfl (Nat.le_of_ble_eq_true rfl) hS1.om rfl rfl) rfl (fun qx E G' hp => by cases hp.1) (fun r G2 hp _ => ?_)
  obtain ⟨hv2, hS2⟩ := hp
  cases hv2
  refine hr_istore3 (q := 28) X dX5_carriesAll_27 rfl rfl (Nat.le_of_ble_eq_true rfl) ?_
  refine hr_aload0 (q := 29) X dX5_carriesAll_28 rfl ?_
  refine hr_aload0 (q := 30) X dX5_carriesAll_29 rfl ?_
  refine hr_getR (v := am 11) (q := 33) X dX5_carriesAll_30 rfl fr_q1393_5 rfl hS2.om (hS2.f rfl) ?_
  refine hr_bipush (v := (nI 7)) (q := 35) X dX5_carriesAll_33 rfl rfl ?_
  refine hr_aload1 (q := 36) X dX5_carriesAll_35 rfl ?_
  refine hr_iload3 (q := 37) X dX5_carriesAll_36 rfl ?_
  refine hr_iload2 (q := 38) X dX5_carriesAll_37 rfl ?_
  refine hr_call0 (q := 41) (hc_V (n := 5) (ci := 5) (As := [.ref (am 11), .int (nI 7), .ref (am 35), .int (nI 14), .int (bI true)]) X dX5_carriesAll_38 rfl (tk_carriesB X.tr hS2 (k := 11) (q := 35) (N := 7) (M := 130) (f := 14) rfl rfl rfl rfl rfl rfl (by decide) (by decide) (by decide)) q1623 cv_X5_carries ⟨Nat.le_of_ble_eq_true rfl, Nat.le_of_ble_eq_true rfl⟩ rfl (Nat.le_of_ble_eq_true rfl) hS2.om rfl rfl) rfl (fun qx E G' hp => by cases hp.1) (fun r G3 hp _ => ?_)
  obtain ⟨hv3, hS3⟩ := hp
  cases hv3
  refine hr_istore3 (q := 42) X dX5_carriesAll_41 rfl rfl (Nat.le_of_ble_eq_true rfl) ?_
  refine hr_aload0 (q := 43) X dX5_carriesAll_42 rfl ?_
  refine hr_aload0 (q := 44) X dX5_carriesAll_43 rfl ?_
  refine hr_getR (v := am 12) (q := 47) X dX5_carriesAll_44 rfl fr_q1394_5 rfl hS3.om (hS3.f rfl) ?_
  refine hr_bipush (v := (nI 7)) (q := 49) X dX5_carriesAll_47 rfl rfl ?_
  refine hr_aload1 (q := 50) X dX5_carriesAll_49 rfl ?_
  refine hr_iload3 (q := 51) X dX5_carriesAll_50 rfl ?_
  refine hr_iload2 (q := 52) X dX5_carriesAll_51 rfl ?_
  refine hr_call0 (q := 55) (hc_V (n := 5) (ci := 5) (As := [.ref (am 12), .int (nI 7), .ref (am 35), .int (nI 21), .int (bI true)]) X dX5_carriesAll_52 rfl (tk_carriesB X.tr hS3 (k := 12) (q := 35) (N := 7) (M := 130) (f := 21) rfl rfl rfl rfl rfl rfl (by decide) (by decide) (by decide)) q1623 cv_X5_carries ⟨Nat.le_of_ble_eq_true rfl, Nat.le_of_ble_eq_true rfl⟩ rfl (Nat.le_of_ble_eq_true rfl) hS3.om rfl rfl) rfl (fun qx E G' hp => by cases hp.1) (fun r G4 hp _ => ?_)
  obtain ⟨hv4, hS4⟩ := hp
  cases hv4
  refine hr_istore3 (q := 56) X dX5_carriesAll_55 rfl rfl (Nat.le_of_ble_eq_true rfl) ?_
  refine hr_aload0 (q := 57) X dX5_carriesAll_56 rfl ?_
  refine hr_aload0 (q := 58) X dX5_carriesAll_57 rfl ?_
  refine hr_getR (v := am 13) (q := 61) X dX5_carriesAll_58 rfl fr_q1395_5 rfl hS4.om (hS4.f rfl) ?_
  refine hr_bipush (v := (nI 7)) (q := 63) X dX5_carriesAll_61 rfl rfl ?_
  refine hr_aload1 (q := 64) X dX5_carriesAll_63 rfl ?_
  refine hr_iload3 (q := 65) X dX5_carriesAll_64 rfl ?_
  refine hr_iload2 (q := 66) X dX5_carriesAll_65 rfl ?_
  refine hr_call0 (q := 69) (hc_V (n := 5) (ci := 5) (As := [.ref (am 13), .int (nI 7), .ref (am 35), .int (nI 28), .int (bI true)]) X dX5_carriesAll_66 rfl (tk_carriesB X.tr hS4 (k := 13) (q := 35) (N := 7) (M := 130) (f := 28) rfl rfl rfl rfl rfl rfl (by decide) (by decide) (by decide)) q1623 cv_X5_carries ⟨Nat.le_of_ble_eq_true rfl, Nat.le_of_ble_eq_true rfl⟩ rfl (Nat.le_of_ble_eq_true rfl) hS4.om rfl rfl) rfl (fun qx E G' hp => by cases hp.1) (fun r G5 hp _ => ?_)
  obtain ⟨hv5, hS5⟩ := hp
  cases hv5
  refine hr_istore3 (q := 70) X dX5_carriesAll_69 rfl rfl (Nat.le_of_ble_eq_true rfl) ?_
  refine hr_aload0 (q := 71) X dX5_carriesAll_70 rfl ?_
  refine hr_aload0 (q := 72) X dX5_carriesAll_71 rfl ?_
  refine hr_getR (v := am 14) (q := 75) X dX5_carriesAll_72 rfl fr_q1396_5 rfl hS5.om (hS5.f rfl) ?_
  refine hr_bipush (v := (nI 7)) (q := 77) X dX5_carriesAll_75 rfl rfl ?_
  refine hr_aload1 (q := 78) X dX5_carriesAll_77 rfl ?_
  refine hr_iload3 (q := 79) X dX5_carriesAll_78 rfl ?_
  refine hr_iload2 (q := 80) X dX5_carriesAll_79 rfl ?_
  refine hr_call0 (q := 83) (hc_V (n := 5) (ci := 5) (As := [.ref (am 14), .int (nI 7), .ref (am 35), .int (nI 35), .int (bI true)]) X dX5_carriesAll_80 rfl (tk_carriesB X.tr hS5 (k := 14) (q := 35) (N := 7) (M := 130) (f := 35) rfl rfl rfl rfl rfl rfl (by decide) (by decide) (by decide)) q1623 cv_X5_carries ⟨Nat.le_of_ble_eq_true rfl, Nat.le_of_ble_eq_true rfl⟩ rfl (Nat.le_of_ble_eq_true rfl) hS5.om rfl rfl) rfl (fun qx E G' hp => by cases hp.1) (fun r G6 hp _ => ?_)
  obtain ⟨hv6, hS6⟩ := hp
  cases hv6
  refine hr_istore3 (q := 84) X dX5_carriesAll_83 rfl rfl (Nat.le_of_ble_eq_true rfl) ?_
  refine hr_aload0 (q := 85) X dX5_carriesAll_84 rfl ?_
  refine hr_aload0 (q := 86) X dX5_carriesAll_85 rfl ?_
  refine hr_getR (v := am 15) (q := 89) X dX5_carriesAll_86 rfl fr_q1397_5 rfl hS6.om (hS6.f rfl) ?_
  refine hr_bipush (v := (nI 7)) (q := 91) X dX5_carriesAll_89 rfl rfl ?_
  refine hr_aload1 (q := 92) X dX5_carriesAll_91 rfl ?_
  refine hr_iload3 (q := 93) X dX5_carriesAll_92 rfl ?_
  refine hr_iload2 (q := 94) X dX5_carriesAll_93 rfl ?_
  refine hr_call0 (q := 97) (hc_V (n := 5) (ci := 5) (As := [.ref (am 15), .int (nI 7), .ref (am 35), .int (nI 42), .int (bI true)]) X dX5_carriesAll_94 rfl (tk_carriesB X.tr hS6 (k := 15) (q := 35) (N := 7) (M := 130) (f := 42) rfl rfl rfl rfl rfl rfl (by decide) (by decide) (by decide)) q1623 cv_X5_carries ⟨Nat.le_of_ble_eq_true rfl, Nat.le_of_ble_eq_true rfl⟩ rfl (Nat.le_of_ble_eq_true rfl) hS6.om rfl rfl) rfl (fun qx E G' hp => by cases hp.1) (fun r G7 hp _ => ?_)
  obtain ⟨hv7, hS7⟩ := hp
  cases hv7
  refine hr_istore3 (q := 98) X dX5_carriesAll_97 rfl rfl (Nat.le_of_ble_eq_true rfl) ?_
  refine hr_aload0 (q := 99) X dX5_carriesAll_98 rfl ?_
  refine hr_aload0 (q := 100) X dX5_carriesAll_99 rfl ?_
  refine hr_getR (v := am 16) (q := 103) X dX5_carriesAll_100 rfl fr_q1398_5 rfl hS7.om (hS7.f rfl) ?_
  refine hr_bipush (v := (nI 36)) (q := 105) X dX5_carriesAll_103 rfl rfl ?_
  refine hr_aload1 (q := 106) X dX5_carriesAll_105 rfl ?_
  refine hr_iload3 (q := 107) X dX5_carriesAll_106 rfl ?_
  refine hr_iload2 (q := 108) X dX5_carriesAll_107 rfl ?_
  refine hr_call0 (q := 111) (hc_V (n := 5) (ci := 5) (As := [.ref (am 16), .int (nI 36), .ref (am 35), .int (nI 49), .int (bI true)]) X dX5_carriesAll_108 rfl (tk_carriesB X.tr hS7 (k := 16) (q := 35) (N := 36) (M := 130) (f := 49) rfl rfl rfl rfl rfl rfl (by decide) (by decide) (by decide)) q1623 cv_X5_carries ⟨Nat.le_of_ble_eq_true rfl, Nat.le_of_ble_eq_true rfl⟩ rfl (Nat.le_of_ble_eq_true rfl) hS7.om rfl rfl) rfl (fun qx E G' hp => by cases hp.1) (fun r G8 hp _ => ?_)
  obtain ⟨hv8, hS8⟩ := hp
  cases hv8
  refine hr_istore3 (q := 112) X dX5_carriesAll_111 rfl rfl (Nat.le_of_ble_eq_true rfl) ?_
  refine hr_aload0 (q := 113) X dX5_carriesAll_112 rfl ?_
  refine hr_aload0 (q := 114) X dX5_carriesAll_113 rfl ?_
  refine hr_getR (v := am 17) (q := 117) X dX5_carriesAll_114 rfl fr_q1399_5 rfl hS8.om (hS8.f rfl) ?_
  refine hr_bipush (v := (nI 36)) (q := 119) X dX5_carriesAll_117 rfl rfl ?_
  refine hr_aload1 (q := 120) X dX5_carriesAll_119 rfl ?_
  refine hr_iload3 (q := 121) X dX5_carriesAll_120 rfl ?_
  refine hr_iload2 (q := 122) X dX5_carriesAll_121 rfl ?_
  refine hr_call0 (q := 125) (hc_V (n := 5) (ci := 5) (As := [.ref (am 17), .int (nI 36), .ref (am 35), .int (nI 85), .int (bI true)]) X dX5_carriesAll_122 rfl (tk_carriesB X.tr hS8 (k := 17) (q := 35) (N := 36) (M := 130) (f := 85) rfl rfl rfl rfl rfl rfl (by decide) (by decide) (by decide)) q1623 cv_X5_carries ⟨Nat.le_of_ble_eq_true rfl, Nat.le_of_ble_eq_true rfl⟩ rfl (Nat.le_of_ble_eq_true rfl) hS8.om rfl rfl) rfl (fun qx E G' hp => by cases hp.1) (fun r G9 hp _ => ?_)
  obtain ⟨hv9, hS9⟩ := hp
  cases hv9
  refine hr_istore3 (q := 126) X dX5_carriesAll_125 rfl rfl (Nat.le_of_ble_eq_true rfl) ?_
  refine hr_iload2 (q := 127) X dX5_carriesAll_126 rfl ?_
  refine hr_ifB_eq (q := 130) (tgt := 195) X dX5_carriesAll_127 rfl (by decide) (fun c127 => ?_) (fun c127 => ?_)
  · exact absurd c127 (by decide)
  · refine hr_aload0 (q := 131) X dX5_carriesAll_130 rfl ?_
    refine hr_aload1 (q := 132) X dX5_carriesAll_131 rfl ?_
    refine hr_iload3 (q := 133) X dX5_carriesAll_132 rfl ?_
    refine hr_ialdN (v := u.2.1 35 121) (q := 134) X dX5_carriesAll_133 rfl (hS9.ka (n := 130) rfl rfl rfl) (Or.inl rfl) (by decide) (by decide) (hS9.ar rfl _) ?_
    refine hr_putI (q := 137) X dX5_carriesAll_134 rfl fw_q1382_5 (fun h => nomatch h) rfl rfl rfl hS9.om ?_
    have hR10 := hS9.setS 0 (u.2.1 35 121)
    refine hr_aload0 (q := 138) X dX5_carriesAll_137 rfl ?_
    refine hr_aload1 (q := 139) X dX5_carriesAll_138 rfl ?_
    refine hr_iload3 (q := 140) X dX5_carriesAll_139 rfl ?_
    refine hr_iconst (v := (nI 1)) (q := 141) X dX5_carriesAll_140 rfl rfl ?_
    refine hr_iadd (v := (nI 122)) (q := 142) X dX5_carriesAll_141 rfl (by decide) ?_
    refine hr_ialdN (v := u.2.1 35 122) (q := 143) X dX5_carriesAll_142 rfl (hR10.ka (n := 130) rfl rfl rfl) (Or.inl rfl) (by decide) (by decide) (hR10.ar rfl _) ?_
    refine hr_putI (q := 146) X dX5_carriesAll_143 rfl fw_q1383_5 (fun h => nomatch h) rfl rfl rfl hR10.om ?_
    have hR11 := hR10.setS 1 (u.2.1 35 122)
    refine hr_aload0 (q := 147) X dX5_carriesAll_146 rfl ?_
    refine hr_aload1 (q := 148) X dX5_carriesAll_147 rfl ?_
    refine hr_iload3 (q := 149) X dX5_carriesAll_148 rfl ?_
    refine hr_iconst (v := (nI 2)) (q := 150) X dX5_carriesAll_149 rfl rfl ?_
    refine hr_iadd (v := (nI 123)) (q := 151) X dX5_carriesAll_150 rfl (by decide) ?_
    refine hr_ialdN (v := u.2.1 35 123) (q := 152) X dX5_carriesAll_151 rfl (hR11.ka (n := 130) rfl rfl rfl) (Or.inl rfl) (by decide) (by decide) (hR11.ar rfl _) ?_
    refine hr_putI (q := 155) X dX5_carriesAll_152 rfl fw_q1384_5 (fun h => nomatch h) rfl rfl rfl hR11.om ?_
    have hR12 := hR11.setS 2 (u.2.1 35 123)
    refine hr_aload0 (q := 156) X dX5_carriesAll_155 rfl ?_
    refine hr_aload1 (q := 157) X dX5_carriesAll_156 rfl ?_
    refine hr_iload3 (q := 158) X dX5_carriesAll_157 rfl ?_
    refine hr_iconst (v := (nI 3)) (q := 159) X dX5_carriesAll_158 rfl rfl ?_
    refine hr_iadd (v := (nI 124)) (q := 160) X dX5_carriesAll_159 rfl (by decide) ?_
    refine hr_ialdN (v := u.2.1 35 124) (q := 161) X dX5_carriesAll_160 rfl (hR12.ka (n := 130) rfl rfl rfl) (Or.inl rfl) (by decide) (by decide) (hR12.ar rfl _) ?_
    refine hr_putI (q := 164) X dX5_carriesAll_161 rfl fw_q1385_5 (fun h => nomatch h) rfl rfl rfl hR12.om ?_
    have hR13 := hR12.setS 3 (u.2.1 35 124)
    refine hr_aload0 (q := 165) X dX5_carriesAll_164 rfl ?_
    refine hr_aload1 (q := 166) X dX5_carriesAll_165 rfl ?_
    refine hr_iload3 (q := 167) X dX5_carriesAll_166 rfl ?_
    refine hr_iconst (v := (nI 4)) (q := 168) X dX5_carriesAll_167 rfl rfl ?_
    refine hr_iadd (v := (nI 125)) (q := 169) X dX5_carriesAll_168 rfl (by decide) ?_
    refine hr_ialdN (v := u.2.1 35 125) (q := 170) X dX5_carriesAll_169 rfl (hR13.ka (n := 130) rfl rfl rfl) (Or.inl rfl) (by decide) (by decide) (hR13.ar rfl _) ?_
    refine hr_putI (q := 173) X dX5_carriesAll_170 rfl fw_q1386_5 (fun h => nomatch h) rfl rfl rfl hR13.om ?_
    have hR14 := hR13.setS 4 (u.2.1 35 125)
    refine hr_aload0 (q := 174) X dX5_carriesAll_173 rfl ?_
    refine hr_aload1 (q := 175) X dX5_carriesAll_174 rfl ?_
    refine hr_iload3 (q := 176) X dX5_carriesAll_175 rfl ?_
    refine hr_iconst (v := (nI 5)) (q := 177) X dX5_carriesAll_176 rfl rfl ?_
    refine hr_iadd (v := (nI 126)) (q := 178) X dX5_carriesAll_177 rfl (by decide) ?_
    refine hr_ialdN (v := u.2.1 35 126) (q := 179) X dX5_carriesAll_178 rfl (hR14.ka (n := 130) rfl rfl rfl) (Or.inl rfl) (by decide) (by decide) (hR14.ar rfl _) ?_
    refine hr_putI (q := 182) X dX5_carriesAll_179 rfl fw_q1387_5 (fun h => nomatch h) rfl rfl rfl hR14.om ?_
    have hR15 := hR14.setS 5 (u.2.1 35 126)
    refine hr_aload0 (q := 183) X dX5_carriesAll_182 rfl ?_
    refine hr_aload1 (q := 184) X dX5_carriesAll_183 rfl ?_
    refine hr_iload3 (q := 185) X dX5_carriesAll_184 rfl ?_
    refine hr_bipush (v := (nI 6)) (q := 187) X dX5_carriesAll_185 rfl rfl ?_
    refine hr_iadd (v := (nI 127)) (q := 188) X dX5_carriesAll_187 rfl (by decide) ?_
    refine hr_ialdN (v := u.2.1 35 127) (q := 189) X dX5_carriesAll_188 rfl (hR15.ka (n := 130) rfl rfl rfl) (Or.inl rfl) (by decide) (by decide) (hR15.ar rfl _) ?_
    refine hr_putI (q := 192) X dX5_carriesAll_189 rfl fw_q1388_5 (fun h => nomatch h) rfl rfl rfl hR15.om ?_
    have hR16 := hR15.setS 6 (u.2.1 35 127)
    refine hr_goto (tgt := 257) X dX5_carriesAll_192 (by decide) ?_
    exact hr_vret X hr dX5_carriesAll_257 ⟨rfl, hR16⟩

