theorem tk_isShelf {l : Launch} {D : hg_D} {lo : Nat} (htr : l.stackTraces = false) {G : hg_G} {o : Nat} {am : Nat → Nat} {u : tw_S} (hR : tw_R G o am u) (x : Int32) :
    hg_M l D lo yX5_isShelf (ws_ yX5_isShelf cX5_isShelf 2 ((some FieldType.boolean))) rm_X5_isShelf [.ref o, .int x] G (hg_Pv G (.int (bI (sp_in x 8)))) := by
  refine hg_M.of htr (by decide) [some (.ref o), some (.int x)] rfl (Nat.le_of_ble_eq_true rfl) ?_
  intro p e s m args below meth c X hr hnm htab
  have X : hg_X p l s m args meth c D lo "TaxOnLooksModel" cX5_isShelf 2 := X
  refine hr_iload1 (q := 1) X dX5_isShelf_0 rfl ?_
  refine hr_if_lt (q := 4) (tgt := 14) X dX5_isShelf_1 rfl (by decide) (fun c1 => ?_) (fun c1 => ?_)
  · refine hr_iconst (v := (nI 0)) (q := 15) X dX5_isShelf_14 rfl rfl ?_
    exact hr_zret X hr rfl dX5_isShelf_15 ⟨hz_b0 (by first | (simp_all [sp_in]; done) | exact sp_in_a ‹x < 0›), rfl⟩
  · refine hr_iload1 (q := 5) X dX5_isShelf_4 rfl ?_
    refine hr_bipush (v := (nI 8)) (q := 7) X dX5_isShelf_5 rfl rfl ?_
    refine hr_icmp_ge (q := 10) (tgt := 14) X dX5_isShelf_7 rfl (by decide) (fun c7 => ?_) (fun c7 => ?_)
    · refine hr_iconst (v := (nI 0)) (q := 15) X dX5_isShelf_14 rfl rfl ?_
      exact hr_zret X hr rfl dX5_isShelf_15 ⟨hz_b0 (by first | (simp_all [sp_in]; done) | exact sp_in_a ‹x < 0›), rfl⟩
    · refine hr_iconst (v := (nI 1)) (q := 11) X dX5_isShelf_10 rfl rfl ?_
      refine hr_goto (tgt := 15) X dX5_isShelf_11 (by decide) ?_
      exact hr_zret X hr rfl dX5_isShelf_15 ⟨hz_b1 (by first | (simp_all [sp_in]; done) | exact sp_in_a ‹x < 0›), rfl⟩

theorem tk_isSquare {l : Launch} {D : hg_D} {lo : Nat} (htr : l.stackTraces = false) {G : hg_G} {o : Nat} {am : Nat → Nat} {u : tw_S} (hR : tw_R G o am u) (x : Int32) :
    hg_M l D lo yX5_isSquare (ws_ yX5_isSquare cX5_isSquare 2 ((some FieldType.boolean))) rm_X5_isSquare [.ref o, .int x] G (hg_Pv G (.int (bI (sp_in x 36)))) := by
  refine hg_M.of htr (by decide) [some (.ref o), some (.int x)] rfl (Nat.le_of_ble_eq_true rfl) ?_
  intro p e s m args below meth c X hr hnm htab
  have X : hg_X p l s m args meth c D lo "TaxOnLooksModel" cX5_isSquare 2 := X
  refine hr_iload1 (q := 1) X dX5_isSquare_0 rfl ?_
  refine hr_if_lt (q := 4) (tgt := 14) X dX5_isSquare_1 rfl (by decide) (fun c1 => ?_) (fun c1 => ?_)
  · refine hr_iconst (v := (nI 0)) (q := 15) X dX5_isSquare_14 rfl rfl ?_
    exact hr_zret X hr rfl dX5_isSquare_15 ⟨hz_b0 (by first | (simp_all [sp_in]; done) | exact sp_in_a ‹x < 0›), rfl⟩
  · refine hr_iload1 (q := 5) X dX5_isSquare_4 rfl ?_
    refine hr_bipush (v := (nI 36)) (q := 7) X dX5_isSquare_5 rfl rfl ?_
    refine hr_icmp_ge (q := 10) (tgt := 14) X dX5_isSquare_7 rfl (by decide) (fun c7 => ?_) (fun c7 => ?_)
    · refine hr_iconst (v := (nI 0)) (q := 15) X dX5_isSquare_14 rfl rfl ?_
      exact hr_zret X hr rfl dX5_isSquare_15 ⟨hz_b0 (by first | (simp_all [sp_in]; done) | exact sp_in_a ‹x < 0›), rfl⟩
    · refine hr_iconst (v := (nI 1)) (q := 11) X dX5_isSquare_10 rfl rfl ?_
      refine hr_goto (tgt := 15) X dX5_isSquare_11 (by decide) ?_
      exact hr_zret X hr rfl dX5_isSquare_15 ⟨hz_b1 (by first | (simp_all [sp_in]; done) | exact sp_in_a ‹x < 0›), rfl⟩

theorem tk_isOne {l : Launch} {D : hg_D} {lo : Nat} (htr : l.stackTraces = false) {G : hg_G} {o : Nat} {am : Nat → Nat} {u : tw_S} (hR : tw_R G o am u) {t : sp_S} (hT : tw_T u t) (x : Int32) :
    hg_M l D lo yX5_isOne (ws_ yX5_isOne cX5_isOne 2 ((some FieldType.boolean))) rm_X5_isOne [.ref o, .int x] G (hg_Pv G (.int (bI (sp_in x (t.1 0 0))))) := by
  refine hg_M.of htr (by decide) [some (.ref o), some (.int x)] rfl (Nat.le_of_ble_eq_true rfl) ?_
  intro p e s m args below meth c X hr hnm htab
  have X : hg_X p l s m args meth c D lo "TaxOnLooksModel" cX5_isOne 2 := X
  refine hr_iload1 (q := 1) X dX5_isOne_0 rfl ?_
  refine hr_if_lt (q := 4) (tgt := 16) X dX5_isOne_1 rfl (by decide) (fun c1 => ?_) (fun c1 => ?_)
  · refine hr_iconst (v := (nI 0)) (q := 17) X dX5_isOne_16 rfl rfl ?_
    exact hr_zret X hr rfl dX5_isOne_17 ⟨hz_b0 (by first | (simp_all [sp_in]; done) | exact sp_in_a ‹x < 0›), rfl⟩
  · refine hr_iload1 (q := 5) X dX5_isOne_4 rfl ?_
    refine hr_aload0 (q := 6) X dX5_isOne_5 rfl ?_
    refine hr_getI (v := (nI (t.1 0 0))) (q := 9) X dX5_isOne_6 rfl fr_q1382_5 rfl hR.om ((hR.sc 0).trans (hT.sc (by decide))) ?_
    refine hr_icmp_ge (q := 12) (tgt := 16) X dX5_isOne_9 rfl (by decide) (fun c9 => ?_) (fun c9 => ?_)
    · refine hr_iconst (v := (nI 0)) (q := 17) X dX5_isOne_16 rfl rfl ?_
      exact hr_zret X hr rfl dX5_isOne_17 ⟨hz_b0 (by first | (simp_all [sp_in]; done) | exact sp_in_a ‹x < 0›), rfl⟩
    · refine hr_iconst (v := (nI 1)) (q := 13) X dX5_isOne_12 rfl rfl ?_
      refine hr_goto (tgt := 17) X dX5_isOne_13 (by decide) ?_
      exact hr_zret X hr rfl dX5_isOne_17 ⟨hz_b1 (by first | (simp_all [sp_in]; done) | exact sp_in_a ‹x < 0›), rfl⟩

theorem tk_isFrom {l : Launch} {D : hg_D} {lo : Nat} (htr : l.stackTraces = false) {G : hg_G} {o : Nat} {am : Nat → Nat} {u : tw_S} (hR : tw_R G o am u) (x a b : Int32) :
    hg_M l D lo yX5_isFrom (ws_ yX5_isFrom cX5_isFrom 4 ((some FieldType.boolean))) rm_X5_isFrom [.ref o, .int x, .int a, .int b] G (hg_Pv G (.int (bI (sp_fr x a b)))) := by
  refine hg_M.of htr (by decide) [some (.ref o), some (.int x), some (.int a), some (.int b)] rfl (Nat.le_of_ble_eq_true rfl) ?_
  intro p e s m args below meth c X hr hnm htab
  have X : hg_X p l s m args meth c D lo "TaxOnLooksModel" cX5_isFrom 4 := X
  refine hr_iload1 (q := 1) X dX5_isFrom_0 rfl ?_
  refine hr_iload2 (q := 2) X dX5_isFrom_1 rfl ?_
  refine hr_icmp_lt (q := 5) (tgt := 14) X dX5_isFrom_2 rfl (by decide) (fun c2 => ?_) (fun c2 => ?_)
  · refine hr_iconst (v := (nI 0)) (q := 15) X dX5_isFrom_14 rfl rfl ?_
    exact hr_zret X hr rfl dX5_isFrom_15 ⟨hz_b0 (by first | (simp_all [sp_fr]; done) | exact sp_fr_a ‹x < a›), rfl⟩
  · refine hr_iload1 (q := 6) X dX5_isFrom_5 rfl ?_
    refine hr_iload3 (q := 7) X dX5_isFrom_6 rfl ?_
    refine hr_icmp_gt (q := 10) (tgt := 14) X dX5_isFrom_7 rfl (by decide) (fun c7 => ?_) (fun c7 => ?_)
    · refine hr_iconst (v := (nI 0)) (q := 15) X dX5_isFrom_14 rfl rfl ?_
      exact hr_zret X hr rfl dX5_isFrom_15 ⟨hz_b0 (by first | (simp_all [sp_fr]; done) | exact sp_fr_a ‹x < a›), rfl⟩
    · refine hr_iconst (v := (nI 1)) (q := 11) X dX5_isFrom_10 rfl rfl ?_
      refine hr_goto (tgt := 15) X dX5_isFrom_11 (by decide) ?_
      exact hr_zret X hr rfl dX5_isFrom_15 ⟨hz_b1 (by first | (simp_all [sp_fr]; done) | exact sp_fr_a ‹x < a›), rfl⟩

theorem tk_distance {l : Launch} {D : hg_D} {lo : Nat} (htr : l.stackTraces = false) {G : hg_G} {o : Nat} {am : Nat → Nat} {u : tw_S} (hR : tw_R G o am u) {a b : Nat} (ha : a < 36) (hb : b < 36) (hab : a / 6 = b / 6 ∨ a % 6 = b % 6) :
    hg_M l D lo yX5_distance (ws_ yX5_distance cX5_distance 6 ((some FieldType.int))) rm_X5_distance [.ref o, .int (nI a), .int (nI b)] G (hg_Pv G (.int (nI (sp_dist a b)))) := by
  refine hg_M.of htr (by decide) [some (.ref o), some (.int (nI a)), some (.int (nI b)), none, none, none] rfl (Nat.le_of_ble_eq_true rfl) ?_
  intro p e s m args below meth c X hr hnm htab
  have X : hg_X p l s m args meth c D lo "TaxOnLooksModel" cX5_distance 6 := X
  refine hr_iload1 (q := 1) X dX5_distance_0 rfl ?_
  refine hr_bipush (v := (nI 6)) (q := 3) X dX5_distance_1 rfl rfl ?_
  refine hr_idiv (v := (nI (a / 6))) (q := 4) X dX5_distance_3 rfl (by decide) (pk_div (by omega) (by decide) (by decide)) ?_
  refine hr_iload2 (q := 5) X dX5_distance_4 rfl ?_
  refine hr_bipush (v := (nI 6)) (q := 7) X dX5_distance_5 rfl rfl ?_
  refine hr_idiv (v := (nI (b / 6))) (q := 8) X dX5_distance_7 rfl (by decide) (pk_div (by omega) (by decide) (by decide)) ?_
  refine hr_isub (v := (nI (a / 6) - nI (b / 6))) (q := 9) X dX5_distance_8 rfl rfl ?_
  refine hr_istore3 (q := 10) X dX5_distance_9 rfl rfl (Nat.le_of_ble_eq_true rfl) ?_
  refine hr_iload1 (q := 11) X dX5_distance_10 rfl ?_
  refine hr_bipush (v := (nI 6)) (q := 13) X dX5_distance_11 rfl rfl ?_
  refine hr_irem (v := (nI (a % 6))) (q := 14) X dX5_distance_13 rfl (by decide) (pk_rem (by omega) (by decide) (by decide)) ?_
  refine hr_iload2 (q := 15) X dX5_distance_14 rfl ?_
  refine hr_bipush (v := (nI 6)) (q := 17) X dX5_distance_15 rfl rfl ?_
  refine hr_irem (v := (nI (b % 6))) (q := 18) X dX5_distance_17 rfl (by decide) (pk_rem (by omega) (by decide) (by decide)) ?_
  refine hr_isub (v := (nI (a % 6) - nI (b % 6))) (q := 19) X dX5_distance_18 rfl rfl ?_
  refine hr_istore4 (q := 21) X dX5_distance_19 rfl rfl (Nat.le_of_ble_eq_true rfl) ?_
  refine hr_iload3 (q := 22) X dX5_distance_21 rfl ?_
  refine hr_iload4 (q := 24) X dX5_distance_22 rfl ?_
  refine hr_iadd (v := ((nI (a / 6) - nI (b / 6)) + (nI (a % 6) - nI (b % 6)))) (q := 25) X dX5_distance_24 rfl rfl ?_
  refine hr_istore5 (q := 27) X dX5_distance_25 rfl rfl (Nat.le_of_ble_eq_true rfl) ?_
  refine hr_iload5 (q := 29) X dX5_distance_27 rfl ?_
  refine hr_if_ge (q := 32) (tgt := 38) X dX5_distance_29 rfl (by decide) (fun c29 => ?_) (fun c29 => ?_)
  · refine hr_iload5 (q := 40) X dX5_distance_38 rfl ?_
    exact hr_iret X hr dX5_distance_40 ⟨hz_i (sp_dist_j ha hb hab c29), rfl⟩
  · refine hr_iload5 (q := 34) X dX5_distance_32 rfl ?_
    refine hr_ineg (v := (-((nI (a / 6) - nI (b / 6)) + (nI (a % 6) - nI (b % 6))))) (q := 35) X dX5_distance_34 rfl rfl ?_
    refine hr_goto (tgt := 40) X dX5_distance_35 (by decide) ?_
    exact hr_iret X hr dX5_distance_40 ⟨hz_i (sp_dist_i ha hb hab c29), rfl⟩

theorem tk_sees {l : Launch} {D : hg_D} {lo : Nat} (htr : l.stackTraces = false) {G : hg_G} {o : Nat} {am : Nat → Nat} {u : tw_S} (hR : tw_R G o am u) {t : sp_S} (hT : tw_T u t) (hw : sp_wf t) {a b : Nat} (ha : a < 36) (hb : b < 36) :
    hg_M l D lo yX5_sees (ws_ yX5_sees cX5_sees 7 ((some FieldType.boolean))) rm_X5_sees [.ref o, .int (nI a), .int (nI b)] G (hg_Pv G (.int (bI (sp_sees t a b)))) := by
  refine hg_M.of htr (by decide) [some (.ref o), some (.int (nI a)), some (.int (nI b)), none, none, none, none] rfl (Nat.le_of_ble_eq_true rfl) ?_
  intro p e s m args below meth c X hr hnm htab
  have X : hg_X p l s m args meth c D lo "TaxOnLooksModel" cX5_sees 7 := X
  have w0 := hw.b0; have w1 := hw.b1; have w2 := hw.b2; have w3 := hw.b3
  refine hr_iload1 (q := 1) X dX5_sees_0 rfl ?_
  refine hr_iload2 (q := 2) X dX5_sees_1 rfl ?_
  refine hr_icmpN_ne (q := 5) (tgt := 7) X dX5_sees_2 rfl (by decide) (by omega) (by omega) (fun c2 => ?_) (fun c2 => ?_)
  · refine hr_iload1 (q := 8) X dX5_sees_7 rfl ?_
    refine hr_bipush (v := (nI 6)) (q := 10) X dX5_sees_8 rfl rfl ?_
    refine hr_idiv (v := (nI (a / 6))) (q := 11) X dX5_sees_10 rfl (by decide) (pk_div (by omega) (by decide) (by decide)) ?_
    refine hr_iload2 (q := 12) X dX5_sees_11 rfl ?_
    refine hr_bipush (v := (nI 6)) (q := 14) X dX5_sees_12 rfl rfl ?_
    refine hr_idiv (v := (nI (b / 6))) (q := 15) X dX5_sees_14 rfl (by decide) (pk_div (by omega) (by decide) (by decide)) ?_
    refine hr_icmpN_eq (q := 18) (tgt := 29) X dX5_sees_15 rfl (by decide) (by omega) (by omega) (fun c15 => ?_) (fun c15 => ?_)
    · refine hr_aload0 (q := 30) X dX5_sees_29 rfl ?_
      refine hr_iload1 (q := 31) X dX5_sees_30 rfl ?_
      refine hr_iload2 (q := 32) X dX5_sees_31 rfl ?_
      refine hr_callP (q := 35) (hc_V (n := 2) (ci := 5) (As := [.int (nI a), .int (nI b)]) X dX5_sees_32 rfl (tk_distance X.tr hR ha hb (by omega)) q1667 cv_X5_distance ⟨Nat.le_of_ble_eq_true rfl, Nat.le_of_ble_eq_true rfl⟩ rfl (Nat.le_of_ble_eq_true rfl) hR.om rfl rfl) rfl ?_
      have bd := sp_dist_lt ha hb
      refine hr_aload0 (q := 36) X dX5_sees_35 rfl ?_
      refine hr_getI (v := (nI (t.1 2 0))) (q := 39) X dX5_sees_36 rfl fr_q1384_5 rfl hR.om ((hR.sc 2).trans (hT.sc (by decide))) ?_
      refine hr_icmpN_le (q := 42) (tgt := 44) X dX5_sees_39 rfl (by decide) (by omega) (by omega) (fun c39 => ?_) (fun c39 => ?_)
      · have hd : ¬ ((a / 6 ≠ b / 6 ∧ a % 6 ≠ b % 6) ∨ t.1 2 0 < sp_dist a b) := by omega
        have J54 : ∀ (kr nr lo9 : Nat), lo9 = min a b → hg_W p l e rm_X5_sees s m args below meth c (hg_Q below D lo args s rm_X5_sees G (hg_Pv G (.int (bI (sp_sees t a b))))) D lo G.1 7 kr nr G 54 [some (.ref o), some (.int (nI a)), some (.int (nI b)), none, none, none, none] [.int (nI lo9)] := by
          intro kr nr lo9 h54
          refine hr_istore3 (q := 55) X dX5_sees_54 rfl rfl (Nat.le_of_ble_eq_true rfl) ?_
          have J65 : ∀ (hi9 : Nat), hi9 = max a b → hg_W p l e rm_X5_sees s m args below meth c (hg_Q below D lo args s rm_X5_sees G (hg_Pv G (.int (bI (sp_sees t a b))))) D lo G.1 7 kr nr G 65 [some (.ref o), some (.int (nI a)), some (.int (nI b)), some (.int (nI lo9)), none, none, none] [.int (nI hi9)] := by
            intro hi9 h65
            refine hr_istore4 (q := 67) X dX5_sees_65 rfl rfl (Nat.le_of_ble_eq_true rfl) ?_
            have J85 : ∀ (st9 : Nat), st9 = (if a / 6 = b / 6 then 1 else 6) → hg_W p l e rm_X5_sees s m args below meth c (hg_Q below D lo args s rm_X5_sees G (hg_Pv G (.int (bI (sp_sees t a b))))) D lo G.1 7 kr nr G 85 [some (.ref o), some (.int (nI a)), some (.int (nI b)), some (.int (nI lo9)), some (.int (nI hi9)), none, none] [.int (nI st9)] := by
              intro st9 h85
              refine hr_istore5 (q := 87) X dX5_sees_85 rfl rfl (Nat.le_of_ble_eq_true rfl) ?_
              refine hr_iload3 (q := 88) X dX5_sees_87 rfl ?_
              refine hr_iload5 (q := 90) X dX5_sees_88 rfl ?_
              refine hr_iadd (v := (nI (lo9 + st9))) (q := 91) X dX5_sees_90 rfl (nI_add _ _) ?_
              refine hr_istore6 (q := 93) X dX5_sees_91 rfl rfl (Nat.le_of_ble_eq_true rfl) ?_
              have hst : st9 = 1 ∨ st9 = 6 := by by_cases g : a / 6 = b / 6 <;> simp [h85, g]
              have loop93 : ∀ (n : Nat) (v : Nat), (v ≤ hi9 + 6) → (hi9 + 7 ≤ v + n) → (1 ≤ v) → (sp_clr (t.1 16) st9 hi9 n v = sp_sees t a b) → hg_W p l e rm_X5_sees s m args below meth c (hg_Q below D lo args s rm_X5_sees G (hg_Pv G (.int (bI (sp_sees t a b))))) D lo G.1 7 kr nr G 93 [some (.ref o), some (.int (nI a)), some (.int (nI b)), some (.int (nI lo9)), some (.int (nI hi9)), some (.int (nI st9)), some (.int (nI v))] [] := by
                intro n
                induction n with
                | zero =>
                  intro v h93_0 h93_1 h93_2 h93_3
                  omega
                | succ n ih =>
                  intro v h93_0 h93_1 h93_2 h93_3
                  refine hr_iload6 (q := 95) X dX5_sees_93 rfl ?_
                  refine hr_iload4 (q := 97) X dX5_sees_95 rfl ?_
                  refine hr_icmpN_ge (q := 100) (tgt := 123) X dX5_sees_97 rfl (by decide) (by omega) (by omega) (fun c97 => ?_) (fun c97 => ?_)
                  · refine hr_iconst (v := (nI 1)) (q := 124) X dX5_sees_123 rfl rfl ?_
                    exact hr_zret X hr rfl dX5_sees_124 ⟨hz_b1 (by rw [← h93_3, sp_clr_e (by omega)]), rfl⟩
                  · refine hr_aload0 (q := 101) X dX5_sees_100 rfl ?_
                    refine hr_getR (v := am 16) (q := 104) X dX5_sees_101 rfl fr_q1398_5 rfl hR.om (hR.f rfl) ?_
                    refine hr_iload6 (q := 106) X dX5_sees_104 rfl ?_
                    refine hr_ialdN (v := (nI (t.1 16 v))) (q := 107) X dX5_sees_106 rfl (hR.ka (n := 36) rfl rfl rfl) (Or.inl rfl) (by omega) (by decide) ((hR.ar rfl _).trans (hT.c (by decide) (by decide) (by omega))) ?_
                    have b106 := hw.b16 (show v < 36 by omega)
                    refine hr_iconst (v := (nI 1)) (q := 108) X dX5_sees_107 rfl rfl ?_
                    refine hr_icmpN_ne (q := 111) (tgt := 113) X dX5_sees_108 rfl (by decide) (by omega) (by omega) (fun c108 => ?_) (fun c108 => ?_)
                    · refine hr_iload6 (q := 115) X dX5_sees_113 rfl ?_
                      refine hr_iload5 (q := 117) X dX5_sees_115 rfl ?_
                      refine hr_iadd (v := (nI (v + st9))) (q := 118) X dX5_sees_117 rfl (nI_add _ _) ?_
                      refine hr_istore6 (q := 120) X dX5_sees_118 rfl rfl (Nat.le_of_ble_eq_true rfl) ?_
                      refine hr_goto (tgt := 93) X dX5_sees_120 (by decide) ?_
                      exact ih (v + st9) (by omega) (by omega) (by omega) (by rw [← h93_3, sp_clr_s (by omega) (by omega)])
                    · refine hr_iconst (v := (nI 0)) (q := 112) X dX5_sees_111 rfl rfl ?_
                      exact hr_zret X hr rfl dX5_sees_112 ⟨hz_b0 (by rw [← h93_3, sp_clr_w (by omega) (by omega)]), rfl⟩
              exact loop93 50 (lo9 + st9) (by split at h85 <;> omega) (by split at h85 <;> omega) (by split at h85 <;> omega) (by subst h54 h65 h85; exact sp_sees_go c2 hd)
            refine hr_iload3 (q := 68) X dX5_sees_67 rfl ?_
            refine hr_bipush (v := (nI 6)) (q := 70) X dX5_sees_68 rfl rfl ?_
            refine hr_idiv (v := (nI (lo9 / 6))) (q := 71) X dX5_sees_70 rfl (by decide) (pk_div (by omega) (by decide) (by decide)) ?_
            refine hr_iload4 (q := 73) X dX5_sees_71 rfl ?_
            refine hr_bipush (v := (nI 6)) (q := 75) X dX5_sees_73 rfl rfl ?_
            refine hr_idiv (v := (nI (hi9 / 6))) (q := 76) X dX5_sees_75 rfl (by decide) (pk_div (by omega) (by decide) (by decide)) ?_
            refine hr_icmpN_ne (q := 79) (tgt := 83) X dX5_sees_76 rfl (by decide) (by omega) (by omega) (fun c76 => ?_) (fun c76 => ?_)
            · refine hr_bipush (v := (nI 6)) (q := 85) X dX5_sees_83 rfl rfl ?_
              exact J85 6 (by split <;> omega)
            · refine hr_iconst (v := (nI 1)) (q := 80) X dX5_sees_79 rfl rfl ?_
              refine hr_goto (tgt := 85) X dX5_sees_80 (by decide) ?_
              exact J85 1 (by split <;> omega)
          refine hr_iload1 (q := 56) X dX5_sees_55 rfl ?_
          refine hr_iload2 (q := 57) X dX5_sees_56 rfl ?_
          refine hr_icmpN_ge (q := 60) (tgt := 64) X dX5_sees_57 rfl (by decide) (by omega) (by omega) (fun c57 => ?_) (fun c57 => ?_)
          · refine hr_iload1 (q := 65) X dX5_sees_64 rfl ?_
            exact J65 a (by omega)
          · refine hr_iload2 (q := 61) X dX5_sees_60 rfl ?_
            refine hr_goto (tgt := 65) X dX5_sees_61 (by decide) ?_
            exact J65 b (by omega)
        refine hr_iload1 (q := 45) X dX5_sees_44 rfl ?_
        refine hr_iload2 (q := 46) X dX5_sees_45 rfl ?_
        refine hr_icmpN_ge (q := 49) (tgt := 53) X dX5_sees_46 rfl (by decide) (by omega) (by omega) (fun c46 => ?_) (fun c46 => ?_)
        · refine hr_iload2 (q := 54) X dX5_sees_53 rfl ?_
          exact J54 _ _ b (by omega)
        · refine hr_iload1 (q := 50) X dX5_sees_49 rfl ?_
          refine hr_goto (tgt := 54) X dX5_sees_50 (by decide) ?_
          exact J54 _ _ a (by omega)
      · refine hr_iconst (v := (nI 0)) (q := 43) X dX5_sees_42 rfl rfl ?_
        exact hr_zret X hr rfl dX5_sees_43 ⟨hz_b0 (sp_sees_no c2 (by omega)), rfl⟩
    · refine hr_iload1 (q := 19) X dX5_sees_18 rfl ?_
      refine hr_bipush (v := (nI 6)) (q := 21) X dX5_sees_19 rfl rfl ?_
      refine hr_irem (v := (nI (a % 6))) (q := 22) X dX5_sees_21 rfl (by decide) (pk_rem (by omega) (by decide) (by decide)) ?_
      refine hr_iload2 (q := 23) X dX5_sees_22 rfl ?_
      refine hr_bipush (v := (nI 6)) (q := 25) X dX5_sees_23 rfl rfl ?_
      refine hr_irem (v := (nI (b % 6))) (q := 26) X dX5_sees_25 rfl (by decide) (pk_rem (by omega) (by decide) (by decide)) ?_
      refine hr_icmpN_ne (q := 29) (tgt := 42) X dX5_sees_26 rfl (by decide) (by omega) (by omega) (fun c26 => ?_) (fun c26 => ?_)
      · refine hr_iconst (v := (nI 0)) (q := 43) X dX5_sees_42 rfl rfl ?_
        exact hr_zret X hr rfl dX5_sees_43 ⟨hz_b0 (sp_sees_no c2 (by omega)), rfl⟩
      · refine hr_aload0 (q := 30) X dX5_sees_29 rfl ?_
        refine hr_iload1 (q := 31) X dX5_sees_30 rfl ?_
        refine hr_iload2 (q := 32) X dX5_sees_31 rfl ?_
        refine hr_callP (q := 35) (hc_V (n := 2) (ci := 5) (As := [.int (nI a), .int (nI b)]) X dX5_sees_32 rfl (tk_distance X.tr hR ha hb (by omega)) q1667 cv_X5_distance ⟨Nat.le_of_ble_eq_true rfl, Nat.le_of_ble_eq_true rfl⟩ rfl (Nat.le_of_ble_eq_true rfl) hR.om rfl rfl) rfl ?_
        have bd := sp_dist_lt ha hb
        refine hr_aload0 (q := 36) X dX5_sees_35 rfl ?_
        refine hr_getI (v := (nI (t.1 2 0))) (q := 39) X dX5_sees_36 rfl fr_q1384_5 rfl hR.om ((hR.sc 2).trans (hT.sc (by decide))) ?_
        refine hr_icmpN_le (q := 42) (tgt := 44) X dX5_sees_39 rfl (by decide) (by omega) (by omega) (fun c39 => ?_) (fun c39 => ?_)
        · have hd : ¬ ((a / 6 ≠ b / 6 ∧ a % 6 ≠ b % 6) ∨ t.1 2 0 < sp_dist a b) := by omega
          have J54 : ∀ (kr nr lo9 : Nat), lo9 = min a b → hg_W p l e rm_X5_sees s m args below meth c (hg_Q below D lo args s rm_X5_sees G (hg_Pv G (.int (bI (sp_sees t a b))))) D lo G.1 7 kr nr G 54 [some (.ref o), some (.int (nI a)), some (.int (nI b)), none, none, none, none] [.int (nI lo9)] := by
            intro kr nr lo9 h54
            refine hr_istore3 (q := 55) X dX5_sees_54 rfl rfl (Nat.le_of_ble_eq_true rfl) ?_
            have J65 : ∀ (hi9 : Nat), hi9 = max a b → hg_W p l e rm_X5_sees s m args below meth c (hg_Q below D lo args s rm_X5_sees G (hg_Pv G (.int (bI (sp_sees t a b))))) D lo G.1 7 kr nr G 65 [some (.ref o), some (.int (nI a)), some (.int (nI b)), some (.int (nI lo9)), none, none, none] [.int (nI hi9)] := by
              intro hi9 h65
              refine hr_istore4 (q := 67) X dX5_sees_65 rfl rfl (Nat.le_of_ble_eq_true rfl) ?_
              have J85 : ∀ (st9 : Nat), st9 = (if a / 6 = b / 6 then 1 else 6) → hg_W p l e rm_X5_sees s m args below meth c (hg_Q below D lo args s rm_X5_sees G (hg_Pv G (.int (bI (sp_sees t a b))))) D lo G.1 7 kr nr G 85 [some (.ref o), some (.int (nI a)), some (.int (nI b)), some (.int (nI lo9)), some (.int (nI hi9)), none, none] [.int (nI st9)] := by
                intro st9 h85
                refine hr_istore5 (q := 87) X dX5_sees_85 rfl rfl (Nat.le_of_ble_eq_true rfl) ?_
                refine hr_iload3 (q := 88) X dX5_sees_87 rfl ?_
                refine hr_iload5 (q := 90) X dX5_sees_88 rfl ?_
                refine hr_iadd (v := (nI (lo9 + st9))) (q := 91) X dX5_sees_90 rfl (nI_add _ _) ?_
                refine hr_istore6 (q := 93) X dX5_sees_91 rfl rfl (Nat.le_of_ble_eq_true rfl) ?_
                have hst : st9 = 1 ∨ st9 = 6 := by by_cases g : a / 6 = b / 6 <;> simp [h85, g]
                have loop93 : ∀ (n : Nat) (v : Nat), (v ≤ hi9 + 6) → (hi9 + 7 ≤ v + n) → (1 ≤ v) → (sp_clr (t.1 16) st9 hi9 n v = sp_sees t a b) → hg_W p l e rm_X5_sees s m args below meth c (hg_Q below D lo args s rm_X5_sees G (hg_Pv G (.int (bI (sp_sees t a b))))) D lo G.1 7 kr nr G 93 [some (.ref o), some (.int (nI a)), some (.int (nI b)), some (.int (nI lo9)), some (.int (nI hi9)), some (.int (nI st9)), some (.int (nI v))] [] := by
                  intro n
                  induction n with
                  | zero =>
                    intro v h93_0 h93_1 h93_2 h93_3
                    omega
                  | succ n ih =>
                    intro v h93_0 h93_1 h93_2 h93_3
                    refine hr_iload6 (q := 95) X dX5_sees_93 rfl ?_
                    refine hr_iload4 (q := 97) X dX5_sees_95 rfl ?_
                    refine hr_icmpN_ge (q := 100) (tgt := 123) X dX5_sees_97 rfl (by decide) (by omega) (by omega) (fun c97 => ?_) (fun c97 => ?_)
                    · refine hr_iconst (v := (nI 1)) (q := 124) X dX5_sees_123 rfl rfl ?_
                      exact hr_zret X hr rfl dX5_sees_124 ⟨hz_b1 (by rw [← h93_3, sp_clr_e (by omega)]), rfl⟩
                    · refine hr_aload0 (q := 101) X dX5_sees_100 rfl ?_
                      refine hr_getR (v := am 16) (q := 104) X dX5_sees_101 rfl fr_q1398_5 rfl hR.om (hR.f rfl) ?_
                      refine hr_iload6 (q := 106) X dX5_sees_104 rfl ?_
                      refine hr_ialdN (v := (nI (t.1 16 v))) (q := 107) X dX5_sees_106 rfl (hR.ka (n := 36) rfl rfl rfl) (Or.inl rfl) (by omega) (by decide) ((hR.ar rfl _).trans (hT.c (by decide) (by decide) (by omega))) ?_
                      have b106 := hw.b16 (show v < 36 by omega)
                      refine hr_iconst (v := (nI 1)) (q := 108) X dX5_sees_107 rfl rfl ?_
                      refine hr_icmpN_ne (q := 111) (tgt := 113) X dX5_sees_108 rfl (by decide) (by omega) (by omega) (fun c108 => ?_) (fun c108 => ?_)
                      · refine hr_iload6 (q := 115) X dX5_sees_113 rfl ?_
                        refine hr_iload5 (q := 117) X dX5_sees_115 rfl ?_
                        refine hr_iadd (v := (nI (v + st9))) (q := 118) X dX5_sees_117 rfl (nI_add _ _) ?_
                        refine hr_istore6 (q := 120) X dX5_sees_118 rfl rfl (Nat.le_of_ble_eq_true rfl) ?_
                        refine hr_goto (tgt := 93) X dX5_sees_120 (by decide) ?_
                        exact ih (v + st9) (by omega) (by omega) (by omega) (by rw [← h93_3, sp_clr_s (by omega) (by omega)])
                      · refine hr_iconst (v := (nI 0)) (q := 112) X dX5_sees_111 rfl rfl ?_
                        exact hr_zret X hr rfl dX5_sees_112 ⟨hz_b0 (by rw [← h93_3, sp_clr_w (by omega) (by omega)]), rfl⟩
                exact loop93 50 (lo9 + st9) (by split at h85 <;> omega) (by split at h85 <;> omega) (by split at h85 <;> omega) (by subst h54 h65 h85; exact sp_sees_go c2 hd)
              refine hr_iload3 (q := 68) X dX5_sees_67 rfl ?_
              refine hr_bipush (v := (nI 6)) (q := 70) X dX5_sees_68 rfl rfl ?_
              refine hr_idiv (v := (nI (lo9 / 6))) (q := 71) X dX5_sees_70 rfl (by decide) (pk_div (by omega) (by decide) (by decide)) ?_
              refine hr_iload4 (q := 73) X dX5_sees_71 rfl ?_
              refine hr_bipush (v := (nI 6)) (q := 75) X dX5_sees_73 rfl rfl ?_
              refine hr_idiv (v := (nI (hi9 / 6))) (q := 76) X dX5_sees_75 rfl (by decide) (pk_div (by omega) (by decide) (by decide)) ?_
              refine hr_icmpN_ne (q := 79) (tgt := 83) X dX5_sees_76 rfl (by decide) (by omega) (by omega) (fun c76 => ?_) (fun c76 => ?_)
              · refine hr_bipush (v := (nI 6)) (q := 85) X dX5_sees_83 rfl rfl ?_
                exact J85 6 (by split <;> omega)
              · refine hr_iconst (v := (nI 1)) (q := 80) X dX5_sees_79 rfl rfl ?_
                refine hr_goto (tgt := 85) X dX5_sees_80 (by decide) ?_
                exact J85 1 (by split <;> omega)
            refine hr_iload1 (q := 56) X dX5_sees_55 rfl ?_
            refine hr_iload2 (q := 57) X dX5_sees_56 rfl ?_
            refine hr_icmpN_ge (q := 60) (tgt := 64) X dX5_sees_57 rfl (by decide) (by omega) (by omega) (fun c57 => ?_) (fun c57 => ?_)
            · refine hr_iload1 (q := 65) X dX5_sees_64 rfl ?_
              exact J65 a (by omega)
            · refine hr_iload2 (q := 61) X dX5_sees_60 rfl ?_
              refine hr_goto (tgt := 65) X dX5_sees_61 (by decide) ?_
              exact J65 b (by omega)
          refine hr_iload1 (q := 45) X dX5_sees_44 rfl ?_
          refine hr_iload2 (q := 46) X dX5_sees_45 rfl ?_
          refine hr_icmpN_ge (q := 49) (tgt := 53) X dX5_sees_46 rfl (by decide) (by omega) (by omega) (fun c46 => ?_) (fun c46 => ?_)
          · refine hr_iload2 (q := 54) X dX5_sees_53 rfl ?_
            exact J54 _ _ b (by omega)
          · refine hr_iload1 (q := 50) X dX5_sees_49 rfl ?_
            refine hr_goto (tgt := 54) X dX5_sees_50 (by decide) ?_
            exact J54 _ _ a (by omega)
        · refine hr_iconst (v := (nI 0)) (q := 43) X dX5_sees_42 rfl rfl ?_
          exact hr_zret X hr rfl dX5_sees_43 ⟨hz_b0 (sp_sees_no c2 (by omega)), rfl⟩
  · refine hr_iconst (v := (nI 1)) (q := 6) X dX5_sees_5 rfl rfl ?_
    exact hr_zret X hr rfl dX5_sees_6 ⟨hz_b1 (sp_sees_eq c2), rfl⟩

theorem tk_isLit {l : Launch} {D : hg_D} {lo : Nat} (htr : l.stackTraces = false) {G : hg_G} {o : Nat} {am : Nat → Nat} {u : tw_S} (hR : tw_R G o am u) {t : sp_S} (hT : tw_T u t) (hw : sp_wf t) {z : Nat} (hz : z < 36) :
    hg_M l D lo yX5_isLit (ws_ yX5_isLit cX5_isLit 3 ((some FieldType.boolean))) rm_X5_isLit [.ref o, .int (nI z)] G (hg_Pv G (.int (bI (sp_lit t z)))) := by
  refine hg_M.of htr (by decide) [some (.ref o), some (.int (nI z)), none] rfl (Nat.le_of_ble_eq_true rfl) ?_
  intro p e s m args below meth c X hr hnm htab
  have X : hg_X p l s m args meth c D lo "TaxOnLooksModel" cX5_isLit 3 := X
  have w0 := hw.b0; have w1 := hw.b1; have w2 := hw.b2; have w3 := hw.b3
  have w36 := hw.b36
  refine hr_iconst (v := (nI 0)) (q := 1) X dX5_isLit_0 rfl rfl ?_
  refine hr_istore2 (q := 2) X dX5_isLit_1 rfl rfl (Nat.le_of_ble_eq_true rfl) ?_
  have loop2 : ∀ (kr nr n : Nat) (b : Nat), (b ≤ 36) → (37 ≤ b + n) → (∀ j, j < b → (t.1 17 j == 1 && sp_sees t j z) = false) → hg_W p l e rm_X5_isLit s m args below meth c (hg_Q below D lo args s rm_X5_isLit G (hg_Pv G (.int (bI (sp_lit t z))))) D lo G.1 3 kr nr G 2 [some (.ref o), some (.int (nI z)), some (.int (nI b))] [] := by
    intro kr nr n
    induction n with
    | zero =>
      intro b h2_0 h2_1 h2_2
      omega
    | succ n ih =>
      intro b h2_0 h2_1 h2_2
      refine hr_iload2 (q := 3) X dX5_isLit_2 rfl ?_
      refine hr_bipush (v := (nI 36)) (q := 5) X dX5_isLit_3 rfl rfl ?_
      refine hr_icmpN_ge (q := 8) (tgt := 35) X dX5_isLit_5 rfl (by decide) (by omega) (by omega) (fun c5 => ?_) (fun c5 => ?_)
      · refine hr_iconst (v := (nI 0)) (q := 36) X dX5_isLit_35 rfl rfl ?_
        exact hr_zret X hr rfl dX5_isLit_36 ⟨hz_b0 (sp_lit_f (fun j hj => h2_2 j (by omega))), rfl⟩
      · refine hr_aload0 (q := 9) X dX5_isLit_8 rfl ?_
        refine hr_getR (v := am 17) (q := 12) X dX5_isLit_9 rfl fr_q1399_5 rfl hR.om (hR.f rfl) ?_
        refine hr_iload2 (q := 13) X dX5_isLit_12 rfl ?_
        refine hr_ialdN (v := (nI (t.1 17 b))) (q := 14) X dX5_isLit_13 rfl (hR.ka (n := 36) rfl rfl rfl) (Or.inl rfl) (by omega) (by decide) ((hR.ar rfl _).trans (hT.c (by decide) (by decide) (by omega))) ?_
        have b13 := hw.b17 (show b < 36 by omega)
        refine hr_iconst (v := (nI 1)) (q := 15) X dX5_isLit_14 rfl rfl ?_
        refine hr_icmpN_ne (q := 18) (tgt := 29) X dX5_isLit_15 rfl (by decide) (by omega) (by omega) (fun c15 => ?_) (fun c15 => ?_)
        · refine hr_iinc2 (v := (nI (b + 1))) (q := 32) X dX5_isLit_29 rfl (nI_add _ _) rfl (Nat.le_of_ble_eq_true rfl) ?_
          refine hr_goto (tgt := 2) X dX5_isLit_32 (by decide) ?_
          exact ih (b + 1) (by omega) (by omega) (sp_ext h2_2 (by simp [c15]))
        · refine hr_aload0 (q := 19) X dX5_isLit_18 rfl ?_
          refine hr_iload2 (q := 20) X dX5_isLit_19 rfl ?_
          refine hr_iload1 (q := 21) X dX5_isLit_20 rfl ?_
          refine hr_callP (q := 24) (hc_V (n := 2) (ci := 5) (As := [.int (nI b), .int (nI z)]) X dX5_isLit_21 rfl (tk_sees X.tr hR hT hw (a := b) (b := z) (by omega) (by omega)) q1663 cv_X5_sees ⟨Nat.le_of_ble_eq_true rfl, Nat.le_of_ble_eq_true rfl⟩ rfl (Nat.le_of_ble_eq_true rfl) hR.om rfl rfl) rfl ?_
          refine hr_ifB_eq (q := 27) (tgt := 29) X dX5_isLit_24 rfl (by decide) (fun c24 => ?_) (fun c24 => ?_)
          · refine hr_iinc2 (v := (nI (b + 1))) (q := 32) X dX5_isLit_29 rfl (nI_add _ _) rfl (Nat.le_of_ble_eq_true rfl) ?_
            refine hr_goto (tgt := 2) X dX5_isLit_32 (by decide) ?_
            exact ih (b + 1) (by omega) (by omega) (sp_ext h2_2 (by simp [c24]))
          · refine hr_iconst (v := (nI 1)) (q := 28) X dX5_isLit_27 rfl rfl ?_
            exact hr_zret X hr rfl dX5_isLit_28 ⟨hz_b1 (sp_lit_t (b := b) (by omega) c15 c24), rfl⟩
  exact loop2 _ _ 37 0 (by omega) (by omega) (fun j hj => absurd hj (Nat.not_lt_zero _))

theorem tk_shows {l : Launch} {D : hg_D} {lo : Nat} (htr : l.stackTraces = false) {G : hg_G} {o : Nat} {am : Nat → Nat} {u : tw_S} (hR : tw_R G o am u) {t : sp_S} (hT : tw_T u t) (hw : sp_wf t) {x : Nat} (hx : x < 7) :
    hg_M l D lo yX5_shows (ws_ yX5_shows cX5_shows 3 ((some FieldType.int))) rm_X5_shows [.ref o, .int (nI x)] G (hg_Pv G (.int (nI (sp_shows t x)))) := by
  refine hg_M.of htr (by decide) [some (.ref o), some (.int (nI x)), none] rfl (Nat.le_of_ble_eq_true rfl) ?_
  intro p e s m args below meth c X hr hnm htab
  have X : hg_X p l s m args meth c D lo "TaxOnLooksModel" cX5_shows 3 := X
  have w0 := hw.b0; have w1 := hw.b1; have w2 := hw.b2; have w3 := hw.b3
  have w36 := hw.b36
  refine hr_aload0 (q := 1) X dX5_shows_0 rfl ?_
  refine hr_getR (v := am 15) (q := 4) X dX5_shows_1 rfl fr_q1397_5 rfl hR.om (hR.f rfl) ?_
  refine hr_iload1 (q := 5) X dX5_shows_4 rfl ?_
  refine hr_ialdN (v := (nI (t.1 15 x))) (q := 6) X dX5_shows_5 rfl (hR.ka (n := 7) rfl rfl rfl) (Or.inl rfl) hx (by decide) ((hR.ar rfl _).trans (hT.p (by decide) (by decide) hx)) ?_
  have b5 := hw.b15 (show x < 7 by omega)
  refine hr_iconst (v := (nI 1)) (q := 7) X dX5_shows_6 rfl rfl ?_
  refine hr_icmpN_ne (q := 10) (tgt := 12) X dX5_shows_7 rfl (by decide) (by omega) (by omega) (fun c7 => ?_) (fun c7 => ?_)
  · refine hr_aload0 (q := 13) X dX5_shows_12 rfl ?_
    refine hr_getR (v := am 11) (q := 16) X dX5_shows_13 rfl fr_q1393_5 rfl hR.om (hR.f rfl) ?_
    refine hr_iload1 (q := 17) X dX5_shows_16 rfl ?_
    refine hr_ialdN (v := (nI (t.1 11 x))) (q := 18) X dX5_shows_17 rfl (hR.ka (n := 7) rfl rfl rfl) (Or.inl rfl) hx (by decide) ((hR.ar rfl _).trans (hT.p (by decide) (by decide) hx)) ?_
    have b17 := hw.b11 (show x < 7 by omega)
    refine hr_istore2 (q := 19) X dX5_shows_18 rfl rfl (Nat.le_of_ble_eq_true rfl) ?_
    refine hr_aload0 (q := 20) X dX5_shows_19 rfl ?_
    refine hr_getR (v := am 9) (q := 23) X dX5_shows_20 rfl fr_q1391_5 rfl hR.om (hR.f rfl) ?_
    refine hr_iload1 (q := 24) X dX5_shows_23 rfl ?_
    refine hr_ialdN (v := (nI (t.1 9 x))) (q := 25) X dX5_shows_24 rfl (hR.ka (n := 7) rfl rfl rfl) (Or.inl rfl) hx (by decide) ((hR.ar rfl _).trans (hT.p (by decide) (by decide) hx)) ?_
    have b24 := hw.b9 (show x < 7 by omega)
    refine hr_iconst (v := (nI 1)) (q := 26) X dX5_shows_25 rfl rfl ?_
    refine hr_icmpN_eq (q := 29) (tgt := 39) X dX5_shows_26 rfl (by decide) (by omega) (by omega) (fun c26 => ?_) (fun c26 => ?_)
    · refine hr_iload2 (q := 40) X dX5_shows_39 rfl ?_
      refine hr_iconst (v := (nI 2)) (q := 41) X dX5_shows_40 rfl rfl ?_
      refine hr_imul (v := (nI ((t.1 11 x) * 2))) (q := 42) X dX5_shows_41 rfl (pk_mul _ _) ?_
      refine hr_istore2 (q := 43) X dX5_shows_42 rfl rfl (Nat.le_of_ble_eq_true rfl) ?_
      refine hr_aload0 (q := 44) X dX5_shows_43 rfl ?_
      refine hr_getR (v := am 9) (q := 47) X dX5_shows_44 rfl fr_q1391_5 rfl hR.om (hR.f rfl) ?_
      refine hr_iload1 (q := 48) X dX5_shows_47 rfl ?_
      refine hr_ialdN (v := (nI (t.1 9 x))) (q := 49) X dX5_shows_48 rfl (hR.ka (n := 7) rfl rfl rfl) (Or.inl rfl) hx (by decide) ((hR.ar rfl _).trans (hT.p (by decide) (by decide) hx)) ?_
      have b48 := hw.b9 (show x < 7 by omega)
      refine hr_iconst (v := (nI 2)) (q := 50) X dX5_shows_49 rfl rfl ?_
      refine hr_icmpN_ne (q := 53) (tgt := 62) X dX5_shows_50 rfl (by decide) (by omega) (by omega) (fun c50 => ?_) (fun c50 => ?_)
      · refine hr_aload0 (q := 63) X dX5_shows_62 rfl ?_
        refine hr_getR (v := am 9) (q := 66) X dX5_shows_63 rfl fr_q1391_5 rfl hR.om (hR.f rfl) ?_
        refine hr_iload1 (q := 67) X dX5_shows_66 rfl ?_
        refine hr_ialdN (v := (nI (t.1 9 x))) (q := 68) X dX5_shows_67 rfl (hR.ka (n := 7) rfl rfl rfl) (Or.inl rfl) hx (by decide) ((hR.ar rfl _).trans (hT.p (by decide) (by decide) hx)) ?_
        have b67 := hw.b9 (show x < 7 by omega)
        refine hr_bipush (v := (nI 6)) (q := 70) X dX5_shows_68 rfl rfl ?_
        refine hr_icmpN_ne (q := 73) (tgt := 96) X dX5_shows_70 rfl (by decide) (by omega) (by omega) (fun c70 => ?_) (fun c70 => ?_)
        · refine hr_aload0 (q := 97) X dX5_shows_96 rfl ?_
          refine hr_getI (v := (nI (t.1 3 0))) (q := 100) X dX5_shows_97 rfl fr_q1385_5 rfl hR.om ((hR.sc 3).trans (hT.sc (by decide))) ?_
          refine hr_iconst (v := (nI 1)) (q := 101) X dX5_shows_100 rfl rfl ?_
          refine hr_icmpN_ne (q := 104) (tgt := 110) X dX5_shows_101 rfl (by decide) (by omega) (by omega) (fun c101 => ?_) (fun c101 => ?_)
          · refine hr_iload2 (q := 111) X dX5_shows_110 rfl ?_
            exact hr_iret X hr dX5_shows_111 ⟨hz_i (congrArg nI (by unfold sp_shows; dsimp only; (repeat' split) <;> omega)), rfl⟩
          · refine hr_iload2 (q := 105) X dX5_shows_104 rfl ?_
            refine hr_iconst (v := (nI 2)) (q := 106) X dX5_shows_105 rfl rfl ?_
            refine hr_idiv (v := (nI (((t.1 11 x) * 2) / 2))) (q := 107) X dX5_shows_106 rfl (by decide) (pk_div (by omega) (by decide) (by decide)) ?_
            refine hr_goto (tgt := 111) X dX5_shows_107 (by decide) ?_
            exact hr_iret X hr dX5_shows_111 ⟨hz_i (congrArg nI (by unfold sp_shows; dsimp only; (repeat' split) <;> omega)), rfl⟩
        · refine hr_iload2 (q := 74) X dX5_shows_73 rfl ?_
          refine hr_aload0 (q := 75) X dX5_shows_74 rfl ?_
          refine hr_getR (v := am 12) (q := 78) X dX5_shows_75 rfl fr_q1394_5 rfl hR.om (hR.f rfl) ?_
          refine hr_iload1 (q := 79) X dX5_shows_78 rfl ?_
          refine hr_ialdN (v := (nI (t.1 12 x))) (q := 80) X dX5_shows_79 rfl (hR.ka (n := 7) rfl rfl rfl) (Or.inl rfl) hx (by decide) ((hR.ar rfl _).trans (hT.p (by decide) (by decide) hx)) ?_
          have b79 := hw.b12 (show x < 7 by omega)
          refine hr_icmpN_le (q := 83) (tgt := 94) X dX5_shows_80 rfl (by decide) (by omega) (by omega) (fun c80 => ?_) (fun c80 => ?_)
          · refine hr_iconst (v := (nI 0)) (q := 95) X dX5_shows_94 rfl rfl ?_
            refine hr_istore2 (q := 96) X dX5_shows_95 rfl rfl (Nat.le_of_ble_eq_true rfl) ?_
            refine hr_aload0 (q := 97) X dX5_shows_96 rfl ?_
            refine hr_getI (v := (nI (t.1 3 0))) (q := 100) X dX5_shows_97 rfl fr_q1385_5 rfl hR.om ((hR.sc 3).trans (hT.sc (by decide))) ?_
            refine hr_iconst (v := (nI 1)) (q := 101) X dX5_shows_100 rfl rfl ?_
            refine hr_icmpN_ne (q := 104) (tgt := 110) X dX5_shows_101 rfl (by decide) (by omega) (by omega) (fun c101 => ?_) (fun c101 => ?_)
            · refine hr_iload2 (q := 111) X dX5_shows_110 rfl ?_
              exact hr_iret X hr dX5_shows_111 ⟨hz_i (congrArg nI (by unfold sp_shows; dsimp only; (repeat' split) <;> omega)), rfl⟩
            · refine hr_iload2 (q := 105) X dX5_shows_104 rfl ?_
              refine hr_iconst (v := (nI 2)) (q := 106) X dX5_shows_105 rfl rfl ?_
              refine hr_idiv (v := (nI (0 / 2))) (q := 107) X dX5_shows_106 rfl (by decide) (pk_div (by omega) (by decide) (by decide)) ?_
              refine hr_goto (tgt := 111) X dX5_shows_107 (by decide) ?_
              exact hr_iret X hr dX5_shows_111 ⟨hz_i (congrArg nI (by unfold sp_shows; dsimp only; (repeat' split) <;> omega)), rfl⟩
          · refine hr_iload2 (q := 84) X dX5_shows_83 rfl ?_
            refine hr_aload0 (q := 85) X dX5_shows_84 rfl ?_
            refine hr_getR (v := am 12) (q := 88) X dX5_shows_85 rfl fr_q1394_5 rfl hR.om (hR.f rfl) ?_
            refine hr_iload1 (q := 89) X dX5_shows_88 rfl ?_
            refine hr_ialdN (v := (nI (t.1 12 x))) (q := 90) X dX5_shows_89 rfl (hR.ka (n := 7) rfl rfl rfl) (Or.inl rfl) hx (by decide) ((hR.ar rfl _).trans (hT.p (by decide) (by decide) hx)) ?_
            have b89 := hw.b12 (show x < 7 by omega)
            refine hr_isub (v := (nI (((t.1 11 x) * 2) - (t.1 12 x)))) (q := 91) X dX5_shows_90 rfl (pk_sub (by omega)) ?_
            refine hr_goto (tgt := 95) X dX5_shows_91 (by decide) ?_
            refine hr_istore2 (q := 96) X dX5_shows_95 rfl rfl (Nat.le_of_ble_eq_true rfl) ?_
            refine hr_aload0 (q := 97) X dX5_shows_96 rfl ?_
            refine hr_getI (v := (nI (t.1 3 0))) (q := 100) X dX5_shows_97 rfl fr_q1385_5 rfl hR.om ((hR.sc 3).trans (hT.sc (by decide))) ?_
            refine hr_iconst (v := (nI 1)) (q := 101) X dX5_shows_100 rfl rfl ?_
            refine hr_icmpN_ne (q := 104) (tgt := 110) X dX5_shows_101 rfl (by decide) (by omega) (by omega) (fun c101 => ?_) (fun c101 => ?_)
            · refine hr_iload2 (q := 111) X dX5_shows_110 rfl ?_
              exact hr_iret X hr dX5_shows_111 ⟨hz_i (congrArg nI (by unfold sp_shows; dsimp only; (repeat' split) <;> omega)), rfl⟩
            · refine hr_iload2 (q := 105) X dX5_shows_104 rfl ?_
              refine hr_iconst (v := (nI 2)) (q := 106) X dX5_shows_105 rfl rfl ?_
              refine hr_idiv (v := (nI ((((t.1 11 x) * 2) - (t.1 12 x)) / 2))) (q := 107) X dX5_shows_106 rfl (by decide) (pk_div (by omega) (by decide) (by decide)) ?_
              refine hr_goto (tgt := 111) X dX5_shows_107 (by decide) ?_
              exact hr_iret X hr dX5_shows_111 ⟨hz_i (congrArg nI (by unfold sp_shows; dsimp only; (repeat' split) <;> omega)), rfl⟩
      · refine hr_iload2 (q := 54) X dX5_shows_53 rfl ?_
        refine hr_aload0 (q := 55) X dX5_shows_54 rfl ?_
        refine hr_getR (v := am 10) (q := 58) X dX5_shows_55 rfl fr_q1392_5 rfl hR.om (hR.f rfl) ?_
        refine hr_iload1 (q := 59) X dX5_shows_58 rfl ?_
        refine hr_ialdN (v := (nI (t.1 10 x))) (q := 60) X dX5_shows_59 rfl (hR.ka (n := 7) rfl rfl rfl) (Or.inl rfl) hx (by decide) ((hR.ar rfl _).trans (hT.p (by decide) (by decide) hx)) ?_
        have b59 := hw.b10 (show x < 7 by omega)
        refine hr_iadd (v := (nI ((t.1 11 x) * 2 + (t.1 10 x)))) (q := 61) X dX5_shows_60 rfl (nI_add _ _) ?_
        refine hr_istore2 (q := 62) X dX5_shows_61 rfl rfl (Nat.le_of_ble_eq_true rfl) ?_
        refine hr_aload0 (q := 63) X dX5_shows_62 rfl ?_
        refine hr_getR (v := am 9) (q := 66) X dX5_shows_63 rfl fr_q1391_5 rfl hR.om (hR.f rfl) ?_
        refine hr_iload1 (q := 67) X dX5_shows_66 rfl ?_
        refine hr_ialdN (v := (nI (t.1 9 x))) (q := 68) X dX5_shows_67 rfl (hR.ka (n := 7) rfl rfl rfl) (Or.inl rfl) hx (by decide) ((hR.ar rfl _).trans (hT.p (by decide) (by decide) hx)) ?_
        have b67 := hw.b9 (show x < 7 by omega)
        refine hr_bipush (v := (nI 6)) (q := 70) X dX5_shows_68 rfl rfl ?_
        refine hr_icmpN_ne (q := 73) (tgt := 96) X dX5_shows_70 rfl (by decide) (by omega) (by omega) (fun c70 => ?_) (fun c70 => ?_)
        · refine hr_aload0 (q := 97) X dX5_shows_96 rfl ?_
          refine hr_getI (v := (nI (t.1 3 0))) (q := 100) X dX5_shows_97 rfl fr_q1385_5 rfl hR.om ((hR.sc 3).trans (hT.sc (by decide))) ?_
          refine hr_iconst (v := (nI 1)) (q := 101) X dX5_shows_100 rfl rfl ?_
          refine hr_icmpN_ne (q := 104) (tgt := 110) X dX5_shows_101 rfl (by decide) (by omega) (by omega) (fun c101 => ?_) (fun c101 => ?_)
          · refine hr_iload2 (q := 111) X dX5_shows_110 rfl ?_
            exact hr_iret X hr dX5_shows_111 ⟨hz_i (congrArg nI (by unfold sp_shows; dsimp only; (repeat' split) <;> omega)), rfl⟩
          · refine hr_iload2 (q := 105) X dX5_shows_104 rfl ?_
            refine hr_iconst (v := (nI 2)) (q := 106) X dX5_shows_105 rfl rfl ?_
            refine hr_idiv (v := (nI (((t.1 11 x) * 2 + (t.1 10 x)) / 2))) (q := 107) X dX5_shows_106 rfl (by decide) (pk_div (by omega) (by decide) (by decide)) ?_
            refine hr_goto (tgt := 111) X dX5_shows_107 (by decide) ?_
            exact hr_iret X hr dX5_shows_111 ⟨hz_i (congrArg nI (by unfold sp_shows; dsimp only; (repeat' split) <;> omega)), rfl⟩
        · refine hr_iload2 (q := 74) X dX5_shows_73 rfl ?_
          refine hr_aload0 (q := 75) X dX5_shows_74 rfl ?_
          refine hr_getR (v := am 12) (q := 78) X dX5_shows_75 rfl fr_q1394_5 rfl hR.om (hR.f rfl) ?_
          refine hr_iload1 (q := 79) X dX5_shows_78 rfl ?_
          refine hr_ialdN (v := (nI (t.1 12 x))) (q := 80) X dX5_shows_79 rfl (hR.ka (n := 7) rfl rfl rfl) (Or.inl rfl) hx (by decide) ((hR.ar rfl _).trans (hT.p (by decide) (by decide) hx)) ?_
          have b79 := hw.b12 (show x < 7 by omega)
          refine hr_icmpN_le (q := 83) (tgt := 94) X dX5_shows_80 rfl (by decide) (by omega) (by omega) (fun c80 => ?_) (fun c80 => ?_)
          · refine hr_iconst (v := (nI 0)) (q := 95) X dX5_shows_94 rfl rfl ?_
            refine hr_istore2 (q := 96) X dX5_shows_95 rfl rfl (Nat.le_of_ble_eq_true rfl) ?_
            refine hr_aload0 (q := 97) X dX5_shows_96 rfl ?_
            refine hr_getI (v := (nI (t.1 3 0))) (q := 100) X dX5_shows_97 rfl fr_q1385_5 rfl hR.om ((hR.sc 3).trans (hT.sc (by decide))) ?_
            refine hr_iconst (v := (nI 1)) (q := 101) X dX5_shows_100 rfl rfl ?_
            refine hr_icmpN_ne (q := 104) (tgt := 110) X dX5_shows_101 rfl (by decide) (by omega) (by omega) (fun c101 => ?_) (fun c101 => ?_)
            · refine hr_iload2 (q := 111) X dX5_shows_110 rfl ?_
              exact hr_iret X hr dX5_shows_111 ⟨hz_i (congrArg nI (by unfold sp_shows; dsimp only; (repeat' split) <;> omega)), rfl⟩
            · refine hr_iload2 (q := 105) X dX5_shows_104 rfl ?_
              refine hr_iconst (v := (nI 2)) (q := 106) X dX5_shows_105 rfl rfl ?_
              refine hr_idiv (v := (nI (0 / 2))) (q := 107) X dX5_shows_106 rfl (by decide) (pk_div (by omega) (by decide) (by decide)) ?_
              refine hr_goto (tgt := 111) X dX5_shows_107 (by decide) ?_
              exact hr_iret X hr dX5_shows_111 ⟨hz_i (congrArg nI (by unfold sp_shows; dsimp only; (repeat' split) <;> omega)), rfl⟩
          · refine hr_iload2 (q := 84) X dX5_shows_83 rfl ?_
            refine hr_aload0 (q := 85) X dX5_shows_84 rfl ?_
            refine hr_getR (v := am 12) (q := 88) X dX5_shows_85 rfl fr_q1394_5 rfl hR.om (hR.f rfl) ?_
            refine hr_iload1 (q := 89) X dX5_shows_88 rfl ?_
            refine hr_ialdN (v := (nI (t.1 12 x))) (q := 90) X dX5_shows_89 rfl (hR.ka (n := 7) rfl rfl rfl) (Or.inl rfl) hx (by decide) ((hR.ar rfl _).trans (hT.p (by decide) (by decide) hx)) ?_
            have b89 := hw.b12 (show x < 7 by omega)
            refine hr_isub (v := (nI (((t.1 11 x) * 2 + (t.1 10 x)) - (t.1 12 x)))) (q := 91) X dX5_shows_90 rfl (pk_sub (by omega)) ?_
            refine hr_goto (tgt := 95) X dX5_shows_91 (by decide) ?_
            refine hr_istore2 (q := 96) X dX5_shows_95 rfl rfl (Nat.le_of_ble_eq_true rfl) ?_
            refine hr_aload0 (q := 97) X dX5_shows_96 rfl ?_
            refine hr_getI (v := (nI (t.1 3 0))) (q := 100) X dX5_shows_97 rfl fr_q1385_5 rfl hR.om ((hR.sc 3).trans (hT.sc (by decide))) ?_
            refine hr_iconst (v := (nI 1)) (q := 101) X dX5_shows_100 rfl rfl ?_
            refine hr_icmpN_ne (q := 104) (tgt := 110) X dX5_shows_101 rfl (by decide) (by omega) (by omega) (fun c101 => ?_) (fun c101 => ?_)
            · refine hr_iload2 (q := 111) X dX5_shows_110 rfl ?_
              exact hr_iret X hr dX5_shows_111 ⟨hz_i (congrArg nI (by unfold sp_shows; dsimp only; (repeat' split) <;> omega)), rfl⟩
            · refine hr_iload2 (q := 105) X dX5_shows_104 rfl ?_
              refine hr_iconst (v := (nI 2)) (q := 106) X dX5_shows_105 rfl rfl ?_
              refine hr_idiv (v := (nI ((((t.1 11 x) * 2 + (t.1 10 x)) - (t.1 12 x)) / 2))) (q := 107) X dX5_shows_106 rfl (by decide) (pk_div (by omega) (by decide) (by decide)) ?_
              refine hr_goto (tgt := 111) X dX5_shows_107 (by decide) ?_
              exact hr_iret X hr dX5_shows_111 ⟨hz_i (congrArg nI (by unfold sp_shows; dsimp only; (repeat' split) <;> omega)), rfl⟩
    · refine hr_aload0 (q := 30) X dX5_shows_29 rfl ?_
      refine hr_getR (v := am 9) (q := 33) X dX5_shows_30 rfl fr_q1391_5 rfl hR.om (hR.f rfl) ?_
      refine hr_iload1 (q := 34) X dX5_shows_33 rfl ?_
      refine hr_ialdN (v := (nI (t.1 9 x))) (q := 35) X dX5_shows_34 rfl (hR.ka (n := 7) rfl rfl rfl) (Or.inl rfl) hx (by decide) ((hR.ar rfl _).trans (hT.p (by decide) (by decide) hx)) ?_
      have b34 := hw.b9 (show x < 7 by omega)
      refine hr_iconst (v := (nI 2)) (q := 36) X dX5_shows_35 rfl rfl ?_
      refine hr_icmpN_ne (q := 39) (tgt := 43) X dX5_shows_36 rfl (by decide) (by omega) (by omega) (fun c36 => ?_) (fun c36 => ?_)
      · refine hr_aload0 (q := 44) X dX5_shows_43 rfl ?_
        refine hr_getR (v := am 9) (q := 47) X dX5_shows_44 rfl fr_q1391_5 rfl hR.om (hR.f rfl) ?_
        refine hr_iload1 (q := 48) X dX5_shows_47 rfl ?_
        refine hr_ialdN (v := (nI (t.1 9 x))) (q := 49) X dX5_shows_48 rfl (hR.ka (n := 7) rfl rfl rfl) (Or.inl rfl) hx (by decide) ((hR.ar rfl _).trans (hT.p (by decide) (by decide) hx)) ?_
        have b48 := hw.b9 (show x < 7 by omega)
        refine hr_iconst (v := (nI 2)) (q := 50) X dX5_shows_49 rfl rfl ?_
        refine hr_icmpN_ne (q := 53) (tgt := 62) X dX5_shows_50 rfl (by decide) (by omega) (by omega) (fun c50 => ?_) (fun c50 => ?_)
        · refine hr_aload0 (q := 63) X dX5_shows_62 rfl ?_
          refine hr_getR (v := am 9) (q := 66) X dX5_shows_63 rfl fr_q1391_5 rfl hR.om (hR.f rfl) ?_
          refine hr_iload1 (q := 67) X dX5_shows_66 rfl ?_
          refine hr_ialdN (v := (nI (t.1 9 x))) (q := 68) X dX5_shows_67 rfl (hR.ka (n := 7) rfl rfl rfl) (Or.inl rfl) hx (by decide) ((hR.ar rfl _).trans (hT.p (by decide) (by decide) hx)) ?_
          have b67 := hw.b9 (show x < 7 by omega)
          refine hr_bipush (v := (nI 6)) (q := 70) X dX5_shows_68 rfl rfl ?_
          refine hr_icmpN_ne (q := 73) (tgt := 96) X dX5_shows_70 rfl (by decide) (by omega) (by omega) (fun c70 => ?_) (fun c70 => ?_)
          · refine hr_aload0 (q := 97) X dX5_shows_96 rfl ?_
            refine hr_getI (v := (nI (t.1 3 0))) (q := 100) X dX5_shows_97 rfl fr_q1385_5 rfl hR.om ((hR.sc 3).trans (hT.sc (by decide))) ?_
            refine hr_iconst (v := (nI 1)) (q := 101) X dX5_shows_100 rfl rfl ?_
            refine hr_icmpN_ne (q := 104) (tgt := 110) X dX5_shows_101 rfl (by decide) (by omega) (by omega) (fun c101 => ?_) (fun c101 => ?_)
            · refine hr_iload2 (q := 111) X dX5_shows_110 rfl ?_
              exact hr_iret X hr dX5_shows_111 ⟨hz_i (congrArg nI (by unfold sp_shows; dsimp only; (repeat' split) <;> omega)), rfl⟩
            · refine hr_iload2 (q := 105) X dX5_shows_104 rfl ?_
              refine hr_iconst (v := (nI 2)) (q := 106) X dX5_shows_105 rfl rfl ?_
              refine hr_idiv (v := (nI ((t.1 11 x) / 2))) (q := 107) X dX5_shows_106 rfl (by decide) (pk_div (by omega) (by decide) (by decide)) ?_
              refine hr_goto (tgt := 111) X dX5_shows_107 (by decide) ?_
              exact hr_iret X hr dX5_shows_111 ⟨hz_i (congrArg nI (by unfold sp_shows; dsimp only; (repeat' split) <;> omega)), rfl⟩
          · refine hr_iload2 (q := 74) X dX5_shows_73 rfl ?_
            refine hr_aload0 (q := 75) X dX5_shows_74 rfl ?_
            refine hr_getR (v := am 12) (q := 78) X dX5_shows_75 rfl fr_q1394_5 rfl hR.om (hR.f rfl) ?_
            refine hr_iload1 (q := 79) X dX5_shows_78 rfl ?_
            refine hr_ialdN (v := (nI (t.1 12 x))) (q := 80) X dX5_shows_79 rfl (hR.ka (n := 7) rfl rfl rfl) (Or.inl rfl) hx (by decide) ((hR.ar rfl _).trans (hT.p (by decide) (by decide) hx)) ?_
            have b79 := hw.b12 (show x < 7 by omega)
            refine hr_icmpN_le (q := 83) (tgt := 94) X dX5_shows_80 rfl (by decide) (by omega) (by omega) (fun c80 => ?_) (fun c80 => ?_)
            · refine hr_iconst (v := (nI 0)) (q := 95) X dX5_shows_94 rfl rfl ?_
              refine hr_istore2 (q := 96) X dX5_shows_95 rfl rfl (Nat.le_of_ble_eq_true rfl) ?_
              refine hr_aload0 (q := 97) X dX5_shows_96 rfl ?_
              refine hr_getI (v := (nI (t.1 3 0))) (q := 100) X dX5_shows_97 rfl fr_q1385_5 rfl hR.om ((hR.sc 3).trans (hT.sc (by decide))) ?_
              refine hr_iconst (v := (nI 1)) (q := 101) X dX5_shows_100 rfl rfl ?_
              refine hr_icmpN_ne (q := 104) (tgt := 110) X dX5_shows_101 rfl (by decide) (by omega) (by omega) (fun c101 => ?_) (fun c101 => ?_)
              · refine hr_iload2 (q := 111) X dX5_shows_110 rfl ?_
                exact hr_iret X hr dX5_shows_111 ⟨hz_i (congrArg nI (by unfold sp_shows; dsimp only; (repeat' split) <;> omega)), rfl⟩
              · refine hr_iload2 (q := 105) X dX5_shows_104 rfl ?_
                refine hr_iconst (v := (nI 2)) (q := 106) X dX5_shows_105 rfl rfl ?_
                refine hr_idiv (v := (nI (0 / 2))) (q := 107) X dX5_shows_106 rfl (by decide) (pk_div (by omega) (by decide) (by decide)) ?_
                refine hr_goto (tgt := 111) X dX5_shows_107 (by decide) ?_
                exact hr_iret X hr dX5_shows_111 ⟨hz_i (congrArg nI (by unfold sp_shows; dsimp only; (repeat' split) <;> omega)), rfl⟩
            · refine hr_iload2 (q := 84) X dX5_shows_83 rfl ?_
              refine hr_aload0 (q := 85) X dX5_shows_84 rfl ?_
              refine hr_getR (v := am 12) (q := 88) X dX5_shows_85 rfl fr_q1394_5 rfl hR.om (hR.f rfl) ?_
              refine hr_iload1 (q := 89) X dX5_shows_88 rfl ?_
              refine hr_ialdN (v := (nI (t.1 12 x))) (q := 90) X dX5_shows_89 rfl (hR.ka (n := 7) rfl rfl rfl) (Or.inl rfl) hx (by decide) ((hR.ar rfl _).trans (hT.p (by decide) (by decide) hx)) ?_
              have b89 := hw.b12 (show x < 7 by omega)
              refine hr_isub (v := (nI ((t.1 11 x) - (t.1 12 x)))) (q := 91) X dX5_shows_90 rfl (pk_sub (by omega)) ?_
              refine hr_goto (tgt := 95) X dX5_shows_91 (by decide) ?_
              refine hr_istore2 (q := 96) X dX5_shows_95 rfl rfl (Nat.le_of_ble_eq_true rfl) ?_
              refine hr_aload0 (q := 97) X dX5_shows_96 rfl ?_
              refine hr_getI (v := (nI (t.1 3 0))) (q := 100) X dX5_shows_97 rfl fr_q1385_5 rfl hR.om ((hR.sc 3).trans (hT.sc (by decide))) ?_
              refine hr_iconst (v := (nI 1)) (q := 101) X dX5_shows_100 rfl rfl ?_
              refine hr_icmpN_ne (q := 104) (tgt := 110) X dX5_shows_101 rfl (by decide) (by omega) (by omega) (fun c101 => ?_) (fun c101 => ?_)
              · refine hr_iload2 (q := 111) X dX5_shows_110 rfl ?_
                exact hr_iret X hr dX5_shows_111 ⟨hz_i (congrArg nI (by unfold sp_shows; dsimp only; (repeat' split) <;> omega)), rfl⟩
              · refine hr_iload2 (q := 105) X dX5_shows_104 rfl ?_
                refine hr_iconst (v := (nI 2)) (q := 106) X dX5_shows_105 rfl rfl ?_
                refine hr_idiv (v := (nI (((t.1 11 x) - (t.1 12 x)) / 2))) (q := 107) X dX5_shows_106 rfl (by decide) (pk_div (by omega) (by decide) (by decide)) ?_
                refine hr_goto (tgt := 111) X dX5_shows_107 (by decide) ?_
                exact hr_iret X hr dX5_shows_111 ⟨hz_i (congrArg nI (by unfold sp_shows; dsimp only; (repeat' split) <;> omega)), rfl⟩
        · refine hr_iload2 (q := 54) X dX5_shows_53 rfl ?_
          refine hr_aload0 (q := 55) X dX5_shows_54 rfl ?_
          refine hr_getR (v := am 10) (q := 58) X dX5_shows_55 rfl fr_q1392_5 rfl hR.om (hR.f rfl) ?_
          refine hr_iload1 (q := 59) X dX5_shows_58 rfl ?_
          refine hr_ialdN (v := (nI (t.1 10 x))) (q := 60) X dX5_shows_59 rfl (hR.ka (n := 7) rfl rfl rfl) (Or.inl rfl) hx (by decide) ((hR.ar rfl _).trans (hT.p (by decide) (by decide) hx)) ?_
          have b59 := hw.b10 (show x < 7 by omega)
          refine hr_iadd (v := (nI (t.1 11 x + (t.1 10 x)))) (q := 61) X dX5_shows_60 rfl (nI_add _ _) ?_
          refine hr_istore2 (q := 62) X dX5_shows_61 rfl rfl (Nat.le_of_ble_eq_true rfl) ?_
          refine hr_aload0 (q := 63) X dX5_shows_62 rfl ?_
          refine hr_getR (v := am 9) (q := 66) X dX5_shows_63 rfl fr_q1391_5 rfl hR.om (hR.f rfl) ?_
          refine hr_iload1 (q := 67) X dX5_shows_66 rfl ?_
          refine hr_ialdN (v := (nI (t.1 9 x))) (q := 68) X dX5_shows_67 rfl (hR.ka (n := 7) rfl rfl rfl) (Or.inl rfl) hx (by decide) ((hR.ar rfl _).trans (hT.p (by decide) (by decide) hx)) ?_
          have b67 := hw.b9 (show x < 7 by omega)
          refine hr_bipush (v := (nI 6)) (q := 70) X dX5_shows_68 rfl rfl ?_
          refine hr_icmpN_ne (q := 73) (tgt := 96) X dX5_shows_70 rfl (by decide) (by omega) (by omega) (fun c70 => ?_) (fun c70 => ?_)
          · refine hr_aload0 (q := 97) X dX5_shows_96 rfl ?_
            refine hr_getI (v := (nI (t.1 3 0))) (q := 100) X dX5_shows_97 rfl fr_q1385_5 rfl hR.om ((hR.sc 3).trans (hT.sc (by decide))) ?_
            refine hr_iconst (v := (nI 1)) (q := 101) X dX5_shows_100 rfl rfl ?_
            refine hr_icmpN_ne (q := 104) (tgt := 110) X dX5_shows_101 rfl (by decide) (by omega) (by omega) (fun c101 => ?_) (fun c101 => ?_)
            · refine hr_iload2 (q := 111) X dX5_shows_110 rfl ?_
              exact hr_iret X hr dX5_shows_111 ⟨hz_i (congrArg nI (by unfold sp_shows; dsimp only; (repeat' split) <;> omega)), rfl⟩
            · refine hr_iload2 (q := 105) X dX5_shows_104 rfl ?_
              refine hr_iconst (v := (nI 2)) (q := 106) X dX5_shows_105 rfl rfl ?_
              refine hr_idiv (v := (nI ((t.1 11 x + (t.1 10 x)) / 2))) (q := 107) X dX5_shows_106 rfl (by decide) (pk_div (by omega) (by decide) (by decide)) ?_
              refine hr_goto (tgt := 111) X dX5_shows_107 (by decide) ?_
              exact hr_iret X hr dX5_shows_111 ⟨hz_i (congrArg nI (by unfold sp_shows; dsimp only; (repeat' split) <;> omega)), rfl⟩
          · refine hr_iload2 (q := 74) X dX5_shows_73 rfl ?_
            refine hr_aload0 (q := 75) X dX5_shows_74 rfl ?_
            refine hr_getR (v := am 12) (q := 78) X dX5_shows_75 rfl fr_q1394_5 rfl hR.om (hR.f rfl) ?_
            refine hr_iload1 (q := 79) X dX5_shows_78 rfl ?_
            refine hr_ialdN (v := (nI (t.1 12 x))) (q := 80) X dX5_shows_79 rfl (hR.ka (n := 7) rfl rfl rfl) (Or.inl rfl) hx (by decide) ((hR.ar rfl _).trans (hT.p (by decide) (by decide) hx)) ?_
            have b79 := hw.b12 (show x < 7 by omega)
            refine hr_icmpN_le (q := 83) (tgt := 94) X dX5_shows_80 rfl (by decide) (by omega) (by omega) (fun c80 => ?_) (fun c80 => ?_)
            · refine hr_iconst (v := (nI 0)) (q := 95) X dX5_shows_94 rfl rfl ?_
              refine hr_istore2 (q := 96) X dX5_shows_95 rfl rfl (Nat.le_of_ble_eq_true rfl) ?_
              refine hr_aload0 (q := 97) X dX5_shows_96 rfl ?_
              refine hr_getI (v := (nI (t.1 3 0))) (q := 100) X dX5_shows_97 rfl fr_q1385_5 rfl hR.om ((hR.sc 3).trans (hT.sc (by decide))) ?_
              refine hr_iconst (v := (nI 1)) (q := 101) X dX5_shows_100 rfl rfl ?_
              refine hr_icmpN_ne (q := 104) (tgt := 110) X dX5_shows_101 rfl (by decide) (by omega) (by omega) (fun c101 => ?_) (fun c101 => ?_)
              · refine hr_iload2 (q := 111) X dX5_shows_110 rfl ?_
                exact hr_iret X hr dX5_shows_111 ⟨hz_i (congrArg nI (by unfold sp_shows; dsimp only; (repeat' split) <;> omega)), rfl⟩
              · refine hr_iload2 (q := 105) X dX5_shows_104 rfl ?_
                refine hr_iconst (v := (nI 2)) (q := 106) X dX5_shows_105 rfl rfl ?_
                refine hr_idiv (v := (nI (0 / 2))) (q := 107) X dX5_shows_106 rfl (by decide) (pk_div (by omega) (by decide) (by decide)) ?_
                refine hr_goto (tgt := 111) X dX5_shows_107 (by decide) ?_
                exact hr_iret X hr dX5_shows_111 ⟨hz_i (congrArg nI (by unfold sp_shows; dsimp only; (repeat' split) <;> omega)), rfl⟩
            · refine hr_iload2 (q := 84) X dX5_shows_83 rfl ?_
              refine hr_aload0 (q := 85) X dX5_shows_84 rfl ?_
              refine hr_getR (v := am 12) (q := 88) X dX5_shows_85 rfl fr_q1394_5 rfl hR.om (hR.f rfl) ?_
              refine hr_iload1 (q := 89) X dX5_shows_88 rfl ?_
              refine hr_ialdN (v := (nI (t.1 12 x))) (q := 90) X dX5_shows_89 rfl (hR.ka (n := 7) rfl rfl rfl) (Or.inl rfl) hx (by decide) ((hR.ar rfl _).trans (hT.p (by decide) (by decide) hx)) ?_
              have b89 := hw.b12 (show x < 7 by omega)
              refine hr_isub (v := (nI ((t.1 11 x + (t.1 10 x)) - (t.1 12 x)))) (q := 91) X dX5_shows_90 rfl (pk_sub (by omega)) ?_
              refine hr_goto (tgt := 95) X dX5_shows_91 (by decide) ?_
              refine hr_istore2 (q := 96) X dX5_shows_95 rfl rfl (Nat.le_of_ble_eq_true rfl) ?_
              refine hr_aload0 (q := 97) X dX5_shows_96 rfl ?_
              refine hr_getI (v := (nI (t.1 3 0))) (q := 100) X dX5_shows_97 rfl fr_q1385_5 rfl hR.om ((hR.sc 3).trans (hT.sc (by decide))) ?_
              refine hr_iconst (v := (nI 1)) (q := 101) X dX5_shows_100 rfl rfl ?_
              refine hr_icmpN_ne (q := 104) (tgt := 110) X dX5_shows_101 rfl (by decide) (by omega) (by omega) (fun c101 => ?_) (fun c101 => ?_)
              · refine hr_iload2 (q := 111) X dX5_shows_110 rfl ?_
                exact hr_iret X hr dX5_shows_111 ⟨hz_i (congrArg nI (by unfold sp_shows; dsimp only; (repeat' split) <;> omega)), rfl⟩
              · refine hr_iload2 (q := 105) X dX5_shows_104 rfl ?_
                refine hr_iconst (v := (nI 2)) (q := 106) X dX5_shows_105 rfl rfl ?_
                refine hr_idiv (v := (nI (((t.1 11 x + (t.1 10 x)) - (t.1 12 x)) / 2))) (q := 107) X dX5_shows_106 rfl (by decide) (pk_div (by omega) (by decide) (by decide)) ?_
                refine hr_goto (tgt := 111) X dX5_shows_107 (by decide) ?_
                exact hr_iret X hr dX5_shows_111 ⟨hz_i (congrArg nI (by unfold sp_shows; dsimp only; (repeat' split) <;> omega)), rfl⟩
      · refine hr_iload2 (q := 40) X dX5_shows_39 rfl ?_
        refine hr_iconst (v := (nI 2)) (q := 41) X dX5_shows_40 rfl rfl ?_
        refine hr_imul (v := (nI ((t.1 11 x) * 2))) (q := 42) X dX5_shows_41 rfl (pk_mul _ _) ?_
        refine hr_istore2 (q := 43) X dX5_shows_42 rfl rfl (Nat.le_of_ble_eq_true rfl) ?_
        refine hr_aload0 (q := 44) X dX5_shows_43 rfl ?_
        refine hr_getR (v := am 9) (q := 47) X dX5_shows_44 rfl fr_q1391_5 rfl hR.om (hR.f rfl) ?_
        refine hr_iload1 (q := 48) X dX5_shows_47 rfl ?_
        refine hr_ialdN (v := (nI (t.1 9 x))) (q := 49) X dX5_shows_48 rfl (hR.ka (n := 7) rfl rfl rfl) (Or.inl rfl) hx (by decide) ((hR.ar rfl _).trans (hT.p (by decide) (by decide) hx)) ?_
        have b48 := hw.b9 (show x < 7 by omega)
        refine hr_iconst (v := (nI 2)) (q := 50) X dX5_shows_49 rfl rfl ?_
        refine hr_icmpN_ne (q := 53) (tgt := 62) X dX5_shows_50 rfl (by decide) (by omega) (by omega) (fun c50 => ?_) (fun c50 => ?_)
        · refine hr_aload0 (q := 63) X dX5_shows_62 rfl ?_
          refine hr_getR (v := am 9) (q := 66) X dX5_shows_63 rfl fr_q1391_5 rfl hR.om (hR.f rfl) ?_
          refine hr_iload1 (q := 67) X dX5_shows_66 rfl ?_
          refine hr_ialdN (v := (nI (t.1 9 x))) (q := 68) X dX5_shows_67 rfl (hR.ka (n := 7) rfl rfl rfl) (Or.inl rfl) hx (by decide) ((hR.ar rfl _).trans (hT.p (by decide) (by decide) hx)) ?_
          have b67 := hw.b9 (show x < 7 by omega)
          refine hr_bipush (v := (nI 6)) (q := 70) X dX5_shows_68 rfl rfl ?_
          refine hr_icmpN_ne (q := 73) (tgt := 96) X dX5_shows_70 rfl (by decide) (by omega) (by omega) (fun c70 => ?_) (fun c70 => ?_)
          · refine hr_aload0 (q := 97) X dX5_shows_96 rfl ?_
            refine hr_getI (v := (nI (t.1 3 0))) (q := 100) X dX5_shows_97 rfl fr_q1385_5 rfl hR.om ((hR.sc 3).trans (hT.sc (by decide))) ?_
            refine hr_iconst (v := (nI 1)) (q := 101) X dX5_shows_100 rfl rfl ?_
            refine hr_icmpN_ne (q := 104) (tgt := 110) X dX5_shows_101 rfl (by decide) (by omega) (by omega) (fun c101 => ?_) (fun c101 => ?_)
            · refine hr_iload2 (q := 111) X dX5_shows_110 rfl ?_
              exact hr_iret X hr dX5_shows_111 ⟨hz_i (congrArg nI (by unfold sp_shows; dsimp only; (repeat' split) <;> omega)), rfl⟩
            · refine hr_iload2 (q := 105) X dX5_shows_104 rfl ?_
              refine hr_iconst (v := (nI 2)) (q := 106) X dX5_shows_105 rfl rfl ?_
              refine hr_idiv (v := (nI (((t.1 11 x) * 2) / 2))) (q := 107) X dX5_shows_106 rfl (by decide) (pk_div (by omega) (by decide) (by decide)) ?_
              refine hr_goto (tgt := 111) X dX5_shows_107 (by decide) ?_
              exact hr_iret X hr dX5_shows_111 ⟨hz_i (congrArg nI (by unfold sp_shows; dsimp only; (repeat' split) <;> omega)), rfl⟩
          · refine hr_iload2 (q := 74) X dX5_shows_73 rfl ?_
            refine hr_aload0 (q := 75) X dX5_shows_74 rfl ?_
            refine hr_getR (v := am 12) (q := 78) X dX5_shows_75 rfl fr_q1394_5 rfl hR.om (hR.f rfl) ?_
            refine hr_iload1 (q := 79) X dX5_shows_78 rfl ?_
            refine hr_ialdN (v := (nI (t.1 12 x))) (q := 80) X dX5_shows_79 rfl (hR.ka (n := 7) rfl rfl rfl) (Or.inl rfl) hx (by decide) ((hR.ar rfl _).trans (hT.p (by decide) (by decide) hx)) ?_
            have b79 := hw.b12 (show x < 7 by omega)
            refine hr_icmpN_le (q := 83) (tgt := 94) X dX5_shows_80 rfl (by decide) (by omega) (by omega) (fun c80 => ?_) (fun c80 => ?_)
            · refine hr_iconst (v := (nI 0)) (q := 95) X dX5_shows_94 rfl rfl ?_
              refine hr_istore2 (q := 96) X dX5_shows_95 rfl rfl (Nat.le_of_ble_eq_true rfl) ?_
              refine hr_aload0 (q := 97) X dX5_shows_96 rfl ?_
              refine hr_getI (v := (nI (t.1 3 0))) (q := 100) X dX5_shows_97 rfl fr_q1385_5 rfl hR.om ((hR.sc 3).trans (hT.sc (by decide))) ?_
              refine hr_iconst (v := (nI 1)) (q := 101) X dX5_shows_100 rfl rfl ?_
              refine hr_icmpN_ne (q := 104) (tgt := 110) X dX5_shows_101 rfl (by decide) (by omega) (by omega) (fun c101 => ?_) (fun c101 => ?_)
              · refine hr_iload2 (q := 111) X dX5_shows_110 rfl ?_
                exact hr_iret X hr dX5_shows_111 ⟨hz_i (congrArg nI (by unfold sp_shows; dsimp only; (repeat' split) <;> omega)), rfl⟩
              · refine hr_iload2 (q := 105) X dX5_shows_104 rfl ?_
                refine hr_iconst (v := (nI 2)) (q := 106) X dX5_shows_105 rfl rfl ?_
                refine hr_idiv (v := (nI (0 / 2))) (q := 107) X dX5_shows_106 rfl (by decide) (pk_div (by omega) (by decide) (by decide)) ?_
                refine hr_goto (tgt := 111) X dX5_shows_107 (by decide) ?_
                exact hr_iret X hr dX5_shows_111 ⟨hz_i (congrArg nI (by unfold sp_shows; dsimp only; (repeat' split) <;> omega)), rfl⟩
            · refine hr_iload2 (q := 84) X dX5_shows_83 rfl ?_
              refine hr_aload0 (q := 85) X dX5_shows_84 rfl ?_
              refine hr_getR (v := am 12) (q := 88) X dX5_shows_85 rfl fr_q1394_5 rfl hR.om (hR.f rfl) ?_
              refine hr_iload1 (q := 89) X dX5_shows_88 rfl ?_
              refine hr_ialdN (v := (nI (t.1 12 x))) (q := 90) X dX5_shows_89 rfl (hR.ka (n := 7) rfl rfl rfl) (Or.inl rfl) hx (by decide) ((hR.ar rfl _).trans (hT.p (by decide) (by decide) hx)) ?_
              have b89 := hw.b12 (show x < 7 by omega)
              refine hr_isub (v := (nI (((t.1 11 x) * 2) - (t.1 12 x)))) (q := 91) X dX5_shows_90 rfl (pk_sub (by omega)) ?_
              refine hr_goto (tgt := 95) X dX5_shows_91 (by decide) ?_
              refine hr_istore2 (q := 96) X dX5_shows_95 rfl rfl (Nat.le_of_ble_eq_true rfl) ?_
              refine hr_aload0 (q := 97) X dX5_shows_96 rfl ?_
              refine hr_getI (v := (nI (t.1 3 0))) (q := 100) X dX5_shows_97 rfl fr_q1385_5 rfl hR.om ((hR.sc 3).trans (hT.sc (by decide))) ?_
              refine hr_iconst (v := (nI 1)) (q := 101) X dX5_shows_100 rfl rfl ?_
              refine hr_icmpN_ne (q := 104) (tgt := 110) X dX5_shows_101 rfl (by decide) (by omega) (by omega) (fun c101 => ?_) (fun c101 => ?_)
              · refine hr_iload2 (q := 111) X dX5_shows_110 rfl ?_
                exact hr_iret X hr dX5_shows_111 ⟨hz_i (congrArg nI (by unfold sp_shows; dsimp only; (repeat' split) <;> omega)), rfl⟩
              · refine hr_iload2 (q := 105) X dX5_shows_104 rfl ?_
                refine hr_iconst (v := (nI 2)) (q := 106) X dX5_shows_105 rfl rfl ?_
                refine hr_idiv (v := (nI ((((t.1 11 x) * 2) - (t.1 12 x)) / 2))) (q := 107) X dX5_shows_106 rfl (by decide) (pk_div (by omega) (by decide) (by decide)) ?_
                refine hr_goto (tgt := 111) X dX5_shows_107 (by decide) ?_
                exact hr_iret X hr dX5_shows_111 ⟨hz_i (congrArg nI (by unfold sp_shows; dsimp only; (repeat' split) <;> omega)), rfl⟩
        · refine hr_iload2 (q := 54) X dX5_shows_53 rfl ?_
          refine hr_aload0 (q := 55) X dX5_shows_54 rfl ?_
          refine hr_getR (v := am 10) (q := 58) X dX5_shows_55 rfl fr_q1392_5 rfl hR.om (hR.f rfl) ?_
          refine hr_iload1 (q := 59) X dX5_shows_58 rfl ?_
          refine hr_ialdN (v := (nI (t.1 10 x))) (q := 60) X dX5_shows_59 rfl (hR.ka (n := 7) rfl rfl rfl) (Or.inl rfl) hx (by decide) ((hR.ar rfl _).trans (hT.p (by decide) (by decide) hx)) ?_
          have b59 := hw.b10 (show x < 7 by omega)
          refine hr_iadd (v := (nI ((t.1 11 x) * 2 + (t.1 10 x)))) (q := 61) X dX5_shows_60 rfl (nI_add _ _) ?_
          refine hr_istore2 (q := 62) X dX5_shows_61 rfl rfl (Nat.le_of_ble_eq_true rfl) ?_
          refine hr_aload0 (q := 63) X dX5_shows_62 rfl ?_
          refine hr_getR (v := am 9) (q := 66) X dX5_shows_63 rfl fr_q1391_5 rfl hR.om (hR.f rfl) ?_
          refine hr_iload1 (q := 67) X dX5_shows_66 rfl ?_
          refine hr_ialdN (v := (nI (t.1 9 x))) (q := 68) X dX5_shows_67 rfl (hR.ka (n := 7) rfl rfl rfl) (Or.inl rfl) hx (by decide) ((hR.ar rfl _).trans (hT.p (by decide) (by decide) hx)) ?_
          have b67 := hw.b9 (show x < 7 by omega)
          refine hr_bipush (v := (nI 6)) (q := 70) X dX5_shows_68 rfl rfl ?_
          refine hr_icmpN_ne (q := 73) (tgt := 96) X dX5_shows_70 rfl (by decide) (by omega) (by omega) (fun c70 => ?_) (fun c70 => ?_)
          · refine hr_aload0 (q := 97) X dX5_shows_96 rfl ?_
            refine hr_getI (v := (nI (t.1 3 0))) (q := 100) X dX5_shows_97 rfl fr_q1385_5 rfl hR.om ((hR.sc 3).trans (hT.sc (by decide))) ?_
            refine hr_iconst (v := (nI 1)) (q := 101) X dX5_shows_100 rfl rfl ?_
            refine hr_icmpN_ne (q := 104) (tgt := 110) X dX5_shows_101 rfl (by decide) (by omega) (by omega) (fun c101 => ?_) (fun c101 => ?_)
            · refine hr_iload2 (q := 111) X dX5_shows_110 rfl ?_
              exact hr_iret X hr dX5_shows_111 ⟨hz_i (congrArg nI (by unfold sp_shows; dsimp only; (repeat' split) <;> omega)), rfl⟩
            · refine hr_iload2 (q := 105) X dX5_shows_104 rfl ?_
              refine hr_iconst (v := (nI 2)) (q := 106) X dX5_shows_105 rfl rfl ?_
              refine hr_idiv (v := (nI (((t.1 11 x) * 2 + (t.1 10 x)) / 2))) (q := 107) X dX5_shows_106 rfl (by decide) (pk_div (by omega) (by decide) (by decide)) ?_
              refine hr_goto (tgt := 111) X dX5_shows_107 (by decide) ?_
              exact hr_iret X hr dX5_shows_111 ⟨hz_i (congrArg nI (by unfold sp_shows; dsimp only; (repeat' split) <;> omega)), rfl⟩
          · refine hr_iload2 (q := 74) X dX5_shows_73 rfl ?_
            refine hr_aload0 (q := 75) X dX5_shows_74 rfl ?_
            refine hr_getR (v := am 12) (q := 78) X dX5_shows_75 rfl fr_q1394_5 rfl hR.om (hR.f rfl) ?_
            refine hr_iload1 (q := 79) X dX5_shows_78 rfl ?_
            refine hr_ialdN (v := (nI (t.1 12 x))) (q := 80) X dX5_shows_79 rfl (hR.ka (n := 7) rfl rfl rfl) (Or.inl rfl) hx (by decide) ((hR.ar rfl _).trans (hT.p (by decide) (by decide) hx)) ?_
            have b79 := hw.b12 (show x < 7 by omega)
            refine hr_icmpN_le (q := 83) (tgt := 94) X dX5_shows_80 rfl (by decide) (by omega) (by omega) (fun c80 => ?_) (fun c80 => ?_)
            · refine hr_iconst (v := (nI 0)) (q := 95) X dX5_shows_94 rfl rfl ?_
              refine hr_istore2 (q := 96) X dX5_shows_95 rfl rfl (Nat.le_of_ble_eq_true rfl) ?_
              refine hr_aload0 (q := 97) X dX5_shows_96 rfl ?_
              refine hr_getI (v := (nI (t.1 3 0))) (q := 100) X dX5_shows_97 rfl fr_q1385_5 rfl hR.om ((hR.sc 3).trans (hT.sc (by decide))) ?_
              refine hr_iconst (v := (nI 1)) (q := 101) X dX5_shows_100 rfl rfl ?_
              refine hr_icmpN_ne (q := 104) (tgt := 110) X dX5_shows_101 rfl (by decide) (by omega) (by omega) (fun c101 => ?_) (fun c101 => ?_)
              · refine hr_iload2 (q := 111) X dX5_shows_110 rfl ?_
                exact hr_iret X hr dX5_shows_111 ⟨hz_i (congrArg nI (by unfold sp_shows; dsimp only; (repeat' split) <;> omega)), rfl⟩
              · refine hr_iload2 (q := 105) X dX5_shows_104 rfl ?_
                refine hr_iconst (v := (nI 2)) (q := 106) X dX5_shows_105 rfl rfl ?_
                refine hr_idiv (v := (nI (0 / 2))) (q := 107) X dX5_shows_106 rfl (by decide) (pk_div (by omega) (by decide) (by decide)) ?_
                refine hr_goto (tgt := 111) X dX5_shows_107 (by decide) ?_
                exact hr_iret X hr dX5_shows_111 ⟨hz_i (congrArg nI (by unfold sp_shows; dsimp only; (repeat' split) <;> omega)), rfl⟩
            · refine hr_iload2 (q := 84) X dX5_shows_83 rfl ?_
              refine hr_aload0 (q := 85) X dX5_shows_84 rfl ?_
              refine hr_getR (v := am 12) (q := 88) X dX5_shows_85 rfl fr_q1394_5 rfl hR.om (hR.f rfl) ?_
              refine hr_iload1 (q := 89) X dX5_shows_88 rfl ?_
              refine hr_ialdN (v := (nI (t.1 12 x))) (q := 90) X dX5_shows_89 rfl (hR.ka (n := 7) rfl rfl rfl) (Or.inl rfl) hx (by decide) ((hR.ar rfl _).trans (hT.p (by decide) (by decide) hx)) ?_
              have b89 := hw.b12 (show x < 7 by omega)
              refine hr_isub (v := (nI (((t.1 11 x) * 2 + (t.1 10 x)) - (t.1 12 x)))) (q := 91) X dX5_shows_90 rfl (pk_sub (by omega)) ?_
              refine hr_goto (tgt := 95) X dX5_shows_91 (by decide) ?_
              refine hr_istore2 (q := 96) X dX5_shows_95 rfl rfl (Nat.le_of_ble_eq_true rfl) ?_
              refine hr_aload0 (q := 97) X dX5_shows_96 rfl ?_
              refine hr_getI (v := (nI (t.1 3 0))) (q := 100) X dX5_shows_97 rfl fr_q1385_5 rfl hR.om ((hR.sc 3).trans (hT.sc (by decide))) ?_
              refine hr_iconst (v := (nI 1)) (q := 101) X dX5_shows_100 rfl rfl ?_
              refine hr_icmpN_ne (q := 104) (tgt := 110) X dX5_shows_101 rfl (by decide) (by omega) (by omega) (fun c101 => ?_) (fun c101 => ?_)
              · refine hr_iload2 (q := 111) X dX5_shows_110 rfl ?_
                exact hr_iret X hr dX5_shows_111 ⟨hz_i (congrArg nI (by unfold sp_shows; dsimp only; (repeat' split) <;> omega)), rfl⟩
              · refine hr_iload2 (q := 105) X dX5_shows_104 rfl ?_
                refine hr_iconst (v := (nI 2)) (q := 106) X dX5_shows_105 rfl rfl ?_
                refine hr_idiv (v := (nI ((((t.1 11 x) * 2 + (t.1 10 x)) - (t.1 12 x)) / 2))) (q := 107) X dX5_shows_106 rfl (by decide) (pk_div (by omega) (by decide) (by decide)) ?_
                refine hr_goto (tgt := 111) X dX5_shows_107 (by decide) ?_
                exact hr_iret X hr dX5_shows_111 ⟨hz_i (congrArg nI (by unfold sp_shows; dsimp only; (repeat' split) <;> omega)), rfl⟩
  · refine hr_iconst (v := (nI 0)) (q := 11) X dX5_shows_10 rfl rfl ?_
    exact hr_iret X hr dX5_shows_11 ⟨hz_i (congrArg nI (by unfold sp_shows; dsimp only; (repeat' split) <;> omega)), rfl⟩

theorem tk_would {l : Launch} {D : hg_D} {lo : Nat} (htr : l.stackTraces = false) {G : hg_G} {o : Nat} {am : Nat → Nat} {u : tw_S} (hR : tw_R G o am u) {t : sp_S} (hT : tw_T u t) (hw : sp_wf t) {x y : Nat} (hx : x < 7) (hy : y < 7) :
    hg_M l D lo yX5_would (ws_ yX5_would cX5_would 3 ((some FieldType.boolean))) rm_X5_would [.ref o, .int (nI x), .int (nI y)] G (hg_Pv G (.int (bI (sp_would t x y)))) := by
  refine hg_M.of htr (by decide) [some (.ref o), some (.int (nI x)), some (.int (nI y))] rfl (Nat.le_of_ble_eq_true rfl) ?_
  intro p e s m args below meth c X hr hnm htab
  have X : hg_X p l s m args meth c D lo "TaxOnLooksModel" cX5_would 3 := X
  have w0 := hw.b0; have w1 := hw.b1; have w2 := hw.b2; have w3 := hw.b3
  have w36 := hw.b36
  refine hr_iload1 (q := 1) X dX5_would_0 rfl ?_
  refine hr_iload2 (q := 2) X dX5_would_1 rfl ?_
  refine hr_icmpN_eq (q := 5) (tgt := 41) X dX5_would_2 rfl (by decide) (by omega) (by omega) (fun c2 => ?_) (fun c2 => ?_)
  · refine hr_iconst (v := (nI 0)) (q := 42) X dX5_would_41 rfl rfl ?_
    exact hr_zret X hr rfl dX5_would_42 ⟨hz_b0 (sp_would_n (by omega)), rfl⟩
  · refine hr_iload1 (q := 6) X dX5_would_5 rfl ?_
    refine hr_aload0 (q := 7) X dX5_would_6 rfl ?_
    refine hr_getI (v := (oI (t.1 36 0))) (q := 10) X dX5_would_7 rfl fr_q1418_5 rfl hR.om ((hR.sc 36).trans hT.2.2.1) ?_
    refine hr_icmpM_eq (q := 13) (tgt := 41) X dX5_would_10 rfl (by decide) (by omega) (by omega) (fun c10 => ?_) (fun c10 => ?_)
    · refine hr_iconst (v := (nI 0)) (q := 42) X dX5_would_41 rfl rfl ?_
      exact hr_zret X hr rfl dX5_would_42 ⟨hz_b0 (sp_would_n (by omega)), rfl⟩
    · refine hr_iload2 (q := 14) X dX5_would_13 rfl ?_
      refine hr_aload0 (q := 15) X dX5_would_14 rfl ?_
      refine hr_getI (v := (oI (t.1 36 0))) (q := 18) X dX5_would_15 rfl fr_q1418_5 rfl hR.om ((hR.sc 36).trans hT.2.2.1) ?_
      refine hr_icmpM_eq (q := 21) (tgt := 41) X dX5_would_18 rfl (by decide) (by omega) (by omega) (fun c18 => ?_) (fun c18 => ?_)
      · refine hr_iconst (v := (nI 0)) (q := 42) X dX5_would_41 rfl rfl ?_
        exact hr_zret X hr rfl dX5_would_42 ⟨hz_b0 (sp_would_n (by omega)), rfl⟩
      · refine hr_aload0 (q := 22) X dX5_would_21 rfl ?_
        refine hr_getR (v := am 9) (q := 25) X dX5_would_22 rfl fr_q1391_5 rfl hR.om (hR.f rfl) ?_
        refine hr_iload1 (q := 26) X dX5_would_25 rfl ?_
        refine hr_ialdN (v := (nI (t.1 9 x))) (q := 27) X dX5_would_26 rfl (hR.ka (n := 7) rfl rfl rfl) (Or.inl rfl) hx (by decide) ((hR.ar rfl _).trans (hT.p (by decide) (by decide) hx)) ?_
        have b26 := hw.b9 (show x < 7 by omega)
        refine hr_iconst (v := (nI 3)) (q := 28) X dX5_would_27 rfl rfl ?_
        refine hr_icmpN_eq (q := 31) (tgt := 41) X dX5_would_28 rfl (by decide) (by omega) (by omega) (fun c28 => ?_) (fun c28 => ?_)
        · refine hr_iconst (v := (nI 0)) (q := 42) X dX5_would_41 rfl rfl ?_
          exact hr_zret X hr rfl dX5_would_42 ⟨hz_b0 (sp_would_n (by omega)), rfl⟩
        · refine hr_aload0 (q := 32) X dX5_would_31 rfl ?_
          refine hr_getR (v := am 9) (q := 35) X dX5_would_32 rfl fr_q1391_5 rfl hR.om (hR.f rfl) ?_
          refine hr_iload1 (q := 36) X dX5_would_35 rfl ?_
          refine hr_ialdN (v := (nI (t.1 9 x))) (q := 37) X dX5_would_36 rfl (hR.ka (n := 7) rfl rfl rfl) (Or.inl rfl) hx (by decide) ((hR.ar rfl _).trans (hT.p (by decide) (by decide) hx)) ?_
          have b36 := hw.b9 (show x < 7 by omega)
          refine hr_iconst (v := (nI 5)) (q := 38) X dX5_would_37 rfl rfl ?_
          refine hr_icmpN_ne (q := 41) (tgt := 43) X dX5_would_38 rfl (by decide) (by omega) (by omega) (fun c38 => ?_) (fun c38 => ?_)
          · refine hr_aload0 (q := 44) X dX5_would_43 rfl ?_
            refine hr_aload0 (q := 45) X dX5_would_44 rfl ?_
            refine hr_getR (v := am 14) (q := 48) X dX5_would_45 rfl fr_q1396_5 rfl hR.om (hR.f rfl) ?_
            refine hr_iload1 (q := 49) X dX5_would_48 rfl ?_
            refine hr_ialdN (v := (nI (t.1 14 x))) (q := 50) X dX5_would_49 rfl (hR.ka (n := 7) rfl rfl rfl) (Or.inl rfl) hx (by decide) ((hR.ar rfl _).trans (hT.p (by decide) (by decide) hx)) ?_
            have b49 := hw.b14 (show x < 7 by omega)
            refine hr_aload0 (q := 51) X dX5_would_50 rfl ?_
            refine hr_getR (v := am 14) (q := 54) X dX5_would_51 rfl fr_q1396_5 rfl hR.om (hR.f rfl) ?_
            refine hr_iload2 (q := 55) X dX5_would_54 rfl ?_
            refine hr_ialdN (v := (nI (t.1 14 y))) (q := 56) X dX5_would_55 rfl (hR.ka (n := 7) rfl rfl rfl) (Or.inl rfl) hy (by decide) ((hR.ar rfl _).trans (hT.p (by decide) (by decide) hy)) ?_
            have b55 := hw.b14 (show y < 7 by omega)
            refine hr_callP (q := 59) (hc_V (n := 2) (ci := 5) (As := [.int (nI (t.1 14 x)), .int (nI (t.1 14 y))]) X dX5_would_56 rfl (tk_sees X.tr hR hT hw (a := t.1 14 x) (b := t.1 14 y) (by omega) (by omega)) q1663 cv_X5_sees ⟨Nat.le_of_ble_eq_true rfl, Nat.le_of_ble_eq_true rfl⟩ rfl (Nat.le_of_ble_eq_true rfl) hR.om rfl rfl) rfl ?_
            refine hr_ifB_eq (q := 62) (tgt := 97) X dX5_would_59 rfl (by decide) (fun c59 => ?_) (fun c59 => ?_)
            · refine hr_iconst (v := (nI 0)) (q := 98) X dX5_would_97 rfl rfl ?_
              exact hr_zret X hr rfl dX5_would_98 ⟨hz_b0 (sp_would_s c59), rfl⟩
            · refine hr_aload0 (q := 63) X dX5_would_62 rfl ?_
              refine hr_iload2 (q := 64) X dX5_would_63 rfl ?_
              refine hr_callP (q := 67) (hc_V (n := 1) (ci := 5) (As := [.int (nI y)]) X dX5_would_64 rfl (tk_shows X.tr hR hT hw (x := y) (by omega)) q1555 cv_X5_shows ⟨Nat.le_of_ble_eq_true rfl, Nat.le_of_ble_eq_true rfl⟩ rfl (Nat.le_of_ble_eq_true rfl) hR.om rfl rfl) rfl ?_
              have := sp_shows_lt hw (x := y) (by omega)
              refine hr_aload0 (q := 68) X dX5_would_67 rfl ?_
              refine hr_getR (v := am 12) (q := 71) X dX5_would_68 rfl fr_q1394_5 rfl hR.om (hR.f rfl) ?_
              refine hr_iload1 (q := 72) X dX5_would_71 rfl ?_
              refine hr_ialdN (v := (nI (t.1 12 x))) (q := 73) X dX5_would_72 rfl (hR.ka (n := 7) rfl rfl rfl) (Or.inl rfl) hx (by decide) ((hR.ar rfl _).trans (hT.p (by decide) (by decide) hx)) ?_
              have b72 := hw.b12 (show x < 7 by omega)
              refine hr_aload0 (q := 74) X dX5_would_73 rfl ?_
              refine hr_aload0 (q := 75) X dX5_would_74 rfl ?_
              refine hr_getR (v := am 14) (q := 78) X dX5_would_75 rfl fr_q1396_5 rfl hR.om (hR.f rfl) ?_
              refine hr_iload1 (q := 79) X dX5_would_78 rfl ?_
              refine hr_ialdN (v := (nI (t.1 14 x))) (q := 80) X dX5_would_79 rfl (hR.ka (n := 7) rfl rfl rfl) (Or.inl rfl) hx (by decide) ((hR.ar rfl _).trans (hT.p (by decide) (by decide) hx)) ?_
              have b79 := hw.b14 (show x < 7 by omega)
              refine hr_aload0 (q := 81) X dX5_would_80 rfl ?_
              refine hr_getR (v := am 14) (q := 84) X dX5_would_81 rfl fr_q1396_5 rfl hR.om (hR.f rfl) ?_
              refine hr_iload2 (q := 85) X dX5_would_84 rfl ?_
              refine hr_ialdN (v := (nI (t.1 14 y))) (q := 86) X dX5_would_85 rfl (hR.ka (n := 7) rfl rfl rfl) (Or.inl rfl) hy (by decide) ((hR.ar rfl _).trans (hT.p (by decide) (by decide) hy)) ?_
              have b85 := hw.b14 (show y < 7 by omega)
              refine hr_callP (q := 89) (hc_V (n := 2) (ci := 5) (As := [.int (nI (t.1 14 x)), .int (nI (t.1 14 y))]) X dX5_would_86 rfl (tk_distance X.tr hR (a := t.1 14 x) (b := t.1 14 y) (by omega) (by omega) (sp_sees_line c59)) q1667 cv_X5_distance ⟨Nat.le_of_ble_eq_true rfl, Nat.le_of_ble_eq_true rfl⟩ rfl (Nat.le_of_ble_eq_true rfl) hR.om rfl rfl) rfl ?_
              have := sp_dist_lt (a := t.1 14 x) (b := t.1 14 y) (by omega) (by omega)
              refine hr_iadd (v := (nI (t.1 12 x + (sp_dist (t.1 14 x) (t.1 14 y))))) (q := 90) X dX5_would_89 rfl (nI_add _ _) ?_
              refine hr_icmpN_le (q := 93) (tgt := 97) X dX5_would_90 rfl (by decide) (by omega) (by omega) (fun c90 => ?_) (fun c90 => ?_)
              · refine hr_iconst (v := (nI 0)) (q := 98) X dX5_would_97 rfl rfl ?_
                exact hr_zret X hr rfl dX5_would_98 ⟨hz_b0 (sp_would_f (by omega)), rfl⟩
              · refine hr_iconst (v := (nI 1)) (q := 94) X dX5_would_93 rfl rfl ?_
                refine hr_goto (tgt := 98) X dX5_would_94 (by decide) ?_
                exact hr_zret X hr rfl dX5_would_98 ⟨hz_b1 (sp_would_t (by omega) c59 (by omega)), rfl⟩
          · refine hr_iconst (v := (nI 0)) (q := 42) X dX5_would_41 rfl rfl ?_
            exact hr_zret X hr rfl dX5_would_42 ⟨hz_b0 (sp_would_n (by omega)), rfl⟩

theorem tk_lookedAt {l : Launch} {D : hg_D} {lo : Nat} (htr : l.stackTraces = false) {G : hg_G} {o : Nat} {am : Nat → Nat} {u : tw_S} (hR : tw_R G o am u) {t : sp_S} (hT : tw_T u t) (hw : sp_wf t) {x : Nat} (hx : x < 7) :
    hg_M l D lo yX5_lookedAt (ws_ yX5_lookedAt cX5_lookedAt 6 ((some FieldType.int))) rm_X5_lookedAt [.ref o, .int (nI x)] G (hg_Pv G (.int (nI (sp_lookedAt t x)))) := by
  refine hg_M.of htr (by decide) [some (.ref o), some (.int (nI x)), none, none, none, none] rfl (Nat.le_of_ble_eq_true rfl) ?_
  intro p e s m args below meth c X hr hnm htab
  have X : hg_X p l s m args meth c D lo "TaxOnLooksModel" cX5_lookedAt 6 := X
  have w0 := hw.b0; have w1 := hw.b1; have w2 := hw.b2; have w3 := hw.b3
  have w36 := hw.b36
  refine hr_iconst (v := (nI 0)) (q := 1) X dX5_lookedAt_0 rfl rfl ?_
  refine hr_istore2 (q := 2) X dX5_lookedAt_1 rfl rfl (Nat.le_of_ble_eq_true rfl) ?_
  refine hr_iconst (v := (-1)) (q := 3) X dX5_lookedAt_2 rfl rfl ?_
  refine hr_istore3 (q := 4) X dX5_lookedAt_3 rfl rfl (Nat.le_of_ble_eq_true rfl) ?_
  refine hr_iconst (v := (nI 0)) (q := 5) X dX5_lookedAt_4 rfl rfl ?_
  refine hr_istore4 (q := 7) X dX5_lookedAt_5 rfl rfl (Nat.le_of_ble_eq_true rfl) ?_
  have loop7 : ∀ (kr nr n : Nat) (i S B : Nat), (i ≤ t.1 0 0) → (t.1 0 0 + 1 ≤ i + n) → (S = sp_bits (sp_would t x) i) → (B = sp_best t x i) → hg_W p l e rm_X5_lookedAt s m args below meth c (hg_Q below D lo args s rm_X5_lookedAt G (hg_Pv G (.int (nI (sp_lookedAt t x))))) D lo G.1 6 kr nr G 7 [some (.ref o), some (.int (nI x)), some (.int (nI S)), some (.int (oI B)), some (.int (nI i)), none] [] := by
    intro kr nr n
    induction n with
    | zero =>
      intro i S B h7_0 h7_1 h7_2 h7_3
      omega
    | succ n ih =>
      intro i S B h7_0 h7_1 h7_2 h7_3
      refine hr_iload4 (q := 9) X dX5_lookedAt_7 rfl ?_
      have hB := sp_best_lt t x i
      rw [← h7_3] at hB
      refine hr_aload0 (q := 10) X dX5_lookedAt_9 rfl ?_
      refine hr_getI (v := (nI (t.1 0 0))) (q := 13) X dX5_lookedAt_10 rfl fr_q1382_5 rfl hR.om ((hR.sc 0).trans (hT.sc (by decide))) ?_
      refine hr_icmpN_ge (q := 16) (tgt := 114) X dX5_lookedAt_13 rfl (by decide) (by omega) (by omega) (fun c13 => ?_) (fun c13 => ?_)
      · refine hr_aload0 (q := 115) X dX5_lookedAt_114 rfl ?_
        refine hr_getR (v := am 9) (q := 118) X dX5_lookedAt_115 rfl fr_q1391_5 rfl hR.om (hR.f rfl) ?_
        refine hr_iload1 (q := 119) X dX5_lookedAt_118 rfl ?_
        refine hr_ialdN (v := (nI (t.1 9 x))) (q := 120) X dX5_lookedAt_119 rfl (hR.ka (n := 7) rfl rfl rfl) (Or.inl rfl) hx (by decide) ((hR.ar rfl _).trans (hT.p (by decide) (by decide) hx)) ?_
        have b119 := hw.b9 (show x < 7 by omega)
        refine hr_iconst (v := (nI 4)) (q := 121) X dX5_lookedAt_120 rfl rfl ?_
        refine hr_icmpN_eq (q := 124) (tgt := 137) X dX5_lookedAt_121 rfl (by decide) (by omega) (by omega) (fun c121 => ?_) (fun c121 => ?_)
        · refine hr_iload3 (q := 138) X dX5_lookedAt_137 rfl ?_
          refine hr_iconst (v := (-1)) (q := 139) X dX5_lookedAt_138 rfl rfl ?_
          refine hr_icmpO_ne (q := 142) (tgt := 146) X dX5_lookedAt_139 rfl (by decide) (by omega) (fun c139 => ?_) (fun c139 => ?_)
          · refine hr_iconst (v := (nI 1)) (q := 147) X dX5_lookedAt_146 rfl rfl ?_
            refine hr_iload3 (q := 148) X dX5_lookedAt_147 rfl ?_
            refine hr_st1 (v' := .int (nI B)) (congrArg Value.int (oI_of c139)) ?_
            refine hr_ishl (v := (nI (2 ^ B))) (q := 149) X dX5_lookedAt_148 rfl (sp_shl (by omega)) ?_
            exact hr_iret X hr dX5_lookedAt_149 ⟨hz_i (congrArg nI (sp_lookedAt_o (i := i) (by omega) h7_3 (by omega) c139)), rfl⟩
          · refine hr_iconst (v := (nI 0)) (q := 143) X dX5_lookedAt_142 rfl rfl ?_
            refine hr_goto (tgt := 149) X dX5_lookedAt_143 (by decide) ?_
            exact hr_iret X hr dX5_lookedAt_149 ⟨hz_i (congrArg nI (sp_lookedAt_z (i := i) (by omega) h7_3 (by omega) c139)), rfl⟩
        · refine hr_aload0 (q := 125) X dX5_lookedAt_124 rfl ?_
          refine hr_getR (v := am 9) (q := 128) X dX5_lookedAt_125 rfl fr_q1391_5 rfl hR.om (hR.f rfl) ?_
          refine hr_iload1 (q := 129) X dX5_lookedAt_128 rfl ?_
          refine hr_ialdN (v := (nI (t.1 9 x))) (q := 130) X dX5_lookedAt_129 rfl (hR.ka (n := 7) rfl rfl rfl) (Or.inl rfl) hx (by decide) ((hR.ar rfl _).trans (hT.p (by decide) (by decide) hx)) ?_
          have b129 := hw.b9 (show x < 7 by omega)
          refine hr_bipush (v := (nI 6)) (q := 132) X dX5_lookedAt_130 rfl rfl ?_
          refine hr_icmpN_eq (q := 135) (tgt := 137) X dX5_lookedAt_132 rfl (by decide) (by omega) (by omega) (fun c132 => ?_) (fun c132 => ?_)
          · refine hr_iload3 (q := 138) X dX5_lookedAt_137 rfl ?_
            refine hr_iconst (v := (-1)) (q := 139) X dX5_lookedAt_138 rfl rfl ?_
            refine hr_icmpO_ne (q := 142) (tgt := 146) X dX5_lookedAt_139 rfl (by decide) (by omega) (fun c139 => ?_) (fun c139 => ?_)
            · refine hr_iconst (v := (nI 1)) (q := 147) X dX5_lookedAt_146 rfl rfl ?_
              refine hr_iload3 (q := 148) X dX5_lookedAt_147 rfl ?_
              refine hr_st1 (v' := .int (nI B)) (congrArg Value.int (oI_of c139)) ?_
              refine hr_ishl (v := (nI (2 ^ B))) (q := 149) X dX5_lookedAt_148 rfl (sp_shl (by omega)) ?_
              exact hr_iret X hr dX5_lookedAt_149 ⟨hz_i (congrArg nI (sp_lookedAt_o (i := i) (by omega) h7_3 (by omega) c139)), rfl⟩
            · refine hr_iconst (v := (nI 0)) (q := 143) X dX5_lookedAt_142 rfl rfl ?_
              refine hr_goto (tgt := 149) X dX5_lookedAt_143 (by decide) ?_
              exact hr_iret X hr dX5_lookedAt_149 ⟨hz_i (congrArg nI (sp_lookedAt_z (i := i) (by omega) h7_3 (by omega) c139)), rfl⟩
          · refine hr_iload2 (q := 136) X dX5_lookedAt_135 rfl ?_
            exact hr_iret X hr dX5_lookedAt_136 ⟨hz_i (congrArg nI (sp_lookedAt_a (by omega) h7_2 (by omega))), rfl⟩
      · refine hr_aload0 (q := 17) X dX5_lookedAt_16 rfl ?_
        refine hr_iload1 (q := 18) X dX5_lookedAt_17 rfl ?_
        refine hr_iload4 (q := 20) X dX5_lookedAt_18 rfl ?_
        refine hr_callP (q := 23) (hc_V (n := 2) (ci := 5) (As := [.int (nI x), .int (nI i)]) X dX5_lookedAt_20 rfl (tk_would X.tr hR hT hw (x := x) (y := i) (by omega) (by omega)) q1683 cv_X5_would ⟨Nat.le_of_ble_eq_true rfl, Nat.le_of_ble_eq_true rfl⟩ rfl (Nat.le_of_ble_eq_true rfl) hR.om rfl rfl) rfl ?_
        refine hr_ifB_ne (q := 26) (tgt := 29) X dX5_lookedAt_23 rfl (by decide) (fun c23 => ?_) (fun c23 => ?_)
        · refine hr_iload2 (q := 30) X dX5_lookedAt_29 rfl ?_
          refine hr_iconst (v := (nI 1)) (q := 31) X dX5_lookedAt_30 rfl rfl ?_
          refine hr_iload4 (q := 33) X dX5_lookedAt_31 rfl ?_
          refine hr_ishl (v := (nI (2 ^ i))) (q := 34) X dX5_lookedAt_33 rfl (sp_shl (by omega)) ?_
          refine hr_iadd (v := (nI (S + (2 ^ i)))) (q := 35) X dX5_lookedAt_34 rfl (nI_add _ _) ?_
          refine hr_istore2 (q := 36) X dX5_lookedAt_35 rfl rfl (Nat.le_of_ble_eq_true rfl) ?_
          refine hr_iload3 (q := 37) X dX5_lookedAt_36 rfl ?_
          refine hr_iconst (v := (-1)) (q := 38) X dX5_lookedAt_37 rfl rfl ?_
          refine hr_icmpO_ne (q := 41) (tgt := 45) X dX5_lookedAt_38 rfl (by decide) (by omega) (fun c38 => ?_) (fun c38 => ?_)
          · refine hr_aload0 (q := 46) X dX5_lookedAt_45 rfl ?_
            refine hr_aload0 (q := 47) X dX5_lookedAt_46 rfl ?_
            refine hr_getR (v := am 14) (q := 50) X dX5_lookedAt_47 rfl fr_q1396_5 rfl hR.om (hR.f rfl) ?_
            refine hr_iload1 (q := 51) X dX5_lookedAt_50 rfl ?_
            refine hr_ialdN (v := (nI (t.1 14 x))) (q := 52) X dX5_lookedAt_51 rfl (hR.ka (n := 7) rfl rfl rfl) (Or.inl rfl) hx (by decide) ((hR.ar rfl _).trans (hT.p (by decide) (by decide) hx)) ?_
            have b51 := hw.b14 (show x < 7 by omega)
            refine hr_aload0 (q := 53) X dX5_lookedAt_52 rfl ?_
            refine hr_getR (v := am 14) (q := 56) X dX5_lookedAt_53 rfl fr_q1396_5 rfl hR.om (hR.f rfl) ?_
            refine hr_iload3 (q := 57) X dX5_lookedAt_56 rfl ?_
            refine hr_st1 (v' := .int (nI B)) (congrArg Value.int (oI_of c38)) ?_
            refine hr_ialdN (v := (nI (t.1 14 B))) (q := 58) X dX5_lookedAt_57 rfl (hR.ka (n := 7) rfl rfl rfl) (Or.inl rfl) (by omega) (by decide) ((hR.ar rfl _).trans (hT.p (by decide) (by decide) (by omega))) ?_
            have b57 := hw.b14 (show B < 7 by omega)
            refine hr_callP (q := 61) (hc_V (n := 2) (ci := 5) (As := [.int (nI (t.1 14 x)), .int (nI (t.1 14 B))]) X dX5_lookedAt_58 rfl (tk_distance X.tr hR (a := t.1 14 x) (b := t.1 14 B) (by omega) (by omega) (sp_would_line (Or.resolve_left (h7_3 ▸ sp_best_would i : B = 99 ∨ sp_would t x B = true) c38))) q1667 cv_X5_distance ⟨Nat.le_of_ble_eq_true rfl, Nat.le_of_ble_eq_true rfl⟩ rfl (Nat.le_of_ble_eq_true rfl) hR.om rfl rfl) rfl ?_
            have := sp_dist_lt (a := t.1 14 x) (b := t.1 14 B) (by omega) (by omega)
            refine hr_aload0 (q := 62) X dX5_lookedAt_61 rfl ?_
            refine hr_aload0 (q := 63) X dX5_lookedAt_62 rfl ?_
            refine hr_getR (v := am 14) (q := 66) X dX5_lookedAt_63 rfl fr_q1396_5 rfl hR.om (hR.f rfl) ?_
            refine hr_iload1 (q := 67) X dX5_lookedAt_66 rfl ?_
            refine hr_ialdN (v := (nI (t.1 14 x))) (q := 68) X dX5_lookedAt_67 rfl (hR.ka (n := 7) rfl rfl rfl) (Or.inl rfl) hx (by decide) ((hR.ar rfl _).trans (hT.p (by decide) (by decide) hx)) ?_
            have b67 := hw.b14 (show x < 7 by omega)
            refine hr_aload0 (q := 69) X dX5_lookedAt_68 rfl ?_
            refine hr_getR (v := am 14) (q := 72) X dX5_lookedAt_69 rfl fr_q1396_5 rfl hR.om (hR.f rfl) ?_
            refine hr_iload4 (q := 74) X dX5_lookedAt_72 rfl ?_
            refine hr_ialdN (v := (nI (t.1 14 i))) (q := 75) X dX5_lookedAt_74 rfl (hR.ka (n := 7) rfl rfl rfl) (Or.inl rfl) (by omega) (by decide) ((hR.ar rfl _).trans (hT.p (by decide) (by decide) (by omega))) ?_
            have b74 := hw.b14 (show i < 7 by omega)
            refine hr_callP (q := 78) (hc_V (n := 2) (ci := 5) (As := [.int (nI (t.1 14 x)), .int (nI (t.1 14 i))]) X dX5_lookedAt_75 rfl (tk_distance X.tr hR (a := t.1 14 x) (b := t.1 14 i) (by omega) (by omega) (sp_would_line c23)) q1667 cv_X5_distance ⟨Nat.le_of_ble_eq_true rfl, Nat.le_of_ble_eq_true rfl⟩ rfl (Nat.le_of_ble_eq_true rfl) hR.om rfl rfl) rfl ?_
            have := sp_dist_lt (a := t.1 14 x) (b := t.1 14 i) (by omega) (by omega)
            refine hr_isub (v := (nI (sp_dist (t.1 14 x) (t.1 14 B)) - nI (sp_dist (t.1 14 x) (t.1 14 i)))) (q := 79) X dX5_lookedAt_78 rfl rfl ?_
            refine hr_istore5 (q := 81) X dX5_lookedAt_79 rfl rfl (Nat.le_of_ble_eq_true rfl) ?_
            refine hr_iload5 (q := 83) X dX5_lookedAt_81 rfl ?_
            refine hr_if_gt (q := 86) (tgt := 105) X dX5_lookedAt_83 rfl (by decide) (fun c83 => ?_) (fun c83 => ?_)
            · have g83 := (sp_sub_gt (by omega) (by omega)).mp c83
              refine hr_iload4 (q := 107) X dX5_lookedAt_105 rfl ?_
              refine hr_st1 (v' := .int (oI i)) (congrArg Value.int (oI_of (by omega)).symm) ?_
              refine hr_istore3 (q := 108) X dX5_lookedAt_107 rfl rfl (Nat.le_of_ble_eq_true rfl) ?_
              refine hr_iinc4 (v := (nI (i + 1))) (q := 111) X dX5_lookedAt_108 rfl (nI_add _ _) rfl (Nat.le_of_ble_eq_true rfl) ?_
              refine hr_goto (tgt := 7) X dX5_lookedAt_111 (by decide) ?_
              refine hr_fg5 ?_
              exact ih (i + 1) (S + (2 ^ i)) i (by omega) (by omega) (by rw [h7_2, sp_bits_t c23]) (sp_best_y h7_3 c23 (by omega))
            · have g83 := Nat.not_lt.mp fun z => c83 ((sp_sub_gt (a := sp_dist (t.1 14 x) (t.1 14 B)) (b := sp_dist (t.1 14 x) (t.1 14 i)) (by omega) (by omega)).mpr z)
              refine hr_iload5 (q := 88) X dX5_lookedAt_86 rfl ?_
              refine hr_if_ne (q := 91) (tgt := 108) X dX5_lookedAt_88 rfl (by decide) (fun c88 => ?_) (fun c88 => ?_)
              · have g88 : ¬ sp_dist (t.1 14 x) (t.1 14 B) = sp_dist (t.1 14 x) (t.1 14 i) := fun z => c88 ((sp_sub_z (by omega) (by omega)).mpr z)
                refine hr_iinc4 (v := (nI (i + 1))) (q := 111) X dX5_lookedAt_108 rfl (nI_add _ _) rfl (Nat.le_of_ble_eq_true rfl) ?_
                refine hr_goto (tgt := 7) X dX5_lookedAt_111 (by decide) ?_
                refine hr_fg5 ?_
                exact ih (i + 1) (S + (2 ^ i)) B (by omega) (by omega) (by rw [h7_2, sp_bits_t c23]) (sp_best_k h7_3 (by omega))
              · have g88 : sp_dist (t.1 14 x) (t.1 14 B) = sp_dist (t.1 14 x) (t.1 14 i) := (sp_sub_z (by omega) (by omega)).mp c88
                refine hr_aload0 (q := 92) X dX5_lookedAt_91 rfl ?_
                refine hr_iload4 (q := 94) X dX5_lookedAt_92 rfl ?_
                refine hr_callP (q := 97) (hc_V (n := 1) (ci := 5) (As := [.int (nI i)]) X dX5_lookedAt_94 rfl (tk_shows X.tr hR hT hw (x := i) (by omega)) q1555 cv_X5_shows ⟨Nat.le_of_ble_eq_true rfl, Nat.le_of_ble_eq_true rfl⟩ rfl (Nat.le_of_ble_eq_true rfl) hR.om rfl rfl) rfl ?_
                have := sp_shows_lt hw (x := i) (by omega)
                refine hr_aload0 (q := 98) X dX5_lookedAt_97 rfl ?_
                refine hr_iload3 (q := 99) X dX5_lookedAt_98 rfl ?_
                refine hr_st1 (v' := .int (nI B)) (congrArg Value.int (oI_of c38)) ?_
                refine hr_callP (q := 102) (hc_V (n := 1) (ci := 5) (As := [.int (nI B)]) X dX5_lookedAt_99 rfl (tk_shows X.tr hR hT hw (x := B) (by omega)) q1555 cv_X5_shows ⟨Nat.le_of_ble_eq_true rfl, Nat.le_of_ble_eq_true rfl⟩ rfl (Nat.le_of_ble_eq_true rfl) hR.om rfl rfl) rfl ?_
                have := sp_shows_lt hw (x := B) (by omega)
                refine hr_icmpN_le (q := 105) (tgt := 108) X dX5_lookedAt_102 rfl (by decide) (by omega) (by omega) (fun c102 => ?_) (fun c102 => ?_)
                · refine hr_iinc4 (v := (nI (i + 1))) (q := 111) X dX5_lookedAt_108 rfl (nI_add _ _) rfl (Nat.le_of_ble_eq_true rfl) ?_
                  refine hr_goto (tgt := 7) X dX5_lookedAt_111 (by decide) ?_
                  refine hr_fg5 ?_
                  exact ih (i + 1) (S + (2 ^ i)) B (by omega) (by omega) (by rw [h7_2, sp_bits_t c23]) (sp_best_k h7_3 (by omega))
                · refine hr_iload4 (q := 107) X dX5_lookedAt_105 rfl ?_
                  refine hr_st1 (v' := .int (oI i)) (congrArg Value.int (oI_of (by omega)).symm) ?_
                  refine hr_istore3 (q := 108) X dX5_lookedAt_107 rfl rfl (Nat.le_of_ble_eq_true rfl) ?_
                  refine hr_iinc4 (v := (nI (i + 1))) (q := 111) X dX5_lookedAt_108 rfl (nI_add _ _) rfl (Nat.le_of_ble_eq_true rfl) ?_
                  refine hr_goto (tgt := 7) X dX5_lookedAt_111 (by decide) ?_
                  refine hr_fg5 ?_
                  exact ih (i + 1) (S + (2 ^ i)) i (by omega) (by omega) (by rw [h7_2, sp_bits_t c23]) (sp_best_y h7_3 c23 (by omega))
          · refine hr_iconst (v := (nI 1)) (q := 42) X dX5_lookedAt_41 rfl rfl ?_
            refine hr_goto (tgt := 79) X dX5_lookedAt_42 (by decide) ?_
            refine hr_istore5 (q := 81) X dX5_lookedAt_79 rfl rfl (Nat.le_of_ble_eq_true rfl) ?_
            refine hr_iload5 (q := 83) X dX5_lookedAt_81 rfl ?_
            refine hr_if_gt (q := 86) (tgt := 105) X dX5_lookedAt_83 rfl (by decide) (fun _ => ?_) (fun z => absurd z (by decide))
            refine hr_iload4 (q := 107) X dX5_lookedAt_105 rfl ?_
            refine hr_st1 (v' := .int (oI i)) (congrArg Value.int (oI_of (by omega)).symm) ?_
            refine hr_istore3 (q := 108) X dX5_lookedAt_107 rfl rfl (Nat.le_of_ble_eq_true rfl) ?_
            refine hr_iinc4 (v := (nI (i + 1))) (q := 111) X dX5_lookedAt_108 rfl (nI_add _ _) rfl (Nat.le_of_ble_eq_true rfl) ?_
            refine hr_goto (tgt := 7) X dX5_lookedAt_111 (by decide) ?_
            refine hr_fg5 ?_
            exact ih (i + 1) (S + (2 ^ i)) i (by omega) (by omega) (by rw [h7_2, sp_bits_t c23]) (sp_best_y h7_3 c23 (Or.inl c38))
        · refine hr_goto (tgt := 108) X dX5_lookedAt_26 (by decide) ?_
          refine hr_iinc4 (v := (nI (i + 1))) (q := 111) X dX5_lookedAt_108 rfl (nI_add _ _) rfl (Nat.le_of_ble_eq_true rfl) ?_
          refine hr_goto (tgt := 7) X dX5_lookedAt_111 (by decide) ?_
          exact ih (i + 1) S B (by omega) (by omega) (by rw [h7_2, sp_bits_f c23]) (by rw [h7_3, sp_best_n c23])
  exact loop7 _ _ (t.1 0 0 + 1) 0 0 99 (by omega) (by omega) rfl rfl

theorem tk_lookers {l : Launch} {D : hg_D} {lo : Nat} (htr : l.stackTraces = false) {G : hg_G} {o : Nat} {am : Nat → Nat} {u : tw_S} (hR : tw_R G o am u) {t : sp_S} (hT : tw_T u t) (hw : sp_wf t) {x : Nat} (hx : x < 7) :
    hg_M l D lo yX5_lookers (ws_ yX5_lookers cX5_lookers 4 ((some FieldType.int))) rm_X5_lookers [.ref o, .int (nI x)] G (hg_Pv G (.int (nI (sp_lookers t x)))) := by
  refine hg_M.of htr (by decide) [some (.ref o), some (.int (nI x)), none, none] rfl (Nat.le_of_ble_eq_true rfl) ?_
  intro p e s m args below meth c X hr hnm htab
  have X : hg_X p l s m args meth c D lo "TaxOnLooksModel" cX5_lookers 4 := X
  have w0 := hw.b0; have w1 := hw.b1; have w2 := hw.b2; have w3 := hw.b3
  have w36 := hw.b36
  refine hr_iconst (v := (nI 0)) (q := 1) X dX5_lookers_0 rfl rfl ?_
  refine hr_istore2 (q := 2) X dX5_lookers_1 rfl rfl (Nat.le_of_ble_eq_true rfl) ?_
  refine hr_iconst (v := (nI 0)) (q := 3) X dX5_lookers_2 rfl rfl ?_
  refine hr_istore3 (q := 4) X dX5_lookers_3 rfl rfl (Nat.le_of_ble_eq_true rfl) ?_
  have loop4 : ∀ (kr nr n : Nat) (i S : Nat), (i ≤ t.1 0 0) → (t.1 0 0 + 1 ≤ i + n) → (S = sp_bits (fun z => sp_bit (sp_lookedAt t z) x) i) → hg_W p l e rm_X5_lookers s m args below meth c (hg_Q below D lo args s rm_X5_lookers G (hg_Pv G (.int (nI (sp_lookers t x))))) D lo G.1 4 kr nr G 4 [some (.ref o), some (.int (nI x)), some (.int (nI S)), some (.int (nI i))] [] := by
    intro kr nr n
    induction n with
    | zero =>
      intro i S h4_0 h4_1 h4_2
      omega
    | succ n ih =>
      intro i S h4_0 h4_1 h4_2
      refine hr_iload3 (q := 5) X dX5_lookers_4 rfl ?_
      refine hr_aload0 (q := 6) X dX5_lookers_5 rfl ?_
      refine hr_getI (v := (nI (t.1 0 0))) (q := 9) X dX5_lookers_6 rfl fr_q1382_5 rfl hR.om ((hR.sc 0).trans (hT.sc (by decide))) ?_
      refine hr_icmpN_ge (q := 12) (tgt := 37) X dX5_lookers_9 rfl (by decide) (by omega) (by omega) (fun c9 => ?_) (fun c9 => ?_)
      · refine hr_iload2 (q := 38) X dX5_lookers_37 rfl ?_
        exact hr_iret X hr dX5_lookers_38 ⟨hz_i (congrArg nI (by rw [h4_2, show i = t.1 0 0 by omega]; rfl)), rfl⟩
      · refine hr_aload0 (q := 13) X dX5_lookers_12 rfl ?_
        refine hr_iload3 (q := 14) X dX5_lookers_13 rfl ?_
        refine hr_callP (q := 17) (hc_V (n := 1) (ci := 5) (As := [.int (nI i)]) X dX5_lookers_14 rfl (tk_lookedAt X.tr hR hT hw (x := i) (by omega)) q1679 cv_X5_lookedAt ⟨Nat.le_of_ble_eq_true rfl, Nat.le_of_ble_eq_true rfl⟩ rfl (Nat.le_of_ble_eq_true rfl) hR.om rfl rfl) rfl ?_
        have := sp_lookedAt_lt hw i
        refine hr_iload1 (q := 18) X dX5_lookers_17 rfl ?_
        refine hr_ishr (v := (nI ((sp_lookedAt t i) / 2 ^ x))) (q := 19) X dX5_lookers_18 rfl (sp_shr (by omega) (by omega)) ?_
        refine hr_iconst (v := (nI 1)) (q := 20) X dX5_lookers_19 rfl rfl ?_
        refine hr_iand (v := (nI (((sp_lookedAt t i) / 2 ^ x) % 2))) (q := 21) X dX5_lookers_20 rfl (sp_and1 (Nat.lt_of_le_of_lt (Nat.div_le_self _ _) (by omega))) ?_
        refine hr_iconst (v := (nI 1)) (q := 22) X dX5_lookers_21 rfl rfl ?_
        refine hr_icmpN_ne (q := 25) (tgt := 31) X dX5_lookers_22 rfl (by decide) (by omega) (by omega) (fun c22 => ?_) (fun c22 => ?_)
        · refine hr_iinc3 (v := (nI (i + 1))) (q := 34) X dX5_lookers_31 rfl (nI_add _ _) rfl (Nat.le_of_ble_eq_true rfl) ?_
          refine hr_goto (tgt := 4) X dX5_lookers_34 (by decide) ?_
          exact ih (i + 1) S (by omega) (by omega) (by rw [h4_2, sp_bits_f (f := fun z => sp_bit (sp_lookedAt t z) x) (sp_bit_0.mpr c22)])
        · refine hr_iload2 (q := 26) X dX5_lookers_25 rfl ?_
          refine hr_iconst (v := (nI 1)) (q := 27) X dX5_lookers_26 rfl rfl ?_
          refine hr_iload3 (q := 28) X dX5_lookers_27 rfl ?_
          refine hr_ishl (v := (nI (2 ^ i))) (q := 29) X dX5_lookers_28 rfl (sp_shl (by omega)) ?_
          refine hr_iadd (v := (nI (S + (2 ^ i)))) (q := 30) X dX5_lookers_29 rfl (nI_add _ _) ?_
          refine hr_istore2 (q := 31) X dX5_lookers_30 rfl rfl (Nat.le_of_ble_eq_true rfl) ?_
          refine hr_iinc3 (v := (nI (i + 1))) (q := 34) X dX5_lookers_31 rfl (nI_add _ _) rfl (Nat.le_of_ble_eq_true rfl) ?_
          refine hr_goto (tgt := 4) X dX5_lookers_34 (by decide) ?_
          exact ih (i + 1) (S + (2 ^ i)) (by omega) (by omega) (by rw [h4_2, sp_bits_t (f := fun z => sp_bit (sp_lookedAt t z) x) (sp_bit_1.mpr c22)])
  exact loop4 _ _ (t.1 0 0 + 1) 0 0 (by omega) (by omega) rfl

theorem tk_many {l : Launch} {D : hg_D} {lo : Nat} (htr : l.stackTraces = false) {G : hg_G} {o : Nat} {am : Nat → Nat} {u : tw_S} (hR : tw_R G o am u) {x : Nat} (hx : x < 128) :
    hg_M l D lo yX5_many (ws_ yX5_many cX5_many 4 ((some FieldType.int))) rm_X5_many [.ref o, .int (nI x)] G (hg_Pv G (.int (nI (sp_cnt x 7)))) := by
  refine hg_M.of htr (by decide) [some (.ref o), some (.int (nI x)), none, none] rfl (Nat.le_of_ble_eq_true rfl) ?_
  intro p e s m args below meth c X hr hnm htab
  have X : hg_X p l s m args meth c D lo "TaxOnLooksModel" cX5_many 4 := X
  refine hr_iconst (v := (nI 0)) (q := 1) X dX5_many_0 rfl rfl ?_
  refine hr_istore2 (q := 2) X dX5_many_1 rfl rfl (Nat.le_of_ble_eq_true rfl) ?_
  refine hr_iconst (v := (nI 0)) (q := 3) X dX5_many_2 rfl rfl ?_
  refine hr_istore3 (q := 4) X dX5_many_3 rfl rfl (Nat.le_of_ble_eq_true rfl) ?_
  have loop4 : ∀ (kr nr n : Nat) (i S : Nat), (i ≤ 7) → (8 ≤ i + n) → (S = sp_cnt x i) → hg_W p l e rm_X5_many s m args below meth c (hg_Q below D lo args s rm_X5_many G (hg_Pv G (.int (nI (sp_cnt x 7))))) D lo G.1 4 kr nr G 4 [some (.ref o), some (.int (nI x)), some (.int (nI S)), some (.int (nI i))] [] := by
    intro kr nr n
    induction n with
    | zero =>
      intro i S h4_0 h4_1 h4_2
      omega
    | succ n ih =>
      intro i S h4_0 h4_1 h4_2
      refine hr_iload3 (q := 5) X dX5_many_4 rfl ?_
      refine hr_bipush (v := (nI 7)) (q := 7) X dX5_many_5 rfl rfl ?_
      refine hr_icmpN_ge (q := 10) (tgt := 24) X dX5_many_7 rfl (by decide) (by omega) (by omega) (fun c7 => ?_) (fun c7 => ?_)
      · refine hr_iload2 (q := 25) X dX5_many_24 rfl ?_
        exact hr_iret X hr dX5_many_25 ⟨hz_i (congrArg nI (by rw [h4_2, show i = 7 by omega])), rfl⟩
      · refine hr_iload2 (q := 11) X dX5_many_10 rfl ?_
        refine hr_iload1 (q := 12) X dX5_many_11 rfl ?_
        refine hr_iload3 (q := 13) X dX5_many_12 rfl ?_
        refine hr_ishr (v := (nI (x / 2 ^ i))) (q := 14) X dX5_many_13 rfl (sp_shr (by omega) (by omega)) ?_
        refine hr_iconst (v := (nI 1)) (q := 15) X dX5_many_14 rfl rfl ?_
        refine hr_iand (v := (nI ((x / 2 ^ i) % 2))) (q := 16) X dX5_many_15 rfl (sp_and1 (Nat.lt_of_le_of_lt (Nat.div_le_self _ _) (by omega))) ?_
        refine hr_iadd (v := (nI (S + ((x / 2 ^ i) % 2)))) (q := 17) X dX5_many_16 rfl (nI_add _ _) ?_
        refine hr_istore2 (q := 18) X dX5_many_17 rfl rfl (Nat.le_of_ble_eq_true rfl) ?_
        refine hr_iinc3 (v := (nI (i + 1))) (q := 21) X dX5_many_18 rfl (nI_add _ _) rfl (Nat.le_of_ble_eq_true rfl) ?_
        refine hr_goto (tgt := 4) X dX5_many_21 (by decide) ?_
        exact ih (i + 1) (S + ((x / 2 ^ i) % 2)) (by omega) (by omega) (by rw [h4_2]; rfl)
  exact loop4 _ _ 8 0 0 (by omega) (by omega) rfl

theorem tk_owes {l : Launch} {D : hg_D} {lo : Nat} (htr : l.stackTraces = false) {G : hg_G} {o : Nat} {am : Nat → Nat} {u : tw_S} (hR : tw_R G o am u) {t : sp_S} (hT : tw_T u t) (hw : sp_wf t) {x : Nat} (hx : x < 7) :
    hg_M l D lo yX5_owes (ws_ yX5_owes cX5_owes 3 ((some FieldType.int))) rm_X5_owes [.ref o, .int (nI x)] G (hg_Pv G (.int (nI (sp_owes t x)))) := by
  refine hg_M.of htr (by decide) [some (.ref o), some (.int (nI x)), none] rfl (Nat.le_of_ble_eq_true rfl) ?_
  intro p e s m args below meth c X hr hnm htab
  have X : hg_X p l s m args meth c D lo "TaxOnLooksModel" cX5_owes 3 := X
  have w0 := hw.b0; have w1 := hw.b1; have w2 := hw.b2; have w3 := hw.b3
  have w36 := hw.b36
  refine hr_aload0 (q := 1) X dX5_owes_0 rfl ?_
  refine hr_getR (v := am 9) (q := 4) X dX5_owes_1 rfl fr_q1391_5 rfl hR.om (hR.f rfl) ?_
  refine hr_iload1 (q := 5) X dX5_owes_4 rfl ?_
  refine hr_ialdN (v := (nI (t.1 9 x))) (q := 6) X dX5_owes_5 rfl (hR.ka (n := 7) rfl rfl rfl) (Or.inl rfl) hx (by decide) ((hR.ar rfl _).trans (hT.p (by decide) (by decide) hx)) ?_
  have b5 := hw.b9 (show x < 7 by omega)
  refine hr_iconst (v := (nI 5)) (q := 7) X dX5_owes_6 rfl rfl ?_
  refine hr_icmpN_eq (q := 10) (tgt := 31) X dX5_owes_7 rfl (by decide) (by omega) (by omega) (fun c7 => ?_) (fun c7 => ?_)
  · refine hr_iconst (v := (nI 0)) (q := 32) X dX5_owes_31 rfl rfl ?_
    exact hr_iret X hr dX5_owes_32 ⟨hz_i (congrArg nI (sp_owes_z (by first | omega | exact Or.inr (Or.inr c28)))), rfl⟩
  · refine hr_iload1 (q := 11) X dX5_owes_10 rfl ?_
    refine hr_aload0 (q := 12) X dX5_owes_11 rfl ?_
    refine hr_getI (v := (oI (t.1 36 0))) (q := 15) X dX5_owes_12 rfl fr_q1418_5 rfl hR.om ((hR.sc 36).trans hT.2.2.1) ?_
    refine hr_icmpM_eq (q := 18) (tgt := 31) X dX5_owes_15 rfl (by decide) (by omega) (by omega) (fun c15 => ?_) (fun c15 => ?_)
    · refine hr_iconst (v := (nI 0)) (q := 32) X dX5_owes_31 rfl rfl ?_
      exact hr_iret X hr dX5_owes_32 ⟨hz_i (congrArg nI (sp_owes_z (by first | omega | exact Or.inr (Or.inr c28)))), rfl⟩
    · refine hr_aload0 (q := 19) X dX5_owes_18 rfl ?_
      refine hr_aload0 (q := 20) X dX5_owes_19 rfl ?_
      refine hr_getR (v := am 14) (q := 23) X dX5_owes_20 rfl fr_q1396_5 rfl hR.om (hR.f rfl) ?_
      refine hr_iload1 (q := 24) X dX5_owes_23 rfl ?_
      refine hr_ialdN (v := (nI (t.1 14 x))) (q := 25) X dX5_owes_24 rfl (hR.ka (n := 7) rfl rfl rfl) (Or.inl rfl) hx (by decide) ((hR.ar rfl _).trans (hT.p (by decide) (by decide) hx)) ?_
      have b24 := hw.b14 (show x < 7 by omega)
      refine hr_callP (q := 28) (hc_V (n := 1) (ci := 5) (As := [.int (nI (t.1 14 x))]) X dX5_owes_25 rfl (tk_isLit X.tr hR hT hw (z := t.1 14 x) (by omega)) q1695 cv_X5_isLit ⟨Nat.le_of_ble_eq_true rfl, Nat.le_of_ble_eq_true rfl⟩ rfl (Nat.le_of_ble_eq_true rfl) hR.om rfl rfl) rfl ?_
      refine hr_ifB_ne (q := 31) (tgt := 33) X dX5_owes_28 rfl (by decide) (fun c28 => ?_) (fun c28 => ?_)
      · refine hr_aload0 (q := 34) X dX5_owes_33 rfl ?_
        refine hr_getI (v := (nI (t.1 1 0))) (q := 37) X dX5_owes_34 rfl fr_q1383_5 rfl hR.om ((hR.sc 1).trans (hT.sc (by decide))) ?_
        refine hr_aload0 (q := 38) X dX5_owes_37 rfl ?_
        refine hr_aload0 (q := 39) X dX5_owes_38 rfl ?_
        refine hr_iload1 (q := 40) X dX5_owes_39 rfl ?_
        refine hr_callP (q := 43) (hc_V (n := 1) (ci := 5) (As := [.int (nI x)]) X dX5_owes_40 rfl (tk_lookers X.tr hR hT hw (x := x) (by omega)) q1675 cv_X5_lookers ⟨Nat.le_of_ble_eq_true rfl, Nat.le_of_ble_eq_true rfl⟩ rfl (Nat.le_of_ble_eq_true rfl) hR.om rfl rfl) rfl ?_
        have := sp_lookers_lt hw x
        refine hr_callP (q := 46) (hc_V (n := 1) (ci := 5) (As := [.int (nI (sp_lookers t x))]) X dX5_owes_43 rfl (tk_many X.tr hR (x := sp_lookers t x) (by omega)) q1699 cv_X5_many ⟨Nat.le_of_ble_eq_true rfl, Nat.le_of_ble_eq_true rfl⟩ rfl (Nat.le_of_ble_eq_true rfl) hR.om rfl rfl) rfl ?_
        have := sp_cnt_le (sp_lookers t x) 7
        refine hr_imul (v := (nI ((t.1 1 0) * (sp_cnt (sp_lookers t x) 7)))) (q := 47) X dX5_owes_46 rfl (pk_mul _ _) ?_
        refine hr_istore2 (q := 48) X dX5_owes_47 rfl rfl (Nat.le_of_ble_eq_true rfl) ?_
        have hm : t.1 1 0 * sp_cnt (sp_lookers t x) 7 ≤ 9 * 7 := Nat.mul_le_mul w1.2 (sp_cnt_le _ _)
        refine hr_aload0 (q := 49) X dX5_owes_48 rfl ?_
        refine hr_getR (v := am 9) (q := 52) X dX5_owes_49 rfl fr_q1391_5 rfl hR.om (hR.f rfl) ?_
        refine hr_iload1 (q := 53) X dX5_owes_52 rfl ?_
        refine hr_ialdN (v := (nI (t.1 9 x))) (q := 54) X dX5_owes_53 rfl (hR.ka (n := 7) rfl rfl rfl) (Or.inl rfl) hx (by decide) ((hR.ar rfl _).trans (hT.p (by decide) (by decide) hx)) ?_
        have b53 := hw.b9 (show x < 7 by omega)
        refine hr_iconst (v := (nI 2)) (q := 55) X dX5_owes_54 rfl rfl ?_
        refine hr_icmpN_ne (q := 58) (tgt := 67) X dX5_owes_55 rfl (by decide) (by omega) (by omega) (fun c55 => ?_) (fun c55 => ?_)
        · refine hr_iload2 (q := 68) X dX5_owes_67 rfl ?_
          exact hr_iret X hr dX5_owes_68 ⟨hz_i (congrArg nI (by rw [sp_owes_n (by omega) c28]; split <;> omega)), rfl⟩
        · refine hr_iload2 (q := 59) X dX5_owes_58 rfl ?_
          refine hr_iload2 (q := 60) X dX5_owes_59 rfl ?_
          refine hr_bipush (v := (nI 9)) (q := 62) X dX5_owes_60 rfl rfl ?_
          refine hr_idiv (v := (nI (((t.1 1 0) * (sp_cnt (sp_lookers t x) 7)) / 9))) (q := 63) X dX5_owes_62 rfl (by decide) (pk_div (by omega) (by decide) (by decide)) ?_
          refine hr_isub (v := (nI (((t.1 1 0) * (sp_cnt (sp_lookers t x) 7)) - (((t.1 1 0) * (sp_cnt (sp_lookers t x) 7)) / 9)))) (q := 64) X dX5_owes_63 rfl (pk_sub (by omega)) ?_
          refine hr_goto (tgt := 68) X dX5_owes_64 (by decide) ?_
          exact hr_iret X hr dX5_owes_68 ⟨hz_i (congrArg nI (by rw [sp_owes_n (by omega) c28]; split <;> omega)), rfl⟩
      · refine hr_iconst (v := (nI 0)) (q := 32) X dX5_owes_31 rfl rfl ?_
        exact hr_iret X hr dX5_owes_32 ⟨hz_i (congrArg nI (sp_owes_z (Or.inr (Or.inr c28)))), rfl⟩

theorem tk_wouldPay {l : Launch} {D : hg_D} {lo : Nat} (htr : l.stackTraces = false) {G : hg_G} {o : Nat} {am : Nat → Nat} {u : tw_S} (hR : tw_R G o am u) {t : sp_S} (hT : tw_T u t) (hw : sp_wf t) {x : Nat} (hx : x < 7) :
    hg_M l D lo yX5_wouldPay (ws_ yX5_wouldPay cX5_wouldPay 5 ((some FieldType.int))) rm_X5_wouldPay [.ref o, .int (nI x)] G (hg_Pv G (.int (nI (sp_wouldPay t x)))) := by
  refine hg_M.of htr (by decide) [some (.ref o), some (.int (nI x)), none, none, none] rfl (Nat.le_of_ble_eq_true rfl) ?_
  intro p e s m args below meth c X hr hnm htab
  have X : hg_X p l s m args meth c D lo "TaxOnLooksModel" cX5_wouldPay 5 := X
  have w0 := hw.b0; have w1 := hw.b1; have w2 := hw.b2; have w3 := hw.b3
  have w36 := hw.b36
  refine hr_aload0 (q := 1) X dX5_wouldPay_0 rfl ?_
  refine hr_iload1 (q := 2) X dX5_wouldPay_1 rfl ?_
  refine hr_callP (q := 5) (hc_V (n := 1) (ci := 5) (As := [.int (nI x)]) X dX5_wouldPay_2 rfl (tk_lookedAt X.tr hR hT hw (x := x) (by omega)) q1679 cv_X5_lookedAt ⟨Nat.le_of_ble_eq_true rfl, Nat.le_of_ble_eq_true rfl⟩ rfl (Nat.le_of_ble_eq_true rfl) hR.om rfl rfl) rfl ?_
  have := sp_lookedAt_lt hw x
  refine hr_istore2 (q := 6) X dX5_wouldPay_5 rfl rfl (Nat.le_of_ble_eq_true rfl) ?_
  refine hr_iconst (v := (nI 0)) (q := 7) X dX5_wouldPay_6 rfl rfl ?_
  refine hr_istore3 (q := 8) X dX5_wouldPay_7 rfl rfl (Nat.le_of_ble_eq_true rfl) ?_
  refine hr_iconst (v := (nI 0)) (q := 9) X dX5_wouldPay_8 rfl rfl ?_
  refine hr_istore4 (q := 11) X dX5_wouldPay_9 rfl rfl (Nat.le_of_ble_eq_true rfl) ?_
  have loop11 : ∀ (kr nr n : Nat) (i S : Nat), (i ≤ t.1 0 0) → (t.1 0 0 + 1 ≤ i + n) → (S = sp_sum (fun y => if (sp_bit (sp_lookedAt t x) y && sp_lit t (t.1 14 y)) = true then 1 else 0) i) → hg_W p l e rm_X5_wouldPay s m args below meth c (hg_Q below D lo args s rm_X5_wouldPay G (hg_Pv G (.int (nI (sp_wouldPay t x))))) D lo G.1 5 kr nr G 11 [some (.ref o), some (.int (nI x)), some (.int (nI (sp_lookedAt t x))), some (.int (nI S)), some (.int (nI i))] [] := by
    intro kr nr n
    induction n with
    | zero =>
      intro i S h11_0 h11_1 h11_2
      omega
    | succ n ih =>
      intro i S h11_0 h11_1 h11_2
      refine hr_iload4 (q := 13) X dX5_wouldPay_11 rfl ?_
      refine hr_aload0 (q := 14) X dX5_wouldPay_13 rfl ?_
      refine hr_getI (v := (nI (t.1 0 0))) (q := 17) X dX5_wouldPay_14 rfl fr_q1382_5 rfl hR.om ((hR.sc 0).trans (hT.sc (by decide))) ?_
      refine hr_icmpN_ge (q := 20) (tgt := 53) X dX5_wouldPay_17 rfl (by decide) (by omega) (by omega) (fun c17 => ?_) (fun c17 => ?_)
      · refine hr_aload0 (q := 54) X dX5_wouldPay_53 rfl ?_
        refine hr_getI (v := (nI (t.1 1 0))) (q := 57) X dX5_wouldPay_54 rfl fr_q1383_5 rfl hR.om ((hR.sc 1).trans (hT.sc (by decide))) ?_
        refine hr_iload3 (q := 58) X dX5_wouldPay_57 rfl ?_
        refine hr_imul (v := (nI ((t.1 1 0) * S))) (q := 59) X dX5_wouldPay_58 rfl (pk_mul _ _) ?_
        exact hr_iret X hr dX5_wouldPay_59 ⟨hz_i (congrArg nI (by rw [h11_2, show i = t.1 0 0 by omega]; rfl)), rfl⟩
      · refine hr_iload2 (q := 21) X dX5_wouldPay_20 rfl ?_
        refine hr_iload4 (q := 23) X dX5_wouldPay_21 rfl ?_
        refine hr_ishr (v := (nI ((sp_lookedAt t x) / 2 ^ i))) (q := 24) X dX5_wouldPay_23 rfl (sp_shr (by omega) (by omega)) ?_
        refine hr_iconst (v := (nI 1)) (q := 25) X dX5_wouldPay_24 rfl rfl ?_
        refine hr_iand (v := (nI (((sp_lookedAt t x) / 2 ^ i) % 2))) (q := 26) X dX5_wouldPay_25 rfl (sp_and1 (Nat.lt_of_le_of_lt (Nat.div_le_self _ _) (by omega))) ?_
        refine hr_iconst (v := (nI 1)) (q := 27) X dX5_wouldPay_26 rfl rfl ?_
        refine hr_icmpN_ne (q := 30) (tgt := 47) X dX5_wouldPay_27 rfl (by decide) (by omega) (by omega) (fun c27 => ?_) (fun c27 => ?_)
        · refine hr_iinc4 (v := (nI (i + 1))) (q := 50) X dX5_wouldPay_47 rfl (nI_add _ _) rfl (Nat.le_of_ble_eq_true rfl) ?_
          refine hr_goto (tgt := 11) X dX5_wouldPay_50 (by decide) ?_
          exact ih (i + 1) S (by omega) (by omega) (sp_sum_f (f := fun y => sp_bit (sp_lookedAt t x) y && sp_lit t (t.1 14 y)) h11_2 (by rw [sp_bit_0.mpr c27, Bool.false_and]))
        · refine hr_aload0 (q := 31) X dX5_wouldPay_30 rfl ?_
          refine hr_aload0 (q := 32) X dX5_wouldPay_31 rfl ?_
          refine hr_getR (v := am 14) (q := 35) X dX5_wouldPay_32 rfl fr_q1396_5 rfl hR.om (hR.f rfl) ?_
          refine hr_iload4 (q := 37) X dX5_wouldPay_35 rfl ?_
          refine hr_ialdN (v := (nI (t.1 14 i))) (q := 38) X dX5_wouldPay_37 rfl (hR.ka (n := 7) rfl rfl rfl) (Or.inl rfl) (by omega) (by decide) ((hR.ar rfl _).trans (hT.p (by decide) (by decide) (by omega))) ?_
          have b37 := hw.b14 (show i < 7 by omega)
          refine hr_callP (q := 41) (hc_V (n := 1) (ci := 5) (As := [.int (nI (t.1 14 i))]) X dX5_wouldPay_38 rfl (tk_isLit X.tr hR hT hw (z := t.1 14 i) (by omega)) q1695 cv_X5_isLit ⟨Nat.le_of_ble_eq_true rfl, Nat.le_of_ble_eq_true rfl⟩ rfl (Nat.le_of_ble_eq_true rfl) hR.om rfl rfl) rfl ?_
          refine hr_ifB_eq (q := 44) (tgt := 47) X dX5_wouldPay_41 rfl (by decide) (fun c41 => ?_) (fun c41 => ?_)
          · refine hr_iinc4 (v := (nI (i + 1))) (q := 50) X dX5_wouldPay_47 rfl (nI_add _ _) rfl (Nat.le_of_ble_eq_true rfl) ?_
            refine hr_goto (tgt := 11) X dX5_wouldPay_50 (by decide) ?_
            exact ih (i + 1) S (by omega) (by omega) (sp_sum_f (f := fun y => sp_bit (sp_lookedAt t x) y && sp_lit t (t.1 14 y)) h11_2 (by rw [c41, Bool.and_false]))
          · refine hr_iinc3 (v := (nI (S + 1))) (q := 47) X dX5_wouldPay_44 rfl (nI_add _ _) rfl (Nat.le_of_ble_eq_true rfl) ?_
            refine hr_iinc4 (v := (nI (i + 1))) (q := 50) X dX5_wouldPay_47 rfl (nI_add _ _) rfl (Nat.le_of_ble_eq_true rfl) ?_
            refine hr_goto (tgt := 11) X dX5_wouldPay_50 (by decide) ?_
            exact ih (i + 1) (S + 1) (by omega) (by omega) (sp_sum_t (f := fun y => sp_bit (sp_lookedAt t x) y && sp_lit t (t.1 14 y)) h11_2 (by rw [sp_bit_1.mpr c27, c41]; rfl))
  exact loop11 _ _ (t.1 0 0 + 1) 0 0 (by omega) (by omega) rfl

theorem tk_allDuties {l : Launch} {D : hg_D} {lo : Nat} (htr : l.stackTraces = false) {G : hg_G} {o : Nat} {am : Nat → Nat} {u : tw_S} (hR : tw_R G o am u) {t : sp_S} (hT : tw_T u t) (hw : sp_wf t) :
    hg_M l D lo yX5_allDuties (ws_ yX5_allDuties cX5_allDuties 3 ((some FieldType.int))) rm_X5_allDuties [.ref o] G (hg_Pv G (.int (nI (sp_duties t)))) := by
  refine hg_M.of htr (by decide) [some (.ref o), none, none] rfl (Nat.le_of_ble_eq_true rfl) ?_
  intro p e s m args below meth c X hr hnm htab
  have X : hg_X p l s m args meth c D lo "TaxOnLooksModel" cX5_allDuties 3 := X
  have w0 := hw.b0; have w1 := hw.b1; have w2 := hw.b2; have w3 := hw.b3
  have w36 := hw.b36
  refine hr_iconst (v := (nI 0)) (q := 1) X dX5_allDuties_0 rfl rfl ?_
  refine hr_istore1 (q := 2) X dX5_allDuties_1 rfl rfl (Nat.le_of_ble_eq_true rfl) ?_
  refine hr_iconst (v := (nI 0)) (q := 3) X dX5_allDuties_2 rfl rfl ?_
  refine hr_istore2 (q := 4) X dX5_allDuties_3 rfl rfl (Nat.le_of_ble_eq_true rfl) ?_
  have loop4 : ∀ (kr nr n : Nat) (i S : Nat), (i ≤ t.1 0 0) → (t.1 0 0 + 1 ≤ i + n) → (S = sp_sum (sp_owes t) i) → hg_W p l e rm_X5_allDuties s m args below meth c (hg_Q below D lo args s rm_X5_allDuties G (hg_Pv G (.int (nI (sp_duties t))))) D lo G.1 3 kr nr G 4 [some (.ref o), some (.int (nI S)), some (.int (nI i))] [] := by
    intro kr nr n
    induction n with
    | zero =>
      intro i S h4_0 h4_1 h4_2
      omega
    | succ n ih =>
      intro i S h4_0 h4_1 h4_2
      refine hr_iload2 (q := 5) X dX5_allDuties_4 rfl ?_
      refine hr_aload0 (q := 6) X dX5_allDuties_5 rfl ?_
      refine hr_getI (v := (nI (t.1 0 0))) (q := 9) X dX5_allDuties_6 rfl fr_q1382_5 rfl hR.om ((hR.sc 0).trans (hT.sc (by decide))) ?_
      refine hr_icmpN_ge (q := 12) (tgt := 26) X dX5_allDuties_9 rfl (by decide) (by omega) (by omega) (fun c9 => ?_) (fun c9 => ?_)
      · refine hr_iload1 (q := 27) X dX5_allDuties_26 rfl ?_
        exact hr_iret X hr dX5_allDuties_27 ⟨hz_i (congrArg nI (by rw [h4_2, show i = t.1 0 0 by omega]; rfl)), rfl⟩
      · refine hr_iload1 (q := 13) X dX5_allDuties_12 rfl ?_
        refine hr_aload0 (q := 14) X dX5_allDuties_13 rfl ?_
        refine hr_iload2 (q := 15) X dX5_allDuties_14 rfl ?_
        refine hr_callP (q := 18) (hc_V (n := 1) (ci := 5) (As := [.int (nI i)]) X dX5_allDuties_15 rfl (tk_owes X.tr hR hT hw (x := i) (by omega)) q1691 cv_X5_owes ⟨Nat.le_of_ble_eq_true rfl, Nat.le_of_ble_eq_true rfl⟩ rfl (Nat.le_of_ble_eq_true rfl) hR.om rfl rfl) rfl ?_
        have := sp_owes_lt hw i
        refine hr_iadd (v := (nI (S + (sp_owes t i)))) (q := 19) X dX5_allDuties_18 rfl (nI_add _ _) ?_
        refine hr_istore1 (q := 20) X dX5_allDuties_19 rfl rfl (Nat.le_of_ble_eq_true rfl) ?_
        refine hr_iinc2 (v := (nI (i + 1))) (q := 23) X dX5_allDuties_20 rfl (nI_add _ _) rfl (Nat.le_of_ble_eq_true rfl) ?_
        refine hr_goto (tgt := 4) X dX5_allDuties_23 (by decide) ?_
        exact ih (i + 1) (S + (sp_owes t i)) (by omega) (by omega) (by rw [h4_2]; rfl)
  exact loop4 _ _ (t.1 0 0 + 1) 0 0 (by omega) (by omega) rfl

