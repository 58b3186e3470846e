/-! strolls told: what comes back; images -/
def sq_upto (A : ab_S) (s n : Nat) : Nat := if sq_bad A s n 41 0 = 99 then n else sq_bad A s n 41 0
def sq_after (A : ab_S) (s n : Nat) : ab_S × Nat := sq_str A s (sq_upto A s n)
/-- all but at, purse is as it was -/
def ab_eq0 (A B : ab_S) : Prop := (∀ a, a ≠ 13 → a ≠ 14 → B.1.1 a = A.1.1 a) ∧ B.1.2 = A.1.2 ∧ B.2 = A.2
theorem sq_str_eq0 (A : ab_S) (s : Nat) : ∀ i, ab_eq0 A (sq_str A s i).1
  | 0 => ⟨fun _ _ _ => rfl, rfl, rfl⟩
  | i + 1 => by
    obtain ⟨h1, h2, h3⟩ := sq_str_eq0 A s i
    refine ⟨fun a ha hb => ?_, h2, h3⟩
    refine Eq.trans ?_ (h1 a ha hb)
    show (sp_set (sp_set (sq_str A s i).1.1 14 _ _) 13 _ _).1 a = _
    funext j
    rw [sp_set_o ha, sp_set_o hb]
theorem sp_back_eq0 {A B : ab_S} (h : ab_eq0 A B) : sp_back B A.1 = A := by
  obtain ⟨h1, h2, h3⟩ := h
  refine ab_ext (fun a i => ?_) (fun k => ?_) (congrArg Prod.fst h3) (fun a i => ?_) (fun i => ?_)
  · show (if a < 4 ∨ (9 ≤ a ∧ a ≤ 17) then A.1.1 a i else B.1.1 a i) = A.1.1 a i
    split
    · rfl
    · rw [h1 a (by omega) (by omega)]
  · show (if 4 ≤ k ∧ k ≤ 6 then A.1.2 k else B.1.2 k) = A.1.2 k
    rw [h2]
    split <;> rfl
  · show B.2.2.1 a i = A.2.2.1 a i
    rw [h3]
  · show B.2.2.2 i = A.2.2.2 i
    rw [h3]
theorem sp_back_str (A : ab_S) (s i : Nat) : sp_back (sq_str A s i).1 A.1 = A := sp_back_eq0 (sq_str_eq0 A s i)
theorem sp_back_after (A : ab_S) (s n : Nat) : sp_back (sq_after A s n).1 A.1 = A := sp_back_str A s _
theorem sq_bad_s {A : ab_S} {s n f i : Nat} (h : i < n) (h2 : sp_strOk (sq_str A s i).1.1 (A.2.2.2 (160 * s + i)).toInt32 = true) : sq_bad A s n (f + 1) i = sq_bad A s n f (i + 1) := by rw [sq_bad, if_pos h, if_pos h2]
theorem sq_bad_b {A : ab_S} {s n f i : Nat} (h : i < n) (h2 : sp_strOk (sq_str A s i).1.1 (A.2.2.2 (160 * s + i)).toInt32 = false) : sq_bad A s n (f + 1) i = i := by rw [sq_bad, if_pos h, if_neg (by rw [h2]; decide)]
theorem sq_bad_e {A : ab_S} {s n f i : Nat} (h : n ≤ i) : sq_bad A s n f i = 99 := by
  cases f with
  | zero => rfl
  | succ f => rw [sq_bad, if_neg (by omega)]
theorem sq_bad_le {A : ab_S} {s n : Nat} : ∀ f i, sq_bad A s n f i = 99 ∨ sq_bad A s n f i < n
  | 0, _ => Or.inl rfl
  | f + 1, i => by
    rw [sq_bad]
    split
    · split
      · exact sq_bad_le f (i + 1)
      · right; assumption
    · left; rfl
theorem sq_upto_b {A : ab_S} {s n i : Nat} (h : sq_bad A s n 41 0 = i) (hi : i < 99) : sq_upto A s n = i := by rw [sq_upto, if_neg (by omega), h]
theorem sq_upto_e {A : ab_S} {s n i : Nat} (h : sq_bad A s n 41 0 = 99) (hi : i = n) : sq_upto A s n = i := by rw [sq_upto, if_pos h, hi]
theorem tw_carF_34 {u : tw_S} {A : ab_S} (h : tw_A u A) : tw_A (tw_carF u 34) (A.1, A.1, A.2.2) := by
  have e : ∀ a, a ≠ 34 → (tw_carF u 34).2.1 a = u.2.1 a := fun a ha => tw_carF_o ha
  have hK := tw_carF_K (q := 34) (by decide) h.1
  obtain ⟨a1, a2, a3, a4, a5, a6, a7, a8, a9, a10⟩ := h
  exact ⟨a1.same (fun _ _ => rfl) (fun a _ _ i => by rw [e a (by omega)]), a2, fun a h1 h2 i hi => by rw [e a (by omega)]; exact a3 a h1 h2 i hi, fun i hi => by rw [e 21 (by omega)]; exact a4 i hi, fun _ => hK, fun a ha i => by rw [e a (by omega)]; exact a6 a ha i, a7, fun i hi => by rw [e 24 (by omega)]; exact a8 i hi, fun i hi => by rw [e 25 (by omega)]; exact a9 i hi, fun i hi => by rw [e 26 (by omega)]; exact a10 i hi⟩
theorem tw_image {u : tw_S} {A : ab_S} (h : tw_A u A) : tw_A (tw_carF (tw_setS u 43 (nI 1)) 34) (sp_set A.1 43 0 1, A.1, A.2.2) := by
  have e : tw_carF (tw_setS u 43 (nI 1)) 34 = tw_setS (tw_carF u 34) 43 (nI 1) := tw_ext (fun _ => rfl) (fun _ _ => rfl) (fun _ _ => rfl)
  rw [e]
  exact (tw_carF_34 h).thereS rfl (tw_carF_K (q := 34) (by decide) h.1)
/-- who isn't there any more is on no shelf -/
def ab_fl (B : ab_S) (i : Nat) : ab_S := (((fun a j => if a = 18 ∧ j < i ∧ B.1.1 18 j = 2 ∧ B.1.1 0 0 ≤ B.1.1 21 j then 0 else B.1.1 a j), B.1.2), B.2)
theorem ab_fl_0 (B : ab_S) : ab_fl B 0 = B := ab_ext (fun a j => if_neg (by omega)) (fun _ => rfl) rfl (fun _ _ => rfl) (fun _ => rfl)
theorem ab_fl_s {B : ab_S} {i : Nat} (h1 : B.1.1 18 i = 2) (h2 : B.1.1 0 0 ≤ B.1.1 21 i) : ab_n (ab_fl B i) 18 i 0 = ab_fl B (i + 1) := by
  refine ab_ext (fun a j => ?_) (fun _ => rfl) rfl (fun _ _ => rfl) (fun _ => rfl)
  show (if a = 18 then (if j = i then 0 else if a = 18 ∧ j < i ∧ B.1.1 18 j = 2 ∧ B.1.1 0 0 ≤ B.1.1 21 j then 0 else B.1.1 a j) else if a = 18 ∧ j < i ∧ B.1.1 18 j = 2 ∧ B.1.1 0 0 ≤ B.1.1 21 j then 0 else B.1.1 a j) = if a = 18 ∧ j < i + 1 ∧ B.1.1 18 j = 2 ∧ B.1.1 0 0 ≤ B.1.1 21 j then 0 else B.1.1 a j
  by_cases h : a = 18
  · rw [if_pos h]
    by_cases h3 : j = i
    · subst h3
      rw [if_pos rfl, if_pos ⟨h, by omega, h1, h2⟩]
    · rw [if_neg h3]
      by_cases h4 : a = 18 ∧ j < i ∧ B.1.1 18 j = 2 ∧ B.1.1 0 0 ≤ B.1.1 21 j
      · rw [if_pos h4, if_pos ⟨h4.1, by omega, h4.2.2.1, h4.2.2.2⟩]
      · rw [if_neg h4, if_neg (fun z => h4 ⟨z.1, by omega, z.2.2.1, z.2.2.2⟩)]
  · rw [if_neg h, if_neg (fun z => h z.1), if_neg (fun z => h z.1)]
theorem ab_fl_k {B : ab_S} {i : Nat} (h : ¬ (B.1.1 18 i = 2 ∧ B.1.1 0 0 ≤ B.1.1 21 i)) : ab_fl B i = ab_fl B (i + 1) := by
  refine ab_ext (fun a j => ?_) (fun _ => rfl) rfl (fun _ _ => rfl) (fun _ => rfl)
  show (if a = 18 ∧ j < i ∧ B.1.1 18 j = 2 ∧ B.1.1 0 0 ≤ B.1.1 21 j then 0 else B.1.1 a j) = if a = 18 ∧ j < i + 1 ∧ B.1.1 18 j = 2 ∧ B.1.1 0 0 ≤ B.1.1 21 j then 0 else B.1.1 a j
  by_cases h4 : a = 18 ∧ j < i ∧ B.1.1 18 j = 2 ∧ B.1.1 0 0 ≤ B.1.1 21 j
  · rw [if_pos h4, if_pos ⟨h4.1, by omega, h4.2.2.1, h4.2.2.2⟩]
  · rw [if_neg h4, if_neg (fun z => h4 ⟨z.1, ?_, z.2.2.1, z.2.2.2⟩)]
    rcases Nat.lt_or_ge j i with g | g
    · exact g
    · have : j = i := by omega
      subst this
      exact absurd ⟨z.2.2.1, z.2.2.2⟩ h
theorem sp_back_o {A : ab_S} {t : sp_S} {a i : Nat} (h : ¬ (a < 4 ∨ (9 ≤ a ∧ a ≤ 17))) : (sp_back A t).1.1 a i = A.1.1 a i := if_neg h
theorem sp_back_i {A : ab_S} {t : sp_S} {a i : Nat} (h : a < 4 ∨ (9 ≤ a ∧ a ≤ 17)) : (sp_back A t).1.1 a i = t.1 a i := if_pos h
theorem ab_fl_o {B : ab_S} {i a j : Nat} (h : a ≠ 18) : (ab_fl B i).1.1 a j = B.1.1 a j := if_neg (fun z => h z.1)
theorem ab_fl_i {B : ab_S} {i : Nat} : (ab_fl B i).1.1 18 i = B.1.1 18 i := if_neg (by omega)
theorem tk_strolls {l : Launch} {D : hg_D} {lo : Nat} (htr : l.stackTraces = false) {G : hg_G} {o : Nat} {am : Nat → Nat} {u : tw_S} {A : ab_S} (hR : tw_R G o am u) (hA : tw_A u A) (hW : ab_wf A) {a N : Nat} (ha : a < 8) (hN : N ≤ 40) (hN2 : N ≤ 160) :
    hg_M l D lo yX5_strolls (ws_ yX5_strolls cX5_strolls 7 ((some FieldType.int))) rm_X5_strolls [.ref o, .int (nI a), .int (nI N)] G (fun r G' => r = .inl (some (.int (oI (sq_bad A a N 41 0)))) ∧ ∃ u', tw_R G' o am u' ∧ tw_A u' (sq_after A a N).1 ∧ u'.1 40 = nI (sq_after A a N).2 ∧ u'.2.1 35 = u.2.1 35) := by
  have hw := hW.w; have w0 := hw.b0; have w1 := hw.b1; have w2 := hw.b2; have w3 := hw.b3; have w36 := hW.b36; have w43 := hW.b43
  refine hg_M.of htr (by decide) [some (.ref o), some (.int (nI a)), some (.int (nI N)), none, none, none, none] rfl (Nat.le_of_ble_eq_true rfl) ?_
  intro p e s m args below meth c X hr hnm htab
  have X : hg_X p l s m args meth c D lo "TaxOnLooksModel" cX5_strolls 7 := X
  refine hr_aload0 (q := 1) X dX5_strolls_0 rfl ?_
  refine hr_iconst (v := (nI 0)) (q := 2) X dX5_strolls_1 rfl rfl ?_
  refine hr_putI (q := 5) X dX5_strolls_2 rfl fw_q1422_5 (fun h => nomatch h) rfl rfl rfl hR.om ?_
  have hR1 := hR.setS 40 (nI 0)
  have hA1 := hA.scS (k := 40) rfl (nI 0)
  refine hr_iconst (v := (nI 0)) (q := 6) X dX5_strolls_5 rfl rfl ?_
  refine hr_istore3 (q := 7) X dX5_strolls_6 rfl rfl (Nat.le_of_ble_eq_true rfl) ?_
  have loop7 : ∀ (kr nr n : Nat) (G7 : hg_G) (u7 : tw_S) (i : Nat), tw_R G7 o am u7 → tw_A u7 ((sq_str A a i).1) → (i ≤ N) → (N + 1 ≤ i + n) → (sq_bad A a N n i = sq_bad A a N 41 0) → (u7.1 40 = nI (sq_str A a i).2) → (u7.2.1 35 = u.2.1 35) → (ab_wf (sq_str A a i).1) → ((sq_str A a i).1.1.1 0 0 = A.1.1 0 0) → hg_W p l e rm_X5_strolls s m args below meth c (hg_Q below D lo args s rm_X5_strolls G (fun r G' => r = .inl (some (.int (oI (sq_bad A a N 41 0)))) ∧ ∃ u', tw_R G' o am u' ∧ tw_A u' (sq_after A a N).1 ∧ u'.1 40 = nI (sq_after A a N).2 ∧ u'.2.1 35 = u.2.1 35)) D lo G.1 7 kr nr G7 7 [some (.ref o), some (.int (nI a)), some (.int (nI N)), some (.int (nI i)), none, none, none] [] := by
    intro kr nr n
    induction n with
    | zero =>
      intro G7 u7 i hR7 hA7 h7_0 h7_1 h7_2 h7_3 h7_4 h7_5 h7_6
      omega
    | succ n ih7 =>
      intro G7 u7 i hR7 hA7 h7_0 h7_1 h7_2 h7_3 h7_4 h7_5 h7_6
      refine hr_iload3 (q := 8) X dX5_strolls_7 rfl ?_
      refine hr_iload2 (q := 9) X dX5_strolls_8 rfl ?_
      refine hr_icmpN_ge (q := 12) (tgt := 112) X dX5_strolls_9 rfl (by decide) (by omega) (by omega) (fun c9 => ?_) (fun c9 => ?_)
      · refine hr_iconst (v := (-1)) (q := 113) X dX5_strolls_112 rfl rfl ?_
        exact hr_iret X hr dX5_strolls_113 ⟨hz_i (by rw [← h7_2, sq_bad_e (by omega)]; rfl), _, hR7, (by rw [sq_after, sq_upto_e (i := i) (by rw [← h7_2, sq_bad_e (by omega)]) (by omega)]; exact hA7), (by rw [sq_after, sq_upto_e (i := i) (by rw [← h7_2, sq_bad_e (by omega)]) (by omega)]; exact h7_3), h7_4⟩
      · refine hr_aload0 (q := 13) X dX5_strolls_12 rfl ?_
        refine hr_iload1 (q := 14) X dX5_strolls_13 rfl ?_
        refine hr_iload3 (q := 15) X dX5_strolls_14 rfl ?_
        refine hr_callP (v := .int (((sq_str A a i).1.2.2.2 (160 * a + i)).toInt32)) (q := 18) (hc_V (n := 2) (ci := 5) (As := [.int (nI a), .int (nI i)]) X dX5_strolls_15 rfl (tk_intAt X.tr hR7 hA7 (a := a) (b := i) (by omega) (by omega)) q1760 cv_X5_intAt ⟨Nat.le_of_ble_eq_true rfl, Nat.le_of_ble_eq_true rfl⟩ rfl (Nat.le_of_ble_eq_true rfl) hR7.om rfl rfl) rfl ?_
        have e2 : (sq_str A a i).1.2.2.2 = A.2.2.2 := congrArg (fun z => z.2.2) (sq_str_eq0 A a i).2.2
        rw [e2]
        generalize hv9 : (A.2.2.2 (160 * a + i)).toInt32 = v9
        have hWn := h7_5; have wn0 := h7_5.w.b0
        refine hr_istore4 (q := 20) X dX5_strolls_18 rfl rfl (Nat.le_of_ble_eq_true rfl) ?_
        refine hr_iload4 (q := 22) X dX5_strolls_20 rfl ?_
        refine hr_bipush (v := (nI 10)) (q := 24) X dX5_strolls_22 rfl rfl ?_
        refine hr_idiv (v := (v9 / (nI 10))) (q := 25) X dX5_strolls_24 rfl (by decide) rfl ?_
        refine hr_istore5 (q := 27) X dX5_strolls_25 rfl rfl (Nat.le_of_ble_eq_true rfl) ?_
        refine hr_iload4 (q := 29) X dX5_strolls_27 rfl ?_
        refine hr_if_lt (q := 32) (tgt := 50) X dX5_strolls_29 rfl (by decide) (fun c29 => ?_) (fun c29 => ?_)
        · refine hr_iconst (v := (-1)) (q := 51) X dX5_strolls_50 rfl rfl ?_
          refine hr_goto (tgt := 70) X dX5_strolls_51 (by decide) ?_
          have hto : sp_strTo (sq_str A a i).1.1 v9 = 99 := by rw [sp_strTo, if_pos c29]
          refine hr_istore6 (q := 72) X dX5_strolls_70 rfl rfl (Nat.le_of_ble_eq_true rfl) ?_
          refine hr_iload6 (q := 74) X dX5_strolls_72 rfl ?_
          refine hr_iconst (v := (-1)) (q := 75) X dX5_strolls_74 rfl rfl ?_
          refine hr_icmp_eq (q := 78) (tgt := 89) X dX5_strolls_75 rfl (by decide) (fun c75 => ?_) (fun c75 => ?_)
          · have hbad : sp_strOk (sq_str A a i).1.1 v9 = false := decide_eq_false (fun z => z.1 hto)
            
            refine hr_iload3 (q := 90) X dX5_strolls_89 rfl ?_
            rw [← hv9] at hbad
            have hb9 : sq_bad A a N 41 0 = i := by rw [← h7_2, sq_bad_b (by omega) hbad]
            exact hr_iret X hr dX5_strolls_90 ⟨hz_i (by rw [hb9]; exact (oI_of (by omega)).symm), _, hR7, (by rw [sq_after, sq_upto_b hb9 (by omega)]; exact hA7), (by rw [sq_after, sq_upto_b hb9 (by omega)]; exact h7_3), h7_4⟩
          · exact absurd rfl c75
        · have hvn := sp_geN c29
          have hq : v9 / nI 10 = nI (iN v9 / 10) := (congrArg (· / nI 10) hvn.1).trans (pk_div hvn.2 (by decide) (by decide))
          have hr9 : v9 - v9 / nI 10 * nI 10 = nI (iN v9 % 10) := (congrArg (fun y => y - y / nI 10 * nI 10) hvn.1).trans (pk_rem hvn.2 (by decide) (by decide))
          refine hr_L (L' := [some (.ref o), some (.int (nI a)), some (.int (nI N)), some (.int (nI i)), some (.int v9), some (.int (nI (iN v9 / 10))), none]) (by rw [← hq]) ?_
          refine hr_iload5 (q := 34) X dX5_strolls_32 rfl ?_
          refine hr_aload0 (q := 35) X dX5_strolls_34 rfl ?_
          refine hr_getI (v := (nI (((sq_str A a i).1).1.1 0 0))) (q := 38) X dX5_strolls_35 rfl fr_q1382_5 rfl hR7.om ((hR7.sc 0).trans (hA7.sc (by decide))) ?_
          refine hr_icmpN_ge (q := 41) (tgt := 50) X dX5_strolls_38 rfl (by decide) (by omega) (by omega) (fun c38 => ?_) (fun c38 => ?_)
          · refine hr_iconst (v := (-1)) (q := 51) X dX5_strolls_50 rfl rfl ?_
            refine hr_goto (tgt := 70) X dX5_strolls_51 (by decide) ?_
            have hto : sp_strTo (sq_str A a i).1.1 v9 = 99 := by rw [sp_strTo, if_neg c29, if_neg (by omega)]
            refine hr_istore6 (q := 72) X dX5_strolls_70 rfl rfl (Nat.le_of_ble_eq_true rfl) ?_
            refine hr_iload6 (q := 74) X dX5_strolls_72 rfl ?_
            refine hr_iconst (v := (-1)) (q := 75) X dX5_strolls_74 rfl rfl ?_
            refine hr_icmp_eq (q := 78) (tgt := 89) X dX5_strolls_75 rfl (by decide) (fun c75 => ?_) (fun c75 => ?_)
            · have hbad : sp_strOk (sq_str A a i).1.1 v9 = false := decide_eq_false (fun z => z.1 hto)
              
              refine hr_iload3 (q := 90) X dX5_strolls_89 rfl ?_
              rw [← hv9] at hbad
              have hb9 : sq_bad A a N 41 0 = i := by rw [← h7_2, sq_bad_b (by omega) hbad]
              exact hr_iret X hr dX5_strolls_90 ⟨hz_i (by rw [hb9]; exact (oI_of (by omega)).symm), _, hR7, (by rw [sq_after, sq_upto_b hb9 (by omega)]; exact hA7), (by rw [sq_after, sq_upto_b hb9 (by omega)]; exact h7_3), h7_4⟩
            · exact absurd rfl c75
          · refine hr_iload4 (q := 43) X dX5_strolls_41 rfl ?_
            refine hr_bipush (v := (nI 10)) (q := 45) X dX5_strolls_43 rfl rfl ?_
            refine hr_irem (v := (nI (iN v9 % 10))) (q := 46) X dX5_strolls_45 rfl (by decide) hr9 ?_
            refine hr_iconst (v := (nI 3)) (q := 47) X dX5_strolls_46 rfl rfl ?_
            refine hr_icmpN_le (q := 50) (tgt := 54) X dX5_strolls_47 rfl (by decide) (by omega) (by omega) (fun c47 => ?_) (fun c47 => ?_)
            · refine hr_aload0 (q := 55) X dX5_strolls_54 rfl ?_
              refine hr_aload0 (q := 56) X dX5_strolls_55 rfl ?_
              refine hr_getR (v := am 14) (q := 59) X dX5_strolls_56 rfl fr_q1396_5 rfl hR7.om (hR7.f rfl) ?_
              refine hr_iload5 (q := 61) X dX5_strolls_59 rfl ?_
              refine hr_ialdN (v := (nI (((sq_str A a i).1).1.1 14 (iN v9 / 10)))) (q := 62) X dX5_strolls_61 rfl (hR7.ka (n := 7) rfl rfl rfl) (Or.inl rfl) (by omega) (by decide) ((hR7.ar rfl _).trans (hA7.p (by decide) (by decide) (by omega))) ?_
              have b61 := hWn.w.b14 (show iN v9 / 10 < 7 by omega)
              refine hr_iload4 (q := 64) X dX5_strolls_62 rfl ?_
              refine hr_bipush (v := (nI 10)) (q := 66) X dX5_strolls_64 rfl rfl ?_
              refine hr_irem (v := (nI (iN v9 % 10))) (q := 67) X dX5_strolls_66 rfl (by decide) hr9 ?_
              refine hr_callP (v := .int (oI (sp_beside ((sq_str A a i).1.1.1 14 (iN v9 / 10)) (iN v9 % 10)))) (q := 70) (hc_V (n := 2) (ci := 5) (As := [.int (nI (((sq_str A a i).1).1.1 14 (iN v9 / 10))), .int (nI (iN v9 % 10))]) X dX5_strolls_67 rfl (tk_beside X.tr hR7 (z := ((sq_str A a i).1).1.1 14 (iN v9 / 10)) (v := iN v9 % 10) (by omega) (by omega)) q1728 cv_X5_beside ⟨Nat.le_of_ble_eq_true rfl, Nat.le_of_ble_eq_true rfl⟩ rfl (Nat.le_of_ble_eq_true rfl) hR7.om rfl rfl) rfl ?_
              have hto : sp_strTo (sq_str A a i).1.1 v9 = sp_beside ((sq_str A a i).1.1.1 14 (iN v9 / 10)) (iN v9 % 10) := by rw [sp_strTo, if_neg c29, if_pos (by omega), if_pos (by omega)]
              have hlt := sp_beside_lt (c := (sq_str A a i).1.1.1 14 (iN v9 / 10)) (w := iN v9 % 10) (hWn.w.b14 (by omega))
              rw [← hto] at hlt
              rw [← hto]
              refine hr_istore6 (q := 72) X dX5_strolls_70 rfl rfl (Nat.le_of_ble_eq_true rfl) ?_
              refine hr_iload6 (q := 74) X dX5_strolls_72 rfl ?_
              refine hr_iconst (v := (-1)) (q := 75) X dX5_strolls_74 rfl rfl ?_
              refine hr_icmpO_eq (q := 78) (tgt := 89) X dX5_strolls_75 rfl (by decide) (by omega) (fun c75 => ?_) (fun c75 => ?_)
              · have hbad : sp_strOk (sq_str A a i).1.1 v9 = false := decide_eq_false (fun z => z.1 c75)
                
                refine hr_iload3 (q := 90) X dX5_strolls_89 rfl ?_
                rw [← hv9] at hbad
                have hb9 : sq_bad A a N 41 0 = i := by rw [← h7_2, sq_bad_b (by omega) hbad]
                exact hr_iret X hr dX5_strolls_90 ⟨hz_i (by rw [hb9]; exact (oI_of (by omega)).symm), _, hR7, (by rw [sq_after, sq_upto_b hb9 (by omega)]; exact hA7), (by rw [sq_after, sq_upto_b hb9 (by omega)]; exact h7_3), h7_4⟩
              · refine hr_aload0 (q := 79) X dX5_strolls_78 rfl ?_
                refine hr_getR (v := am 16) (q := 82) X dX5_strolls_79 rfl fr_q1398_5 rfl hR7.om (hR7.f rfl) ?_
                refine hr_iload6 (q := 84) X dX5_strolls_82 rfl ?_
                refine hr_st1 (v' := .int (nI (sp_strTo (sq_str A a i).1.1 v9))) (congrArg Value.int (oI_of c75)) ?_
                refine hr_ialdN (v := (nI (((sq_str A a i).1).1.1 16 (sp_strTo (sq_str A a i).1.1 v9)))) (q := 85) X dX5_strolls_84 rfl (hR7.ka (n := 36) rfl rfl rfl) (Or.inl rfl) (by omega) (by decide) ((hR7.ar rfl _).trans (hA7.c (by decide) (by decide) (by omega))) ?_
                have b84 := hWn.w.b16 (show sp_strTo (sq_str A a i).1.1 v9 < 36 by omega)
                refine hr_iconst (v := (nI 1)) (q := 86) X dX5_strolls_85 rfl rfl ?_
                refine hr_icmpN_ne (q := 89) (tgt := 91) X dX5_strolls_86 rfl (by decide) (by omega) (by omega) (fun c86 => ?_) (fun c86 => ?_)
                · have hok : sp_strOk (sq_str A a i).1.1 v9 = true := decide_eq_true ⟨c75, by omega⟩
                  have hnx := hWn.strGo hok
                  have hbe := hlt.resolve_left c75
                  have hfr := hWn.w.b16 hbe
                  refine hr_L (L' := [some (.ref o), some (.int (nI a)), some (.int (nI N)), some (.int (nI i)), some (.int v9), some (.int (nI (iN v9 / 10))), some (.int (nI (sp_strTo (sq_str A a i).1.1 v9)))]) (by rw [← oI_of c75]) ?_
                  refine hr_aload0 (q := 92) X dX5_strolls_91 rfl ?_
                  refine hr_getR (v := am 14) (q := 95) X dX5_strolls_92 rfl fr_q1396_5 rfl hR7.om (hR7.f rfl) ?_
                  refine hr_iload5 (q := 97) X dX5_strolls_95 rfl ?_
                  refine hr_iload6 (q := 99) X dX5_strolls_97 rfl ?_
                  refine hr_iastN (q := 100) X dX5_strolls_99 rfl (hR7.ka (n := 7) rfl rfl rfl) (by omega) (by decide) ?_
                  have hR2 := hR7.setA (k := 14) rfl (iN v9 / 10) (nI (sp_strTo (sq_str A a i).1.1 v9))
                  have hA2 := hA7.nA (k := 14) (j := iN v9 / 10) (n := sp_strTo (sq_str A a i).1.1 v9) (by decide) rfl
                  refine hr_aload0 (q := 101) X dX5_strolls_100 rfl ?_
                  refine hr_iload5 (q := 103) X dX5_strolls_101 rfl ?_
                  have hWp : ab_wf (ab_n ((sq_str A a i).1) 14 (iN v9 / 10) (sp_strTo (sq_str A a i).1.1 v9)) := hWn.n (by decide) (sp_wf_at hWn.w hbe (by omega))
                  refine hr_call0 (q := 106) (hc_V (n := 1) (ci := 5) (As := [.int (nI (iN v9 / 10))]) X dX5_strolls_103 rfl (tk_pays X.tr hR2 hA2 hWp (x := iN v9 / 10) (by show iN v9 / 10 < (sq_str A a i).1.1.1 0 0; omega)) q1792 cv_X5_pays ⟨Nat.le_of_ble_eq_true rfl, Nat.le_of_ble_eq_true rfl⟩ rfl (Nat.le_of_ble_eq_true rfl) hR2.om rfl rfl) rfl (fun qx E G' hp => by cases hp.1) (fun r Gp hp _ => ?_)
                  obtain ⟨hv1, up, hRp, hAp, hp4, hp35⟩ := hp
                  cases hv1
                  have hst : sq_str A a (i + 1) = sq_strGo (sq_str A a i) v9 := by rw [sq_str, hv9]
                  have hbk : tw_A up (sq_str A a (i + 1)).1 := by rw [hst]; exact hAp
                  have hpd : up.1 40 = nI (sq_str A a (i + 1)).2 := by rw [hp4, hst]; exact (congrArg (· + _) h7_3).trans (nI_add _ _)
                  rw [← hv9] at hok hnx
                  have hWn := hnx.1; have hPn := hnx.2
                  rw [hv9, ← hst] at hWn hPn
                  refine hr_iinc3 (v := (nI (i + 1))) (q := 109) X dX5_strolls_106 rfl (nI_add _ _) rfl (Nat.le_of_ble_eq_true rfl) ?_
                  refine hr_goto (tgt := 7) X dX5_strolls_109 (by decide) ?_
                  refine hr_fg4 ?_
                  refine hr_fg5 ?_
                  refine hr_fg6 ?_
                  exact ih7 Gp up (i + 1) hRp hbk (by omega) (by omega) (by rw [← sq_bad_s (by omega) hok]; exact h7_2) hpd (hp35.trans h7_4) hWn (by rw [hPn]; exact h7_6)
                · have hbad : sp_strOk (sq_str A a i).1.1 v9 = false := decide_eq_false (fun z => z.2 (by omega))
                  
                  refine hr_iload3 (q := 90) X dX5_strolls_89 rfl ?_
                  rw [← hv9] at hbad
                  have hb9 : sq_bad A a N 41 0 = i := by rw [← h7_2, sq_bad_b (by omega) hbad]
                  exact hr_iret X hr dX5_strolls_90 ⟨hz_i (by rw [hb9]; exact (oI_of (by omega)).symm), _, hR7, (by rw [sq_after, sq_upto_b hb9 (by omega)]; exact hA7), (by rw [sq_after, sq_upto_b hb9 (by omega)]; exact h7_3), h7_4⟩
            · refine hr_iconst (v := (-1)) (q := 51) X dX5_strolls_50 rfl rfl ?_
              refine hr_goto (tgt := 70) X dX5_strolls_51 (by decide) ?_
              have hto : sp_strTo (sq_str A a i).1.1 v9 = 99 := by rw [sp_strTo, if_neg c29, if_pos (by omega), if_neg (by omega)]
              refine hr_istore6 (q := 72) X dX5_strolls_70 rfl rfl (Nat.le_of_ble_eq_true rfl) ?_
              refine hr_iload6 (q := 74) X dX5_strolls_72 rfl ?_
              refine hr_iconst (v := (-1)) (q := 75) X dX5_strolls_74 rfl rfl ?_
              refine hr_icmp_eq (q := 78) (tgt := 89) X dX5_strolls_75 rfl (by decide) (fun c75 => ?_) (fun c75 => ?_)
              · have hbad : sp_strOk (sq_str A a i).1.1 v9 = false := decide_eq_false (fun z => z.1 hto)
                
                refine hr_iload3 (q := 90) X dX5_strolls_89 rfl ?_
                rw [← hv9] at hbad
                have hb9 : sq_bad A a N 41 0 = i := by rw [← h7_2, sq_bad_b (by omega) hbad]
                exact hr_iret X hr dX5_strolls_90 ⟨hz_i (by rw [hb9]; exact (oI_of (by omega)).symm), _, hR7, (by rw [sq_after, sq_upto_b hb9 (by omega)]; exact hA7), (by rw [sq_after, sq_upto_b hb9 (by omega)]; exact h7_3), h7_4⟩
              · exact absurd rfl c75
  exact loop7 _ _ 41 (hs_I G o 40 (nI 0)) (tw_setS u 40 (nI 0)) 0 hR1 hA1 (by omega) (by omega) rfl rfl rfl hW rfl

def sq_barsOf (a1 : Int32) (a2 : Int32) (A : ab_S) : Int32 :=
  if (sq_wanted a1 A) = 0 then if 0 ≤ a2 then if a2 ≤ (nI (A.1.1 20 (iN a1))) then if a2 ≤ (nI 40) then (nI 0)
        else (-6)
      else (-5)
    else (-4)
  else (sq_wanted a1 A)
theorem tk_barsOf {l : Launch} {D : hg_D} {lo : Nat} (htr : l.stackTraces = false) {G : hg_G} {o : Nat} {am : Nat → Nat} {u : tw_S} {A : ab_S} (hR : tw_R G o am u) (hA : tw_A u A) {a1 : Int32} {a2 : Int32} (hW : ab_wf A) :
    hg_M l D lo yX5_barsOf (ws_ yX5_barsOf cX5_barsOf 4 ((some FieldType.int))) rm_X5_barsOf [.ref o, .int a1, .int a2] G (hg_Pv G (.int (sq_barsOf a1 a2 A))) := by
  have hw := hW.w; have w0 := hw.b0; have w1 := hw.b1; have w2 := hw.b2; have w3 := hw.b3; have w36 := hW.b36; have w43 := hW.b43
  refine hg_M.of htr (by decide) [some (.ref o), some (.int a1), some (.int a2), none] rfl (Nat.le_of_ble_eq_true rfl) ?_
  intro p e s m args below meth c X hr hnm htab
  have X : hg_X p l s m args meth c D lo "TaxOnLooksModel" cX5_barsOf 4 := X
  refine hr_aload0 (q := 1) X dX5_barsOf_0 rfl ?_
  refine hr_iload1 (q := 2) X dX5_barsOf_1 rfl ?_
  refine hr_callP (q := 5) (hc_V (n := 1) (ci := 5) (As := [.int a1]) X dX5_barsOf_2 rfl (tk_wanted X.tr hR hA hW (a1 := a1)) q1615 cv_X5_wanted ⟨Nat.le_of_ble_eq_true rfl, Nat.le_of_ble_eq_true rfl⟩ rfl (Nat.le_of_ble_eq_true rfl) hR.om rfl rfl) rfl ?_
  refine hr_istore3 (q := 6) X dX5_barsOf_5 rfl rfl (Nat.le_of_ble_eq_true rfl) ?_
  refine hr_iload3 (q := 7) X dX5_barsOf_6 rfl ?_
  refine hr_if_eq (q := 10) (tgt := 14) X dX5_barsOf_7 rfl (by decide) (fun c7 => ?_) (fun c7 => ?_)
  · refine hr_iload2 (q := 15) X dX5_barsOf_14 rfl ?_
    refine hr_if_ge (q := 18) (tgt := 23) X dX5_barsOf_15 rfl (by decide) (fun c15 => ?_) (fun c15 => ?_)
    · have hq := sq_wanted_0 hW c7
      have n23_1 := sp_inN (by decide) hq.1
      refine hr_L (L' := [some (.ref o), some (.int (nI (iN a1))), some (.int a2), some (.int (sq_wanted a1 A))]) (by rw [← n23_1.1]) ?_
      have hs := hW.b20 (j := iN a1) (by omega)
      refine hr_iload2 (q := 24) X dX5_barsOf_23 rfl ?_
      refine hr_aload0 (q := 25) X dX5_barsOf_24 rfl ?_
      refine hr_getR (v := am 20) (q := 28) X dX5_barsOf_25 rfl fr_q1402_5 rfl hR.om (hR.f rfl) ?_
      refine hr_iload1 (q := 29) X dX5_barsOf_28 rfl ?_
      refine hr_ialdN (v := (nI (A.1.1 20 (iN a1)))) (q := 30) X dX5_barsOf_29 rfl (hR.ka (n := 8) rfl rfl rfl) (Or.inl rfl) (by omega) (by decide) ((hR.ar rfl _).trans (hA.s (by decide) (by decide) (by omega))) ?_
      have b29 := hW.b20 (show iN a1 < 8 by omega)
      refine hr_icmp_le (q := 33) (tgt := 38) X dX5_barsOf_30 rfl (by decide) (fun c30 => ?_) (fun c30 => ?_)
      · refine hr_iload2 (q := 39) X dX5_barsOf_38 rfl ?_
        refine hr_bipush (v := (nI 40)) (q := 41) X dX5_barsOf_39 rfl rfl ?_
        refine hr_icmp_le (q := 44) (tgt := 49) X dX5_barsOf_41 rfl (by decide) (fun c41 => ?_) (fun c41 => ?_)
        · refine hr_iconst (v := (nI 0)) (q := 50) X dX5_barsOf_49 rfl rfl ?_
          exact hr_iret X hr dX5_barsOf_50 ⟨hz_i (by rw [sq_barsOf, if_pos c7, if_pos c15, if_pos c30, if_pos c41]), rfl⟩
        · refine hr_bipush (v := (-6)) (q := 46) X dX5_barsOf_44 rfl rfl ?_
          refine hr_goto (tgt := 50) X dX5_barsOf_46 (by decide) ?_
          exact hr_iret X hr dX5_barsOf_50 ⟨hz_i (by rw [sq_barsOf, if_pos c7, if_pos c15, if_pos c30, if_neg c41]), rfl⟩
      · refine hr_bipush (v := (-5)) (q := 35) X dX5_barsOf_33 rfl rfl ?_
        refine hr_goto (tgt := 50) X dX5_barsOf_35 (by decide) ?_
        exact hr_iret X hr dX5_barsOf_50 ⟨hz_i (by rw [sq_barsOf, if_pos c7, if_pos c15, if_neg c30]), rfl⟩
    · refine hr_bipush (v := (-4)) (q := 20) X dX5_barsOf_18 rfl rfl ?_
      refine hr_goto (tgt := 50) X dX5_barsOf_20 (by decide) ?_
      exact hr_iret X hr dX5_barsOf_50 ⟨hz_i (by rw [sq_barsOf, if_pos c7, if_neg c15]), rfl⟩
  · refine hr_iload3 (q := 11) X dX5_barsOf_10 rfl ?_
    refine hr_goto (tgt := 50) X dX5_barsOf_11 (by decide) ?_
    exact hr_iret X hr dX5_barsOf_50 ⟨hz_i (by rw [sq_barsOf, if_neg c7]), rfl⟩

theorem sq_barsOf_0 {x n : Int32} {A : ab_S} (hW : ab_wf A) (h : sq_barsOf x n A = 0) : (x = nI (iN x) ∧ iN x < 8) ∧ A.1.1 18 (iN x) = 1 ∧ (n = nI (iN n) ∧ iN n ≤ 40) ∧ iN n ≤ A.1.1 20 (iN x) ∧ A.1.1 20 (iN x) ≤ 160 := by
  unfold sq_barsOf at h
  split at h
  · rename_i h1
    have hq := sq_wanted_0 hW h1
    have hx := sp_inN (by decide) hq.1
    have hs := hW.b20 hx.2
    split at h
    · rename_i h2
      split at h
      · rename_i h3
        split at h
        · rename_i h4
          have hn := sp_leN (n := 40) (by decide) (Int32.not_lt.mpr h2) h4
          refine ⟨hx, hq.2, hn, ?_, hs⟩
          rw [hn.1] at h3
          exact (nI_leI (by omega) (by omega)).mp h3
        · exact absurd h (by decide)
      · exact absurd h (by decide)
    · exact absurd h (by decide)
  · rename_i h1
    exact absurd h h1
theorem sq_barsOf_b {x n : Int32} {A : ab_S} : -(sq_barsOf x n A) = nI (iN (-(sq_barsOf x n A))) ∧ iN (-(sq_barsOf x n A)) < 8 := by
  unfold sq_barsOf
  split
  · split
    · split
      · split
        · decide
        · decide
      · decide
    · decide
  · exact sq_wanted_b

def sq_judge (a1 : Int32) (a2 : Int32) (A : ab_S) : Int32 × ab_S :=
  if (sq_barsOf a1 a2 A) = 0 then ((oI (sq_bad A (iN a1) (iN a2) 41 0)), A)
  else (((sq_noTen (sq_barsOf a1 a2 A) A).1), (sq_noTen (sq_barsOf a1 a2 A) A).2)
theorem tk_judge {l : Launch} {D : hg_D} {lo : Nat} (htr : l.stackTraces = false) {G : hg_G} {o : Nat} {am : Nat → Nat} {u : tw_S} {A : ab_S} (hR : tw_R G o am u) (hA : tw_A u A) {a1 : Int32} {a2 : Int32} (hW : ab_wf A) :
    hg_M l D lo yX5_judge (ws_ yX5_judge cX5_judge 5 ((some FieldType.int))) rm_X5_judge [.ref o, .int a1, .int a2] G (tw_Po o am (sq_judge a1 a2 A)) := by
  have hw := hW.w; have w0 := hw.b0; have w1 := hw.b1; have w2 := hw.b2; have w3 := hw.b3; have w36 := hW.b36; have w43 := hW.b43
  refine hg_M.of htr (by decide) [some (.ref o), some (.int a1), some (.int a2), none, none] rfl (Nat.le_of_ble_eq_true rfl) ?_
  intro p e s m args below meth c X hr hnm htab
  have X : hg_X p l s m args meth c D lo "TaxOnLooksModel" cX5_judge 5 := X
  refine hr_aload0 (q := 1) X dX5_judge_0 rfl ?_
  refine hr_iload1 (q := 2) X dX5_judge_1 rfl ?_
  refine hr_iload2 (q := 3) X dX5_judge_2 rfl ?_
  refine hr_callP (q := 6) (hc_V (n := 2) (ci := 5) (As := [.int a1, .int a2]) X dX5_judge_3 rfl (tk_barsOf X.tr hR hA hW (a1 := a1) (a2 := a2)) q1784 cv_X5_barsOf ⟨Nat.le_of_ble_eq_true rfl, Nat.le_of_ble_eq_true rfl⟩ rfl (Nat.le_of_ble_eq_true rfl) hR.om rfl rfl) rfl ?_
  refine hr_istore3 (q := 7) X dX5_judge_6 rfl rfl (Nat.le_of_ble_eq_true rfl) ?_
  refine hr_iload3 (q := 8) X dX5_judge_7 rfl ?_
  refine hr_if_eq (q := 11) (tgt := 17) X dX5_judge_8 rfl (by decide) (fun c8 => ?_) (fun c8 => ?_)
  · have hq := sq_barsOf_0 hW c8
    have n17_1 := hq.1
    refine hr_L (L' := [some (.ref o), some (.int (nI (iN a1))), some (.int a2), some (.int (sq_barsOf a1 a2 A)), none]) (by rw [← n17_1.1]) ?_
    have n17_2 := hq.2.2.1
    refine hr_L (L' := [some (.ref o), some (.int (nI (iN a1))), some (.int (nI (iN a2))), some (.int (sq_barsOf a1 a2 A)), none]) (by rw [← n17_2.1]) ?_
    have hq4 := hq.2.2.2
    refine hr_aload0 (q := 18) X dX5_judge_17 rfl ?_
    refine hr_aload0 (q := 19) X dX5_judge_18 rfl ?_
    refine hr_getR (v := am 35) (q := 22) X dX5_judge_19 rfl fr_q1417_5 rfl hR.om (hR.f rfl) ?_
    refine hr_iconst (v := (nI 0)) (q := 23) X dX5_judge_22 rfl rfl ?_
    refine hr_st1 (v' := .int (bI false)) (congrArg Value.int rfl) ?_
    refine hr_call0 (q := 26) (hc_V (n := 2) (ci := 5) (As := [.ref (am 35), .int (bI false)]) X dX5_judge_23 rfl (tk_carriesAll35F X.tr hR) q1619 cv_X5_carriesAll ⟨Nat.le_of_ble_eq_true rfl, Nat.le_of_ble_eq_true rfl⟩ rfl (Nat.le_of_ble_eq_true rfl) hR.om rfl rfl) rfl (fun qx E G' hp => by cases hp.1) (fun r Gc1 hp _ => ?_)
    obtain ⟨hvc1, hRc1⟩ := hp
    cases hvc1
    have hA2 := tw_carF_A (q := 35) (by decide) hA
    have hK := tw_carF_K (q := 35) (by decide) hA.t
    refine hr_aload0 (q := 27) X dX5_judge_26 rfl ?_
    refine hr_iload1 (q := 28) X dX5_judge_27 rfl ?_
    refine hr_iload2 (q := 29) X dX5_judge_28 rfl ?_
    refine hr_call0 (q := 32) (hc_V (n := 2) (ci := 5) (As := [.int (nI (iN a1)), .int (nI (iN a2))]) X dX5_judge_29 rfl (tk_strolls X.tr hRc1 hA2 hW (a := iN a1) (N := iN a2) (by omega) (by omega) (by omega)) q1788 cv_X5_strolls ⟨Nat.le_of_ble_eq_true rfl, Nat.le_of_ble_eq_true rfl⟩ rfl (Nat.le_of_ble_eq_true rfl) hRc1.om rfl rfl) rfl (fun qx E G' hp => by cases hp.1) (fun r Gs hp _ => ?_)
    obtain ⟨hvs, us, hRs, hAs, hu40, hu35⟩ := hp
    cases hvs
    have hb99 := sq_bad_le (A := A) (s := iN a1) (n := iN a2) 41 0
    refine hr_istore4 (q := 34) X dX5_judge_32 rfl rfl (Nat.le_of_ble_eq_true rfl) ?_
    refine hr_aload0 (q := 35) X dX5_judge_34 rfl ?_
    refine hr_aload0 (q := 36) X dX5_judge_35 rfl ?_
    refine hr_getR (v := am 35) (q := 39) X dX5_judge_36 rfl fr_q1417_5 rfl hRs.om (hRs.f rfl) ?_
    refine hr_iconst (v := (nI 1)) (q := 40) X dX5_judge_39 rfl rfl ?_
    refine hr_st1 (v' := .int (bI true)) (congrArg Value.int rfl) ?_
    refine hr_call0 (q := 43) (hc_V (n := 2) (ci := 5) (As := [.ref (am 35), .int (bI true)]) X dX5_judge_40 rfl (tk_carriesAll35B X.tr hRs) q1619 cv_X5_carriesAll ⟨Nat.le_of_ble_eq_true rfl, Nat.le_of_ble_eq_true rfl⟩ rfl (Nat.le_of_ble_eq_true rfl) hRs.om rfl rfl) rfl (fun qx E G' hp => by cases hp.1) (fun r Gc3 hp _ => ?_)
    obtain ⟨hvc3, hRc3⟩ := hp
    cases hvc3
    have hA4 := tw_carB_A (q := 35) (t := A.1) (by decide) hAs (by rw [hu35]; exact hK)
    rw [sp_back_after] at hA4
    refine hr_iload4 (q := 45) X dX5_judge_43 rfl ?_
    exact hr_iret X hr dX5_judge_45 (tw_end (by rw [sq_judge, if_pos c8]) hRc3 hA4)
  · refine hr_aload0 (q := 12) X dX5_judge_11 rfl ?_
    refine hr_iload3 (q := 13) X dX5_judge_12 rfl ?_
    refine hr_callT (q := 16) (hc_V (n := 1) (ci := 5) (As := [.int (sq_barsOf a1 a2 A)]) X dX5_judge_13 rfl (tk_noTen X.tr hR hA (b := sq_barsOf a1 a2 A) sq_barsOf_b) q1715 cv_X5_noTen ⟨Nat.le_of_ble_eq_true rfl, Nat.le_of_ble_eq_true rfl⟩ rfl (Nat.le_of_ble_eq_true rfl) hR.om rfl rfl) rfl (fun G5 u5 hR5 hA5 => ?_)
    exact hr_iret X hr dX5_judge_16 (tw_end (by rw [sq_judge, if_neg c8]) hR5 hA5)

theorem ab_wf.str {A : ab_S} (s n : Nat) (hn : n ≤ 40) : ∀ f i, n + 1 ≤ i + f → i ≤ n → ab_wf (sq_str A s i).1 → ab_wf (sq_str A s (if sq_bad A s n f i = 99 then n else sq_bad A s n f i)).1
  | 0, i, hf, hi, _ => by omega
  | f + 1, i, hf, hi, h => by
    by_cases h0 : i < n
    · by_cases h2 : sp_strOk (sq_str A s i).1.1 (A.2.2.2 (160 * s + i)).toInt32 = true
      · rw [sq_bad_s h0 h2]
        exact ab_wf.str s n hn f (i + 1) (by omega) (by omega) (by rw [sq_str]; exact (h.strGo h2).1)
      · rw [sq_bad_b h0 (by simpa using h2), if_neg (by omega)]
        exact h
    · rw [sq_bad_e (by omega), if_pos rfl, show n = i by omega]
      exact h
theorem ab_wf.after {A : ab_S} (hW : ab_wf A) (s n : Nat) (hn : n ≤ 40) : ab_wf (sq_after A s n).1 := ab_wf.str s n hn 41 0 (by omega) (by omega) hW

def sq_behind (a1 : Int32) (a2 : Int32) (a3 : Int32) (A : ab_S) : Int32 × ab_S :=
  if (sq_barsOf a1 a2 A) = 0 then if a3 < 0 then (((sq_no (-5) A).1), (sq_no (-5) A).2)
    else if (nI 2) < a3 then (((sq_no (-5) A).1), (sq_no (-5) A).2)
    else if a3 = (nI 1) then if (A.1.1 0 0) = 0 then (((sq_no (-5) A).1), (sq_no (-5) A).2)
      else if a3 = 0 then if (sq_bad A (iN a1) (iN a2) 41 0) = 99 then ((nI (sq_after A (iN a1) (iN a2)).2), A)
        else (((sq_no (-6) A).1), (sq_no (-6) A).2)
      else if a3 = (nI 1) then if (sq_bad A (iN a1) (iN a2) 41 0) = 99 then ((nI (((sq_after A (iN a1) (iN a2)).1).1.1 14 0)), A)
        else (((sq_no (-6) A).1), (sq_no (-6) A).2)
      else if (sq_bad A (iN a1) (iN a2) 41 0) = 99 then ((nI (sp_empty (sq_after A (iN a1) (iN a2)).1.1)), A)
      else (((sq_no (-6) A).1), (sq_no (-6) A).2)
    else if a3 = 0 then if (sq_bad A (iN a1) (iN a2) 41 0) = 99 then ((nI (sq_after A (iN a1) (iN a2)).2), A)
      else (((sq_no (-6) A).1), (sq_no (-6) A).2)
    else if a3 = (nI 1) then if (sq_bad A (iN a1) (iN a2) 41 0) = 99 then ((nI (((sq_after A (iN a1) (iN a2)).1).1.1 14 0)), A)
      else (((sq_no (-6) A).1), (sq_no (-6) A).2)
    else if (sq_bad A (iN a1) (iN a2) 41 0) = 99 then ((nI (sp_empty (sq_after A (iN a1) (iN a2)).1.1)), A)
    else (((sq_no (-6) A).1), (sq_no (-6) A).2)
  else if (sq_barsOf a1 a2 A) = (-6) then if a3 < 0 then (((sq_no (-5) A).1), (sq_no (-5) A).2)
    else if (nI 2) < a3 then (((sq_no (-5) A).1), (sq_no (-5) A).2)
    else if a3 = (nI 1) then if (A.1.1 0 0) = 0 then (((sq_no (-5) A).1), (sq_no (-5) A).2)
      else (((sq_no (sq_barsOf a1 a2 A) A).1), (sq_no (sq_barsOf a1 a2 A) A).2)
    else (((sq_no (sq_barsOf a1 a2 A) A).1), (sq_no (sq_barsOf a1 a2 A) A).2)
  else (((sq_no (sq_barsOf a1 a2 A) A).1), (sq_no (sq_barsOf a1 a2 A) A).2)
theorem tk_behind {l : Launch} {D : hg_D} {lo : Nat} (htr : l.stackTraces = false) {G : hg_G} {o : Nat} {am : Nat → Nat} {u : tw_S} {A : ab_S} (hR : tw_R G o am u) (hA : tw_A u A) {a1 : Int32} {a2 : Int32} {a3 : Int32} (hW : ab_wf A) :
    hg_M l D lo yX5_behind (ws_ yX5_behind cX5_behind 7 ((some FieldType.int))) rm_X5_behind [.ref o, .int a1, .int a2, .int a3] G (tw_Po o am (sq_behind a1 a2 a3 A)) := by
  have hw := hW.w; have w0 := hw.b0; have w1 := hw.b1; have w2 := hw.b2; have w3 := hw.b3; have w36 := hW.b36; have w43 := hW.b43
  refine hg_M.of htr (by decide) [some (.ref o), some (.int a1), some (.int a2), some (.int a3), none, none, none] rfl (Nat.le_of_ble_eq_true rfl) ?_
  intro p e s m args below meth c X hr hnm htab
  have X : hg_X p l s m args meth c D lo "TaxOnLooksModel" cX5_behind 7 := X
  refine hr_aload0 (q := 1) X dX5_behind_0 rfl ?_
  refine hr_iload1 (q := 2) X dX5_behind_1 rfl ?_
  refine hr_iload2 (q := 3) X dX5_behind_2 rfl ?_
  refine hr_callP (q := 6) (hc_V (n := 2) (ci := 5) (As := [.int a1, .int a2]) X dX5_behind_3 rfl (tk_barsOf X.tr hR hA hW (a1 := a1) (a2 := a2)) q1784 cv_X5_barsOf ⟨Nat.le_of_ble_eq_true rfl, Nat.le_of_ble_eq_true rfl⟩ rfl (Nat.le_of_ble_eq_true rfl) hR.om rfl rfl) rfl ?_
  refine hr_istore4 (q := 8) X dX5_behind_6 rfl rfl (Nat.le_of_ble_eq_true rfl) ?_
  refine hr_iload4 (q := 10) X dX5_behind_8 rfl ?_
  refine hr_if_eq (q := 13) (tgt := 20) X dX5_behind_10 rfl (by decide) (fun c10 => ?_) (fun c10 => ?_)
  · refine hr_iload3 (q := 21) X dX5_behind_20 rfl ?_
    refine hr_if_lt (q := 24) (tgt := 41) X dX5_behind_21 rfl (by decide) (fun c21 => ?_) (fun c21 => ?_)
    · refine hr_bipush (v := (-5)) (q := 43) X dX5_behind_41 rfl rfl ?_
      refine hr_istore4 (q := 45) X dX5_behind_43 rfl rfl (Nat.le_of_ble_eq_true rfl) ?_
      refine hr_iload4 (q := 47) X dX5_behind_45 rfl ?_
      refine hr_if_eq (q := 50) (tgt := 57) X dX5_behind_47 rfl (by decide) (fun c47 => ?_) (fun c47 => ?_)
      · exact absurd c47 (by decide)
      · refine hr_aload0 (q := 51) X dX5_behind_50 rfl ?_
        refine hr_iload4 (q := 53) X dX5_behind_51 rfl ?_
        refine hr_callT (q := 56) (hc_V (n := 1) (ci := 5) (As := [.int (-5)]) X dX5_behind_53 rfl (tk_no X.tr hR hA (b := (-5)) (by decide)) q1523 cv_X5_no ⟨Nat.le_of_ble_eq_true rfl, Nat.le_of_ble_eq_true rfl⟩ rfl (Nat.le_of_ble_eq_true rfl) hR.om rfl rfl) rfl (fun G1 u1 hR1 hA1 => ?_)
        exact hr_iret X hr dX5_behind_56 (tw_end (by rw [sq_behind, if_pos c10, if_pos c21]) hR1 hA1)
    · refine hr_iload3 (q := 25) X dX5_behind_24 rfl ?_
      refine hr_iconst (v := (nI 2)) (q := 26) X dX5_behind_25 rfl rfl ?_
      refine hr_icmp_gt (q := 29) (tgt := 41) X dX5_behind_26 rfl (by decide) (fun c26 => ?_) (fun c26 => ?_)
      · refine hr_bipush (v := (-5)) (q := 43) X dX5_behind_41 rfl rfl ?_
        refine hr_istore4 (q := 45) X dX5_behind_43 rfl rfl (Nat.le_of_ble_eq_true rfl) ?_
        refine hr_iload4 (q := 47) X dX5_behind_45 rfl ?_
        refine hr_if_eq (q := 50) (tgt := 57) X dX5_behind_47 rfl (by decide) (fun c47 => ?_) (fun c47 => ?_)
        · exact absurd c47 (by decide)
        · refine hr_aload0 (q := 51) X dX5_behind_50 rfl ?_
          refine hr_iload4 (q := 53) X dX5_behind_51 rfl ?_
          refine hr_callT (q := 56) (hc_V (n := 1) (ci := 5) (As := [.int (-5)]) X dX5_behind_53 rfl (tk_no X.tr hR hA (b := (-5)) (by decide)) q1523 cv_X5_no ⟨Nat.le_of_ble_eq_true rfl, Nat.le_of_ble_eq_true rfl⟩ rfl (Nat.le_of_ble_eq_true rfl) hR.om rfl rfl) rfl (fun G2 u2 hR2 hA2 => ?_)
          exact hr_iret X hr dX5_behind_56 (tw_end (by rw [sq_behind, if_pos c10, if_neg c21, if_pos c26]) hR2 hA2)
      · refine hr_iload3 (q := 30) X dX5_behind_29 rfl ?_
        refine hr_iconst (v := (nI 1)) (q := 31) X dX5_behind_30 rfl rfl ?_
        refine hr_icmp_ne (q := 34) (tgt := 45) X dX5_behind_31 rfl (by decide) (fun c31 => ?_) (fun c31 => ?_)
        · refine hr_iload4 (q := 47) X dX5_behind_45 rfl ?_
          refine hr_if_eq (q := 50) (tgt := 57) X dX5_behind_47 rfl (by decide) (fun c47 => ?_) (fun c47 => ?_)
          · have hq := sq_barsOf_0 hW c10
            have n57_1 := hq.1
            refine hr_L (L' := [some (.ref o), some (.int (nI (iN a1))), some (.int a2), some (.int a3), some (.int (sq_barsOf a1 a2 A)), none, none]) (by rw [← n57_1.1]) ?_
            have n57_2 := hq.2.2.1
            refine hr_L (L' := [some (.ref o), some (.int (nI (iN a1))), some (.int (nI (iN a2))), some (.int a3), some (.int (sq_barsOf a1 a2 A)), none, none]) (by rw [← n57_2.1]) ?_
            have hq4 := hq.2.2.2
            refine hr_aload0 (q := 58) X dX5_behind_57 rfl ?_
            refine hr_aload0 (q := 59) X dX5_behind_58 rfl ?_
            refine hr_getR (v := am 35) (q := 62) X dX5_behind_59 rfl fr_q1417_5 rfl hR.om (hR.f rfl) ?_
            refine hr_iconst (v := (nI 0)) (q := 63) X dX5_behind_62 rfl rfl ?_
            refine hr_st1 (v' := .int (bI false)) (congrArg Value.int rfl) ?_
            refine hr_call0 (q := 66) (hc_V (n := 2) (ci := 5) (As := [.ref (am 35), .int (bI false)]) X dX5_behind_63 rfl (tk_carriesAll35F X.tr hR) q1619 cv_X5_carriesAll ⟨Nat.le_of_ble_eq_true rfl, Nat.le_of_ble_eq_true rfl⟩ rfl (Nat.le_of_ble_eq_true rfl) hR.om rfl rfl) rfl (fun qx E G' hp => by cases hp.1) (fun r Gc3 hp _ => ?_)
            obtain ⟨hvc3, hRc3⟩ := hp
            cases hvc3
            have hA4 := tw_carF_A (q := 35) (by decide) hA
            have hK := tw_carF_K (q := 35) (by decide) hA.t
            refine hr_aload0 (q := 67) X dX5_behind_66 rfl ?_
            refine hr_iload1 (q := 68) X dX5_behind_67 rfl ?_
            refine hr_iload2 (q := 69) X dX5_behind_68 rfl ?_
            refine hr_call0 (q := 72) (hc_V (n := 2) (ci := 5) (As := [.int (nI (iN a1)), .int (nI (iN a2))]) X dX5_behind_69 rfl (tk_strolls X.tr hRc3 hA4 hW (a := iN a1) (N := iN a2) (by omega) (by omega) (by omega)) q1788 cv_X5_strolls ⟨Nat.le_of_ble_eq_true rfl, Nat.le_of_ble_eq_true rfl⟩ rfl (Nat.le_of_ble_eq_true rfl) hRc3.om rfl rfl) rfl (fun qx E G' hp => by cases hp.1) (fun r Gs hp _ => ?_)
            obtain ⟨hvs, us, hRs, hAs, hu40, hu35⟩ := hp
            cases hvs
            have hb99 := sq_bad_le (A := A) (s := iN a1) (n := iN a2) 41 0
            have hWa := ab_wf.after hW (iN a1) (iN a2) (by omega)
            refine hr_istore5 (q := 74) X dX5_behind_72 rfl rfl (Nat.le_of_ble_eq_true rfl) ?_
            refine hr_iload3 (q := 75) X dX5_behind_74 rfl ?_
            refine hr_if_ne (q := 78) (tgt := 85) X dX5_behind_75 rfl (by decide) (fun c75 => ?_) (fun c75 => ?_)
            · refine hr_iload3 (q := 86) X dX5_behind_85 rfl ?_
              refine hr_iconst (v := (nI 1)) (q := 87) X dX5_behind_86 rfl rfl ?_
              refine hr_icmp_ne (q := 90) (tgt := 99) X dX5_behind_87 rfl (by decide) (fun c87 => ?_) (fun c87 => ?_)
              · refine hr_aload0 (q := 100) X dX5_behind_99 rfl ?_
                refine hr_callP (v := .int (nI (sp_empty (sq_after A (iN a1) (iN a2)).1.1))) (q := 103) (hc_V (n := 0) (ci := 5) (As := []) X dX5_behind_100 rfl (tk_empty X.tr hRs hAs.t hWa.w) q1800 cv_X5_empty ⟨Nat.le_of_ble_eq_true rfl, Nat.le_of_ble_eq_true rfl⟩ rfl (Nat.le_of_ble_eq_true rfl) hRs.om rfl rfl) rfl ?_
                refine hr_istore6 (q := 105) X dX5_behind_103 rfl rfl (Nat.le_of_ble_eq_true rfl) ?_
                refine hr_aload0 (q := 106) X dX5_behind_105 rfl ?_
                refine hr_aload0 (q := 107) X dX5_behind_106 rfl ?_
                refine hr_getR (v := am 35) (q := 110) X dX5_behind_107 rfl fr_q1417_5 rfl hRs.om (hRs.f rfl) ?_
                refine hr_iconst (v := (nI 1)) (q := 111) X dX5_behind_110 rfl rfl ?_
                refine hr_st1 (v' := .int (bI true)) (congrArg Value.int rfl) ?_
                refine hr_call0 (q := 114) (hc_V (n := 2) (ci := 5) (As := [.ref (am 35), .int (bI true)]) X dX5_behind_111 rfl (tk_carriesAll35B X.tr hRs) q1619 cv_X5_carriesAll ⟨Nat.le_of_ble_eq_true rfl, Nat.le_of_ble_eq_true rfl⟩ rfl (Nat.le_of_ble_eq_true rfl) hRs.om rfl rfl) rfl (fun qx E G' hp => by cases hp.1) (fun r Gc5 hp _ => ?_)
                obtain ⟨hvc5, hRc5⟩ := hp
                cases hvc5
                have hA6 := tw_carB_A (q := 35) (t := A.1) (by decide) hAs (by rw [hu35]; exact hK)
                rw [sp_back_after] at hA6
                refine hr_iload5 (q := 116) X dX5_behind_114 rfl ?_
                refine hr_iconst (v := (-1)) (q := 117) X dX5_behind_116 rfl rfl ?_
                refine hr_icmpO_ne (q := 120) (tgt := 125) X dX5_behind_117 rfl (by decide) (by omega) (fun c117 => ?_) (fun c117 => ?_)
                · refine hr_aload0 (q := 126) X dX5_behind_125 rfl ?_
                  refine hr_bipush (v := (-6)) (q := 128) X dX5_behind_126 rfl rfl ?_
                  refine hr_callT (q := 131) (hc_V (n := 1) (ci := 5) (As := [.int (-6)]) X dX5_behind_128 rfl (tk_no X.tr hRc5 hA6 (b := (-6)) (by decide)) q1523 cv_X5_no ⟨Nat.le_of_ble_eq_true rfl, Nat.le_of_ble_eq_true rfl⟩ rfl (Nat.le_of_ble_eq_true rfl) hRc5.om rfl rfl) rfl (fun G7 u7 hR7 hA7 => ?_)
                  exact hr_iret X hr dX5_behind_131 (tw_end (by rw [sq_behind, if_pos c10, if_neg c21, if_neg c26, if_neg c31, if_neg c75, if_neg c87, if_neg c117]) hR7 hA7)
                · refine hr_iload6 (q := 122) X dX5_behind_120 rfl ?_
                  refine hr_goto (tgt := 131) X dX5_behind_122 (by decide) ?_
                  exact hr_iret X hr dX5_behind_131 (tw_end (by rw [sq_behind, if_pos c10, if_neg c21, if_neg c26, if_neg c31, if_neg c75, if_neg c87, if_pos c117]) hRc5 hA6)
              · refine hr_aload0 (q := 91) X dX5_behind_90 rfl ?_
                refine hr_getR (v := am 14) (q := 94) X dX5_behind_91 rfl fr_q1396_5 rfl hRs.om (hRs.f rfl) ?_
                refine hr_iconst (v := (nI 0)) (q := 95) X dX5_behind_94 rfl rfl ?_
                refine hr_ialdN (v := (nI (((sq_after A (iN a1) (iN a2)).1).1.1 14 0))) (q := 96) X dX5_behind_95 rfl (hRs.ka (n := 7) rfl rfl rfl) (Or.inl rfl) (by omega) (by decide) ((hRs.ar rfl _).trans (hAs.p (by decide) (by decide) (by omega))) ?_
                refine hr_goto (tgt := 103) X dX5_behind_96 (by decide) ?_
                refine hr_istore6 (q := 105) X dX5_behind_103 rfl rfl (Nat.le_of_ble_eq_true rfl) ?_
                refine hr_aload0 (q := 106) X dX5_behind_105 rfl ?_
                refine hr_aload0 (q := 107) X dX5_behind_106 rfl ?_
                refine hr_getR (v := am 35) (q := 110) X dX5_behind_107 rfl fr_q1417_5 rfl hRs.om (hRs.f rfl) ?_
                refine hr_iconst (v := (nI 1)) (q := 111) X dX5_behind_110 rfl rfl ?_
                refine hr_st1 (v' := .int (bI true)) (congrArg Value.int rfl) ?_
                refine hr_call0 (q := 114) (hc_V (n := 2) (ci := 5) (As := [.ref (am 35), .int (bI true)]) X dX5_behind_111 rfl (tk_carriesAll35B X.tr hRs) q1619 cv_X5_carriesAll ⟨Nat.le_of_ble_eq_true rfl, Nat.le_of_ble_eq_true rfl⟩ rfl (Nat.le_of_ble_eq_true rfl) hRs.om rfl rfl) rfl (fun qx E G' hp => by cases hp.1) (fun r Gc8 hp _ => ?_)
                obtain ⟨hvc8, hRc8⟩ := hp
                cases hvc8
                have hA9 := tw_carB_A (q := 35) (t := A.1) (by decide) hAs (by rw [hu35]; exact hK)
                rw [sp_back_after] at hA9
                refine hr_iload5 (q := 116) X dX5_behind_114 rfl ?_
                refine hr_iconst (v := (-1)) (q := 117) X dX5_behind_116 rfl rfl ?_
                refine hr_icmpO_ne (q := 120) (tgt := 125) X dX5_behind_117 rfl (by decide) (by omega) (fun c117 => ?_) (fun c117 => ?_)
                · refine hr_aload0 (q := 126) X dX5_behind_125 rfl ?_
                  refine hr_bipush (v := (-6)) (q := 128) X dX5_behind_126 rfl rfl ?_
                  refine hr_callT (q := 131) (hc_V (n := 1) (ci := 5) (As := [.int (-6)]) X dX5_behind_128 rfl (tk_no X.tr hRc8 hA9 (b := (-6)) (by decide)) q1523 cv_X5_no ⟨Nat.le_of_ble_eq_true rfl, Nat.le_of_ble_eq_true rfl⟩ rfl (Nat.le_of_ble_eq_true rfl) hRc8.om rfl rfl) rfl (fun G10 u10 hR10 hA10 => ?_)
                  exact hr_iret X hr dX5_behind_131 (tw_end (by rw [sq_behind, if_pos c10, if_neg c21, if_neg c26, if_neg c31, if_neg c75, if_pos c87, if_neg c117]) hR10 hA10)
                · refine hr_iload6 (q := 122) X dX5_behind_120 rfl ?_
                  refine hr_goto (tgt := 131) X dX5_behind_122 (by decide) ?_
                  exact hr_iret X hr dX5_behind_131 (tw_end (by rw [sq_behind, if_pos c10, if_neg c21, if_neg c26, if_neg c31, if_neg c75, if_pos c87, if_pos c117]) hRc8 hA9)
            · refine hr_aload0 (q := 79) X dX5_behind_78 rfl ?_
              refine hr_getI (v := (nI (sq_after A (iN a1) (iN a2)).2)) (q := 82) X dX5_behind_79 rfl fr_q1422_5 rfl hRs.om ((hRs.sc 40).trans hu40) ?_
              refine hr_goto (tgt := 103) X dX5_behind_82 (by decide) ?_
              refine hr_istore6 (q := 105) X dX5_behind_103 rfl rfl (Nat.le_of_ble_eq_true rfl) ?_
              refine hr_aload0 (q := 106) X dX5_behind_105 rfl ?_
              refine hr_aload0 (q := 107) X dX5_behind_106 rfl ?_
              refine hr_getR (v := am 35) (q := 110) X dX5_behind_107 rfl fr_q1417_5 rfl hRs.om (hRs.f rfl) ?_
              refine hr_iconst (v := (nI 1)) (q := 111) X dX5_behind_110 rfl rfl ?_
              refine hr_st1 (v' := .int (bI true)) (congrArg Value.int rfl) ?_
              refine hr_call0 (q := 114) (hc_V (n := 2) (ci := 5) (As := [.ref (am 35), .int (bI true)]) X dX5_behind_111 rfl (tk_carriesAll35B X.tr hRs) q1619 cv_X5_carriesAll ⟨Nat.le_of_ble_eq_true rfl, Nat.le_of_ble_eq_true rfl⟩ rfl (Nat.le_of_ble_eq_true rfl) hRs.om rfl rfl) rfl (fun qx E G' hp => by cases hp.1) (fun r Gc11 hp _ => ?_)
              obtain ⟨hvc11, hRc11⟩ := hp
              cases hvc11
              have hA12 := tw_carB_A (q := 35) (t := A.1) (by decide) hAs (by rw [hu35]; exact hK)
              rw [sp_back_after] at hA12
              refine hr_iload5 (q := 116) X dX5_behind_114 rfl ?_
              refine hr_iconst (v := (-1)) (q := 117) X dX5_behind_116 rfl rfl ?_
              refine hr_icmpO_ne (q := 120) (tgt := 125) X dX5_behind_117 rfl (by decide) (by omega) (fun c117 => ?_) (fun c117 => ?_)
              · refine hr_aload0 (q := 126) X dX5_behind_125 rfl ?_
                refine hr_bipush (v := (-6)) (q := 128) X dX5_behind_126 rfl rfl ?_
                refine hr_callT (q := 131) (hc_V (n := 1) (ci := 5) (As := [.int (-6)]) X dX5_behind_128 rfl (tk_no X.tr hRc11 hA12 (b := (-6)) (by decide)) q1523 cv_X5_no ⟨Nat.le_of_ble_eq_true rfl, Nat.le_of_ble_eq_true rfl⟩ rfl (Nat.le_of_ble_eq_true rfl) hRc11.om rfl rfl) rfl (fun G13 u13 hR13 hA13 => ?_)
                exact hr_iret X hr dX5_behind_131 (tw_end (by rw [sq_behind, if_pos c10, if_neg c21, if_neg c26, if_neg c31, if_pos c75, if_neg c117]) hR13 hA13)
              · refine hr_iload6 (q := 122) X dX5_behind_120 rfl ?_
                refine hr_goto (tgt := 131) X dX5_behind_122 (by decide) ?_
                exact hr_iret X hr dX5_behind_131 (tw_end (by rw [sq_behind, if_pos c10, if_neg c21, if_neg c26, if_neg c31, if_pos c75, if_pos c117]) hRc11 hA12)
          · exact absurd c10 c47
        · refine hr_aload0 (q := 35) X dX5_behind_34 rfl ?_
          refine hr_getI (v := (nI (A.1.1 0 0))) (q := 38) X dX5_behind_35 rfl fr_q1382_5 rfl hR.om ((hR.sc 0).trans (hA.sc (by decide))) ?_
          refine hr_ifN_ne (q := 41) (tgt := 45) X dX5_behind_38 rfl (by decide) (by omega) (fun c38 => ?_) (fun c38 => ?_)
          · refine hr_iload4 (q := 47) X dX5_behind_45 rfl ?_
            refine hr_if_eq (q := 50) (tgt := 57) X dX5_behind_47 rfl (by decide) (fun c47 => ?_) (fun c47 => ?_)
            · have hq := sq_barsOf_0 hW c10
              have n57_1 := hq.1
              refine hr_L (L' := [some (.ref o), some (.int (nI (iN a1))), some (.int a2), some (.int a3), some (.int (sq_barsOf a1 a2 A)), none, none]) (by rw [← n57_1.1]) ?_
              have n57_2 := hq.2.2.1
              refine hr_L (L' := [some (.ref o), some (.int (nI (iN a1))), some (.int (nI (iN a2))), some (.int a3), some (.int (sq_barsOf a1 a2 A)), none, none]) (by rw [← n57_2.1]) ?_
              have hq4 := hq.2.2.2
              refine hr_aload0 (q := 58) X dX5_behind_57 rfl ?_
              refine hr_aload0 (q := 59) X dX5_behind_58 rfl ?_
              refine hr_getR (v := am 35) (q := 62) X dX5_behind_59 rfl fr_q1417_5 rfl hR.om (hR.f rfl) ?_
              refine hr_iconst (v := (nI 0)) (q := 63) X dX5_behind_62 rfl rfl ?_
              refine hr_st1 (v' := .int (bI false)) (congrArg Value.int rfl) ?_
              refine hr_call0 (q := 66) (hc_V (n := 2) (ci := 5) (As := [.ref (am 35), .int (bI false)]) X dX5_behind_63 rfl (tk_carriesAll35F X.tr hR) q1619 cv_X5_carriesAll ⟨Nat.le_of_ble_eq_true rfl, Nat.le_of_ble_eq_true rfl⟩ rfl (Nat.le_of_ble_eq_true rfl) hR.om rfl rfl) rfl (fun qx E G' hp => by cases hp.1) (fun r Gc14 hp _ => ?_)
              obtain ⟨hvc14, hRc14⟩ := hp
              cases hvc14
              have hA15 := tw_carF_A (q := 35) (by decide) hA
              have hK := tw_carF_K (q := 35) (by decide) hA.t
              refine hr_aload0 (q := 67) X dX5_behind_66 rfl ?_
              refine hr_iload1 (q := 68) X dX5_behind_67 rfl ?_
              refine hr_iload2 (q := 69) X dX5_behind_68 rfl ?_
              refine hr_call0 (q := 72) (hc_V (n := 2) (ci := 5) (As := [.int (nI (iN a1)), .int (nI (iN a2))]) X dX5_behind_69 rfl (tk_strolls X.tr hRc14 hA15 hW (a := iN a1) (N := iN a2) (by omega) (by omega) (by omega)) q1788 cv_X5_strolls ⟨Nat.le_of_ble_eq_true rfl, Nat.le_of_ble_eq_true rfl⟩ rfl (Nat.le_of_ble_eq_true rfl) hRc14.om rfl rfl) rfl (fun qx E G' hp => by cases hp.1) (fun r Gs hp _ => ?_)
              obtain ⟨hvs, us, hRs, hAs, hu40, hu35⟩ := hp
              cases hvs
              have hb99 := sq_bad_le (A := A) (s := iN a1) (n := iN a2) 41 0
              have hWa := ab_wf.after hW (iN a1) (iN a2) (by omega)
              refine hr_istore5 (q := 74) X dX5_behind_72 rfl rfl (Nat.le_of_ble_eq_true rfl) ?_
              refine hr_iload3 (q := 75) X dX5_behind_74 rfl ?_
              refine hr_if_ne (q := 78) (tgt := 85) X dX5_behind_75 rfl (by decide) (fun c75 => ?_) (fun c75 => ?_)
              · refine hr_iload3 (q := 86) X dX5_behind_85 rfl ?_
                refine hr_iconst (v := (nI 1)) (q := 87) X dX5_behind_86 rfl rfl ?_
                refine hr_icmp_ne (q := 90) (tgt := 99) X dX5_behind_87 rfl (by decide) (fun c87 => ?_) (fun c87 => ?_)
                · refine hr_aload0 (q := 100) X dX5_behind_99 rfl ?_
                  refine hr_callP (v := .int (nI (sp_empty (sq_after A (iN a1) (iN a2)).1.1))) (q := 103) (hc_V (n := 0) (ci := 5) (As := []) X dX5_behind_100 rfl (tk_empty X.tr hRs hAs.t hWa.w) q1800 cv_X5_empty ⟨Nat.le_of_ble_eq_true rfl, Nat.le_of_ble_eq_true rfl⟩ rfl (Nat.le_of_ble_eq_true rfl) hRs.om rfl rfl) rfl ?_
                  refine hr_istore6 (q := 105) X dX5_behind_103 rfl rfl (Nat.le_of_ble_eq_true rfl) ?_
                  refine hr_aload0 (q := 106) X dX5_behind_105 rfl ?_
                  refine hr_aload0 (q := 107) X dX5_behind_106 rfl ?_
                  refine hr_getR (v := am 35) (q := 110) X dX5_behind_107 rfl fr_q1417_5 rfl hRs.om (hRs.f rfl) ?_
                  refine hr_iconst (v := (nI 1)) (q := 111) X dX5_behind_110 rfl rfl ?_
                  refine hr_st1 (v' := .int (bI true)) (congrArg Value.int rfl) ?_
                  refine hr_call0 (q := 114) (hc_V (n := 2) (ci := 5) (As := [.ref (am 35), .int (bI true)]) X dX5_behind_111 rfl (tk_carriesAll35B X.tr hRs) q1619 cv_X5_carriesAll ⟨Nat.le_of_ble_eq_true rfl, Nat.le_of_ble_eq_true rfl⟩ rfl (Nat.le_of_ble_eq_true rfl) hRs.om rfl rfl) rfl (fun qx E G' hp => by cases hp.1) (fun r Gc16 hp _ => ?_)
                  obtain ⟨hvc16, hRc16⟩ := hp
                  cases hvc16
                  have hA17 := tw_carB_A (q := 35) (t := A.1) (by decide) hAs (by rw [hu35]; exact hK)
                  rw [sp_back_after] at hA17
                  refine hr_iload5 (q := 116) X dX5_behind_114 rfl ?_
                  refine hr_iconst (v := (-1)) (q := 117) X dX5_behind_116 rfl rfl ?_
                  refine hr_icmpO_ne (q := 120) (tgt := 125) X dX5_behind_117 rfl (by decide) (by omega) (fun c117 => ?_) (fun c117 => ?_)
                  · refine hr_aload0 (q := 126) X dX5_behind_125 rfl ?_
                    refine hr_bipush (v := (-6)) (q := 128) X dX5_behind_126 rfl rfl ?_
                    refine hr_callT (q := 131) (hc_V (n := 1) (ci := 5) (As := [.int (-6)]) X dX5_behind_128 rfl (tk_no X.tr hRc16 hA17 (b := (-6)) (by decide)) q1523 cv_X5_no ⟨Nat.le_of_ble_eq_true rfl, Nat.le_of_ble_eq_true rfl⟩ rfl (Nat.le_of_ble_eq_true rfl) hRc16.om rfl rfl) rfl (fun G18 u18 hR18 hA18 => ?_)
                    exact hr_iret X hr dX5_behind_131 (tw_end (by rw [sq_behind, if_pos c10, if_neg c21, if_neg c26, if_pos c31, if_neg (show ¬ ((A.1.1 0 0) = 0) by omega), if_neg c75, if_neg c87, if_neg c117]) hR18 hA18)
                  · refine hr_iload6 (q := 122) X dX5_behind_120 rfl ?_
                    refine hr_goto (tgt := 131) X dX5_behind_122 (by decide) ?_
                    exact hr_iret X hr dX5_behind_131 (tw_end (by rw [sq_behind, if_pos c10, if_neg c21, if_neg c26, if_pos c31, if_neg (show ¬ ((A.1.1 0 0) = 0) by omega), if_neg c75, if_neg c87, if_pos c117]) hRc16 hA17)
                · refine hr_aload0 (q := 91) X dX5_behind_90 rfl ?_
                  refine hr_getR (v := am 14) (q := 94) X dX5_behind_91 rfl fr_q1396_5 rfl hRs.om (hRs.f rfl) ?_
                  refine hr_iconst (v := (nI 0)) (q := 95) X dX5_behind_94 rfl rfl ?_
                  refine hr_ialdN (v := (nI (((sq_after A (iN a1) (iN a2)).1).1.1 14 0))) (q := 96) X dX5_behind_95 rfl (hRs.ka (n := 7) rfl rfl rfl) (Or.inl rfl) (by omega) (by decide) ((hRs.ar rfl _).trans (hAs.p (by decide) (by decide) (by omega))) ?_
                  refine hr_goto (tgt := 103) X dX5_behind_96 (by decide) ?_
                  refine hr_istore6 (q := 105) X dX5_behind_103 rfl rfl (Nat.le_of_ble_eq_true rfl) ?_
                  refine hr_aload0 (q := 106) X dX5_behind_105 rfl ?_
                  refine hr_aload0 (q := 107) X dX5_behind_106 rfl ?_
                  refine hr_getR (v := am 35) (q := 110) X dX5_behind_107 rfl fr_q1417_5 rfl hRs.om (hRs.f rfl) ?_
                  refine hr_iconst (v := (nI 1)) (q := 111) X dX5_behind_110 rfl rfl ?_
                  refine hr_st1 (v' := .int (bI true)) (congrArg Value.int rfl) ?_
                  refine hr_call0 (q := 114) (hc_V (n := 2) (ci := 5) (As := [.ref (am 35), .int (bI true)]) X dX5_behind_111 rfl (tk_carriesAll35B X.tr hRs) q1619 cv_X5_carriesAll ⟨Nat.le_of_ble_eq_true rfl, Nat.le_of_ble_eq_true rfl⟩ rfl (Nat.le_of_ble_eq_true rfl) hRs.om rfl rfl) rfl (fun qx E G' hp => by cases hp.1) (fun r Gc19 hp _ => ?_)
                  obtain ⟨hvc19, hRc19⟩ := hp
                  cases hvc19
                  have hA20 := tw_carB_A (q := 35) (t := A.1) (by decide) hAs (by rw [hu35]; exact hK)
                  rw [sp_back_after] at hA20
                  refine hr_iload5 (q := 116) X dX5_behind_114 rfl ?_
                  refine hr_iconst (v := (-1)) (q := 117) X dX5_behind_116 rfl rfl ?_
                  refine hr_icmpO_ne (q := 120) (tgt := 125) X dX5_behind_117 rfl (by decide) (by omega) (fun c117 => ?_) (fun c117 => ?_)
                  · refine hr_aload0 (q := 126) X dX5_behind_125 rfl ?_
                    refine hr_bipush (v := (-6)) (q := 128) X dX5_behind_126 rfl rfl ?_
                    refine hr_callT (q := 131) (hc_V (n := 1) (ci := 5) (As := [.int (-6)]) X dX5_behind_128 rfl (tk_no X.tr hRc19 hA20 (b := (-6)) (by decide)) q1523 cv_X5_no ⟨Nat.le_of_ble_eq_true rfl, Nat.le_of_ble_eq_true rfl⟩ rfl (Nat.le_of_ble_eq_true rfl) hRc19.om rfl rfl) rfl (fun G21 u21 hR21 hA21 => ?_)
                    exact hr_iret X hr dX5_behind_131 (tw_end (by rw [sq_behind, if_pos c10, if_neg c21, if_neg c26, if_pos c31, if_neg (show ¬ ((A.1.1 0 0) = 0) by omega), if_neg c75, if_pos c87, if_neg c117]) hR21 hA21)
                  · refine hr_iload6 (q := 122) X dX5_behind_120 rfl ?_
                    refine hr_goto (tgt := 131) X dX5_behind_122 (by decide) ?_
                    exact hr_iret X hr dX5_behind_131 (tw_end (by rw [sq_behind, if_pos c10, if_neg c21, if_neg c26, if_pos c31, if_neg (show ¬ ((A.1.1 0 0) = 0) by omega), if_neg c75, if_pos c87, if_pos c117]) hRc19 hA20)
              · refine hr_aload0 (q := 79) X dX5_behind_78 rfl ?_
                refine hr_getI (v := (nI (sq_after A (iN a1) (iN a2)).2)) (q := 82) X dX5_behind_79 rfl fr_q1422_5 rfl hRs.om ((hRs.sc 40).trans hu40) ?_
                refine hr_goto (tgt := 103) X dX5_behind_82 (by decide) ?_
                refine hr_istore6 (q := 105) X dX5_behind_103 rfl rfl (Nat.le_of_ble_eq_true rfl) ?_
                refine hr_aload0 (q := 106) X dX5_behind_105 rfl ?_
                refine hr_aload0 (q := 107) X dX5_behind_106 rfl ?_
                refine hr_getR (v := am 35) (q := 110) X dX5_behind_107 rfl fr_q1417_5 rfl hRs.om (hRs.f rfl) ?_
                refine hr_iconst (v := (nI 1)) (q := 111) X dX5_behind_110 rfl rfl ?_
                refine hr_st1 (v' := .int (bI true)) (congrArg Value.int rfl) ?_
                refine hr_call0 (q := 114) (hc_V (n := 2) (ci := 5) (As := [.ref (am 35), .int (bI true)]) X dX5_behind_111 rfl (tk_carriesAll35B X.tr hRs) q1619 cv_X5_carriesAll ⟨Nat.le_of_ble_eq_true rfl, Nat.le_of_ble_eq_true rfl⟩ rfl (Nat.le_of_ble_eq_true rfl) hRs.om rfl rfl) rfl (fun qx E G' hp => by cases hp.1) (fun r Gc22 hp _ => ?_)
                obtain ⟨hvc22, hRc22⟩ := hp
                cases hvc22
                have hA23 := tw_carB_A (q := 35) (t := A.1) (by decide) hAs (by rw [hu35]; exact hK)
                rw [sp_back_after] at hA23
                refine hr_iload5 (q := 116) X dX5_behind_114 rfl ?_
                refine hr_iconst (v := (-1)) (q := 117) X dX5_behind_116 rfl rfl ?_
                refine hr_icmpO_ne (q := 120) (tgt := 125) X dX5_behind_117 rfl (by decide) (by omega) (fun c117 => ?_) (fun c117 => ?_)
                · refine hr_aload0 (q := 126) X dX5_behind_125 rfl ?_
                  refine hr_bipush (v := (-6)) (q := 128) X dX5_behind_126 rfl rfl ?_
                  refine hr_callT (q := 131) (hc_V (n := 1) (ci := 5) (As := [.int (-6)]) X dX5_behind_128 rfl (tk_no X.tr hRc22 hA23 (b := (-6)) (by decide)) q1523 cv_X5_no ⟨Nat.le_of_ble_eq_true rfl, Nat.le_of_ble_eq_true rfl⟩ rfl (Nat.le_of_ble_eq_true rfl) hRc22.om rfl rfl) rfl (fun G24 u24 hR24 hA24 => ?_)
                  exact hr_iret X hr dX5_behind_131 (tw_end (by rw [sq_behind, if_pos c10, if_neg c21, if_neg c26, if_pos c31, if_neg (show ¬ ((A.1.1 0 0) = 0) by omega), if_pos c75, if_neg c117]) hR24 hA24)
                · refine hr_iload6 (q := 122) X dX5_behind_120 rfl ?_
                  refine hr_goto (tgt := 131) X dX5_behind_122 (by decide) ?_
                  exact hr_iret X hr dX5_behind_131 (tw_end (by rw [sq_behind, if_pos c10, if_neg c21, if_neg c26, if_pos c31, if_neg (show ¬ ((A.1.1 0 0) = 0) by omega), if_pos c75, if_pos c117]) hRc22 hA23)
            · exact absurd c10 c47
          · refine hr_bipush (v := (-5)) (q := 43) X dX5_behind_41 rfl rfl ?_
            refine hr_istore4 (q := 45) X dX5_behind_43 rfl rfl (Nat.le_of_ble_eq_true rfl) ?_
            refine hr_iload4 (q := 47) X dX5_behind_45 rfl ?_
            refine hr_if_eq (q := 50) (tgt := 57) X dX5_behind_47 rfl (by decide) (fun c47 => ?_) (fun c47 => ?_)
            · exact absurd c47 (by decide)
            · refine hr_aload0 (q := 51) X dX5_behind_50 rfl ?_
              refine hr_iload4 (q := 53) X dX5_behind_51 rfl ?_
              refine hr_callT (q := 56) (hc_V (n := 1) (ci := 5) (As := [.int (-5)]) X dX5_behind_53 rfl (tk_no X.tr hR hA (b := (-5)) (by decide)) q1523 cv_X5_no ⟨Nat.le_of_ble_eq_true rfl, Nat.le_of_ble_eq_true rfl⟩ rfl (Nat.le_of_ble_eq_true rfl) hR.om rfl rfl) rfl (fun G25 u25 hR25 hA25 => ?_)
              exact hr_iret X hr dX5_behind_56 (tw_end (by rw [sq_behind, if_pos c10, if_neg c21, if_neg c26, if_pos c31, if_pos (show (A.1.1 0 0) = 0 by omega)]) hR25 hA25)
  · refine hr_iload4 (q := 15) X dX5_behind_13 rfl ?_
    refine hr_bipush (v := (-6)) (q := 17) X dX5_behind_15 rfl rfl ?_
    refine hr_icmp_ne (q := 20) (tgt := 45) X dX5_behind_17 rfl (by decide) (fun c17 => ?_) (fun c17 => ?_)
    · refine hr_iload4 (q := 47) X dX5_behind_45 rfl ?_
      refine hr_if_eq (q := 50) (tgt := 57) X dX5_behind_47 rfl (by decide) (fun c47 => ?_) (fun c47 => ?_)
      · exact absurd c47 c10
      · refine hr_aload0 (q := 51) X dX5_behind_50 rfl ?_
        refine hr_iload4 (q := 53) X dX5_behind_51 rfl ?_
        refine hr_callT (q := 56) (hc_V (n := 1) (ci := 5) (As := [.int (sq_barsOf a1 a2 A)]) X dX5_behind_53 rfl (tk_no X.tr hR hA (b := sq_barsOf a1 a2 A) sq_barsOf_b) q1523 cv_X5_no ⟨Nat.le_of_ble_eq_true rfl, Nat.le_of_ble_eq_true rfl⟩ rfl (Nat.le_of_ble_eq_true rfl) hR.om rfl rfl) rfl (fun G26 u26 hR26 hA26 => ?_)
        exact hr_iret X hr dX5_behind_56 (tw_end (by rw [sq_behind, if_neg c10, if_neg c17]) hR26 hA26)
    · refine hr_iload3 (q := 21) X dX5_behind_20 rfl ?_
      refine hr_if_lt (q := 24) (tgt := 41) X dX5_behind_21 rfl (by decide) (fun c21 => ?_) (fun c21 => ?_)
      · refine hr_bipush (v := (-5)) (q := 43) X dX5_behind_41 rfl rfl ?_
        refine hr_istore4 (q := 45) X dX5_behind_43 rfl rfl (Nat.le_of_ble_eq_true rfl) ?_
        refine hr_iload4 (q := 47) X dX5_behind_45 rfl ?_
        refine hr_if_eq (q := 50) (tgt := 57) X dX5_behind_47 rfl (by decide) (fun c47 => ?_) (fun c47 => ?_)
        · exact absurd c47 (by decide)
        · refine hr_aload0 (q := 51) X dX5_behind_50 rfl ?_
          refine hr_iload4 (q := 53) X dX5_behind_51 rfl ?_
          refine hr_callT (q := 56) (hc_V (n := 1) (ci := 5) (As := [.int (-5)]) X dX5_behind_53 rfl (tk_no X.tr hR hA (b := (-5)) (by decide)) q1523 cv_X5_no ⟨Nat.le_of_ble_eq_true rfl, Nat.le_of_ble_eq_true rfl⟩ rfl (Nat.le_of_ble_eq_true rfl) hR.om rfl rfl) rfl (fun G27 u27 hR27 hA27 => ?_)
          exact hr_iret X hr dX5_behind_56 (tw_end (by rw [sq_behind, if_neg c10, if_pos c17, if_pos c21]) hR27 hA27)
      · refine hr_iload3 (q := 25) X dX5_behind_24 rfl ?_
        refine hr_iconst (v := (nI 2)) (q := 26) X dX5_behind_25 rfl rfl ?_
        refine hr_icmp_gt (q := 29) (tgt := 41) X dX5_behind_26 rfl (by decide) (fun c26 => ?_) (fun c26 => ?_)
        · refine hr_bipush (v := (-5)) (q := 43) X dX5_behind_41 rfl rfl ?_
          refine hr_istore4 (q := 45) X dX5_behind_43 rfl rfl (Nat.le_of_ble_eq_true rfl) ?_
          refine hr_iload4 (q := 47) X dX5_behind_45 rfl ?_
          refine hr_if_eq (q := 50) (tgt := 57) X dX5_behind_47 rfl (by decide) (fun c47 => ?_) (fun c47 => ?_)
          · exact absurd c47 (by decide)
          · refine hr_aload0 (q := 51) X dX5_behind_50 rfl ?_
            refine hr_iload4 (q := 53) X dX5_behind_51 rfl ?_
            refine hr_callT (q := 56) (hc_V (n := 1) (ci := 5) (As := [.int (-5)]) X dX5_behind_53 rfl (tk_no X.tr hR hA (b := (-5)) (by decide)) q1523 cv_X5_no ⟨Nat.le_of_ble_eq_true rfl, Nat.le_of_ble_eq_true rfl⟩ rfl (Nat.le_of_ble_eq_true rfl) hR.om rfl rfl) rfl (fun G28 u28 hR28 hA28 => ?_)
            exact hr_iret X hr dX5_behind_56 (tw_end (by rw [sq_behind, if_neg c10, if_pos c17, if_neg c21, if_pos c26]) hR28 hA28)
        · refine hr_iload3 (q := 30) X dX5_behind_29 rfl ?_
          refine hr_iconst (v := (nI 1)) (q := 31) X dX5_behind_30 rfl rfl ?_
          refine hr_icmp_ne (q := 34) (tgt := 45) X dX5_behind_31 rfl (by decide) (fun c31 => ?_) (fun c31 => ?_)
          · refine hr_iload4 (q := 47) X dX5_behind_45 rfl ?_
            refine hr_if_eq (q := 50) (tgt := 57) X dX5_behind_47 rfl (by decide) (fun c47 => ?_) (fun c47 => ?_)
            · exact absurd c47 c10
            · refine hr_aload0 (q := 51) X dX5_behind_50 rfl ?_
              refine hr_iload4 (q := 53) X dX5_behind_51 rfl ?_
              refine hr_callT (q := 56) (hc_V (n := 1) (ci := 5) (As := [.int (sq_barsOf a1 a2 A)]) X dX5_behind_53 rfl (tk_no X.tr hR hA (b := sq_barsOf a1 a2 A) sq_barsOf_b) q1523 cv_X5_no ⟨Nat.le_of_ble_eq_true rfl, Nat.le_of_ble_eq_true rfl⟩ rfl (Nat.le_of_ble_eq_true rfl) hR.om rfl rfl) rfl (fun G29 u29 hR29 hA29 => ?_)
              exact hr_iret X hr dX5_behind_56 (tw_end (by rw [sq_behind, if_neg c10, if_pos c17, if_neg c21, if_neg c26, if_neg c31]) hR29 hA29)
          · refine hr_aload0 (q := 35) X dX5_behind_34 rfl ?_
            refine hr_getI (v := (nI (A.1.1 0 0))) (q := 38) X dX5_behind_35 rfl fr_q1382_5 rfl hR.om ((hR.sc 0).trans (hA.sc (by decide))) ?_
            refine hr_ifN_ne (q := 41) (tgt := 45) X dX5_behind_38 rfl (by decide) (by omega) (fun c38 => ?_) (fun c38 => ?_)
            · refine hr_iload4 (q := 47) X dX5_behind_45 rfl ?_
              refine hr_if_eq (q := 50) (tgt := 57) X dX5_behind_47 rfl (by decide) (fun c47 => ?_) (fun c47 => ?_)
              · exact absurd c47 c10
              · refine hr_aload0 (q := 51) X dX5_behind_50 rfl ?_
                refine hr_iload4 (q := 53) X dX5_behind_51 rfl ?_
                refine hr_callT (q := 56) (hc_V (n := 1) (ci := 5) (As := [.int (sq_barsOf a1 a2 A)]) X dX5_behind_53 rfl (tk_no X.tr hR hA (b := sq_barsOf a1 a2 A) sq_barsOf_b) q1523 cv_X5_no ⟨Nat.le_of_ble_eq_true rfl, Nat.le_of_ble_eq_true rfl⟩ rfl (Nat.le_of_ble_eq_true rfl) hR.om rfl rfl) rfl (fun G30 u30 hR30 hA30 => ?_)
                exact hr_iret X hr dX5_behind_56 (tw_end (by rw [sq_behind, if_neg c10, if_pos c17, if_neg c21, if_neg c26, if_pos c31, if_neg (show ¬ ((A.1.1 0 0) = 0) by omega)]) hR30 hA30)
            · refine hr_bipush (v := (-5)) (q := 43) X dX5_behind_41 rfl rfl ?_
              refine hr_istore4 (q := 45) X dX5_behind_43 rfl rfl (Nat.le_of_ble_eq_true rfl) ?_
              refine hr_iload4 (q := 47) X dX5_behind_45 rfl ?_
              refine hr_if_eq (q := 50) (tgt := 57) X dX5_behind_47 rfl (by decide) (fun c47 => ?_) (fun c47 => ?_)
              · exact absurd c47 (by decide)
              · refine hr_aload0 (q := 51) X dX5_behind_50 rfl ?_
                refine hr_iload4 (q := 53) X dX5_behind_51 rfl ?_
                refine hr_callT (q := 56) (hc_V (n := 1) (ci := 5) (As := [.int (-5)]) X dX5_behind_53 rfl (tk_no X.tr hR hA (b := (-5)) (by decide)) q1523 cv_X5_no ⟨Nat.le_of_ble_eq_true rfl, Nat.le_of_ble_eq_true rfl⟩ rfl (Nat.le_of_ble_eq_true rfl) hR.om rfl rfl) rfl (fun G31 u31 hR31 hA31 => ?_)
                exact hr_iret X hr dX5_behind_56 (tw_end (by rw [sq_behind, if_neg c10, if_pos c17, if_neg c21, if_neg c26, if_pos c31, if_pos (show (A.1.1 0 0) = 0 by omega)]) hR31 hA31)

def sq_done (a1 : Int32) (a2 : Int32) (A : ab_S) : Int32 × ab_S :=
  if (sq_barsOf a1 a2 A) = 0 then if (sq_bad A (iN a1) (iN a2) 41 0) = 99 then (((((sq_after A (iN a1) (iN a2)).1).1.2 5) + (nI (sq_after A (iN a1) (iN a2)).2)), ab_i (ab_i ((sq_after A (iN a1) (iN a2)).1) 5 ((((sq_after A (iN a1) (iN a2)).1).1.2 5) + (nI (sq_after A (iN a1) (iN a2)).2))) 4 ((((sq_after A (iN a1) (iN a2)).1).1.2 4) + (nI 1)))
    else (((sq_no (-6) A).1), (sq_no (-6) A).2)
  else (((sq_no (sq_barsOf a1 a2 A) A).1), (sq_no (sq_barsOf a1 a2 A) A).2)
theorem tk_done {l : Launch} {D : hg_D} {lo : Nat} (htr : l.stackTraces = false) {G : hg_G} {o : Nat} {am : Nat → Nat} {u : tw_S} {A : ab_S} (hR : tw_R G o am u) (hA : tw_A u A) {a1 : Int32} {a2 : Int32} (hW : ab_wf A) :
    hg_M l D lo yX5_done (ws_ yX5_done cX5_done 4 ((some FieldType.int))) rm_X5_done [.ref o, .int a1, .int a2] G (tw_Po o am (sq_done a1 a2 A)) := by
  have hw := hW.w; have w0 := hw.b0; have w1 := hw.b1; have w2 := hw.b2; have w3 := hw.b3; have w36 := hW.b36; have w43 := hW.b43
  refine hg_M.of htr (by decide) [some (.ref o), some (.int a1), some (.int a2), none] rfl (Nat.le_of_ble_eq_true rfl) ?_
  intro p e s m args below meth c X hr hnm htab
  have X : hg_X p l s m args meth c D lo "TaxOnLooksModel" cX5_done 4 := X
  refine hr_aload0 (q := 1) X dX5_done_0 rfl ?_
  refine hr_iload1 (q := 2) X dX5_done_1 rfl ?_
  refine hr_iload2 (q := 3) X dX5_done_2 rfl ?_
  refine hr_callP (q := 6) (hc_V (n := 2) (ci := 5) (As := [.int a1, .int a2]) X dX5_done_3 rfl (tk_barsOf X.tr hR hA hW (a1 := a1) (a2 := a2)) q1784 cv_X5_barsOf ⟨Nat.le_of_ble_eq_true rfl, Nat.le_of_ble_eq_true rfl⟩ rfl (Nat.le_of_ble_eq_true rfl) hR.om rfl rfl) rfl ?_
  refine hr_istore3 (q := 7) X dX5_done_6 rfl rfl (Nat.le_of_ble_eq_true rfl) ?_
  refine hr_iload3 (q := 8) X dX5_done_7 rfl ?_
  refine hr_if_eq (q := 11) (tgt := 17) X dX5_done_8 rfl (by decide) (fun c8 => ?_) (fun c8 => ?_)
  · have hq := sq_barsOf_0 hW c8
    have n17_1 := hq.1
    refine hr_L (L' := [some (.ref o), some (.int (nI (iN a1))), some (.int a2), some (.int (sq_barsOf a1 a2 A))]) (by rw [← n17_1.1]) ?_
    have n17_2 := hq.2.2.1
    refine hr_L (L' := [some (.ref o), some (.int (nI (iN a1))), some (.int (nI (iN a2))), some (.int (sq_barsOf a1 a2 A))]) (by rw [← n17_2.1]) ?_
    have hq4 := hq.2.2.2
    refine hr_aload0 (q := 18) X dX5_done_17 rfl ?_
    refine hr_aload0 (q := 19) X dX5_done_18 rfl ?_
    refine hr_getR (v := am 35) (q := 22) X dX5_done_19 rfl fr_q1417_5 rfl hR.om (hR.f rfl) ?_
    refine hr_iconst (v := (nI 0)) (q := 23) X dX5_done_22 rfl rfl ?_
    refine hr_st1 (v' := .int (bI false)) (congrArg Value.int rfl) ?_
    refine hr_call0 (q := 26) (hc_V (n := 2) (ci := 5) (As := [.ref (am 35), .int (bI false)]) X dX5_done_23 rfl (tk_carriesAll35F X.tr hR) q1619 cv_X5_carriesAll ⟨Nat.le_of_ble_eq_true rfl, Nat.le_of_ble_eq_true rfl⟩ rfl (Nat.le_of_ble_eq_true rfl) hR.om rfl rfl) rfl (fun qx E G' hp => by cases hp.1) (fun r Gc1 hp _ => ?_)
    obtain ⟨hvc1, hRc1⟩ := hp
    cases hvc1
    have hA2 := tw_carF_A (q := 35) (by decide) hA
    have hK := tw_carF_K (q := 35) (by decide) hA.t
    refine hr_aload0 (q := 27) X dX5_done_26 rfl ?_
    refine hr_iload1 (q := 28) X dX5_done_27 rfl ?_
    refine hr_iload2 (q := 29) X dX5_done_28 rfl ?_
    refine hr_call0 (q := 32) (hc_V (n := 2) (ci := 5) (As := [.int (nI (iN a1)), .int (nI (iN a2))]) X dX5_done_29 rfl (tk_strolls X.tr hRc1 hA2 hW (a := iN a1) (N := iN a2) (by omega) (by omega) (by omega)) q1788 cv_X5_strolls ⟨Nat.le_of_ble_eq_true rfl, Nat.le_of_ble_eq_true rfl⟩ rfl (Nat.le_of_ble_eq_true rfl) hRc1.om rfl rfl) rfl (fun qx E G' hp => by cases hp.1) (fun r Gs hp _ => ?_)
    obtain ⟨hvs, us, hRs, hAs, hu40, hu35⟩ := hp
    cases hvs
    have hb99 := sq_bad_le (A := A) (s := iN a1) (n := iN a2) 41 0
    refine hr_iconst (v := (-1)) (q := 33) X dX5_done_32 rfl rfl ?_
    refine hr_icmpO_eq (q := 36) (tgt := 52) X dX5_done_33 rfl (by decide) (by omega) (fun c33 => ?_) (fun c33 => ?_)
    · refine hr_aload0 (q := 53) X dX5_done_52 rfl ?_
      refine hr_dup (q := 54) X dX5_done_53 rfl rfl ?_
      refine hr_getI (v := (((sq_after A (iN a1) (iN a2)).1).1.2 5)) (q := 57) X dX5_done_54 rfl fr_q1387_5 rfl hRs.om ((hRs.sc 5).trans (hAs.f5)) ?_
      refine hr_aload0 (q := 58) X dX5_done_57 rfl ?_
      refine hr_getI (v := (nI (sq_after A (iN a1) (iN a2)).2)) (q := 61) X dX5_done_58 rfl fr_q1422_5 rfl hRs.om ((hRs.sc 40).trans hu40) ?_
      refine hr_iadd (v := ((((sq_after A (iN a1) (iN a2)).1).1.2 5) + (nI (sq_after A (iN a1) (iN a2)).2))) (q := 62) X dX5_done_61 rfl rfl ?_
      refine hr_putI (q := 65) X dX5_done_62 rfl fw_q1387_5 (fun h => nomatch h) rfl rfl rfl hRs.om ?_
      have hR3 := hRs.setS 5 ((((sq_after A (iN a1) (iN a2)).1).1.2 5) + (nI (sq_after A (iN a1) (iN a2)).2))
      have hA3 := hAs.iS (k := 5) (by decide) ((((sq_after A (iN a1) (iN a2)).1).1.2 5) + (nI (sq_after A (iN a1) (iN a2)).2))
      refine hr_aload0 (q := 66) X dX5_done_65 rfl ?_
      refine hr_dup (q := 67) X dX5_done_66 rfl rfl ?_
      refine hr_getI (v := (((sq_after A (iN a1) (iN a2)).1).1.2 4)) (q := 70) X dX5_done_67 rfl fr_q1386_5 rfl hR3.om ((hR3.sc 4).trans (hA3.f4)) ?_
      refine hr_iconst (v := (nI 1)) (q := 71) X dX5_done_70 rfl rfl ?_
      refine hr_iadd (v := ((((sq_after A (iN a1) (iN a2)).1).1.2 4) + (nI 1))) (q := 72) X dX5_done_71 rfl rfl ?_
      refine hr_putI (q := 75) X dX5_done_72 rfl fw_q1386_5 (fun h => nomatch h) rfl rfl rfl hR3.om ?_
      have hR4 := hR3.setS 4 ((((sq_after A (iN a1) (iN a2)).1).1.2 4) + (nI 1))
      have hA4 := hA3.iS (k := 4) (by decide) ((((sq_after A (iN a1) (iN a2)).1).1.2 4) + (nI 1))
      refine hr_aload0 (q := 76) X dX5_done_75 rfl ?_
      refine hr_getI (v := ((((sq_after A (iN a1) (iN a2)).1).1.2 5) + (nI (sq_after A (iN a1) (iN a2)).2))) (q := 79) X dX5_done_76 rfl fr_q1387_5 rfl hR4.om ((hR4.sc 5).trans (hA4.f5)) ?_
      exact hr_iret X hr dX5_done_79 (tw_end (by rw [sq_done, if_pos c8, if_pos c33]) hR4 hA4)
    · refine hr_aload0 (q := 37) X dX5_done_36 rfl ?_
      refine hr_aload0 (q := 38) X dX5_done_37 rfl ?_
      refine hr_getR (v := am 35) (q := 41) X dX5_done_38 rfl fr_q1417_5 rfl hRs.om (hRs.f rfl) ?_
      refine hr_iconst (v := (nI 1)) (q := 42) X dX5_done_41 rfl rfl ?_
      refine hr_st1 (v' := .int (bI true)) (congrArg Value.int rfl) ?_
      refine hr_call0 (q := 45) (hc_V (n := 2) (ci := 5) (As := [.ref (am 35), .int (bI true)]) X dX5_done_42 rfl (tk_carriesAll35B X.tr hRs) q1619 cv_X5_carriesAll ⟨Nat.le_of_ble_eq_true rfl, Nat.le_of_ble_eq_true rfl⟩ rfl (Nat.le_of_ble_eq_true rfl) hRs.om rfl rfl) rfl (fun qx E G' hp => by cases hp.1) (fun r Gc5 hp _ => ?_)
      obtain ⟨hvc5, hRc5⟩ := hp
      cases hvc5
      have hA6 := tw_carB_A (q := 35) (t := A.1) (by decide) hAs (by rw [hu35]; exact hK)
      rw [sp_back_after] at hA6
      refine hr_aload0 (q := 46) X dX5_done_45 rfl ?_
      refine hr_bipush (v := (-6)) (q := 48) X dX5_done_46 rfl rfl ?_
      refine hr_callT (q := 51) (hc_V (n := 1) (ci := 5) (As := [.int (-6)]) X dX5_done_48 rfl (tk_no X.tr hRc5 hA6 (b := (-6)) (by decide)) q1523 cv_X5_no ⟨Nat.le_of_ble_eq_true rfl, Nat.le_of_ble_eq_true rfl⟩ rfl (Nat.le_of_ble_eq_true rfl) hRc5.om rfl rfl) rfl (fun G7 u7 hR7 hA7 => ?_)
      exact hr_iret X hr dX5_done_51 (tw_end (by rw [sq_done, if_pos c8, if_neg c33]) hR7 hA7)
  · refine hr_aload0 (q := 12) X dX5_done_11 rfl ?_
    refine hr_iload3 (q := 13) X dX5_done_12 rfl ?_
    refine hr_callT (q := 16) (hc_V (n := 1) (ci := 5) (As := [.int (sq_barsOf a1 a2 A)]) X dX5_done_13 rfl (tk_no X.tr hR hA (b := sq_barsOf a1 a2 A) sq_barsOf_b) q1523 cv_X5_no ⟨Nat.le_of_ble_eq_true rfl, Nat.le_of_ble_eq_true rfl⟩ rfl (Nat.le_of_ble_eq_true rfl) hR.om rfl rfl) rfl (fun G8 u8 hR8 hA8 => ?_)
    exact hr_iret X hr dX5_done_16 (tw_end (by rw [sq_done, if_neg c8]) hR8 hA8)

theorem tk_image {l : Launch} {D : hg_D} {lo : Nat} (htr : l.stackTraces = false) {G : hg_G} {o : Nat} {am : Nat → Nat} {u : tw_S} {A : ab_S} (hR : tw_R G o am u) (hA : tw_A u A) (hW : ab_wf A) :
    hg_M l D lo yX5_image (ws_ yX5_image cX5_image 1 ((some FieldType.int))) rm_X5_image [.ref o] G (tw_Po o am (nI (A.1.1 0 0), (sp_set A.1 43 0 1, A.1, A.2.2))) := by
  have hw := hW.w; have w0 := hw.b0; have w1 := hw.b1; have w2 := hw.b2; have w3 := hw.b3; have w36 := hW.b36; have w43 := hW.b43
  refine hg_M.of htr (by decide) [some (.ref o)] rfl (Nat.le_of_ble_eq_true rfl) ?_
  intro p e s m args below meth c X hr hnm htab
  have X : hg_X p l s m args meth c D lo "TaxOnLooksModel" cX5_image 1 := X
  refine hr_aload0 (q := 1) X dX5_image_0 rfl ?_
  refine hr_iconst (v := (nI 1)) (q := 2) X dX5_image_1 rfl rfl ?_
  refine hr_putI (q := 5) X dX5_image_2 rfl fw_q1425_5 (fun h => nomatch h) rfl (by decide) rfl hR.om ?_
  have hR1 := hR.setS 43 (nI 1)
  refine hr_aload0 (q := 6) X dX5_image_5 rfl ?_
  refine hr_aload0 (q := 7) X dX5_image_6 rfl ?_
  refine hr_getR (v := am 34) (q := 10) X dX5_image_7 rfl fr_q1416_5 rfl hR1.om (hR1.f rfl) ?_
  refine hr_iconst (v := (nI 0)) (q := 11) X dX5_image_10 rfl rfl ?_
  refine hr_st1 (v' := .int (bI false)) (congrArg Value.int rfl) ?_
  refine hr_call0 (q := 14) (hc_V (n := 2) (ci := 5) (As := [.ref (am 34), .int (bI false)]) X dX5_image_11 rfl (tk_carriesAll34F X.tr hR1) q1619 cv_X5_carriesAll ⟨Nat.le_of_ble_eq_true rfl, Nat.le_of_ble_eq_true rfl⟩ rfl (Nat.le_of_ble_eq_true rfl) hR1.om rfl rfl) rfl (fun qx E G' hp => by cases hp.1) (fun r Gc1 hp _ => ?_)
  obtain ⟨hvc1, hRc1⟩ := hp
  cases hvc1
  have hA1 := tw_image hA
  refine hr_aload0 (q := 15) X dX5_image_14 rfl ?_
  refine hr_getI (v := (nI (A.1.1 0 0))) (q := 18) X dX5_image_15 rfl fr_q1382_5 rfl hRc1.om ((hRc1.sc 0).trans (hA1.sc (by decide))) ?_
  exact hr_iret X hr dX5_image_18 (tw_end rfl hRc1 hA1)

def sq_restore  (A : ab_S) : Int32 × ab_S :=
  if (A.1.1 43 0) = 0 then (((sq_no (-6) A).1), (sq_no (-6) A).2)
  else ((nI ((sp_back A A.2.1).1.1 0 0)), ab_fl (sp_back A A.2.1) 8)
theorem tk_restore {l : Launch} {D : hg_D} {lo : Nat} (htr : l.stackTraces = false) {G : hg_G} {o : Nat} {am : Nat → Nat} {u : tw_S} {A : ab_S} (hR : tw_R G o am u) (hA : tw_A u A) (hW : ab_wf A) :
    hg_M l D lo yX5_restore (ws_ yX5_restore cX5_restore 2 ((some FieldType.int))) rm_X5_restore [.ref o] G (tw_Po o am (sq_restore  A)) := by
  have hw := hW.w; have w0 := hw.b0; have w1 := hw.b1; have w2 := hw.b2; have w3 := hw.b3; have w36 := hW.b36; have w43 := hW.b43
  refine hg_M.of htr (by decide) [some (.ref o), none] rfl (Nat.le_of_ble_eq_true rfl) ?_
  intro p e s m args below meth c X hr hnm htab
  have X : hg_X p l s m args meth c D lo "TaxOnLooksModel" cX5_restore 2 := X
  refine hr_aload0 (q := 1) X dX5_restore_0 rfl ?_
  refine hr_getI (v := (nI (A.1.1 43 0))) (q := 4) X dX5_restore_1 rfl fr_q1425_5 rfl hR.om ((hR.sc 43).trans (hA.f43)) ?_
  refine hr_ifN_ne (q := 7) (tgt := 14) X dX5_restore_4 rfl (by decide) (by omega) (fun c4 => ?_) (fun c4 => ?_)
  · refine hr_aload0 (q := 15) X dX5_restore_14 rfl ?_
    refine hr_aload0 (q := 16) X dX5_restore_15 rfl ?_
    refine hr_getR (v := am 34) (q := 19) X dX5_restore_16 rfl fr_q1416_5 rfl hR.om (hR.f rfl) ?_
    refine hr_iconst (v := (nI 1)) (q := 20) X dX5_restore_19 rfl rfl ?_
    refine hr_st1 (v' := .int (bI true)) (congrArg Value.int rfl) ?_
    refine hr_call0 (q := 23) (hc_V (n := 2) (ci := 5) (As := [.ref (am 34), .int (bI true)]) X dX5_restore_20 rfl (tk_carriesAll34B X.tr hR) q1619 cv_X5_carriesAll ⟨Nat.le_of_ble_eq_true rfl, Nat.le_of_ble_eq_true rfl⟩ rfl (Nat.le_of_ble_eq_true rfl) hR.om rfl rfl) rfl (fun qx E G' hp => by cases hp.1) (fun r Gc1 hp _ => ?_)
    obtain ⟨hvc1, hRc1⟩ := hp
    cases hvc1
    have hA1 := tw_carB_A (q := 34) (t := A.2.1) (by decide) hA (hA.kp (by omega))
    have hwb := hW.im (by omega); have wb0 := hwb.b0
    refine hr_iconst (v := (nI 0)) (q := 24) X dX5_restore_23 rfl rfl ?_
    refine hr_istore1 (q := 25) X dX5_restore_24 rfl rfl (Nat.le_of_ble_eq_true rfl) ?_
    have loop25 : ∀ (kr nr n : Nat) (G25 : hg_G) (u25 : tw_S) (i : Nat), tw_R G25 o am u25 → tw_A u25 (ab_fl (sp_back A A.2.1) i) → (i ≤ 8) → (9 ≤ i + n) → hg_W p l e rm_X5_restore s m args below meth c (hg_Q below D lo args s rm_X5_restore G (tw_Po o am (sq_restore  A))) D lo G.1 2 kr nr G25 25 [some (.ref o), some (.int (nI i))] [] := by
      intro kr nr n
      induction n with
      | zero =>
        intro G25 u25 i hR25 hA25 h25_0 h25_1
        omega
      | succ n ih25 =>
        intro G25 u25 i hR25 hA25 h25_0 h25_1
        refine hr_iload1 (q := 26) X dX5_restore_25 rfl ?_
        refine hr_bipush (v := (nI 8)) (q := 28) X dX5_restore_26 rfl rfl ?_
        refine hr_icmpN_ge (q := 31) (tgt := 67) X dX5_restore_28 rfl (by decide) (by omega) (by omega) (fun c28 => ?_) (fun c28 => ?_)
        · have z2 : i = 8 := by omega
          subst z2
          refine hr_aload0 (q := 68) X dX5_restore_67 rfl ?_
          refine hr_getI (v := (nI ((sp_back A A.2.1).1.1 0 0))) (q := 71) X dX5_restore_68 rfl fr_q1382_5 rfl hR25.om ((hR25.sc 0).trans (hA25.sc (by decide))) ?_
          exact hr_iret X hr dX5_restore_71 (tw_end (by rw [sq_restore, if_neg (show ¬ ((A.1.1 43 0) = 0) by omega)]) hR25 hA25)
        · refine hr_aload0 (q := 32) X dX5_restore_31 rfl ?_
          refine hr_getR (v := am 18) (q := 35) X dX5_restore_32 rfl fr_q1400_5 rfl hR25.om (hR25.f rfl) ?_
          refine hr_iload1 (q := 36) X dX5_restore_35 rfl ?_
          refine hr_ialdN (v := (nI ((sp_back A A.2.1).1.1 18 i))) (q := 37) X dX5_restore_36 rfl (hR25.ka (n := 8) rfl rfl rfl) (Or.inl rfl) (by omega) (by decide) ((hR25.ar rfl _).trans ((hA25.s (by decide) (by decide) (by omega)).trans (congrArg nI ab_fl_i))) ?_
          have h18 := hW.b18 (j := i) (by omega); have e18 : (sp_back A A.2.1).1.1 18 i = A.1.1 18 i := sp_back_o (by decide)
          refine hr_iconst (v := (nI 2)) (q := 38) X dX5_restore_37 rfl rfl ?_
          refine hr_icmpN_ne (q := 41) (tgt := 61) X dX5_restore_38 rfl (by decide) (by omega) (by omega) (fun c38 => ?_) (fun c38 => ?_)
          · refine hr_iinc1 (v := (nI (i + 1))) (q := 64) X dX5_restore_61 rfl (nI_add _ _) rfl (Nat.le_of_ble_eq_true rfl) ?_
            refine hr_goto (tgt := 25) X dX5_restore_64 (by decide) ?_
            exact ih25 G25 u25 (i + 1) hR25 (by rw [← ab_fl_k (fun z => c38 z.1)]; exact hA25) (by omega) (by omega)
          · refine hr_aload0 (q := 42) X dX5_restore_41 rfl ?_
            refine hr_getR (v := am 21) (q := 45) X dX5_restore_42 rfl fr_q1403_5 rfl hR25.om (hR25.f rfl) ?_
            refine hr_iload1 (q := 46) X dX5_restore_45 rfl ?_
            refine hr_ialdN (v := (oI ((sp_back A A.2.1).1.1 21 i))) (q := 47) X dX5_restore_46 rfl (hR25.ka (n := 8) rfl rfl rfl) (Or.inl rfl) (by omega) (by decide) ((hR25.ar rfl _).trans ((hA25.sh (by omega)).trans (congrArg oI (ab_fl_o (by decide))))) ?_
            have e21 : (sp_back A A.2.1).1.1 21 i = A.1.1 21 i := sp_back_o (by decide)
            have h21 := hW.b21 (j := i) (by omega) (by omega)
            have eP : (sp_back A A.2.1).1.1 0 0 = A.2.1.1 0 0 := sp_back_i (by decide)
            refine hr_st1 (v' := .int (nI ((sp_back A A.2.1).1.1 21 i))) (congrArg Value.int (oI_of (by omega))) ?_
            refine hr_aload0 (q := 48) X dX5_restore_47 rfl ?_
            refine hr_getI (v := (nI ((sp_back A A.2.1).1.1 0 0))) (q := 51) X dX5_restore_48 rfl fr_q1382_5 rfl hR25.om ((hR25.sc 0).trans (hA25.sc (by decide))) ?_
            refine hr_icmpN_lt (q := 54) (tgt := 61) X dX5_restore_51 rfl (by decide) (by omega) (by omega) (fun c51 => ?_) (fun c51 => ?_)
            · refine hr_iinc1 (v := (nI (i + 1))) (q := 64) X dX5_restore_61 rfl (nI_add _ _) rfl (Nat.le_of_ble_eq_true rfl) ?_
              refine hr_goto (tgt := 25) X dX5_restore_64 (by decide) ?_
              exact ih25 G25 u25 (i + 1) hR25 (by rw [← ab_fl_k (fun z => absurd z.2 (by omega))]; exact hA25) (by omega) (by omega)
            · refine hr_aload0 (q := 55) X dX5_restore_54 rfl ?_
              refine hr_getR (v := am 18) (q := 58) X dX5_restore_55 rfl fr_q1400_5 rfl hR25.om (hR25.f rfl) ?_
              refine hr_iload1 (q := 59) X dX5_restore_58 rfl ?_
              refine hr_iconst (v := (nI 0)) (q := 60) X dX5_restore_59 rfl rfl ?_
              refine hr_iastN (q := 61) X dX5_restore_60 rfl (hR25.ka (n := 8) rfl rfl rfl) (by omega) (by decide) ?_
              have hR3 := hR25.setA (k := 18) rfl i (nI 0)
              have hA3 := hA25.nA (k := 18) (j := i) (n := 0) (by decide) rfl
              refine hr_iinc1 (v := (nI (i + 1))) (q := 64) X dX5_restore_61 rfl (nI_add _ _) rfl (Nat.le_of_ble_eq_true rfl) ?_
              refine hr_goto (tgt := 25) X dX5_restore_64 (by decide) ?_
              exact ih25 (hs_I G25 (am 18) i (nI 0)) (tw_setA u25 18 i (nI 0)) (i + 1) hR3 (by rw [← ab_fl_s c38 (by omega)]; exact hA3) (by omega) (by omega)
    exact loop25 _ _ 9 Gc1 (tw_carB u 34) 0 hRc1 (by rw [ab_fl_0]; exact hA1) (by omega) (by omega)
  · refine hr_aload0 (q := 8) X dX5_restore_7 rfl ?_
    refine hr_bipush (v := (-6)) (q := 10) X dX5_restore_8 rfl rfl ?_
    refine hr_callT (q := 13) (hc_V (n := 1) (ci := 5) (As := [.int (-6)]) X dX5_restore_10 rfl (tk_no X.tr hR hA (b := (-6)) (by decide)) q1523 cv_X5_no ⟨Nat.le_of_ble_eq_true rfl, Nat.le_of_ble_eq_true rfl⟩ rfl (Nat.le_of_ble_eq_true rfl) hR.om rfl rfl) rfl (fun G4 u4 hR4 hA4 => ?_)
    exact hr_iret X hr dX5_restore_13 (tw_end (by rw [sq_restore, if_pos (show (A.1.1 43 0) = 0 by omega)]) hR4 hA4)

