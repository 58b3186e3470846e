theorem tk_carriesF {l : Launch} {D : hg_D} {lo : Nat} (htr : l.stackTraces = false) {G : hg_G} {o : Nat} {am : Nat → Nat} {u : tw_S} (hR : tw_R G o am u) {k q N M f : Nat} (hk : tw_isA k = true) (hk0 : tw_t k = 0) (hkN : tw_len k = N) (hq : tw_isA q = true) (hq0 : tw_t q = 0) (hqM : tw_len q = M) (hkq : k ≠ q) (hM : M < 2 ^ 31) (hf : f + N ≤ M) :
    hg_M l D lo yX5_carries (ws_ yX5_carries cX5_carries 7 ((some FieldType.int))) rm_X5_carries [.ref o, .ref (am k), .int (nI N), .ref (am q), .int (nI f), .int (bI false)] G (fun r G' => r = .inl (some (.int (nI (f + N)))) ∧ tw_R G' o am (tw_cpF u k q f N)) := by
  refine hg_M.of htr (by decide) [some (.ref o), some (.ref (am k)), some (.int (nI N)), some (.ref (am q)), some (.int (nI f)), some (.int (bI false)), none] rfl (Nat.le_of_ble_eq_true rfl) ?_
  intro p e s m args below meth c X hr hnm htab
  have X : hg_X p l s m args meth c D lo "TaxOnLooksModel" cX5_carries 7 := X
  refine hr_iconst (v := (nI 0)) (q := 1) X dX5_carries_0 rfl rfl ?_
  refine hr_istore6 (q := 3) X dX5_carries_1 rfl rfl (Nat.le_of_ble_eq_true rfl) ?_
  have loop3 : ∀ (kr nr n : Nat) (G3 : hg_G) (i : Nat), (tw_R G3 o am (tw_cpF u k q f i)) → (i ≤ N) → (N + 1 ≤ i + n) → hg_W p l e rm_X5_carries s m args below meth c (hg_Q below D lo args s rm_X5_carries G (fun r G' => r = .inl (some (.int (nI (f + N)))) ∧ tw_R G' o am (tw_cpF u k q f N))) D lo G.1 7 kr nr G3 3 [some (.ref o), some (.ref (am k)), some (.int (nI N)), some (.ref (am q)), some (.int (nI f)), some (.int (bI false)), some (.int (nI i))] [] := by
    intro kr nr n
    induction n with
    | zero =>
      intro G3 i h3_0 h3_1 h3_2
      omega
    | succ n ih =>
      intro G3 i h3_0 h3_1 h3_2
      refine hr_iload6 (q := 5) X dX5_carries_3 rfl ?_
      refine hr_iload2 (q := 6) X dX5_carries_5 rfl ?_
      refine hr_icmpN_ge (q := 9) (tgt := 45) X dX5_carries_6 rfl (by decide) (by omega) (by omega) (fun c6 => ?_) (fun c6 => ?_)
      · refine hr_iload4 (q := 47) X dX5_carries_45 rfl ?_
        refine hr_iload2 (q := 48) X dX5_carries_47 rfl ?_
        refine hr_iadd (v := (nI (f + N))) (q := 49) X dX5_carries_48 rfl (nI_add _ _) ?_
        exact hr_iret X hr dX5_carries_49 ⟨rfl, by rw [show N = i by omega]; exact h3_0⟩
      · refine hr_iload5 (q := 11) X dX5_carries_9 rfl ?_
        refine hr_ifB_eq (q := 14) (tgt := 28) X dX5_carries_11 rfl (by decide) (fun c11 => ?_) (fun c11 => ?_)
        · refine hr_aload3 (q := 29) X dX5_carries_28 rfl ?_
          refine hr_iload4 (q := 31) X dX5_carries_29 rfl ?_
          refine hr_iload6 (q := 33) X dX5_carries_31 rfl ?_
          refine hr_iadd (v := (nI (f + i))) (q := 34) X dX5_carries_33 rfl (nI_add _ _) ?_
          refine hr_aload1 (q := 35) X dX5_carries_34 rfl ?_
          refine hr_iload6 (q := 37) X dX5_carries_35 rfl ?_
          refine hr_ialdN (v := u.2.1 k i) (q := 38) X dX5_carries_37 rfl (h3_0.ka (n := N) hk hk0 hkN) (Or.inl rfl) (by omega) (by omega) ((h3_0.ar hk _).trans (if_neg hkq)) ?_
          refine hr_iastN (q := 39) X dX5_carries_38 rfl (h3_0.ka (n := M) hq hq0 hqM) (by omega) (by omega) ?_
          have hR2 := h3_0.setA hq (f + i) (u.2.1 k i)
          rw [tw_cpF_s] at hR2
          refine hr_iinc6 (v := (nI (i + 1))) (q := 42) X dX5_carries_39 rfl (nI_add _ _) rfl (Nat.le_of_ble_eq_true rfl) ?_
          refine hr_goto (tgt := 3) X dX5_carries_42 (by decide) ?_
          exact ih (hs_I G3 (am q) (f + i) (u.2.1 k i)) (i + 1) hR2 (by omega) (by omega)
        · exact absurd c11 (by decide)
  exact loop3 _ _ (N + 1) G 0 (by rw [tw_cpF_0]; exact hR) (by omega) (by omega)

theorem tk_carriesB {l : Launch} {D : hg_D} {lo : Nat} (htr : l.stackTraces = false) {G : hg_G} {o : Nat} {am : Nat → Nat} {u : tw_S} (hR : tw_R G o am u) {k q N M f : Nat} (hk : tw_isA k = true) (hk0 : tw_t k = 0) (hkN : tw_len k = N) (hq : tw_isA q = true) (hq0 : tw_t q = 0) (hqM : tw_len q = M) (hkq : k ≠ q) (hM : M < 2 ^ 31) (hf : f + N ≤ M) :
    hg_M l D lo yX5_carries (ws_ yX5_carries cX5_carries 7 ((some FieldType.int))) rm_X5_carries [.ref o, .ref (am k), .int (nI N), .ref (am q), .int (nI f), .int (bI true)] G (fun r G' => r = .inl (some (.int (nI (f + N)))) ∧ tw_R G' o am (tw_cpB u k q f N)) := by
  refine hg_M.of htr (by decide) [some (.ref o), some (.ref (am k)), some (.int (nI N)), some (.ref (am q)), some (.int (nI f)), some (.int (bI true)), none] rfl (Nat.le_of_ble_eq_true rfl) ?_
  intro p e s m args below meth c X hr hnm htab
  have X : hg_X p l s m args meth c D lo "TaxOnLooksModel" cX5_carries 7 := X
  refine hr_iconst (v := (nI 0)) (q := 1) X dX5_carries_0 rfl rfl ?_
  refine hr_istore6 (q := 3) X dX5_carries_1 rfl rfl (Nat.le_of_ble_eq_true rfl) ?_
  have loop3 : ∀ (kr nr n : Nat) (G3 : hg_G) (i : Nat), (tw_R G3 o am (tw_cpB u k q f i)) → (i ≤ N) → (N + 1 ≤ i + n) → hg_W p l e rm_X5_carries s m args below meth c (hg_Q below D lo args s rm_X5_carries G (fun r G' => r = .inl (some (.int (nI (f + N)))) ∧ tw_R G' o am (tw_cpB u k q f N))) D lo G.1 7 kr nr G3 3 [some (.ref o), some (.ref (am k)), some (.int (nI N)), some (.ref (am q)), some (.int (nI f)), some (.int (bI true)), some (.int (nI i))] [] := by
    intro kr nr n
    induction n with
    | zero =>
      intro G3 i h3_0 h3_1 h3_2
      omega
    | succ n ih =>
      intro G3 i h3_0 h3_1 h3_2
      refine hr_iload6 (q := 5) X dX5_carries_3 rfl ?_
      refine hr_iload2 (q := 6) X dX5_carries_5 rfl ?_
      refine hr_icmpN_ge (q := 9) (tgt := 45) X dX5_carries_6 rfl (by decide) (by omega) (by omega) (fun c6 => ?_) (fun c6 => ?_)
      · refine hr_iload4 (q := 47) X dX5_carries_45 rfl ?_
        refine hr_iload2 (q := 48) X dX5_carries_47 rfl ?_
        refine hr_iadd (v := (nI (f + N))) (q := 49) X dX5_carries_48 rfl (nI_add _ _) ?_
        exact hr_iret X hr dX5_carries_49 ⟨rfl, by rw [show N = i by omega]; exact h3_0⟩
      · refine hr_iload5 (q := 11) X dX5_carries_9 rfl ?_
        refine hr_ifB_eq (q := 14) (tgt := 28) X dX5_carries_11 rfl (by decide) (fun c11 => ?_) (fun c11 => ?_)
        · exact absurd c11 (by decide)
        · refine hr_aload1 (q := 15) X dX5_carries_14 rfl ?_
          refine hr_iload6 (q := 17) X dX5_carries_15 rfl ?_
          refine hr_aload3 (q := 18) X dX5_carries_17 rfl ?_
          refine hr_iload4 (q := 20) X dX5_carries_18 rfl ?_
          refine hr_iload6 (q := 22) X dX5_carries_20 rfl ?_
          refine hr_iadd (v := (nI (f + i))) (q := 23) X dX5_carries_22 rfl (nI_add _ _) ?_
          refine hr_ialdN (v := u.2.1 q (f + i)) (q := 24) X dX5_carries_23 rfl (h3_0.ka (n := M) hq hq0 hqM) (Or.inl rfl) (by omega) (by omega) ((h3_0.ar hq _).trans (if_neg (Ne.symm hkq))) ?_
          refine hr_iastN (q := 25) X dX5_carries_24 rfl (h3_0.ka (n := N) hk hk0 hkN) (by omega) (by omega) ?_
          have hR2 := h3_0.setA hk (i) (u.2.1 q (f + i))
          rw [tw_cpB_s] at hR2
          refine hr_goto (tgt := 39) X dX5_carries_25 (by decide) ?_
          refine hr_iinc6 (v := (nI (i + 1))) (q := 42) X dX5_carries_39 rfl (nI_add _ _) rfl (Nat.le_of_ble_eq_true rfl) ?_
          refine hr_goto (tgt := 3) X dX5_carries_42 (by decide) ?_
          exact ih (hs_I G3 (am k) (i) (u.2.1 q (f + i))) (i + 1) hR2 (by omega) (by omega)
  exact loop3 _ _ (N + 1) G 0 (by rw [tw_cpB_0]; exact hR) (by omega) (by omega)

