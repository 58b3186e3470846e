/-! the Reader's picture -/
def rd_O (G : hg_G) (o x y k E : Nat) (f : Nat → Int32) (tw : Nat) : Prop := G.1 o = some (0, 19) ∧ G.2.2.2 o 0 = some x ∧ G.2.2.2 o 1 = some tw ∧ rr_R G x y k E ∧ ∀ j, j < E → (rr_el G y k j).toInt32 = f j
section RD6
variable {G G' : hg_G} {o x y k E tw : Nat} {f : Nat → Int32}
theorem rd_O.nx (h : rd_O G o x y k E f tw) : x ≠ o ∧ y ≠ o := by
  refine ⟨fun e => ?_, fun e => ?_⟩
  · have := h.2.2.2.1.2.2.1
    rw [e, h.1] at this
    have h1 := (Prod.mk.inj (Option.some.inj this)).2
    have := h.2.2.2.1.1
    omega
  · have := h.2.2.2.1.2.2.2.2
    rw [e, h.1] at this
    have h1 := (Prod.mk.inj (Option.some.inj this)).1
    unfold rr_k at h1
    (repeat' split at h1) <;> omega
theorem rd_O.fr (h : rd_O G o x y k E f tw) (hf : hg_fr (fun a => a = o) G G') (h1 : G'.1 = G.1) (h2 : G'.2.2.2 = G.2.2.2) : rd_O G' o x y k E f tw := by
  obtain ⟨n1, n2⟩ := h.nx
  have s1 : hg_st G G' x := hf _ n1
  have s2 : hg_st G G' y := hf _ n2
  refine ⟨by rw [h1]; exact h.1, by rw [h2]; exact h.2.1, by rw [h2]; exact h.2.2.1, h.2.2.2.1.st s1 s2, fun j hj => ?_⟩
  rw [rr_el.st s2]
  exact h.2.2.2.2 j hj
theorem rd_O.I (h : rd_O G o x y k E f tw) {j : Nat} {v : Int32} : rd_O (hs_I G o j v) o x y k E f tw := h.fr (hg_fr.rf.I rfl) rfl rfl
theorem rd_O.nf (h : rd_O G o x y k E f tw) (hf : hg_fr (fun a => G.1 a = none) G G') : rd_O G' o x y k E f tw ∧ ∀ j, G'.2.1 o j = G.2.1 o j := by
  have so : hg_st G G' o := hf _ (fun e => nomatch (h.1.symm.trans e))
  have s1 : hg_st G G' x := hf _ (fun e => nomatch (h.2.2.2.1.2.2.1.symm.trans e))
  have s2 : hg_st G G' y := hf _ (fun e => nomatch (h.2.2.2.1.2.2.2.2.symm.trans e))
  refine ⟨⟨so.1.trans h.1, (so.2.2.2 0).trans h.2.1, (so.2.2.2 1).trans h.2.2.1, h.2.2.2.1.st s1 s2, fun j hj => ?_⟩, so.2.1⟩
  rw [rr_el.st s2]
  exact h.2.2.2.2 j hj
theorem js_S.fr {a : Nat} {l9 : List Nat} (h : js_S G a l9) (h19 : G.1 o = some (0, 19)) (hf : hg_fr (fun a => a = o) G G') : js_S G' a l9 := by
  obtain ⟨h1, h2, h3, h4, b, h5, h6, h7⟩ := h
  have s1 : hg_st G G' a := hf _ (fun e => by rw [e, h19] at h1; cases h1)
  have s2 : hg_st G G' b := hf _ (fun e => by rw [e, h19] at h6; cases h6)
  exact ⟨s1.1.trans h1, (s1.2.1 1).trans h2, h3, h4, b, (s1.2.2.2 0).trans h5, s2.1.trans h6, fun j hj => (s2.2.1 j).trans (h7 j hj)⟩
theorem hs_I_I {a j : Nat} {v w : Int32} : hs_I (hs_I G a j v) a j w = hs_I G a j w := by
  refine Prod.ext rfl (Prod.ext (funext fun b => funext fun i => ?_) rfl)
  simp only [hs_II]
  by_cases h : i = j
  · by_cases h2 : b = a
    · simp [h, h2]
    · simp [h, h2]
  · simp [h]
theorem hs_I_id {a j : Nat} {v : Int32} (h : G.2.1 a j = v) : hs_I G a j v = G := by
  refine Prod.ext rfl (Prod.ext (funext fun b => funext fun i => ?_) rfl)
  rw [hs_II]
  by_cases h1 : i = j
  · by_cases h2 : b = a
    · rw [if_pos h1, if_pos h2, h1, h2, h]
    · rw [if_pos h1, if_neg h2]
  · rw [if_neg h1]
theorem rd_is_t {p c : Nat} (h1 : p < E) (h : f p = nI c) : rd_is f E p c = true := decide_eq_true ⟨h1, h⟩
theorem rd_is_n {p c : Nat} (h : ¬ p < E ∨ ¬ f p = nI c) : rd_is f E p c = false := decide_eq_false (fun z => h.elim (fun g => g z.1) (fun g => g z.2))
theorem rd_dig_v {p : Nat} (h : rd_dig f E p = true) : p < E ∧ f p = nI (rd_d f p + 48) ∧ rd_d f p ≤ 9 := by
  have h := of_decide_eq_true h
  have g := sp_frN (x := f p) (a := 48) (b := 57) (by decide) (by decide) (decide_eq_true ⟨h.2.1, h.2.2⟩)
  refine ⟨h.1, ?_, ?_⟩
  · unfold rd_d
    rw [Nat.sub_add_cancel g.2.1]
    exact g.1
  · unfold rd_d
    omega
theorem lg_lt_I {x y : Int32} : lg_cmp x.toInt64 y.toInt64 < 0 ↔ x < y := by
  rw [lg_cmp_lt, Int64.lt_iff_toInt_lt, Int32.lt_iff_toInt_lt, Int32.toInt_toInt64, Int32.toInt_toInt64]
end RD6
theorem rx_ends {l : Launch} {D : hg_D} {lo : Nat} (htr : l.stackTraces = false) {G : hg_G} {o x y k E : Nat} {f : Nat → Int32} {tw : Nat} (hO : rd_O G o x y k E f tw) {p9 : Nat} (hp : G.2.1 o 2 = nI p9) (hpE : p9 ≤ E) :
    hg_M l D lo yX19_ends (ws_ yX19_ends cX19_ends 1 ((some FieldType.boolean))) rm_X19_ends [.ref o] G (hg_Pv G (.int (bI (decide (p9 = E))))) := by
  refine hg_M.of htr (by decide) [some (.ref o)] rfl (Nat.le_of_ble_eq_true rfl) ?_
  intro p e s m args below meth c X hr hnm htab
  have X : hg_X p l s m args meth c D lo "TaxOnLooks$Reader" cX19_ends 1 := X
  have hE9 := hO.2.2.2.1.2.1
  refine hr_aload0 (q := 1) X dX19_ends_0 rfl ?_
  refine hr_getI (v := (nI p9)) (q := 4) X dX19_ends_1 rfl fr_q829_19 rfl hO.1 hp ?_
  refine hr_aload0 (q := 5) X dX19_ends_4 rfl ?_
  refine hr_getR (v := x) (q := 8) X dX19_ends_5 rfl fr_q827_19 rfl hO.1 hO.2.1 ?_
  refine hr_callP (q := 11) (hcR_length hO.2.2.2.1 X dX19_ends_8 q856 ⟨Nat.le_of_ble_eq_true rfl, Nat.le_of_ble_eq_true rfl⟩ (Nat.le_of_ble_eq_true rfl)) rfl ?_
  refine hr_icmpN_ne (q := 14) (tgt := 18) X dX19_ends_11 rfl (by decide) (by omega) (by omega) (fun c11 => ?_) (fun c11 => ?_)
  · refine hr_iconst (v := (nI 0)) (q := 19) X dX19_ends_18 rfl rfl ?_
    exact hr_zret X hr rfl dX19_ends_19 ⟨hz_b0 (decide_eq_false (by omega)), rfl⟩
  · refine hr_iconst (v := (nI 1)) (q := 15) X dX19_ends_14 rfl rfl ?_
    refine hr_goto (tgt := 19) X dX19_ends_15 (by decide) ?_
    exact hr_zret X hr rfl dX19_ends_19 ⟨hz_b1 (decide_eq_true (by omega)), rfl⟩

theorem rx_sees {l : Launch} {D : hg_D} {lo : Nat} (htr : l.stackTraces = false) {G : hg_G} {o x y k E : Nat} {f : Nat → Int32} {tw : Nat} (hO : rd_O G o x y k E f tw) {p9 : Nat} (hp : G.2.1 o 2 = nI p9) (hpE : p9 ≤ E) {c9 : Nat} (hc9 : c9 < 128) :
    hg_M l D lo yX19_sees (ws_ yX19_sees cX19_sees 2 ((some FieldType.boolean))) rm_X19_sees [.ref o, .int (nI c9)] G (hg_Pv G (.int (bI (rd_is f E p9 c9)))) := by
  refine hg_M.of htr (by decide) [some (.ref o), some (.int (nI c9))] rfl (Nat.le_of_ble_eq_true rfl) ?_
  intro p e s m args below meth c X hr hnm htab
  have X : hg_X p l s m args meth c D lo "TaxOnLooks$Reader" cX19_sees 2 := X
  have hE9 := hO.2.2.2.1.2.1
  refine hr_aload0 (q := 1) X dX19_sees_0 rfl ?_
  refine hr_callP (q := 4) (hc_V (n := 0) (ci := 19) (As := []) X dX19_sees_1 rfl (rx_ends X.tr hO (p9 := p9) hp (by omega)) q852 cv_X19_ends ⟨Nat.le_of_ble_eq_true rfl, Nat.le_of_ble_eq_true rfl⟩ rfl (Nat.le_of_ble_eq_true rfl) hO.1 rfl rfl) rfl ?_
  refine hr_ifB_ne (q := 7) (tgt := 26) X dX19_sees_4 rfl (by decide) (fun c4 => ?_) (fun c4 => ?_)
  · have hpe := of_decide_eq_true c4
    refine hr_iconst (v := (nI 0)) (q := 27) X dX19_sees_26 rfl rfl ?_
    exact hr_zret X hr rfl dX19_sees_27 ⟨hz_b0 (rd_is_n (Or.inl (by omega))), rfl⟩
  · have hpe := of_decide_eq_false c4
    refine hr_aload0 (q := 8) X dX19_sees_7 rfl ?_
    refine hr_getR (v := x) (q := 11) X dX19_sees_8 rfl fr_q827_19 rfl hO.1 hO.2.1 ?_
    refine hr_aload0 (q := 12) X dX19_sees_11 rfl ?_
    refine hr_getI (v := (nI p9)) (q := 15) X dX19_sees_12 rfl fr_q829_19 rfl hO.1 hp ?_
    refine hr_callP (v := .int ((rr_el G y k (iN (nI p9))).toInt32)) (q := 18) (hcR_asInt hO.2.2.2.1 (i := nI p9) (vp_in_nI (by omega) (by omega)) X dX19_sees_15 q871 ⟨Nat.le_of_ble_eq_true rfl, Nat.le_of_ble_eq_true rfl⟩ (Nat.le_of_ble_eq_true rfl)) rfl ?_
    refine hr_st1 (v' := .int (f p9)) (congrArg Value.int ((congrArg (fun j => (rr_el G y k j).toInt32) (iN_nI (by omega))).trans (hO.2.2.2.2 _ (by omega)))) ?_
    refine hr_iload1 (q := 19) X dX19_sees_18 rfl ?_
    refine hr_icmp_ne (q := 22) (tgt := 26) X dX19_sees_19 rfl (by decide) (fun c19 => ?_) (fun c19 => ?_)
    · refine hr_iconst (v := (nI 0)) (q := 27) X dX19_sees_26 rfl rfl ?_
      exact hr_zret X hr rfl dX19_sees_27 ⟨hz_b0 (rd_is_n (Or.inr c19)), rfl⟩
    · refine hr_iconst (v := (nI 1)) (q := 23) X dX19_sees_22 rfl rfl ?_
      refine hr_goto (tgt := 27) X dX19_sees_23 (by decide) ?_
      exact hr_zret X hr rfl dX19_sees_27 ⟨hz_b1 (rd_is_t (by omega) c19), rfl⟩

theorem rx_digit {l : Launch} {D : hg_D} {lo : Nat} (htr : l.stackTraces = false) {G : hg_G} {o x y k E : Nat} {f : Nat → Int32} {tw : Nat} (hO : rd_O G o x y k E f tw) {p9 : Nat} (hp : G.2.1 o 2 = nI p9) (hpE : p9 ≤ E) :
    hg_M l D lo yX19_digit (ws_ yX19_digit cX19_digit 1 ((some FieldType.boolean))) rm_X19_digit [.ref o] G (hg_Pv G (.int (bI (rd_dig f E p9)))) := by
  refine hg_M.of htr (by decide) [some (.ref o)] rfl (Nat.le_of_ble_eq_true rfl) ?_
  intro p e s m args below meth c X hr hnm htab
  have X : hg_X p l s m args meth c D lo "TaxOnLooks$Reader" cX19_digit 1 := X
  have hE9 := hO.2.2.2.1.2.1
  refine hr_aload0 (q := 1) X dX19_digit_0 rfl ?_
  refine hr_callP (q := 4) (hc_V (n := 0) (ci := 19) (As := []) X dX19_digit_1 rfl (rx_ends X.tr hO (p9 := p9) hp (by omega)) q852 cv_X19_ends ⟨Nat.le_of_ble_eq_true rfl, Nat.le_of_ble_eq_true rfl⟩ rfl (Nat.le_of_ble_eq_true rfl) hO.1 rfl rfl) rfl ?_
  refine hr_ifB_ne (q := 7) (tgt := 43) X dX19_digit_4 rfl (by decide) (fun c4 => ?_) (fun c4 => ?_)
  · have hpe := of_decide_eq_true c4
    refine hr_iconst (v := (nI 0)) (q := 44) X dX19_digit_43 rfl rfl ?_
    exact hr_zret X hr rfl dX19_digit_44 ⟨hz_b0 (decide_eq_false (fun g => by omega)), rfl⟩
  · have hpe := of_decide_eq_false c4
    refine hr_aload0 (q := 8) X dX19_digit_7 rfl ?_
    refine hr_getR (v := x) (q := 11) X dX19_digit_8 rfl fr_q827_19 rfl hO.1 hO.2.1 ?_
    refine hr_aload0 (q := 12) X dX19_digit_11 rfl ?_
    refine hr_getI (v := (nI p9)) (q := 15) X dX19_digit_12 rfl fr_q829_19 rfl hO.1 hp ?_
    refine hr_callP (v := .int ((rr_el G y k (iN (nI p9))).toInt32)) (q := 18) (hcR_asInt hO.2.2.2.1 (i := nI p9) (vp_in_nI (by omega) (by omega)) X dX19_digit_15 q871 ⟨Nat.le_of_ble_eq_true rfl, Nat.le_of_ble_eq_true rfl⟩ (Nat.le_of_ble_eq_true rfl)) rfl ?_
    refine hr_st1 (v' := .int (f p9)) (congrArg Value.int ((congrArg (fun j => (rr_el G y k j).toInt32) (iN_nI (by omega))).trans (hO.2.2.2.2 _ (by omega)))) ?_
    refine hr_bipush (v := (nI 48)) (q := 20) X dX19_digit_18 rfl rfl ?_
    refine hr_icmp_lt (q := 23) (tgt := 43) X dX19_digit_20 rfl (by decide) (fun c20 => ?_) (fun c20 => ?_)
    · refine hr_iconst (v := (nI 0)) (q := 44) X dX19_digit_43 rfl rfl ?_
      exact hr_zret X hr rfl dX19_digit_44 ⟨hz_b0 (decide_eq_false (fun g => Int32.not_lt.mpr g.2.1 c20)), rfl⟩
    · refine hr_aload0 (q := 24) X dX19_digit_23 rfl ?_
      refine hr_getR (v := x) (q := 27) X dX19_digit_24 rfl fr_q827_19 rfl hO.1 hO.2.1 ?_
      refine hr_aload0 (q := 28) X dX19_digit_27 rfl ?_
      refine hr_getI (v := (nI p9)) (q := 31) X dX19_digit_28 rfl fr_q829_19 rfl hO.1 hp ?_
      refine hr_callP (v := .int ((rr_el G y k (iN (nI p9))).toInt32)) (q := 34) (hcR_asInt hO.2.2.2.1 (i := nI p9) (vp_in_nI (by omega) (by omega)) X dX19_digit_31 q871 ⟨Nat.le_of_ble_eq_true rfl, Nat.le_of_ble_eq_true rfl⟩ (Nat.le_of_ble_eq_true rfl)) rfl ?_
      refine hr_st1 (v' := .int (f p9)) (congrArg Value.int ((congrArg (fun j => (rr_el G y k j).toInt32) (iN_nI (by omega))).trans (hO.2.2.2.2 _ (by omega)))) ?_
      refine hr_bipush (v := (nI 57)) (q := 36) X dX19_digit_34 rfl rfl ?_
      refine hr_icmp_gt (q := 39) (tgt := 43) X dX19_digit_36 rfl (by decide) (fun c36 => ?_) (fun c36 => ?_)
      · refine hr_iconst (v := (nI 0)) (q := 44) X dX19_digit_43 rfl rfl ?_
        exact hr_zret X hr rfl dX19_digit_44 ⟨hz_b0 (decide_eq_false (fun g => Int32.not_lt.mpr g.2.2 c36)), rfl⟩
      · refine hr_iconst (v := (nI 1)) (q := 40) X dX19_digit_39 rfl rfl ?_
        refine hr_goto (tgt := 44) X dX19_digit_40 (by decide) ?_
        exact hr_zret X hr rfl dX19_digit_44 ⟨hz_b1 (decide_eq_true ⟨by omega, Int32.not_lt.mp c20, Int32.not_lt.mp c36⟩), rfl⟩

abbrev rk_X19_must : Room := { frames := 14, cells := 1, slots := 7, locals := 10383 }
theorem rx_must {l : Launch} {D : hg_D} {lo : Nat} (htr : l.stackTraces = false) {G : hg_G} {o x y k E : Nat} {f : Nat → Int32} {tw : Nat} (hO : rd_O G o x y k E f tw) {p9 : Nat} (hp : G.2.1 o 2 = nI p9) (hpE : p9 ≤ E) {c9 : Nat} (hc9 : c9 < 128) :
    hg_M l D lo yX19_must (ws_ yX19_must cX19_must 2 (none)) rk_X19_must [.ref o, .int (nI c9)] G (fun r G' => (rd_is f E p9 c9 = true ∧ r = .inl none ∧ G' = hs_I G o 2 (nI (p9 + 1))) ∨ (rd_is f E p9 c9 = false ∧ ∃ q, r = .inr (q, "TaxOnLooks$Faulty") ∧ tx_T 7 q (nI p9) G G')) := by
  refine hg_M.of htr (by decide) [some (.ref o), some (.int (nI c9))] rfl (Nat.le_of_ble_eq_true rfl) ?_
  intro p e s m args below meth c X hr hnm htab
  have X : hg_X p l s m args meth c D lo "TaxOnLooks$Reader" cX19_must 2 := X
  refine hr_room (kr' := 1) (nr' := 7) (Nat.le_of_ble_eq_true rfl) (Nat.le_of_ble_eq_true rfl) ?_
  have hE9 := hO.2.2.2.1.2.1
  refine hr_aload0 (q := 1) X dX19_must_0 rfl ?_
  refine hr_iload1 (q := 2) X dX19_must_1 rfl ?_
  refine hr_callP (q := 5) (hc_V (n := 1) (ci := 19) (As := [.int (nI c9)]) X dX19_must_2 rfl (rx_sees X.tr hO hp hpE hc9) q848 cv_X19_sees ⟨Nat.le_of_ble_eq_true rfl, Nat.le_of_ble_eq_true rfl⟩ rfl (Nat.le_of_ble_eq_true rfl) hO.1 rfl rfl) rfl ?_
  refine hr_ifB_ne (q := 8) (tgt := 20) X dX19_must_5 rfl (by decide) (fun c5 => ?_) (fun c5 => ?_)
  · refine hr_aload0 (q := 21) X dX19_must_20 rfl ?_
    refine hr_dup (q := 22) X dX19_must_21 rfl rfl ?_
    refine hr_getI (v := (nI p9)) (q := 25) X dX19_must_22 rfl fr_q829_19 rfl hO.1 hp ?_
    refine hr_iconst (v := (nI 1)) (q := 26) X dX19_must_25 rfl rfl ?_
    refine hr_iadd (v := (nI (p9 + 1))) (q := 27) X dX19_must_26 rfl (nI_add _ _) ?_
    refine hr_putI (q := 30) X dX19_must_27 rfl fw_q829_19 (fun h => nomatch h) rfl rfl rfl hO.1 ?_
    have Oo1 : rd_O (hs_I G o 2 (nI (p9 + 1))) o x y k E f tw := hO.I
    have ao1 : (hs_I G o 2 (nI (p9 + 1))).2.1 o 2 = (nI (p9 + 1)) := hs_Ieq
    exact hr_vret X hr dX19_must_30 (Or.inl ⟨c5, rfl, rfl⟩)
  · refine hr_new (kr := 0) (nr := 0) (q := 11) (ci := 7) (T := TX20) (N := 7) (ty := tyX20) X dX19_must_8 rfl q941 q942 q115 rfl in_X20 tyX20_ok (by decide) (fun x2 hlx2 hnx2 => ?_)
    obtain ⟨Om3, em3⟩ := hO.nf (G' := hs_N G x2 (0, 7)) (hg_fr.rf.N hnx2)
    refine hr_dup (q := 12) X dX19_must_11 rfl rfl ?_
    refine hr_aload0 (q := 13) X dX19_must_12 rfl ?_
    refine hr_getI (v := (nI p9)) (q := 16) X dX19_must_13 rfl fr_q829_19 rfl Om3.1 ((em3 2).trans hp) ?_
    refine hr_call0 (q := 19) (hc_I (n := 1) (As := [.int (nI p9)]) X dX19_must_16 rfl (tx_new7 X.tr (b := x2) (if_pos rfl) (w := (nI p9))) q950 cj_X20_init ⟨Nat.le_of_ble_eq_true rfl, Nat.le_of_ble_eq_true rfl⟩ rfl (Nat.le_of_ble_eq_true rfl)) rfl (fun qx E G' hp => by cases hp.1) (fun r Gw4 hp _ => ?_)
    obtain ⟨hvw4, hkw4, hww4, hbtw4⟩ := hp
    cases hvw4
    have htw4 : tx_T 7 x2 (nI p9) G Gw4 := ⟨hnx2, by rw [hkw4]; exact if_pos rfl, hww4, hg_bt.N.tr hbtw4⟩
    refine hr_athrow X dX19_must_19 (ci := 7) htw4.2.1 rfl rfl ?_
    exact hx_out X (fun z hz => absurd hz (htab z)) (Or.inr ⟨c5, x2, rfl, htw4⟩)

abbrev rk_X19_hasRoom : Room := { frames := 5, cells := 1, slots := 7, locals := 169 }
theorem rx_room {l : Launch} {D : hg_D} {lo : Nat} (htr : l.stackTraces = false) {G : hg_G} {o : Nat} {g9 : Bool} {w9 : Int32} :
    hg_M l D lo yX19_hasRoom (ws_ yX19_hasRoom cX19_hasRoom 3 (none)) rk_X19_hasRoom [.ref o, .int (bI g9), .int w9] G (fun r G' => (g9 = true ∧ r = .inl none ∧ G' = G) ∨ (g9 = false ∧ ∃ q, r = .inr (q, "TaxOnLooks$Faulty") ∧ tx_T 7 q w9 G G')) := by
  refine hg_M.of htr (by decide) [some (.ref o), some (.int (bI g9)), some (.int w9)] rfl (Nat.le_of_ble_eq_true rfl) ?_
  intro p e s m args below meth c X hr hnm htab
  have X : hg_X p l s m args meth c D lo "TaxOnLooks$Reader" cX19_hasRoom 3 := X
  refine hr_room (kr' := 1) (nr' := 7) (Nat.le_of_ble_eq_true rfl) (Nat.le_of_ble_eq_true rfl) ?_
  refine hr_iload1 (q := 1) X dX19_hasRoom_0 rfl ?_
  refine hr_ifB_ne (q := 4) (tgt := 13) X dX19_hasRoom_1 rfl (by decide) (fun c1 => ?_) (fun c1 => ?_)
  · exact hr_vret X hr dX19_hasRoom_13 (Or.inl ⟨c1, rfl, rfl⟩)
  · refine hr_new (kr := 0) (nr := 0) (q := 7) (ci := 7) (T := TX20) (N := 7) (ty := tyX20) X dX19_hasRoom_4 rfl q941 q942 q115 rfl in_X20 tyX20_ok (by decide) (fun x1 hlx1 hnx1 => ?_)
    refine hr_dup (q := 8) X dX19_hasRoom_7 rfl rfl ?_
    refine hr_iload2 (q := 9) X dX19_hasRoom_8 rfl ?_
    refine hr_call0 (q := 12) (hc_I (n := 1) (As := [.int w9]) X dX19_hasRoom_9 rfl (tx_new7 X.tr (b := x1) (if_pos rfl) (w := w9)) q950 cj_X20_init ⟨Nat.le_of_ble_eq_true rfl, Nat.le_of_ble_eq_true rfl⟩ rfl (Nat.le_of_ble_eq_true rfl)) rfl (fun qx E G' hp => by cases hp.1) (fun r Gw2 hp _ => ?_)
    obtain ⟨hvw2, hkw2, hww2, hbtw2⟩ := hp
    cases hvw2
    have htw2 : tx_T 7 x1 w9 G Gw2 := ⟨hnx1, by rw [hkw2]; exact if_pos rfl, hww2, hg_bt.N.tr hbtw2⟩
    refine hr_athrow X dX19_hasRoom_12 (ci := 7) htw2.2.1 rfl rfl ?_
    exact hx_out X (fun z hz => absurd hz (htab z)) (Or.inr ⟨c1, x1, rfl, htw2⟩)

theorem tc_in3 {l : Launch} {D : hg_D} {lo : Nat} (htr : l.stackTraces = false) {G : hg_G} {x b y : Int32} :
    hg_M l D lo yX0_in (ws_ yX0_in cX0_in 6 ((some FieldType.boolean))) rm_X0_in [.long x.toInt64, .long b.toInt64, .long y.toInt64] G (hg_Pv G (.int (bI (decide (b ≤ x ∧ x ≤ y))))) := by
  refine hg_M.of htr (by decide) [some (.long x.toInt64), none, some (.long b.toInt64), none, some (.long y.toInt64), none] rfl (Nat.le_of_ble_eq_true rfl) ?_
  intro p e s m args below meth c X hr hnm htab
  have X : hg_X p l s m args meth c D lo "TaxOnLooks" cX0_in 6 := X
  refine hr_lload0 (q := 1) X dX0_in_0 rfl ?_
  refine hr_lload2 (q := 2) X dX0_in_1 rfl ?_
  refine hr_lcmp (v := (lg_cmp x.toInt64 b.toInt64)) (q := 3) X dX0_in_2 rfl rfl ?_
  refine hr_if_lt (q := 6) (tgt := 17) X dX0_in_3 rfl (by decide) (fun c3 => ?_) (fun c3 => ?_)
  · refine hr_iconst (v := (nI 0)) (q := 18) X dX0_in_17 rfl rfl ?_
    exact hr_zret X hr rfl dX0_in_18 ⟨hz_b0 (decide_eq_false (fun g => Int32.not_lt.mpr g.1 (lg_lt_I.mp c3))), rfl⟩
  · refine hr_lload0 (q := 7) X dX0_in_6 rfl ?_
    refine hr_lload4 (q := 9) X dX0_in_7 rfl ?_
    refine hr_lcmp (v := (lg_cmp x.toInt64 y.toInt64)) (q := 10) X dX0_in_9 rfl rfl ?_
    refine hr_if_gt (q := 13) (tgt := 17) X dX0_in_10 rfl (by decide) (fun c10 => ?_) (fun c10 => ?_)
    · refine hr_iconst (v := (nI 0)) (q := 18) X dX0_in_17 rfl rfl ?_
      exact hr_zret X hr rfl dX0_in_18 ⟨hz_b0 (decide_eq_false (fun g => Int32.not_lt.mpr g.2 (lg_in_I.mp c10))), rfl⟩
    · refine hr_iconst (v := (nI 1)) (q := 14) X dX0_in_13 rfl rfl ?_
      refine hr_goto (tgt := 18) X dX0_in_14 (by decide) ?_
      exact hr_zret X hr rfl dX0_in_18 ⟨hz_b1 (decide_eq_true ⟨Int32.not_lt.mp (fun g => c3 (lg_lt_I.mpr g)), Int32.not_lt.mp (fun g => c10 (lg_in_I.mpr g))⟩), rfl⟩

