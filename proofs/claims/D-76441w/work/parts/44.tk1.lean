/-! Town.take -/
def tn_K (G : hg_G) (ta : Nat → Nat) : Prop :=
  (G.1 (ta 0) = some (0, 2) ∧ G.1 (ta 1) = some (6, 7) ∧ G.1 (ta 2) = some (1, 7) ∧ G.1 (ta 3) = some (1, 7) ∧ G.1 (ta 4) = some (1, 7)) ∧
  (G.2.2.2 (ta 0) 11 = some (ta 1) ∧ G.2.2.2 (ta 0) 12 = some (ta 2) ∧ G.2.2.2 (ta 0) 13 = some (ta 3) ∧ G.2.2.2 (ta 0) 14 = some (ta 4))
theorem tn_R.K {G : hg_G} {ta : Nat → Nat} {t : sp_S} (h : tn_R G ta t) : tn_K G ta := ⟨h.1, h.2.1⟩
theorem hs_CIne {G : hg_G} {a b sp dp n x j : Nat} (h : x ≠ b) : (hs_CI G b a sp dp n).2.1 x j = G.2.1 x j := if_neg h
theorem hs_CRne {G : hg_G} {a b sp dp n x j : Nat} (h : x ≠ b) : (hs_CR G b a sp dp n).2.2.2 x j = G.2.2.2 x j := if_neg h
theorem hs_CJne {G : hg_G} {a b sp dp n x j : Nat} (h : x ≠ b) : (hs_CJ G b a sp dp n).2.2.1 x j = G.2.2.1 x j := if_neg h
theorem hg_fr.CI {W : Nat → Prop} {G G1 : hg_G} (h : hg_fr W G G1) {a b sp dp n : Nat} (ha : W b) : hg_fr W G (hs_CI G1 b a sp dp n) := h.tr fun x hx => ⟨rfl, fun _ => hs_CIne (fun e => hx (e ▸ ha)), fun _ => rfl, fun _ => rfl⟩
theorem hg_fr.CJ {W : Nat → Prop} {G G1 : hg_G} (h : hg_fr W G G1) {a b sp dp n : Nat} (ha : W b) : hg_fr W G (hs_CJ G1 b a sp dp n) := h.tr fun x hx => ⟨rfl, fun _ => rfl, fun _ => hs_CJne (fun e => hx (e ▸ ha)), fun _ => rfl⟩
theorem hg_fr.CR {W : Nat → Prop} {G G1 : hg_G} (h : hg_fr W G G1) {a b sp dp n : Nat} (ha : W b) : hg_fr W G (hs_CR G1 b a sp dp n) := h.tr fun x hx => ⟨rfl, fun _ => rfl, fun _ => rfl, fun _ => hs_CRne (fun e => hx (e ▸ ha))⟩
theorem nI_narZ {n : Nat} (h : n ≤ 1) : narrow .boolean (.int (nI n)) = .int (nI n) := by
  have : n = 0 ∨ n = 1 := by omega
  rcases this with rfl | rfl <;> rfl
theorem nI_fitZ {n : Nat} (h : n ≤ 1) : fits .boolean (.int (nI n)) = true := by
  have : n = 0 ∨ n = 1 := by omega
  rcases this with rfl | rfl <;> rfl
theorem bI_fitZ (b : Bool) : fits .boolean (.int (bI b)) = true := by cases b <;> rfl
theorem hs_CI0 {G : hg_G} {a b n j : Nat} (h : j < n) : (hs_CI G b a 0 0 n).2.1 b j = G.2.1 a j := by
  show (if b = b then va_cpy (G.2.1 a) (G.2.1 b) 0 0 n j else _) = _
  rw [if_pos rfl, va_cpy, if_pos (by omega)]
  exact congrArg _ (by omega)
theorem hs_CR0 {G : hg_G} {a b n j : Nat} (h : j < n) : (hs_CR G b a 0 0 n).2.2.2 b j = G.2.2.2 a j := by
  show (if b = b then va_cpy (G.2.2.2 a) (G.2.2.2 b) 0 0 n j else _) = _
  rw [if_pos rfl, va_cpy, if_pos (by omega)]
  exact congrArg _ (by omega)
theorem hg_clP2 : ∀ k, k ≤ 6 → ∃ r, hg_cl[12 + k]? = some r ∧ (r.1 = "TaxOnLooks$Person" ∨ (r.1, "TaxOnLooks$Person") ∈ hg_cs) := fun k hk => match k, hk with
  | 0, _ => ⟨_, rfl, Or.inl rfl⟩
  | 1, _ => ⟨_, rfl, Or.inr (by decide)⟩
  | 2, _ => ⟨_, rfl, Or.inr (by decide)⟩
  | 3, _ => ⟨_, rfl, Or.inr (by decide)⟩
  | 4, _ => ⟨_, rfl, Or.inr (by decide)⟩
  | 5, _ => ⟨_, rfl, Or.inr (by decide)⟩
  | 6, _ => ⟨_, rfl, Or.inr (by decide)⟩
  | (k + 7), h => absurd h (by omega)
def tn_X (ta tb : Nat → Nat) : Prop := ∀ i j, i < 5 → j < 5 → ta i ≠ tb j
theorem tn_X.w {ta tb : Nat → Nat} (h : tn_X ta tb) {j : Nat} (hj : j < 5) : ¬ tn_W ta (tb j) := fun ⟨i, hi, e⟩ => h i j hi hj e.symm
/-- a town whose cells stay is the same town -/
theorem tn_R.fr {G G' : hg_G} {tb : Nat → Nat} {t : sp_S} {W : Nat → Prop} (h : tn_R G tb t) (hf : hg_fr W G G') (hw : ∀ j, j < 5 → ¬ W (tb j)) (hq : ∀ p q, p < t.1 0 0 → G.2.2.2 (tb 1) p = some q → ¬ W q) : tn_R G' tb t := by
  have f0 := hf (tb 0) (hw 0 (by decide))
  have f1 := hf (tb 1) (hw 1 (by decide))
  have f2 := hf (tb 2) (hw 2 (by decide))
  have f3 := hf (tb 3) (hw 3 (by decide))
  have f4 := hf (tb 4) (hw 4 (by decide))
  refine ⟨?_, ?_, ?_, ?_, ?_, fun p hp => ?_, fun p hp => ?_⟩
  · rw [f0.1, f1.1, f2.1, f3.1, f4.1]
    exact h.1
  · rw [f0.2.2.2, f0.2.2.2, f0.2.2.2, f0.2.2.2]
    exact h.2.1
  · rw [f0.2.1, f0.2.1, f0.2.1, f0.2.1, f0.2.1, f0.2.1, f0.2.1, f0.2.1]
    exact h.2.2.1
  · rw [f0.2.2.1, f0.2.2.1]
    exact h.2.2.2.1
  · rw [f0.2.1]
    exact h.sk
  · obtain ⟨q, q1, q2, q3, q4, q5⟩ := h.pe hp
    have fq := hf q (hq p q hp q1)
    exact ⟨q, by rw [f1.2.2.2]; exact q1, by rw [fq.1]; exact q2, by rw [fq.2.1]; exact q3, by rw [fq.2.1]; exact q4, by rw [fq.2.1]; exact q5⟩
  · rw [f2.2.1, f3.2.1, f4.2.1]
    exact h.2.2.2.2.2.2 p hp
theorem tn_take {G G1 : hg_G} {ta tb : Nat → Nat} {t : sp_S} (hS : tn_R G tb t) (hK : tn_K G ta) (hD : tn_D ta) (hX : tn_X ta tb) (fr : hg_fr (tn_W ta) G G1) (hk : G1.1 = G.1) (hr : G1.2.2.2 = G.2.2.2)
    (hs : G1.2.1 (ta 0) 0 = nI (t.1 0 0) ∧ G1.2.1 (ta 0) 1 = nI (t.1 1 0) ∧ G1.2.1 (ta 0) 2 = nI (t.1 2 0) ∧ G1.2.1 (ta 0) 3 = nI (t.1 3 0) ∧ G1.2.1 (ta 0) 4 = t.2 4 ∧ G1.2.1 (ta 0) 5 = t.2 5 ∧ G1.2.1 (ta 0) 6 = t.2 6 ∧ G1.2.1 (ta 0) 10 = oI 99) (hl : G1.2.2.1 (ta 0) 7 = lN (sp_pk (t.1 16) 36) ∧ G1.2.2.1 (ta 0) 8 = lN (sp_pk (t.1 17) 36)) (h9 : G1.2.1 (ta 0) 9 = G.2.1 (tb 0) 9) :
    let G2 := hs_CI (hs_CI (hs_CI (hs_CR G1 (ta 1) (tb 1) 0 0 (t.1 0 0)) (ta 2) (tb 2) 0 0 (t.1 0 0)) (ta 3) (tb 3) 0 0 (t.1 0 0)) (ta 4) (tb 4) 0 0 (t.1 0 0)
    tn_R G2 ta (sp_set t 36 0 99) ∧ G2.1 = G.1 ∧ hg_fr (tn_W ta) G G2 ∧ ∀ p, p < t.1 0 0 → G2.2.2.2 (ta 1) p = G.2.2.2 (tb 1) p := by
  intro G2
  have ne : ∀ i j, i < 5 → j < 5 → i ≠ j → ta i ≠ ta j := fun i j h1 h2 h3 e => h3 (hD i j h1 h2 e)
  have w : ∀ i, i < 5 → tn_W ta (ta i) := fun i hi => ⟨i, hi, rfl⟩
  have frF : hg_fr (tn_W ta) G G2 := (((fr.CR (w 1 (by decide))).CI (w 2 (by decide))).CI (w 3 (by decide))).CI (w 4 (by decide))
  have e : ∀ a, a ≠ 36 → (sp_set t 36 0 99).1 a = t.1 a := fun a ha => funext fun i => sp_set_o ha
  have x0 : ∀ j, G2.2.1 (ta 0) j = G1.2.1 (ta 0) j := fun j => by
    show (hs_CI (hs_CI (hs_CI (hs_CR G1 (ta 1) (tb 1) 0 0 (t.1 0 0)) (ta 2) (tb 2) 0 0 (t.1 0 0)) (ta 3) (tb 3) 0 0 (t.1 0 0)) (ta 4) (tb 4) 0 0 (t.1 0 0)).2.1 (ta 0) j = _
    rw [hs_CIne (ne 0 4 (by decide) (by decide) (by decide)), hs_CIne (ne 0 3 (by decide) (by decide) (by decide)), hs_CIne (ne 0 2 (by decide) (by decide) (by decide))]
    rfl
  have rne : ∀ x j, x ≠ ta 1 → G2.2.2.2 x j = G.2.2.2 x j := fun x j hx => by
    show (hs_CR G1 (ta 1) (tb 1) 0 0 (t.1 0 0)).2.2.2 x j = _
    rw [hs_CRne hx, hr]
  have r1 : ∀ p, p < t.1 0 0 → G2.2.2.2 (ta 1) p = G.2.2.2 (tb 1) p := fun p hp => by
    show (hs_CR G1 (ta 1) (tb 1) 0 0 (t.1 0 0)).2.2.2 (ta 1) p = _
    rw [hs_CR0 hp, hr]
  have b2 := fr (tb 2) (hX.w (by decide))
  have b3 := fr (tb 3) (hX.w (by decide))
  have b4 := fr (tb 4) (hX.w (by decide))
  have n10 := ne 0 1 (by decide) (by decide) (by decide)
  have q0 : ∀ q k, G.1 q = some (0, 12 + k) → ¬ tn_W ta q := fun q k hq ⟨i, hi, hqi⟩ => by
    obtain ⟨k0, k1, k2, k3, k4⟩ := hK.1
    have hi2 : i = 0 ∨ i = 1 ∨ i = 2 ∨ i = 3 ∨ i = 4 := by omega
    rw [hqi] at hq
    rcases hi2 with rfl | rfl | rfl | rfl | rfl
    · rw [k0] at hq
      have := (Prod.mk.inj (Option.some.inj hq)).2
      omega
    · rw [k1] at hq
      have := (Prod.mk.inj (Option.some.inj hq)).1
      omega
    · rw [k2] at hq
      have := (Prod.mk.inj (Option.some.inj hq)).1
      omega
    · rw [k3] at hq
      have := (Prod.mk.inj (Option.some.inj hq)).1
      omega
    · rw [k4] at hq
      have := (Prod.mk.inj (Option.some.inj hq)).1
      omega
  refine ⟨⟨?_, ?_, ?_, ?_, ?_, fun p hp => ?_, fun p hp => ?_⟩, hk, frF, r1⟩
  · show (G1.1 (ta 0) = _ ∧ G1.1 (ta 1) = _ ∧ G1.1 (ta 2) = _ ∧ G1.1 (ta 3) = _ ∧ G1.1 (ta 4) = _)
    rw [hk]
    exact hK.1
  · rw [rne _ _ n10, rne _ _ n10, rne _ _ n10, rne _ _ n10]
    exact hK.2
  · rw [x0, x0, x0, x0, x0, x0, x0, x0, e 0 (by decide), e 1 (by decide), e 2 (by decide), e 3 (by decide), sp_set_s]
    exact hs
  · rw [e 16 (by decide), e 17 (by decide)]
    exact hl
  · rw [x0, h9, e 0 (by decide), e 15 (by decide)]
    exact hS.sk
  · rw [e 0 (by decide)] at hp
    obtain ⟨q, q1, q2, q3, q4, q5⟩ := hS.pe hp
    have fq := frF q (q0 q _ q2)
    rw [e 9 (by decide), e 10 (by decide), e 12 (by decide)]
    exact ⟨q, (r1 p hp).trans q1, by rw [fq.1]; exact q2, by rw [fq.2.1]; exact q3, by rw [fq.2.1]; exact q4, by rw [fq.2.1]; exact q5⟩
  · rw [e 0 (by decide)] at hp
    obtain ⟨l1, l2, l3⟩ := hS.2.2.2.2.2.2 p hp
    rw [e 11 (by decide), e 13 (by decide), e 14 (by decide)]
    have y : ∀ i j, i < 5 → j < 5 → tb j ≠ ta i := fun i j h1 h2 => Ne.symm (hX i j h1 h2)
    refine ⟨?_, ?_, ?_⟩
    · show (hs_CI (hs_CI (hs_CI (hs_CR G1 (ta 1) (tb 1) 0 0 (t.1 0 0)) (ta 2) (tb 2) 0 0 (t.1 0 0)) (ta 3) (tb 3) 0 0 (t.1 0 0)) (ta 4) (tb 4) 0 0 (t.1 0 0)).2.1 (ta 2) p = _
      rw [hs_CIne (ne 2 4 (by decide) (by decide) (by decide)), hs_CIne (ne 2 3 (by decide) (by decide) (by decide)), hs_CI0 hp]
      exact (b2.2.1 p).trans l1
    · show (hs_CI (hs_CI (hs_CI (hs_CR G1 (ta 1) (tb 1) 0 0 (t.1 0 0)) (ta 2) (tb 2) 0 0 (t.1 0 0)) (ta 3) (tb 3) 0 0 (t.1 0 0)) (ta 4) (tb 4) 0 0 (t.1 0 0)).2.1 (ta 3) p = _
      rw [hs_CIne (ne 3 4 (by decide) (by decide) (by decide)), hs_CI0 hp, hs_CIne (y 2 3 (by decide) (by decide))]
      exact (b3.2.1 p).trans l2
    · show (hs_CI (hs_CI (hs_CI (hs_CR G1 (ta 1) (tb 1) 0 0 (t.1 0 0)) (ta 2) (tb 2) 0 0 (t.1 0 0)) (ta 3) (tb 3) 0 0 (t.1 0 0)) (ta 4) (tb 4) 0 0 (t.1 0 0)).2.1 (ta 4) p = _
      rw [hs_CI0 hp, hs_CIne (y 3 4 (by decide) (by decide)), hs_CIne (y 2 4 (by decide) (by decide))]
      exact (b4.2.1 p).trans l3
theorem tn_take_c {l : Launch} {D : hg_D} {lo : Nat} (htr : l.stackTraces = false) {G : hg_G} {ta tb : Nat → Nat} {t : sp_S} (hS : tn_R G tb t) (h7 : t.1 0 0 ≤ 7) (h3 : t.1 3 0 ≤ 1) (h9 : ∀ p, p < 7 → t.1 9 p ≤ 6) (hK : tn_K G ta) (hD : tn_D ta) (hX : tn_X ta tb) :
    hg_M l D lo yX2_take (ws_ yX2_take cX2_take 2 ((some (FieldType.object "TaxOnLooks$Town")))) rm_X2_take [.ref (ta 0), .ref (tb 0)] G (fun r G' => r = .inl (some (.ref (ta 0))) ∧ tn_R G' ta (sp_set t 36 0 99) ∧ G'.1 = G.1 ∧ hg_fr (tn_W ta) G G' ∧ ∀ p, p < t.1 0 0 → G'.2.2.2 (ta 1) p = G.2.2.2 (tb 1) p) := by
  refine hg_M.of htr (by decide) [some (.ref (ta 0)), some (.ref (tb 0))] rfl (Nat.le_of_ble_eq_true rfl) ?_
  intro p e s m args below meth c X hr hnm htab
  have X : hg_X p l s m args meth c D lo "TaxOnLooks$Town" cX2_take 2 := X
  obtain ⟨⟨ka0, ka1, ka2, ka3, ka4⟩, fa1, fa2, fa3, fa4⟩ := hK
  have hK : tn_K G ta := ⟨⟨ka0, ka1, ka2, ka3, ka4⟩, fa1, fa2, fa3, fa4⟩
  have fr0 : hg_fr (tn_W ta) G G := hg_fr.rf
  have nb : ∀ j, j < 5 → ¬ tn_W ta (tb j) := fun j hj => hX.w hj
  obtain ⟨K, hKl, hK9, hKb⟩ := hS.sk
  refine hr_aload0 (q := 1) X dX2_take_0 rfl ?_
  refine hr_aload1 (q := 2) X dX2_take_1 rfl ?_
  refine hr_getI (v := (nI (t.1 0 0))) (q := 5) X dX2_take_2 rfl fr_q152_2 rfl hS.ob (((fr0 (tb 0) (nb 0 (by decide))).2.1 0).trans hS.f0) ?_
  refine hr_putI (q := 8) X dX2_take_5 rfl fw_q152_2 (fun h => nomatch h) rfl rfl rfl ka0 ?_
  have fr1 : hg_fr (tn_W ta) G (hs_I G (ta 0) 0 (nI (t.1 0 0))) := fr0.I ⟨0, by decide, rfl⟩
  refine hr_aload0 (q := 9) X dX2_take_8 rfl ?_
  refine hr_aload1 (q := 10) X dX2_take_9 rfl ?_
  refine hr_getI (v := (nI (t.1 1 0))) (q := 13) X dX2_take_10 rfl fr_q155_2 rfl hS.ob (((fr1 (tb 0) (nb 0 (by decide))).2.1 1).trans hS.f1) ?_
  refine hr_putI (q := 16) X dX2_take_13 rfl fw_q155_2 (fun h => nomatch h) rfl rfl rfl ka0 ?_
  have fr2 : hg_fr (tn_W ta) G (hs_I (hs_I G (ta 0) 0 (nI (t.1 0 0))) (ta 0) 1 (nI (t.1 1 0))) := fr1.I ⟨0, by decide, rfl⟩
  refine hr_aload0 (q := 17) X dX2_take_16 rfl ?_
  refine hr_aload1 (q := 18) X dX2_take_17 rfl ?_
  refine hr_getI (v := (nI (t.1 2 0))) (q := 21) X dX2_take_18 rfl fr_q158_2 rfl hS.ob (((fr2 (tb 0) (nb 0 (by decide))).2.1 2).trans hS.f2) ?_
  refine hr_putI (q := 24) X dX2_take_21 rfl fw_q158_2 (fun h => nomatch h) rfl rfl rfl ka0 ?_
  have fr3 : hg_fr (tn_W ta) G (hs_I (hs_I (hs_I G (ta 0) 0 (nI (t.1 0 0))) (ta 0) 1 (nI (t.1 1 0))) (ta 0) 2 (nI (t.1 2 0))) := fr2.I ⟨0, by decide, rfl⟩
  refine hr_aload0 (q := 25) X dX2_take_24 rfl ?_
  refine hr_aload1 (q := 26) X dX2_take_25 rfl ?_
  refine hr_getI (v := (nI (t.1 3 0))) (q := 29) X dX2_take_26 rfl fr_q161_2 rfl hS.ob (((fr3 (tb 0) (nb 0 (by decide))).2.1 3).trans hS.f3) ?_
  refine hr_putI (q := 32) X dX2_take_29 rfl fw_q161_2 (fun h => nomatch h) rfl (nI_narZ (by omega)) (nI_fitZ (by omega)) ka0 ?_
  have fr4 : hg_fr (tn_W ta) G (hs_I (hs_I (hs_I (hs_I G (ta 0) 0 (nI (t.1 0 0))) (ta 0) 1 (nI (t.1 1 0))) (ta 0) 2 (nI (t.1 2 0))) (ta 0) 3 (nI (t.1 3 0))) := fr3.I ⟨0, by decide, rfl⟩
  refine hr_aload0 (q := 33) X dX2_take_32 rfl ?_
  refine hr_aload1 (q := 34) X dX2_take_33 rfl ?_
  refine hr_getI (v := (t.2 4)) (q := 37) X dX2_take_34 rfl fr_q163_2 rfl hS.ob (((fr4 (tb 0) (nb 0 (by decide))).2.1 4).trans hS.f4) ?_
  refine hr_putI (q := 40) X dX2_take_37 rfl fw_q163_2 (fun h => nomatch h) rfl rfl rfl ka0 ?_
  have fr5 : hg_fr (tn_W ta) G (hs_I (hs_I (hs_I (hs_I (hs_I G (ta 0) 0 (nI (t.1 0 0))) (ta 0) 1 (nI (t.1 1 0))) (ta 0) 2 (nI (t.1 2 0))) (ta 0) 3 (nI (t.1 3 0))) (ta 0) 4 (t.2 4)) := fr4.I ⟨0, by decide, rfl⟩
  refine hr_aload0 (q := 41) X dX2_take_40 rfl ?_
  refine hr_aload1 (q := 42) X dX2_take_41 rfl ?_
  refine hr_getI (v := (t.2 5)) (q := 45) X dX2_take_42 rfl fr_q165_2 rfl hS.ob (((fr5 (tb 0) (nb 0 (by decide))).2.1 5).trans hS.f5) ?_
  refine hr_putI (q := 48) X dX2_take_45 rfl fw_q165_2 (fun h => nomatch h) rfl rfl rfl ka0 ?_
  have fr6 : hg_fr (tn_W ta) G (hs_I (hs_I (hs_I (hs_I (hs_I (hs_I G (ta 0) 0 (nI (t.1 0 0))) (ta 0) 1 (nI (t.1 1 0))) (ta 0) 2 (nI (t.1 2 0))) (ta 0) 3 (nI (t.1 3 0))) (ta 0) 4 (t.2 4)) (ta 0) 5 (t.2 5)) := fr5.I ⟨0, by decide, rfl⟩
  refine hr_aload0 (q := 49) X dX2_take_48 rfl ?_
  refine hr_aload1 (q := 50) X dX2_take_49 rfl ?_
  refine hr_getI (v := (t.2 6)) (q := 53) X dX2_take_50 rfl fr_q167_2 rfl hS.ob (((fr6 (tb 0) (nb 0 (by decide))).2.1 6).trans hS.f6) ?_
  refine hr_putI (q := 56) X dX2_take_53 rfl fw_q167_2 (fun h => nomatch h) rfl rfl rfl ka0 ?_
  have fr7 : hg_fr (tn_W ta) G (hs_I (hs_I (hs_I (hs_I (hs_I (hs_I (hs_I G (ta 0) 0 (nI (t.1 0 0))) (ta 0) 1 (nI (t.1 1 0))) (ta 0) 2 (nI (t.1 2 0))) (ta 0) 3 (nI (t.1 3 0))) (ta 0) 4 (t.2 4)) (ta 0) 5 (t.2 5)) (ta 0) 6 (t.2 6)) := fr6.I ⟨0, by decide, rfl⟩
  refine hr_aload0 (q := 57) X dX2_take_56 rfl ?_
  refine hr_aload1 (q := 58) X dX2_take_57 rfl ?_
  refine hr_getJ (v := (lN (sp_pk (t.1 16) 36))) (q := 61) X dX2_take_58 rfl fr_q169_2 rfl hS.ob (((fr7 (tb 0) (nb 0 (by decide))).2.2.1 7).trans hS.f7) ?_
  refine hr_putJ (q := 64) X dX2_take_61 rfl fw_q169_2 (fun h => nomatch h) rfl ka0 ?_
  have fr8 : hg_fr (tn_W ta) G (hs_J (hs_I (hs_I (hs_I (hs_I (hs_I (hs_I (hs_I G (ta 0) 0 (nI (t.1 0 0))) (ta 0) 1 (nI (t.1 1 0))) (ta 0) 2 (nI (t.1 2 0))) (ta 0) 3 (nI (t.1 3 0))) (ta 0) 4 (t.2 4)) (ta 0) 5 (t.2 5)) (ta 0) 6 (t.2 6)) (ta 0) 7 (lN (sp_pk (t.1 16) 36))) := fr7.J ⟨0, by decide, rfl⟩
  refine hr_aload0 (q := 65) X dX2_take_64 rfl ?_
  refine hr_aload1 (q := 66) X dX2_take_65 rfl ?_
  refine hr_getJ (v := (lN (sp_pk (t.1 17) 36))) (q := 69) X dX2_take_66 rfl fr_q172_2 rfl hS.ob (((fr8 (tb 0) (nb 0 (by decide))).2.2.1 8).trans hS.f8) ?_
  refine hr_putJ (q := 72) X dX2_take_69 rfl fw_q172_2 (fun h => nomatch h) rfl ka0 ?_
  have fr9 : hg_fr (tn_W ta) G (hs_J (hs_J (hs_I (hs_I (hs_I (hs_I (hs_I (hs_I (hs_I G (ta 0) 0 (nI (t.1 0 0))) (ta 0) 1 (nI (t.1 1 0))) (ta 0) 2 (nI (t.1 2 0))) (ta 0) 3 (nI (t.1 3 0))) (ta 0) 4 (t.2 4)) (ta 0) 5 (t.2 5)) (ta 0) 6 (t.2 6)) (ta 0) 7 (lN (sp_pk (t.1 16) 36))) (ta 0) 8 (lN (sp_pk (t.1 17) 36))) := fr8.J ⟨0, by decide, rfl⟩
  refine hr_aload0 (q := 73) X dX2_take_72 rfl ?_
  refine hr_aload1 (q := 74) X dX2_take_73 rfl ?_
  refine hr_getI (v := (nI K)) (q := 77) X dX2_take_74 rfl fr_q175_2 rfl hS.ob (((fr9 (tb 0) (nb 0 (by decide))).2.1 9).trans hK9) ?_
  refine hr_putI (q := 80) X dX2_take_77 rfl fw_q175_2 (fun h => nomatch h) rfl rfl rfl ka0 ?_
  have fr10 : hg_fr (tn_W ta) G (hs_I (hs_J (hs_J (hs_I (hs_I (hs_I (hs_I (hs_I (hs_I (hs_I G (ta 0) 0 (nI (t.1 0 0))) (ta 0) 1 (nI (t.1 1 0))) (ta 0) 2 (nI (t.1 2 0))) (ta 0) 3 (nI (t.1 3 0))) (ta 0) 4 (t.2 4)) (ta 0) 5 (t.2 5)) (ta 0) 6 (t.2 6)) (ta 0) 7 (lN (sp_pk (t.1 16) 36))) (ta 0) 8 (lN (sp_pk (t.1 17) 36))) (ta 0) 9 (nI K)) := fr9.I ⟨0, by decide, rfl⟩
  refine hr_aload0 (q := 81) X dX2_take_80 rfl ?_
  refine hr_iconst (v := (-1)) (q := 82) X dX2_take_81 rfl rfl ?_
  refine hr_putI (q := 85) X dX2_take_82 rfl fw_q178_2 (fun h => nomatch h) rfl rfl rfl ka0 ?_
  have fr11 : hg_fr (tn_W ta) G (hs_I (hs_I (hs_J (hs_J (hs_I (hs_I (hs_I (hs_I (hs_I (hs_I (hs_I G (ta 0) 0 (nI (t.1 0 0))) (ta 0) 1 (nI (t.1 1 0))) (ta 0) 2 (nI (t.1 2 0))) (ta 0) 3 (nI (t.1 3 0))) (ta 0) 4 (t.2 4)) (ta 0) 5 (t.2 5)) (ta 0) 6 (t.2 6)) (ta 0) 7 (lN (sp_pk (t.1 16) 36))) (ta 0) 8 (lN (sp_pk (t.1 17) 36))) (ta 0) 9 (nI K)) (ta 0) 10 (-1)) := fr10.I ⟨0, by decide, rfl⟩
  have hDn : ∀ i j, i < 5 → j < 5 → i ≠ j → ta i ≠ ta j := fun i j h1 h2 h3 e => h3 (hD i j h1 h2 e)
  have hsc : (hs_I (hs_I (hs_J (hs_J (hs_I (hs_I (hs_I (hs_I (hs_I (hs_I (hs_I G (ta 0) 0 (nI (t.1 0 0))) (ta 0) 1 (nI (t.1 1 0))) (ta 0) 2 (nI (t.1 2 0))) (ta 0) 3 (nI (t.1 3 0))) (ta 0) 4 (t.2 4)) (ta 0) 5 (t.2 5)) (ta 0) 6 (t.2 6)) (ta 0) 7 (lN (sp_pk (t.1 16) 36))) (ta 0) 8 (lN (sp_pk (t.1 17) 36))) (ta 0) 9 (nI K)) (ta 0) 10 (-1)).2.1 (ta 0) 0 = nI (t.1 0 0) ∧ (hs_I (hs_I (hs_J (hs_J (hs_I (hs_I (hs_I (hs_I (hs_I (hs_I (hs_I G (ta 0) 0 (nI (t.1 0 0))) (ta 0) 1 (nI (t.1 1 0))) (ta 0) 2 (nI (t.1 2 0))) (ta 0) 3 (nI (t.1 3 0))) (ta 0) 4 (t.2 4)) (ta 0) 5 (t.2 5)) (ta 0) 6 (t.2 6)) (ta 0) 7 (lN (sp_pk (t.1 16) 36))) (ta 0) 8 (lN (sp_pk (t.1 17) 36))) (ta 0) 9 (nI K)) (ta 0) 10 (-1)).2.1 (ta 0) 1 = nI (t.1 1 0) ∧ (hs_I (hs_I (hs_J (hs_J (hs_I (hs_I (hs_I (hs_I (hs_I (hs_I (hs_I G (ta 0) 0 (nI (t.1 0 0))) (ta 0) 1 (nI (t.1 1 0))) (ta 0) 2 (nI (t.1 2 0))) (ta 0) 3 (nI (t.1 3 0))) (ta 0) 4 (t.2 4)) (ta 0) 5 (t.2 5)) (ta 0) 6 (t.2 6)) (ta 0) 7 (lN (sp_pk (t.1 16) 36))) (ta 0) 8 (lN (sp_pk (t.1 17) 36))) (ta 0) 9 (nI K)) (ta 0) 10 (-1)).2.1 (ta 0) 2 = nI (t.1 2 0) ∧ (hs_I (hs_I (hs_J (hs_J (hs_I (hs_I (hs_I (hs_I (hs_I (hs_I (hs_I G (ta 0) 0 (nI (t.1 0 0))) (ta 0) 1 (nI (t.1 1 0))) (ta 0) 2 (nI (t.1 2 0))) (ta 0) 3 (nI (t.1 3 0))) (ta 0) 4 (t.2 4)) (ta 0) 5 (t.2 5)) (ta 0) 6 (t.2 6)) (ta 0) 7 (lN (sp_pk (t.1 16) 36))) (ta 0) 8 (lN (sp_pk (t.1 17) 36))) (ta 0) 9 (nI K)) (ta 0) 10 (-1)).2.1 (ta 0) 3 = nI (t.1 3 0) ∧ (hs_I (hs_I (hs_J (hs_J (hs_I (hs_I (hs_I (hs_I (hs_I (hs_I (hs_I G (ta 0) 0 (nI (t.1 0 0))) (ta 0) 1 (nI (t.1 1 0))) (ta 0) 2 (nI (t.1 2 0))) (ta 0) 3 (nI (t.1 3 0))) (ta 0) 4 (t.2 4)) (ta 0) 5 (t.2 5)) (ta 0) 6 (t.2 6)) (ta 0) 7 (lN (sp_pk (t.1 16) 36))) (ta 0) 8 (lN (sp_pk (t.1 17) 36))) (ta 0) 9 (nI K)) (ta 0) 10 (-1)).2.1 (ta 0) 4 = t.2 4 ∧ (hs_I (hs_I (hs_J (hs_J (hs_I (hs_I (hs_I (hs_I (hs_I (hs_I (hs_I G (ta 0) 0 (nI (t.1 0 0))) (ta 0) 1 (nI (t.1 1 0))) (ta 0) 2 (nI (t.1 2 0))) (ta 0) 3 (nI (t.1 3 0))) (ta 0) 4 (t.2 4)) (ta 0) 5 (t.2 5)) (ta 0) 6 (t.2 6)) (ta 0) 7 (lN (sp_pk (t.1 16) 36))) (ta 0) 8 (lN (sp_pk (t.1 17) 36))) (ta 0) 9 (nI K)) (ta 0) 10 (-1)).2.1 (ta 0) 5 = t.2 5 ∧ (hs_I (hs_I (hs_J (hs_J (hs_I (hs_I (hs_I (hs_I (hs_I (hs_I (hs_I G (ta 0) 0 (nI (t.1 0 0))) (ta 0) 1 (nI (t.1 1 0))) (ta 0) 2 (nI (t.1 2 0))) (ta 0) 3 (nI (t.1 3 0))) (ta 0) 4 (t.2 4)) (ta 0) 5 (t.2 5)) (ta 0) 6 (t.2 6)) (ta 0) 7 (lN (sp_pk (t.1 16) 36))) (ta 0) 8 (lN (sp_pk (t.1 17) 36))) (ta 0) 9 (nI K)) (ta 0) 10 (-1)).2.1 (ta 0) 6 = t.2 6 ∧ (hs_I (hs_I (hs_J (hs_J (hs_I (hs_I (hs_I (hs_I (hs_I (hs_I (hs_I G (ta 0) 0 (nI (t.1 0 0))) (ta 0) 1 (nI (t.1 1 0))) (ta 0) 2 (nI (t.1 2 0))) (ta 0) 3 (nI (t.1 3 0))) (ta 0) 4 (t.2 4)) (ta 0) 5 (t.2 5)) (ta 0) 6 (t.2 6)) (ta 0) 7 (lN (sp_pk (t.1 16) 36))) (ta 0) 8 (lN (sp_pk (t.1 17) 36))) (ta 0) 9 (nI K)) (ta 0) 10 (-1)).2.1 (ta 0) 10 = oI 99 := by simp [hs_II, hs_JI]; rfl
  have hlo9 : (hs_I (hs_I (hs_J (hs_J (hs_I (hs_I (hs_I (hs_I (hs_I (hs_I (hs_I G (ta 0) 0 (nI (t.1 0 0))) (ta 0) 1 (nI (t.1 1 0))) (ta 0) 2 (nI (t.1 2 0))) (ta 0) 3 (nI (t.1 3 0))) (ta 0) 4 (t.2 4)) (ta 0) 5 (t.2 5)) (ta 0) 6 (t.2 6)) (ta 0) 7 (lN (sp_pk (t.1 16) 36))) (ta 0) 8 (lN (sp_pk (t.1 17) 36))) (ta 0) 9 (nI K)) (ta 0) 10 (-1)).2.2.1 (ta 0) 7 = lN (sp_pk (t.1 16) 36) ∧ (hs_I (hs_I (hs_J (hs_J (hs_I (hs_I (hs_I (hs_I (hs_I (hs_I (hs_I G (ta 0) 0 (nI (t.1 0 0))) (ta 0) 1 (nI (t.1 1 0))) (ta 0) 2 (nI (t.1 2 0))) (ta 0) 3 (nI (t.1 3 0))) (ta 0) 4 (t.2 4)) (ta 0) 5 (t.2 5)) (ta 0) 6 (t.2 6)) (ta 0) 7 (lN (sp_pk (t.1 16) 36))) (ta 0) 8 (lN (sp_pk (t.1 17) 36))) (ta 0) 9 (nI K)) (ta 0) 10 (-1)).2.2.1 (ta 0) 8 = lN (sp_pk (t.1 17) 36) := by simp [hs_JJ, hs_IJ]
  have hsk9 : (hs_I (hs_I (hs_J (hs_J (hs_I (hs_I (hs_I (hs_I (hs_I (hs_I (hs_I G (ta 0) 0 (nI (t.1 0 0))) (ta 0) 1 (nI (t.1 1 0))) (ta 0) 2 (nI (t.1 2 0))) (ta 0) 3 (nI (t.1 3 0))) (ta 0) 4 (t.2 4)) (ta 0) 5 (t.2 5)) (ta 0) 6 (t.2 6)) (ta 0) 7 (lN (sp_pk (t.1 16) 36))) (ta 0) 8 (lN (sp_pk (t.1 17) 36))) (ta 0) 9 (nI K)) (ta 0) 10 (-1)).2.1 (ta 0) 9 = G.2.1 (tb 0) 9 := by simp [hs_II, hs_JI, hK9]
  refine hr_aload1 (q := 86) X dX2_take_85 rfl ?_
  refine hr_getR (v := (tb 1)) (q := 89) X dX2_take_86 rfl fr_q180_2 rfl hS.ob (((fr11 (tb 0) (nb 0 (by decide))).2.2.2 11).trans hS.f11) ?_
  refine hr_iconst (v := (nI 0)) (q := 90) X dX2_take_89 rfl rfl ?_
  refine hr_aload0 (q := 91) X dX2_take_90 rfl ?_
  refine hr_getR (v := (ta 1)) (q := 94) X dX2_take_91 rfl fr_q180_2 rfl ka0 fa1 ?_
  refine hr_iconst (v := (nI 0)) (q := 95) X dX2_take_94 rfl rfl ?_
  refine hr_aload0 (q := 96) X dX2_take_95 rfl ?_
  refine hr_getI (v := (nI (t.1 0 0))) (q := 99) X dX2_take_96 rfl fr_q152_2 rfl ka0 hsc.1 ?_
  refine hr_copyQ (q := 102) (n0 := 7) (n1 := 7) (sp := 0) (dp := 0) (n := t.1 0 0) X dX2_take_99 rfl q820 q539 q538 q102 hS.k1 ka1 (by omega) (by omega) (by decide) (by decide) (fun i hi y hy => ?_) (by decide) (by decide) ?_
  · obtain ⟨q, q1, q2, -⟩ := hS.pe (p := i) hi
    have hy : G.2.2.2 (tb 1) (0 + i) = some y := hy
    rw [Nat.zero_add] at hy
    cases q1.symm.trans hy
    obtain ⟨rr, r1, r2⟩ := hg_clP2 (t.1 9 i) (h9 i (by omega))
    exact ⟨_, rr, q2, r1, r2⟩
  have fr12 : hg_fr (tn_W ta) G (hs_CR (hs_I (hs_I (hs_J (hs_J (hs_I (hs_I (hs_I (hs_I (hs_I (hs_I (hs_I G (ta 0) 0 (nI (t.1 0 0))) (ta 0) 1 (nI (t.1 1 0))) (ta 0) 2 (nI (t.1 2 0))) (ta 0) 3 (nI (t.1 3 0))) (ta 0) 4 (t.2 4)) (ta 0) 5 (t.2 5)) (ta 0) 6 (t.2 6)) (ta 0) 7 (lN (sp_pk (t.1 16) 36))) (ta 0) 8 (lN (sp_pk (t.1 17) 36))) (ta 0) 9 (nI K)) (ta 0) 10 (-1)) (ta 1) (tb 1) 0 0 (t.1 0 0)) := fr11.CR ⟨1, by decide, rfl⟩
  refine hr_aload1 (q := 103) X dX2_take_102 rfl ?_
  refine hr_getR (v := (tb 2)) (q := 106) X dX2_take_103 rfl fr_q182_2 rfl hS.ob (((fr12 (tb 0) (nb 0 (by decide))).2.2.2 12).trans hS.f12) ?_
  refine hr_iconst (v := (nI 0)) (q := 107) X dX2_take_106 rfl rfl ?_
  refine hr_aload0 (q := 108) X dX2_take_107 rfl ?_
  refine hr_getR (v := (ta 2)) (q := 111) X dX2_take_108 rfl fr_q182_2 rfl ka0 ((hs_CRne (hDn 0 1 (by decide) (by decide) (by decide))).trans fa2) ?_
  refine hr_iconst (v := (nI 0)) (q := 112) X dX2_take_111 rfl rfl ?_
  refine hr_aload0 (q := 113) X dX2_take_112 rfl ?_
  refine hr_getI (v := (nI (t.1 0 0))) (q := 116) X dX2_take_113 rfl fr_q152_2 rfl ka0 hsc.1 ?_
  refine hr_copyI (q := 119) (t := 0) (n0 := 7) (n1 := 7) (sp := 0) (dp := 0) (n := t.1 0 0) X dX2_take_116 rfl q820 q539 q538 q102 (Or.inl rfl) hS.k2 ka2 (by omega) (by omega) (by decide) (by decide) (fun _ _ => rfl) (by decide) (by decide) ?_
  have fr13 : hg_fr (tn_W ta) G (hs_CI (hs_CR (hs_I (hs_I (hs_J (hs_J (hs_I (hs_I (hs_I (hs_I (hs_I (hs_I (hs_I G (ta 0) 0 (nI (t.1 0 0))) (ta 0) 1 (nI (t.1 1 0))) (ta 0) 2 (nI (t.1 2 0))) (ta 0) 3 (nI (t.1 3 0))) (ta 0) 4 (t.2 4)) (ta 0) 5 (t.2 5)) (ta 0) 6 (t.2 6)) (ta 0) 7 (lN (sp_pk (t.1 16) 36))) (ta 0) 8 (lN (sp_pk (t.1 17) 36))) (ta 0) 9 (nI K)) (ta 0) 10 (-1)) (ta 1) (tb 1) 0 0 (t.1 0 0)) (ta 2) (tb 2) 0 0 (t.1 0 0)) := fr12.CI ⟨2, by decide, rfl⟩
  refine hr_aload1 (q := 120) X dX2_take_119 rfl ?_
  refine hr_getR (v := (tb 3)) (q := 123) X dX2_take_120 rfl fr_q184_2 rfl hS.ob (((fr13 (tb 0) (nb 0 (by decide))).2.2.2 13).trans hS.f13) ?_
  refine hr_iconst (v := (nI 0)) (q := 124) X dX2_take_123 rfl rfl ?_
  refine hr_aload0 (q := 125) X dX2_take_124 rfl ?_
  refine hr_getR (v := (ta 3)) (q := 128) X dX2_take_125 rfl fr_q184_2 rfl ka0 ((hs_CRne (hDn 0 1 (by decide) (by decide) (by decide))).trans fa3) ?_
  refine hr_iconst (v := (nI 0)) (q := 129) X dX2_take_128 rfl rfl ?_
  refine hr_aload0 (q := 130) X dX2_take_129 rfl ?_
  refine hr_getI (v := (nI (t.1 0 0))) (q := 133) X dX2_take_130 rfl fr_q152_2 rfl ka0 ((hs_CIne (hDn 0 2 (by decide) (by decide) (by decide))).trans hsc.1) ?_
  refine hr_copyI (q := 136) (t := 0) (n0 := 7) (n1 := 7) (sp := 0) (dp := 0) (n := t.1 0 0) X dX2_take_133 rfl q820 q539 q538 q102 (Or.inl rfl) hS.k3 ka3 (by omega) (by omega) (by decide) (by decide) (fun _ _ => rfl) (by decide) (by decide) ?_
  have fr14 : hg_fr (tn_W ta) G (hs_CI (hs_CI (hs_CR (hs_I (hs_I (hs_J (hs_J (hs_I (hs_I (hs_I (hs_I (hs_I (hs_I (hs_I G (ta 0) 0 (nI (t.1 0 0))) (ta 0) 1 (nI (t.1 1 0))) (ta 0) 2 (nI (t.1 2 0))) (ta 0) 3 (nI (t.1 3 0))) (ta 0) 4 (t.2 4)) (ta 0) 5 (t.2 5)) (ta 0) 6 (t.2 6)) (ta 0) 7 (lN (sp_pk (t.1 16) 36))) (ta 0) 8 (lN (sp_pk (t.1 17) 36))) (ta 0) 9 (nI K)) (ta 0) 10 (-1)) (ta 1) (tb 1) 0 0 (t.1 0 0)) (ta 2) (tb 2) 0 0 (t.1 0 0)) (ta 3) (tb 3) 0 0 (t.1 0 0)) := fr13.CI ⟨3, by decide, rfl⟩
  refine hr_aload1 (q := 137) X dX2_take_136 rfl ?_
  refine hr_getR (v := (tb 4)) (q := 140) X dX2_take_137 rfl fr_q187_2 rfl hS.ob (((fr14 (tb 0) (nb 0 (by decide))).2.2.2 14).trans hS.f14) ?_
  refine hr_iconst (v := (nI 0)) (q := 141) X dX2_take_140 rfl rfl ?_
  refine hr_aload0 (q := 142) X dX2_take_141 rfl ?_
  refine hr_getR (v := (ta 4)) (q := 145) X dX2_take_142 rfl fr_q187_2 rfl ka0 ((hs_CRne (hDn 0 1 (by decide) (by decide) (by decide))).trans fa4) ?_
  refine hr_iconst (v := (nI 0)) (q := 146) X dX2_take_145 rfl rfl ?_
  refine hr_aload0 (q := 147) X dX2_take_146 rfl ?_
  refine hr_getI (v := (nI (t.1 0 0))) (q := 150) X dX2_take_147 rfl fr_q152_2 rfl ka0 ((hs_CIne (hDn 0 3 (by decide) (by decide) (by decide))).trans ((hs_CIne (hDn 0 2 (by decide) (by decide) (by decide))).trans hsc.1)) ?_
  refine hr_copyI (q := 153) (t := 0) (n0 := 7) (n1 := 7) (sp := 0) (dp := 0) (n := t.1 0 0) X dX2_take_150 rfl q820 q539 q538 q102 (Or.inl rfl) hS.k4 ka4 (by omega) (by omega) (by decide) (by decide) (fun _ _ => rfl) (by decide) (by decide) ?_
  have fr15 : hg_fr (tn_W ta) G (hs_CI (hs_CI (hs_CI (hs_CR (hs_I (hs_I (hs_J (hs_J (hs_I (hs_I (hs_I (hs_I (hs_I (hs_I (hs_I G (ta 0) 0 (nI (t.1 0 0))) (ta 0) 1 (nI (t.1 1 0))) (ta 0) 2 (nI (t.1 2 0))) (ta 0) 3 (nI (t.1 3 0))) (ta 0) 4 (t.2 4)) (ta 0) 5 (t.2 5)) (ta 0) 6 (t.2 6)) (ta 0) 7 (lN (sp_pk (t.1 16) 36))) (ta 0) 8 (lN (sp_pk (t.1 17) 36))) (ta 0) 9 (nI K)) (ta 0) 10 (-1)) (ta 1) (tb 1) 0 0 (t.1 0 0)) (ta 2) (tb 2) 0 0 (t.1 0 0)) (ta 3) (tb 3) 0 0 (t.1 0 0)) (ta 4) (tb 4) 0 0 (t.1 0 0)) := fr14.CI ⟨4, by decide, rfl⟩
  refine hr_aload0 (q := 154) X dX2_take_153 rfl ?_
  exact hr_aret X hr rfl dX2_take_154 ⟨rfl, tn_take hS hK hD hX fr11 rfl rfl hsc hlo9 hsk9⟩

