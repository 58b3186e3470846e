theorem cp_neg {w : Int32} {k : Nat} (h : -w = nI k) : iN (-w) = k ∨ 2 ^ 31 ≤ k := by
  by_cases g : k < 2 ^ 31
  · left; rw [h]; exact iN_nI g
  · right; omega
theorem sp_fr_t {x : Int32} {b z : Nat} (h : sp_fr x (nI b) (nI z) = true) : ¬ x < nI b ∧ x ≤ nI z := by
  have h := of_decide_eq_true h
  exact ⟨Int32.not_lt.mpr h.1, h.2⟩
theorem sp_fr_f {x : Int32} {b z : Nat} (h : sp_fr x (nI b) (nI z) = false) : x < nI b ∨ (¬ x < nI b ∧ ¬ x ≤ nI z) := by
  have h := of_decide_eq_false h
  by_cases g : x < nI b
  · exact Or.inl g
  · exact Or.inr ⟨g, fun g2 => h ⟨Int32.not_lt.mp g, g2⟩⟩
theorem sp_fr_in {x : Int32} : sp_fr x (nI 0) (nI 35) = sp_in x 36 := by
  unfold sp_fr sp_in
  have e : (x ≤ nI 35) ↔ x < nI 36 := by
    rw [Int32.le_iff_toInt_le, Int32.lt_iff_toInt_lt]
    have h1 : (nI 35).toInt = 35 := by decide
    have h2 : (nI 36).toInt = 36 := by decide
    omega
  simp only [e]
  rfl
theorem sq_no_1 {b : Int32} {A : ab_S} : (sq_no b A).1 = b := rfl
theorem sp_in_n {x : Int32} {n : Nat} (h : sp_in x n = true) (hn : n < 2 ^ 31) : x = nI (iN x) ∧ iN x < n := by
  have h := of_decide_eq_true h
  exact sp_ltN hn (Int32.not_lt.mpr h.1) h.2
theorem sp_free_t {t : sp_S} {x : Int32} (h : sp_free t x = true) : sp_in x 36 = true ∧ ¬ t.1 16 (iN x) = 1 := by
  unfold sp_free at h
  simpa using h
theorem sp_free_f {t : sp_S} {x : Int32} (h : sp_free t x = false) : sp_in x 36 = false ∨ (sp_in x 36 = true ∧ t.1 16 (iN x) = 1) := by
  unfold sp_free at h
  cases e : sp_in x 36
  · exact Or.inl rfl
  · rw [e] at h
    right
    simpa using h
section CP3
variable {G G' : hg_G} {ca : Nat → Nat} {A : ab_S} {t : sp_S} {du : Nat → Nat}
theorem cp_R.takes (h : cp_R G ca A) (hf : hg_fr (tn_W (cp_d ca)) G G') (hT : tn_R G' (cp_d ca) t) : cp_R G' ca A := by
  have hf2 : hg_fr (cp_W ca A cp_sc) G G' := fun a ha => hf a (fun ⟨i, hi, e⟩ => ha ⟨16 + i, .w (by omega), Or.inr (Or.inr ⟨by omega, by omega⟩), e⟩)
  have st : ∀ r, r < 26 → ¬ (16 ≤ r ∧ r < 21) → hg_st G G' (ca r) := fun r hr hs => hf _ (fun ⟨i, hi, e⟩ => by have := h.j r (16 + i) (.w hr) (.w (by omega)) e; omega)
  exact h.scr hf2 (h.a.stt (st 5 (by decide) (by omega)) (st 6 (by decide) (by omega)) (st 7 (by decide) (by omega))) hT.K
theorem cp_R.finds {q : Nat → Nat} (h : cp_R G ca A) (hf : hg_fr (wa_W (cp_d ca) (ca 6) (ca 7)) G G') (hT : wa_R G' (cp_d ca) t (ca 5) (ca 6) (ca 7) du q) : cp_R G' ca A := by
  have hf2 : hg_fr (cp_W ca A cp_sc) G G' := fun a ha => hf a (fun z => by
    rcases z with e | e | e
    · exact ha ⟨6, .w (by decide), Or.inl rfl, e⟩
    · exact ha ⟨7, .w (by decide), Or.inr (Or.inl rfl), e⟩
    · exact ha ⟨20, .w (by decide), Or.inr (Or.inr ⟨by decide, by decide⟩), e⟩)
  obtain ⟨h1, h2, h3, h4, h5, h6, h7, -⟩ := hT
  exact h.scr hf2 ⟨h1, h2, h3, h4, h5, h6⟩ h7.K
theorem wk_fin_I (hdu : ∀ d, d < 36 → ¬ t.1 16 d = 1 → du d ≤ 63) {to : Nat} (hto : to < 36) : wk_I (wk_fin t du to) := wk_run_I hdu _ _ (wk_m0_I hto)
theorem wk_fin_J (to : Nat) : wk_J t du (wk_fin t du to) := wk_run_J _ _ (wk_m0_le t to) wk_m0_J
theorem wk_fin_x (to : Nat) : (wk_pass t du (wk_fin t du to, false) 36).2 = false := wk_run_fix _ _ (by omega)
theorem sp_set_99 {t : sp_S} (h : t.1 36 0 = 99) : sp_set t 36 0 99 = t := by
  have := sp_set_id t 36 0
  rw [h] at this
  exact this
theorem wk_cv_q {q : Nat → Nat} (hI : wk_I q) {c : Nat} (hc : c < 36) (h : ¬ q c = 100000000) : wk_cv (q c) / 100 = q c / 1000 ∧ wk_cv (q c) % 100 = q c % 1000 := by
  rcases wk_cv_lt hI hc with ⟨e, -⟩ | ⟨-, -, D, S, h1, h2, h3, h4⟩
  · exact absurd e h
  · rw [h3, ← h3, h4]
    omega
theorem wk_first_lt {q : Nat → Nat} (hJ : wk_J t du q) (hz : (wk_pass t du (q, false) 36).2 = false) {c : Nat} (hc : c < 36) (h1 : ¬ q c = 100000000) : wk_first t du q c < 36 := by
  rw [← wk_F_end hJ hz hc h1]
  exact wk_F_lt hc 4
end CP3
theorem cp_dec (c : Nat) : nI c + Int32.ofInt (-1) = nI c - nI 1 := by rw [Int32.sub_eq_add_neg]; rfl
theorem cp_neg0 : ∀ m, m < 37 → (nI m - nI 1 < 0 ↔ m = 0) := by decide +kernel
/-- the least of the least -/
theorem sp_bst_is {f : Nat → Nat} : ∀ n, 0 < n → n ≤ 36 → sp_bst (fun _ => true) (fun a b => decide (f a < f b)) n < n ∧ (∀ c, c < n → f (sp_bst (fun _ => true) (fun a b => decide (f a < f b)) n) ≤ f c) ∧ ∀ c, c < sp_bst (fun _ => true) (fun a b => decide (f a < f b)) n → f (sp_bst (fun _ => true) (fun a b => decide (f a < f b)) n) < f c
  | 0, h, _ => absurd h (Nat.lt_irrefl _)
  | n + 1, _, hn => by
    by_cases e0 : n = 0
    · subst e0
      have e : sp_bst (fun _ => true) (fun a b => decide (f a < f b)) (0 + 1) = 0 := rfl
      rw [e]
      exact ⟨by decide, fun c hc => by rw [show c = 0 by omega]; exact Nat.le_refl _, fun c hc => absurd hc (Nat.not_lt_zero _)⟩
    · obtain ⟨h1, h2, h3⟩ := sp_bst_is (f := f) n (by omega) (by omega)
      rw [sp_bst]
      generalize sp_bst (fun _ => true) (fun a b => decide (f a < f b)) n = b at h1 h2 h3 ⊢
      by_cases g : f n < f b
      · rw [if_pos ⟨rfl, Or.inr (decide_eq_true g)⟩]
        refine ⟨by omega, fun c hc => ?_, fun c hc => ?_⟩
        · by_cases e : c = n
          · rw [e]; exact Nat.le_refl _
          · have := h2 c (by omega); omega
        · have := h2 c hc; omega
      · rw [if_neg (fun z => by
          rcases z.2 with z | z
          · omega
          · exact g (of_decide_eq_true z))]
        refine ⟨by omega, fun c hc => ?_, h3⟩
        by_cases e : c = n
        · rw [e]; omega
        · exact h2 c (by omega)
theorem sp_stand_is {t : sp_S} (hw : sp_wf t) {x B : Nat} (hB : B < 36) (hf : ¬ t.1 16 B = 1) (h1 : ∀ c, c < 36 → ¬ t.1 16 c = 1 → sp_dutyAt t x B ≤ sp_dutyAt t x c) (h2 : ∀ c, c < B → ¬ t.1 16 c = 1 → sp_dutyAt t x B < sp_dutyAt t x c) : sp_stand t x = B := by
  obtain ⟨g1, g2, g3⟩ := sp_bst_is (f := sp_dutyAt t x) 36 (by decide) (by decide)
  have e : sp_bst (fun _ => true) (fun a b => decide (sp_dutyAt t x a < sp_dutyAt t x b)) 36 = sp_stand t x := rfl
  rw [e] at g1 g2 g3
  have k1 := sp_dutyAt_free hw (x := x) hB hf
  have hall : ∀ c, c < 36 → t.1 16 c = 1 → sp_dutyAt t x c = 100000000 := fun c _ hc => by unfold sp_dutyAt; rw [if_pos hc]
  have k2 := g2 B hB
  have k3 : ¬ t.1 16 (sp_stand t x) = 1 := fun z => by
    have := hall _ g1 z
    omega
  rcases Nat.lt_trichotomy (sp_stand t x) B with z | z | z
  · have := h2 _ z k3
    omega
  · exact z
  · have := g3 B z
    have := h1 _ g1 k3
    omega
theorem cp_atAll (k : Nat) : decide (¬ (k = 3 ∨ k = 5)) = sp_atAll k := by
  unfold sp_atAll
  by_cases h3 : k = 3 <;> by_cases h5 : k = 5 <;> simp_all
theorem cp_seers {t : sp_S} {z i S : Nat} (h : S = sp_sum (fun x => if (decide (¬ (t.1 9 x = 3 ∨ t.1 9 x = 5)) && sp_sees t (t.1 14 x) z) = true then 1 else 0) i) : S + (if (sp_atAll (t.1 9 i) && sp_sees t (t.1 14 i) z) = true then 1 else 0) = sp_sum (fun x => if (decide (¬ (t.1 9 x = 3 ∨ t.1 9 x = 5)) && sp_sees t (t.1 14 x) z) = true then 1 else 0) (i + 1) := by
  rw [sp_sum, ← h, cp_atAll]
theorem cp_ru {p : Nat → Prop} [DecidablePred p] : ∀ i, sp_sum (fun x => if p x then 2 ^ x else 0) i < 2 ^ i
  | 0 => by show 0 < 2 ^ 0; decide
  | i + 1 => by
    have := cp_ru (p := p) i
    rw [sp_sum, Nat.pow_succ]
    split <;> omega
theorem cp_a3 {x : Int32} (h0 : ¬ x < 0) (h3 : x ≤ nI 3) (e0 : ¬ x = 0) (e1 : ¬ x = nI 1) (e2 : ¬ x = nI 2) : iN x = 3 := by
  have h := sp_geN h0
  have h4 : iN x ≤ 3 := by
    rw [h.1] at h3
    exact (nI_leI h.2 (by decide)).mp h3
  have : iN x = 0 ∨ iN x = 1 ∨ iN x = 2 ∨ iN x = 3 := by omega
  rcases this with g | g | g | g
  · exact absurd (h.1.trans (by rw [g]; rfl)) e0
  · exact absurd (h.1.trans (by rw [g])) e1
  · exact absurd (h.1.trans (by rw [g])) e2
  · exact g
theorem tc_beyond {l : Launch} {D : hg_D} {lo : Nat} (htr : l.stackTraces = false) {G : hg_G} {ca : Nat → Nat} {A : ab_S} (h : cp_R G ca A) (hW : ab_wf A) :
    hg_M l D lo yX0_beyond (ws_ yX0_beyond cX0_beyond 1 ((some FieldType.int))) rm_X0_beyond [.ref (ca 0)] G (fun r G' => r = .inl (some (.int (-5))) ∧ cp_R G' ca (sq_no (-5) A).2) := by
  refine hg_M.of htr (by decide) [some (.ref (ca 0))] rfl (Nat.le_of_ble_eq_true rfl) ?_
  intro p e s m args below meth c X hr hnm htab
  have X : hg_X p l s m args meth c D lo "TaxOnLooks" cX0_beyond 1 := X
  refine hr_aload0 (q := 1) X dX0_beyond_0 rfl ?_
  refine hr_getR (v := (ca 2)) (q := 4) X dX0_beyond_1 rfl fr_q246_0 rfl h.o.1 h.o.2.2.1 ?_
  refine hr_iconst (v := (nI 5)) (q := 5) X dX0_beyond_4 rfl rfl ?_
  refine hr_dup2 (q := 6) X dX0_beyond_5 rfl rfl rfl ?_
  refine hr_ialdN (v := (A.2.2.1 8 5)) (q := 7) X dX0_beyond_6 rfl h.f.1 (Or.inl rfl) (by omega) (by decide) (h.f.2 _ (by omega)) ?_
  refine hr_iconst (v := 1) (q := 8) X dX0_beyond_7 rfl rfl ?_
  refine hr_iadd (v := ((A.2.2.1 8 5) + 1)) (q := 9) X dX0_beyond_8 rfl rfl ?_
  refine hr_iastN (q := 10) X dX0_beyond_9 rfl h.f.1 (by omega) (by decide) ?_
  refine hr_bipush (v := (-5)) (q := 12) X dX0_beyond_10 rfl rfl ?_
  exact hr_iret X hr dX0_beyond_12 ⟨rfl, by rw [sq_no, show iN (-(-5)) = 5 by decide]; exact h.no⟩

theorem tc_refused {l : Launch} {D : hg_D} {lo : Nat} (htr : l.stackTraces = false) {G : hg_G} {ca : Nat → Nat} {A : ab_S} (h : cp_R G ca A) (hW : ab_wf A) {q k : Nat} {w : Int32} (hq : G.1 q = some (0, 6)) (hwy : G.2.1 q 6 = w) (hk1 : -w = nI k) (hk2 : k < 8) (hk3 : iN (-w) = k) :
    hg_M l D lo yX0_refused (ws_ yX0_refused cX0_refused 2 ((some FieldType.int))) rm_X0_refused [.ref (ca 0), .ref q] G (fun r G' => r = .inl (some (.int w)) ∧ cp_R G' ca (sq_no w A).2) := by
  refine hg_M.of htr (by decide) [some (.ref (ca 0)), some (.ref q)] rfl (Nat.le_of_ble_eq_true rfl) ?_
  intro p e s m args below meth c X hr hnm htab
  have X : hg_X p l s m args meth c D lo "TaxOnLooks" cX0_refused 2 := X
  have nq : q ≠ ca 2 := fun e => by rw [e, h.f.1] at hq; cases hq
  refine hr_aload0 (q := 1) X dX0_refused_0 rfl ?_
  refine hr_getR (v := (ca 2)) (q := 4) X dX0_refused_1 rfl fr_q246_0 rfl h.o.1 h.o.2.2.1 ?_
  refine hr_aload1 (q := 5) X dX0_refused_4 rfl ?_
  refine hr_getI (v := w) (q := 8) X dX0_refused_5 rfl fr_q378_6 rfl hq hwy ?_
  refine hr_ineg (v := (nI k)) (q := 9) X dX0_refused_8 rfl hk1 ?_
  refine hr_dup2 (q := 10) X dX0_refused_9 rfl rfl rfl ?_
  refine hr_ialdN (v := (A.2.2.1 8 k)) (q := 11) X dX0_refused_10 rfl h.f.1 (Or.inl rfl) (by omega) (by decide) (h.f.2 _ (by omega)) ?_
  refine hr_iconst (v := 1) (q := 12) X dX0_refused_11 rfl rfl ?_
  refine hr_iadd (v := ((A.2.2.1 8 k) + 1)) (q := 13) X dX0_refused_12 rfl rfl ?_
  refine hr_iastN (q := 14) X dX0_refused_13 rfl h.f.1 (by omega) (by decide) ?_
  refine hr_aload1 (q := 15) X dX0_refused_14 rfl ?_
  refine hr_getI (v := w) (q := 18) X dX0_refused_15 rfl fr_q378_6 rfl hq ((hs_Ine nq).trans hwy) ?_
  exact hr_iret X hr dX0_refused_18 ⟨rfl, by rw [sq_no, hk3]; exact h.no⟩

abbrev rk_X0_mustPerson : Room := { frames := 5, cells := 1, slots := 7, locals := 130 }
theorem tc_mustPerson {l : Launch} {D : hg_D} {lo : Nat} (htr : l.stackTraces = false) {G : hg_G} {ca : Nat → Nat} {A : ab_S} (h : cp_R G ca A) (hW : ab_wf A) {x : Int32} :
    hg_M l D lo yX0_mustPerson (ws_ yX0_mustPerson cX0_mustPerson 2 (none)) rk_X0_mustPerson [.ref (ca 0), .int x] G (fun r G' => (sp_in x (A.1.1 0 0) = true ∧ r = .inl none ∧ G' = G) ∨ (sp_in x (A.1.1 0 0) = false ∧ ∃ q, r = .inr (q, "TaxOnLooks$Refused") ∧ tx_T 6 q (-1) G G')) := by
  refine hg_M.of htr (by decide) [some (.ref (ca 0)), some (.int x)] rfl (Nat.le_of_ble_eq_true rfl) ?_
  intro p e s m args below meth c X hr hnm htab
  have X : hg_X p l s m args meth c D lo "TaxOnLooks" cX0_mustPerson 2 := X
  refine hr_room (kr' := 0 + 1) (nr' := 0 + 7) (by decide) (by decide) ?_
  refine hr_aload0 (q := 1) X dX0_mustPerson_0 rfl ?_
  refine hr_getR (v := (cp_w ca 0)) (q := 4) X dX0_mustPerson_1 rfl fr_q250_0 rfl h.o.1 h.o.2.2.2.2.2.2.1 ?_
  refine hr_iload1 (q := 5) X dX0_mustPerson_4 rfl ?_
  refine hr_callP (q := 8) (hc_V (n := 1) (ci := 2) (As := [.int x]) X dX0_mustPerson_5 rfl (tn_isPerson X.tr h.w hW.w (x := x)) q567 cv_X2_isPerson ⟨Nat.le_of_ble_eq_true rfl, Nat.le_of_ble_eq_true rfl⟩ rfl (Nat.le_of_ble_eq_true rfl) h.w.ob rfl rfl) rfl ?_
  refine hr_iconst (v := (-1)) (q := 9) X dX0_mustPerson_8 rfl rfl ?_
  refine hr_call (kr := 0) (nr := 0) (q := 12) (hc_S (n := 2) (As := [.int (bI (sp_in x (A.1.1 0 0))), .int (-1)]) X dX0_mustPerson_9 rfl (tc_need X.tr (g := sp_in x (A.1.1 0 0)) (w := (-1))) q383 cs_X0_need ⟨Nat.le_of_ble_eq_true rfl, Nat.le_of_ble_eq_true rfl⟩ rfl (Nat.le_of_ble_eq_true rfl)) rfl (fun qx E G1 hp _ => ?_) (fun r G1 hp _ => ?_)
  · exact hx_out X (fun z hz => absurd hz (htab z)) (hp.elim (fun z => by cases z.2.1) (fun z => Or.inr z))
  · obtain ⟨h1, h2, h3⟩ | ⟨-, q, h2, -⟩ := hp
    · cases h2
      subst h3
      exact hr_vret X hr dX0_mustPerson_12 (Or.inl ⟨h1, rfl, rfl⟩)
    · cases h2

abbrev rk_X0_fault : Room := { frames := 12, cells := 0, slots := 0, locals := 400 }
theorem tc_fault {l : Launch} {D : hg_D} {lo : Nat} (htr : l.stackTraces = false) {G : hg_G} {ca : Nat → Nat} {A : ab_S} (h : cp_R G ca A) (hW : ab_wf A) :
    hg_M l D lo yX0_fault (ws_ yX0_fault cX0_fault 1 ((some FieldType.int))) rk_X0_fault [.ref (ca 0)] G (cp_Po ca (sq_fault A)) := by
  refine hg_M.of htr (by decide) [some (.ref (ca 0))] rfl (Nat.le_of_ble_eq_true rfl) ?_
  intro p e s m args below meth c X hr hnm htab
  have X : hg_X p l s m args meth c D lo "TaxOnLooks" cX0_fault 1 := X
  have hw := hW.w; have w0 := hw.b0; have w1 := hw.b1; have w2 := hw.b2; have w3 := hw.b3; have w36 := hW.b36; have w43 := hW.b43
  have hpw := sp_wpk hw; have hpb := sp_bpk hw
  obtain ⟨K, hK, hKs, hKb⟩ := h.w.sk
  refine hr_aload0 (q := 1) X dX0_fault_0 rfl ?_
  refine hr_getI (v := (A.1.2 7)) (q := 4) X dX0_fault_1 rfl fr_q252_0 rfl h.o.1 h.o.2.2.2.2.2.2.2.2 ?_
  have hq1 : sq_fault A = ((A.1.2 7), A) := by
    simp [sq_fault, sq_noTen, sq_no_1]
  exact hr_iret X hr dX0_fault_4 (by rw [hq1]; exact ⟨rfl, ca, rfl, h⟩)

abbrev rk_X0_view : Room := { frames := 12, cells := 40, slots := 3000, locals := 400 }
theorem tc_view {l : Launch} {D : hg_D} {lo : Nat} (htr : l.stackTraces = false) {G : hg_G} {ca : Nat → Nat} {A : ab_S} (h : cp_R G ca A) (hW : ab_wf A) {a1 a2 : Int32} :
    hg_M l D lo yX0_view (wsW_ yX0_view cX0_view 4 ((some FieldType.int)) [(0, 51, 52, 21)]) rk_X0_view [.ref (ca 0), .int a1, .int a2] G (cp_Po ca (sq_view a1 a2 A)) := by
  refine hg_M.ofH htr (by decide) [some (.ref (ca 0)), some (.int a1), some (.int a2), none] rfl (Nat.le_of_ble_eq_true rfl) ?_
  intro p e s m args below meth c X hr hnm htab
  have X : hg_X p l s m args meth c D lo "TaxOnLooks" cX0_view 4 := X
  refine hr_room (kr' := 40) (nr' := 3000) (Nat.le_of_ble_eq_true rfl) (Nat.le_of_ble_eq_true rfl) ?_
  have hw := hW.w; have w0 := hw.b0; have w1 := hw.b1; have w2 := hw.b2; have w3 := hw.b3; have w36 := hW.b36; have w43 := hW.b43
  have hpw := sp_wpk hw; have hpb := sp_bpk hw
  obtain ⟨K, hK, hKs, hKb⟩ := h.w.sk
  refine hr_iload1 (q := 1) X dX0_view_0 rfl ?_
  refine hr_i2l (v := a1.toInt64) (q := 2) X dX0_view_1 rfl rfl ?_
  refine hr_lconst (v := (lN 0)) (q := 3) X dX0_view_2 rfl rfl ?_
  refine hr_ldc2 (q := 6) X dX0_view_3 rfl q748 ?_
  refine hr_callP (v := .int (bI (sp_fr a1 (nI 0) (nI 35)))) (q := 9) (hc_S (n := 3) (As := [.long a1.toInt64, .long (lN 0), .long 35]) X dX0_view_6 rfl (tc_in X.tr (x := a1) (b := 0) (z := 35) (by decide) (by decide)) q387 cs_X0_in ⟨Nat.le_of_ble_eq_true rfl, Nat.le_of_ble_eq_true rfl⟩ rfl (Nat.le_of_ble_eq_true rfl)) rfl ?_
  refine hr_ifB_eq (q := 12) (tgt := 28) X dX0_view_9 rfl (by decide) (fun c9 => ?_) (fun c9 => ?_)
  · have fc9 := c9
    rw [sp_fr_in] at fc9
    refine hr_iconst (v := (bI false)) (q := 29) X dX0_view_28 rfl rfl ?_
    refine hr_bipush (v := (-6)) (q := 31) X dX0_view_29 rfl rfl ?_
    refine hr_call (kr := 39) (nr := 2993) (q := 34) (hc_S (n := 2) (As := [.int (bI false), .int (-6)]) X dX0_view_31 rfl (tc_need X.tr (g := false) (w := (-6))) q383 cs_X0_need ⟨Nat.le_of_ble_eq_true rfl, Nat.le_of_ble_eq_true rfl⟩ rfl (Nat.le_of_ble_eq_true rfl)) rfl (fun qxn1 E Gxn1 hpn1 _ => ?_) (fun r Gn1 hpn1 _ => ?_)
    · obtain ⟨hgn1, hrn1, -⟩ | ⟨hgn1, qn1, hrn1, htn1⟩ := hpn1
      · cases hrn1
      · cases hrn1
        have hxn1 := h.T htn1
        refine hx_catch (name := "TaxOnLooks$Refused") X [] ⟨0, 51, 52, 21⟩ [] htab (fun z hz => nomatch hz) (by decide) (by decide) q277 (by decide) ?_
        refine hr_astore3 (q := 53) X dX0_view_52 rfl rfl (Nat.le_of_ble_eq_true rfl) ?_
        refine hr_aload0 (q := 54) X dX0_view_53 rfl ?_
        refine hr_aload3 (q := 55) X dX0_view_54 rfl ?_
        refine hr_call0 (q := 58) (hc_V (n := 1) (ci := 0) (As := [.ref qxn1]) X dX0_view_55 rfl (tc_refused X.tr hxn1 hW (q := qxn1) htn1.2.1 htn1.2.2.1 (k := 6) (by decide) (by decide) (by decide)) q452 cv_X0_refused ⟨Nat.le_of_ble_eq_true rfl, Nat.le_of_ble_eq_true rfl⟩ rfl (Nat.le_of_ble_eq_true rfl) hxn1.o.1 rfl rfl) rfl (fun qx E G' hp => by cases hp.1) (fun r Gf2 hp _ => ?_)
        obtain ⟨hvf2, hhf2⟩ := hp
        cases hvf2
        have hq3 : sq_view a1 a2 A = ((-6), (sq_no (-6) A).2) := by
          simp [sq_view, sq_noTen, sq_no_1, fc9]
        exact hr_iret X hr dX0_view_58 (by rw [hq3]; exact ⟨rfl, ca, rfl, hhf2⟩)
    · obtain ⟨hgn1, hrn1, hGn1⟩ | ⟨hgn1, qn1, hrn1, htn1⟩ := hpn1
      · cases hgn1
      · cases hrn1
  · have fc9 := c9
    rw [sp_fr_in] at fc9
    obtain ⟨ea1, la1⟩ := sp_in_n fc9 (by omega)
    refine hr_L (L' := [some (.ref (ca 0)), some (.int (nI (iN a1))), some (.int a2), none]) (by rw [← ea1]) ?_
    refine hr_iload2 (q := 13) X dX0_view_12 rfl ?_
    refine hr_i2l (v := a2.toInt64) (q := 14) X dX0_view_13 rfl rfl ?_
    refine hr_lconst (v := (lN 0)) (q := 15) X dX0_view_14 rfl rfl ?_
    refine hr_ldc2 (q := 18) X dX0_view_15 rfl q748 ?_
    refine hr_callP (v := .int (bI (sp_fr a2 (nI 0) (nI 35)))) (q := 21) (hc_S (n := 3) (As := [.long a2.toInt64, .long (lN 0), .long 35]) X dX0_view_18 rfl (tc_in X.tr (x := a2) (b := 0) (z := 35) (by decide) (by decide)) q387 cs_X0_in ⟨Nat.le_of_ble_eq_true rfl, Nat.le_of_ble_eq_true rfl⟩ rfl (Nat.le_of_ble_eq_true rfl)) rfl ?_
    refine hr_ifB_eq (q := 24) (tgt := 28) X dX0_view_21 rfl (by decide) (fun c21 => ?_) (fun c21 => ?_)
    · have fc21 := c21
      rw [sp_fr_in] at fc21
      refine hr_iconst (v := (bI false)) (q := 29) X dX0_view_28 rfl rfl ?_
      refine hr_bipush (v := (-6)) (q := 31) X dX0_view_29 rfl rfl ?_
      refine hr_call (kr := 39) (nr := 2993) (q := 34) (hc_S (n := 2) (As := [.int (bI false), .int (-6)]) X dX0_view_31 rfl (tc_need X.tr (g := false) (w := (-6))) q383 cs_X0_need ⟨Nat.le_of_ble_eq_true rfl, Nat.le_of_ble_eq_true rfl⟩ rfl (Nat.le_of_ble_eq_true rfl)) rfl (fun qxn4 E Gxn4 hpn4 _ => ?_) (fun r Gn4 hpn4 _ => ?_)
      · obtain ⟨hgn4, hrn4, -⟩ | ⟨hgn4, qn4, hrn4, htn4⟩ := hpn4
        · cases hrn4
        · cases hrn4
          have hxn4 := h.T htn4
          refine hx_catch (name := "TaxOnLooks$Refused") X [] ⟨0, 51, 52, 21⟩ [] htab (fun z hz => nomatch hz) (by decide) (by decide) q277 (by decide) ?_
          refine hr_astore3 (q := 53) X dX0_view_52 rfl rfl (Nat.le_of_ble_eq_true rfl) ?_
          refine hr_aload0 (q := 54) X dX0_view_53 rfl ?_
          refine hr_aload3 (q := 55) X dX0_view_54 rfl ?_
          refine hr_call0 (q := 58) (hc_V (n := 1) (ci := 0) (As := [.ref qxn4]) X dX0_view_55 rfl (tc_refused X.tr hxn4 hW (q := qxn4) htn4.2.1 htn4.2.2.1 (k := 6) (by decide) (by decide) (by decide)) q452 cv_X0_refused ⟨Nat.le_of_ble_eq_true rfl, Nat.le_of_ble_eq_true rfl⟩ rfl (Nat.le_of_ble_eq_true rfl) hxn4.o.1 rfl rfl) rfl (fun qx E G' hp => by cases hp.1) (fun r Gf5 hp _ => ?_)
          obtain ⟨hvf5, hhf5⟩ := hp
          cases hvf5
          have hq6 : sq_view a1 a2 A = ((-6), (sq_no (-6) A).2) := by
            simp [sq_view, sq_noTen, sq_no_1, fc9, fc21]
          exact hr_iret X hr dX0_view_58 (by rw [hq6]; exact ⟨rfl, ca, rfl, hhf5⟩)
      · obtain ⟨hgn4, hrn4, hGn4⟩ | ⟨hgn4, qn4, hrn4, htn4⟩ := hpn4
        · cases hgn4
        · cases hrn4
    · have fc21 := c21
      rw [sp_fr_in] at fc21
      obtain ⟨ea2, la2⟩ := sp_in_n fc21 (by omega)
      refine hr_L (L' := [some (.ref (ca 0)), some (.int (nI (iN a1))), some (.int (nI (iN a2))), none]) (by rw [← ea2]) ?_
      refine hr_iconst (v := (bI true)) (q := 25) X dX0_view_24 rfl rfl ?_
      refine hr_goto (tgt := 29) X dX0_view_25 (by decide) ?_
      refine hr_bipush (v := (-6)) (q := 31) X dX0_view_29 rfl rfl ?_
      refine hr_call (kr := 39) (nr := 2993) (q := 34) (hc_S (n := 2) (As := [.int (bI true), .int (-6)]) X dX0_view_31 rfl (tc_need X.tr (g := true) (w := (-6))) q383 cs_X0_need ⟨Nat.le_of_ble_eq_true rfl, Nat.le_of_ble_eq_true rfl⟩ rfl (Nat.le_of_ble_eq_true rfl)) rfl (fun qxn7 E Gxn7 hpn7 _ => ?_) (fun r Gn7 hpn7 _ => ?_)
      · obtain ⟨hgn7, hrn7, -⟩ | ⟨hgn7, qn7, hrn7, htn7⟩ := hpn7
        · cases hrn7
        · cases hgn7
      · obtain ⟨hgn7, hrn7, hGn7⟩ | ⟨hgn7, qn7, hrn7, htn7⟩ := hpn7
        · cases hrn7
          have hGn7 := hGn7.symm
          subst hGn7
          refine hr_aload0 (q := 35) X dX0_view_34 rfl ?_
          refine hr_getR (v := (cp_w ca 0)) (q := 38) X dX0_view_35 rfl fr_q250_0 rfl h.o.1 h.o.2.2.2.2.2.2.1 ?_
          refine hr_iload1 (q := 39) X dX0_view_38 rfl ?_
          refine hr_iload2 (q := 40) X dX0_view_39 rfl ?_
          refine hr_callP (q := 43) (hc_V (n := 2) (ci := 2) (As := [.int (nI (iN a1)), .int (nI (iN a2))]) X dX0_view_40 rfl (tn_isInView X.tr h.w hw (a := iN a1) (b := iN a2) (by omega) (by omega)) q1000 cv_X2_isInView ⟨Nat.le_of_ble_eq_true rfl, Nat.le_of_ble_eq_true rfl⟩ rfl (Nat.le_of_ble_eq_true rfl) h.w.ob rfl rfl) rfl ?_
          refine hr_ifB_eq (q := 46) (tgt := 50) X dX0_view_43 rfl (by decide) (fun c43 => ?_) (fun c43 => ?_)
          · refine hr_iconst (v := (nI 0)) (q := 51) X dX0_view_50 rfl rfl ?_
            have hq8 : sq_view a1 a2 A = ((nI 0), A) := by
              simp [sq_view, sq_noTen, sq_no_1, fc9, fc21, c43]
            exact hr_iret X hr dX0_view_51 (by rw [hq8]; exact ⟨rfl, ca, rfl, h⟩)
          · refine hr_iconst (v := (nI 1)) (q := 47) X dX0_view_46 rfl rfl ?_
            refine hr_goto (tgt := 51) X dX0_view_47 (by decide) ?_
            have hq9 : sq_view a1 a2 A = ((nI 1), A) := by
              simp [sq_view, sq_noTen, sq_no_1, fc9, fc21, c43]
            exact hr_iret X hr dX0_view_51 (by rw [hq9]; exact ⟨rfl, ca, rfl, h⟩)
        · cases hrn7

abbrev rk_X0_duty : Room := { frames := 12, cells := 40, slots := 3000, locals := 400 }
theorem tc_duty {l : Launch} {D : hg_D} {lo : Nat} (htr : l.stackTraces = false) {G : hg_G} {ca : Nat → Nat} {A : ab_S} (h : cp_R G ca A) (hW : ab_wf A) {a1 a2 : Int32} :
    hg_M l D lo yX0_duty (wsW_ yX0_duty cX0_duty 4 ((some FieldType.int)) [(0, 40, 41, 21)]) rk_X0_duty [.ref (ca 0), .int a1, .int a2] G (cp_Po ca (sq_duty a1 a2 A)) := by
  refine hg_M.ofH htr (by decide) [some (.ref (ca 0)), some (.int a1), some (.int a2), none] rfl (Nat.le_of_ble_eq_true rfl) ?_
  intro p e s m args below meth c X hr hnm htab
  have X : hg_X p l s m args meth c D lo "TaxOnLooks" cX0_duty 4 := X
  refine hr_room (kr' := 40) (nr' := 3000) (Nat.le_of_ble_eq_true rfl) (Nat.le_of_ble_eq_true rfl) ?_
  have hw := hW.w; have w0 := hw.b0; have w1 := hw.b1; have w2 := hw.b2; have w3 := hw.b3; have w36 := hW.b36; have w43 := hW.b43
  have hpw := sp_wpk hw; have hpb := sp_bpk hw
  obtain ⟨K, hK, hKs, hKb⟩ := h.w.sk
  refine hr_aload0 (q := 1) X dX0_duty_0 rfl ?_
  refine hr_iload1 (q := 2) X dX0_duty_1 rfl ?_
  refine hr_call (kr := 39) (nr := 2993) (q := 5) (hc_V (n := 1) (ci := 0) (As := [.int a1]) X dX0_duty_2 rfl (tc_mustPerson X.tr h hW (x := a1)) q563 cv_X0_mustPerson ⟨Nat.le_of_ble_eq_true rfl, Nat.le_of_ble_eq_true rfl⟩ rfl (Nat.le_of_ble_eq_true rfl) h.o.1 rfl rfl) rfl (fun qxn1 E Gxn1 hpn1 _ => ?_) (fun r Gn1 hpn1 _ => ?_)
  · obtain ⟨hgn1, hrn1, -⟩ | ⟨hgn1, qn1, hrn1, htn1⟩ := hpn1
    · cases hrn1
    · cases hrn1
      have hxn1 := h.T htn1
      refine hx_catch (name := "TaxOnLooks$Refused") X [] ⟨0, 40, 41, 21⟩ [] htab (fun z hz => nomatch hz) (by decide) (by decide) q277 (by decide) ?_
      refine hr_astore3 (q := 42) X dX0_duty_41 rfl rfl (Nat.le_of_ble_eq_true rfl) ?_
      refine hr_aload0 (q := 43) X dX0_duty_42 rfl ?_
      refine hr_aload3 (q := 44) X dX0_duty_43 rfl ?_
      refine hr_call0 (q := 47) (hc_V (n := 1) (ci := 0) (As := [.ref qxn1]) X dX0_duty_44 rfl (tc_refused X.tr hxn1 hW (q := qxn1) htn1.2.1 htn1.2.2.1 (k := 1) (by decide) (by decide) (by decide)) q452 cv_X0_refused ⟨Nat.le_of_ble_eq_true rfl, Nat.le_of_ble_eq_true rfl⟩ rfl (Nat.le_of_ble_eq_true rfl) hxn1.o.1 rfl rfl) rfl (fun qx E G' hp => by cases hp.1) (fun r Gf2 hp _ => ?_)
      obtain ⟨hvf2, hhf2⟩ := hp
      cases hvf2
      have hq3 : sq_duty a1 a2 A = ((-1), (sq_no (-1) A).2) := by
        simp [sq_duty, sq_noTen, sq_no_1, hgn1]
      exact hr_iret X hr dX0_duty_47 (by rw [hq3]; exact ⟨rfl, ca, rfl, hhf2⟩)
  · obtain ⟨hgn1, hrn1, hGn1⟩ | ⟨hgn1, qn1, hrn1, htn1⟩ := hpn1
    · cases hrn1
      have hGn1 := hGn1.symm
      subst hGn1
      obtain ⟨ea1, la1⟩ := sp_in_n hgn1 (by omega)
      refine hr_L (L' := [some (.ref (ca 0)), some (.int (nI (iN a1))), some (.int a2), none]) (by rw [← ea1]) ?_
      refine hr_iload2 (q := 6) X dX0_duty_5 rfl ?_
      refine hr_i2l (v := a2.toInt64) (q := 7) X dX0_duty_6 rfl rfl ?_
      refine hr_lconst (v := (lN 0)) (q := 8) X dX0_duty_7 rfl rfl ?_
      refine hr_lconst (v := (lN 1)) (q := 9) X dX0_duty_8 rfl rfl ?_
      refine hr_callP (v := .int (bI (sp_fr a2 (nI 0) (nI 1)))) (q := 12) (hc_S (n := 3) (As := [.long a2.toInt64, .long (lN 0), .long (lN 1)]) X dX0_duty_9 rfl (tc_in X.tr (x := a2) (b := 0) (z := 1) (by decide) (by decide)) q387 cs_X0_in ⟨Nat.le_of_ble_eq_true rfl, Nat.le_of_ble_eq_true rfl⟩ rfl (Nat.le_of_ble_eq_true rfl)) rfl ?_
      refine hr_bipush (v := (-5)) (q := 14) X dX0_duty_12 rfl rfl ?_
      refine hr_call (kr := 38) (nr := 2986) (q := 17) (hc_S (n := 2) (As := [.int (bI (sp_fr a2 (nI 0) (nI 1))), .int (-5)]) X dX0_duty_14 rfl (tc_need X.tr (g := sp_fr a2 (nI 0) (nI 1)) (w := (-5))) q383 cs_X0_need ⟨Nat.le_of_ble_eq_true rfl, Nat.le_of_ble_eq_true rfl⟩ rfl (Nat.le_of_ble_eq_true rfl)) rfl (fun qxn4 E Gxn4 hpn4 _ => ?_) (fun r Gn4 hpn4 _ => ?_)
      · obtain ⟨hgn4, hrn4, -⟩ | ⟨hgn4, qn4, hrn4, htn4⟩ := hpn4
        · cases hrn4
        · cases hrn4
          have hxn4 := h.T htn4
          refine hx_catch (name := "TaxOnLooks$Refused") X [] ⟨0, 40, 41, 21⟩ [] htab (fun z hz => nomatch hz) (by decide) (by decide) q277 (by decide) ?_
          have fhgn4 : a2 < (0 : Int32) ∨ (¬ a2 < (0 : Int32) ∧ ¬ a2 ≤ nI 1) := sp_fr_f hgn4
          refine hr_astore3 (q := 42) X dX0_duty_41 rfl rfl (Nat.le_of_ble_eq_true rfl) ?_
          refine hr_aload0 (q := 43) X dX0_duty_42 rfl ?_
          refine hr_aload3 (q := 44) X dX0_duty_43 rfl ?_
          refine hr_call0 (q := 47) (hc_V (n := 1) (ci := 0) (As := [.ref qxn4]) X dX0_duty_44 rfl (tc_refused X.tr hxn4 hW (q := qxn4) htn4.2.1 htn4.2.2.1 (k := 5) (by decide) (by decide) (by decide)) q452 cv_X0_refused ⟨Nat.le_of_ble_eq_true rfl, Nat.le_of_ble_eq_true rfl⟩ rfl (Nat.le_of_ble_eq_true rfl) hxn4.o.1 rfl rfl) rfl (fun qx E G' hp => by cases hp.1) (fun r Gf5 hp _ => ?_)
          obtain ⟨hvf5, hhf5⟩ := hp
          cases hvf5
          have hq6 : sq_duty a1 a2 A = ((-5), (sq_no (-5) A).2) := by
            rcases fhgn4 with g | ⟨g, g2⟩
            · simp [sq_duty, sq_noTen, sq_no_1, hgn1, eq_true g]
            · simp [sq_duty, sq_noTen, sq_no_1, hgn1, eq_false g, eq_false g2]
          exact hr_iret X hr dX0_duty_47 (by rw [hq6]; exact ⟨rfl, ca, rfl, hhf5⟩)
      · obtain ⟨hgn4, hrn4, hGn4⟩ | ⟨hgn4, qn4, hrn4, htn4⟩ := hpn4
        · cases hrn4
          have hGn4 := hGn4.symm
          subst hGn4
          have fhgn4 : ¬ a2 < (0 : Int32) ∧ a2 ≤ nI 1 := sp_fr_t hgn4
          refine hr_iload2 (q := 18) X dX0_duty_17 rfl ?_
          refine hr_if_ne (q := 21) (tgt := 32) X dX0_duty_18 rfl (by decide) (fun c18 => ?_) (fun c18 => ?_)
          · refine hr_aload0 (q := 33) X dX0_duty_32 rfl ?_
            refine hr_getR (v := (cp_w ca 0)) (q := 36) X dX0_duty_33 rfl fr_q250_0 rfl h.o.1 h.o.2.2.2.2.2.2.1 ?_
            refine hr_iload1 (q := 37) X dX0_duty_36 rfl ?_
            refine hr_callP (q := 40) (hc_V (n := 1) (ci := 2) (As := [.int (nI (iN a1))]) X dX0_duty_37 rfl (tn_fine X.tr h.w hw (x := iN a1) (by omega)) q1101 cv_X2_fine ⟨Nat.le_of_ble_eq_true rfl, Nat.le_of_ble_eq_true rfl⟩ rfl (Nat.le_of_ble_eq_true rfl) h.w.ob rfl rfl) rfl ?_
            have hq7 : sq_duty a1 a2 A = ((nI (sp_wouldPay A.1 (iN a1))), A) := by
              simp [sq_duty, sq_noTen, sq_no_1, hgn1, eq_false fhgn4.1, eq_true fhgn4.2, eq_false c18]
            exact hr_iret X hr dX0_duty_40 (by rw [hq7]; exact ⟨rfl, ca, rfl, h⟩)
          · refine hr_aload0 (q := 22) X dX0_duty_21 rfl ?_
            refine hr_getR (v := (cp_w ca 0)) (q := 25) X dX0_duty_22 rfl fr_q250_0 rfl h.o.1 h.o.2.2.2.2.2.2.1 ?_
            refine hr_iload1 (q := 26) X dX0_duty_25 rfl ?_
            refine hr_callP (q := 29) (hc_V (n := 1) (ci := 2) (As := [.int (nI (iN a1))]) X dX0_duty_26 rfl (tn_duty X.tr h.w hw (x := iN a1) (by omega)) q1067 cv_X2_duty ⟨Nat.le_of_ble_eq_true rfl, Nat.le_of_ble_eq_true rfl⟩ rfl (Nat.le_of_ble_eq_true rfl) h.w.ob rfl rfl) rfl ?_
            have := sp_owes_lt (t := A.1) hw (iN a1)
            refine hr_goto (tgt := 40) X dX0_duty_29 (by decide) ?_
            have hq8 : sq_duty a1 a2 A = ((nI (sp_owes A.1 (iN a1))), A) := by
              simp [sq_duty, sq_noTen, sq_no_1, hgn1, eq_false fhgn4.1, eq_true fhgn4.2, eq_true c18]
            exact hr_iret X hr dX0_duty_40 (by rw [hq8]; exact ⟨rfl, ca, rfl, h⟩)
        · cases hrn4
    · cases hrn1

abbrev rk_X0_glances : Room := { frames := 12, cells := 40, slots := 3000, locals := 400 }
theorem tc_glances {l : Launch} {D : hg_D} {lo : Nat} (htr : l.stackTraces = false) {G : hg_G} {ca : Nat → Nat} {A : ab_S} (h : cp_R G ca A) (hW : ab_wf A) {a1 a2 : Int32} :
    hg_M l D lo yX0_glances (wsW_ yX0_glances cX0_glances 4 ((some FieldType.int)) [(0, 40, 41, 21)]) rk_X0_glances [.ref (ca 0), .int a1, .int a2] G (cp_Po ca (sq_glances a1 a2 A)) := by
  refine hg_M.ofH htr (by decide) [some (.ref (ca 0)), some (.int a1), some (.int a2), none] rfl (Nat.le_of_ble_eq_true rfl) ?_
  intro p e s m args below meth c X hr hnm htab
  have X : hg_X p l s m args meth c D lo "TaxOnLooks" cX0_glances 4 := X
  refine hr_room (kr' := 40) (nr' := 3000) (Nat.le_of_ble_eq_true rfl) (Nat.le_of_ble_eq_true rfl) ?_
  have hw := hW.w; have w0 := hw.b0; have w1 := hw.b1; have w2 := hw.b2; have w3 := hw.b3; have w36 := hW.b36; have w43 := hW.b43
  have hpw := sp_wpk hw; have hpb := sp_bpk hw
  obtain ⟨K, hK, hKs, hKb⟩ := h.w.sk
  refine hr_aload0 (q := 1) X dX0_glances_0 rfl ?_
  refine hr_iload1 (q := 2) X dX0_glances_1 rfl ?_
  refine hr_call (kr := 39) (nr := 2993) (q := 5) (hc_V (n := 1) (ci := 0) (As := [.int a1]) X dX0_glances_2 rfl (tc_mustPerson X.tr h hW (x := a1)) q563 cv_X0_mustPerson ⟨Nat.le_of_ble_eq_true rfl, Nat.le_of_ble_eq_true rfl⟩ rfl (Nat.le_of_ble_eq_true rfl) h.o.1 rfl rfl) rfl (fun qxn1 E Gxn1 hpn1 _ => ?_) (fun r Gn1 hpn1 _ => ?_)
  · obtain ⟨hgn1, hrn1, -⟩ | ⟨hgn1, qn1, hrn1, htn1⟩ := hpn1
    · cases hrn1
    · cases hrn1
      have hxn1 := h.T htn1
      refine hx_catch (name := "TaxOnLooks$Refused") X [] ⟨0, 40, 41, 21⟩ [] htab (fun z hz => nomatch hz) (by decide) (by decide) q277 (by decide) ?_
      refine hr_astore3 (q := 42) X dX0_glances_41 rfl rfl (Nat.le_of_ble_eq_true rfl) ?_
      refine hr_aload0 (q := 43) X dX0_glances_42 rfl ?_
      refine hr_aload3 (q := 44) X dX0_glances_43 rfl ?_
      refine hr_call0 (q := 47) (hc_V (n := 1) (ci := 0) (As := [.ref qxn1]) X dX0_glances_44 rfl (tc_refused X.tr hxn1 hW (q := qxn1) htn1.2.1 htn1.2.2.1 (k := 1) (by decide) (by decide) (by decide)) q452 cv_X0_refused ⟨Nat.le_of_ble_eq_true rfl, Nat.le_of_ble_eq_true rfl⟩ rfl (Nat.le_of_ble_eq_true rfl) hxn1.o.1 rfl rfl) rfl (fun qx E G' hp => by cases hp.1) (fun r Gf2 hp _ => ?_)
      obtain ⟨hvf2, hhf2⟩ := hp
      cases hvf2
      have hq3 : sq_glances a1 a2 A = ((-1), (sq_no (-1) A).2) := by
        simp [sq_glances, sq_noTen, sq_no_1, hgn1]
      exact hr_iret X hr dX0_glances_47 (by rw [hq3]; exact ⟨rfl, ca, rfl, hhf2⟩)
  · obtain ⟨hgn1, hrn1, hGn1⟩ | ⟨hgn1, qn1, hrn1, htn1⟩ := hpn1
    · cases hrn1
      have hGn1 := hGn1.symm
      subst hGn1
      obtain ⟨ea1, la1⟩ := sp_in_n hgn1 (by omega)
      refine hr_L (L' := [some (.ref (ca 0)), some (.int (nI (iN a1))), some (.int a2), none]) (by rw [← ea1]) ?_
      refine hr_iload2 (q := 6) X dX0_glances_5 rfl ?_
      refine hr_i2l (v := a2.toInt64) (q := 7) X dX0_glances_6 rfl rfl ?_
      refine hr_lconst (v := (lN 0)) (q := 8) X dX0_glances_7 rfl rfl ?_
      refine hr_lconst (v := (lN 1)) (q := 9) X dX0_glances_8 rfl rfl ?_
      refine hr_callP (v := .int (bI (sp_fr a2 (nI 0) (nI 1)))) (q := 12) (hc_S (n := 3) (As := [.long a2.toInt64, .long (lN 0), .long (lN 1)]) X dX0_glances_9 rfl (tc_in X.tr (x := a2) (b := 0) (z := 1) (by decide) (by decide)) q387 cs_X0_in ⟨Nat.le_of_ble_eq_true rfl, Nat.le_of_ble_eq_true rfl⟩ rfl (Nat.le_of_ble_eq_true rfl)) rfl ?_
      refine hr_bipush (v := (-5)) (q := 14) X dX0_glances_12 rfl rfl ?_
      refine hr_call (kr := 38) (nr := 2986) (q := 17) (hc_S (n := 2) (As := [.int (bI (sp_fr a2 (nI 0) (nI 1))), .int (-5)]) X dX0_glances_14 rfl (tc_need X.tr (g := sp_fr a2 (nI 0) (nI 1)) (w := (-5))) q383 cs_X0_need ⟨Nat.le_of_ble_eq_true rfl, Nat.le_of_ble_eq_true rfl⟩ rfl (Nat.le_of_ble_eq_true rfl)) rfl (fun qxn4 E Gxn4 hpn4 _ => ?_) (fun r Gn4 hpn4 _ => ?_)
      · obtain ⟨hgn4, hrn4, -⟩ | ⟨hgn4, qn4, hrn4, htn4⟩ := hpn4
        · cases hrn4
        · cases hrn4
          have hxn4 := h.T htn4
          refine hx_catch (name := "TaxOnLooks$Refused") X [] ⟨0, 40, 41, 21⟩ [] htab (fun z hz => nomatch hz) (by decide) (by decide) q277 (by decide) ?_
          have fhgn4 : a2 < (0 : Int32) ∨ (¬ a2 < (0 : Int32) ∧ ¬ a2 ≤ nI 1) := sp_fr_f hgn4
          refine hr_astore3 (q := 42) X dX0_glances_41 rfl rfl (Nat.le_of_ble_eq_true rfl) ?_
          refine hr_aload0 (q := 43) X dX0_glances_42 rfl ?_
          refine hr_aload3 (q := 44) X dX0_glances_43 rfl ?_
          refine hr_call0 (q := 47) (hc_V (n := 1) (ci := 0) (As := [.ref qxn4]) X dX0_glances_44 rfl (tc_refused X.tr hxn4 hW (q := qxn4) htn4.2.1 htn4.2.2.1 (k := 5) (by decide) (by decide) (by decide)) q452 cv_X0_refused ⟨Nat.le_of_ble_eq_true rfl, Nat.le_of_ble_eq_true rfl⟩ rfl (Nat.le_of_ble_eq_true rfl) hxn4.o.1 rfl rfl) rfl (fun qx E G' hp => by cases hp.1) (fun r Gf5 hp _ => ?_)
          obtain ⟨hvf5, hhf5⟩ := hp
          cases hvf5
          have hq6 : sq_glances a1 a2 A = ((-5), (sq_no (-5) A).2) := by
            rcases fhgn4 with g | ⟨g, g2⟩
            · simp [sq_glances, sq_noTen, sq_no_1, hgn1, eq_true g]
            · simp [sq_glances, sq_noTen, sq_no_1, hgn1, eq_false g, eq_false g2]
          exact hr_iret X hr dX0_glances_47 (by rw [hq6]; exact ⟨rfl, ca, rfl, hhf5⟩)
      · obtain ⟨hgn4, hrn4, hGn4⟩ | ⟨hgn4, qn4, hrn4, htn4⟩ := hpn4
        · cases hrn4
          have hGn4 := hGn4.symm
          subst hGn4
          have fhgn4 : ¬ a2 < (0 : Int32) ∧ a2 ≤ nI 1 := sp_fr_t hgn4
          refine hr_iload2 (q := 18) X dX0_glances_17 rfl ?_
          refine hr_if_ne (q := 21) (tgt := 32) X dX0_glances_18 rfl (by decide) (fun c18 => ?_) (fun c18 => ?_)
          · refine hr_aload0 (q := 33) X dX0_glances_32 rfl ?_
            refine hr_getR (v := (cp_w ca 0)) (q := 36) X dX0_glances_33 rfl fr_q250_0 rfl h.o.1 h.o.2.2.2.2.2.2.1 ?_
            refine hr_iload1 (q := 37) X dX0_glances_36 rfl ?_
            refine hr_callP (q := 40) (hc_V (n := 1) (ci := 2) (As := [.int (nI (iN a1))]) X dX0_glances_37 rfl (tn_glances X.tr h.w hw (x := iN a1) (by omega)) q1062 cv_X2_glances ⟨Nat.le_of_ble_eq_true rfl, Nat.le_of_ble_eq_true rfl⟩ rfl (Nat.le_of_ble_eq_true rfl) h.w.ob rfl rfl) rfl ?_
            have := sp_lookedAt_lt (t := A.1) hw (iN a1)
            have hq7 : sq_glances a1 a2 A = ((nI (sp_lookedAt A.1 (iN a1))), A) := by
              simp [sq_glances, sq_noTen, sq_no_1, hgn1, eq_false fhgn4.1, eq_true fhgn4.2, eq_false c18]
            exact hr_iret X hr dX0_glances_40 (by rw [hq7]; exact ⟨rfl, ca, rfl, h⟩)
          · refine hr_aload0 (q := 22) X dX0_glances_21 rfl ?_
            refine hr_getR (v := (cp_w ca 0)) (q := 25) X dX0_glances_22 rfl fr_q250_0 rfl h.o.1 h.o.2.2.2.2.2.2.1 ?_
            refine hr_iload1 (q := 26) X dX0_glances_25 rfl ?_
            refine hr_callP (q := 29) (hc_V (n := 1) (ci := 2) (As := [.int (nI (iN a1))]) X dX0_glances_26 rfl (tn_glancers X.tr h.w hw (x := iN a1) (by omega)) q1018 cv_X2_glancers ⟨Nat.le_of_ble_eq_true rfl, Nat.le_of_ble_eq_true rfl⟩ rfl (Nat.le_of_ble_eq_true rfl) h.w.ob rfl rfl) rfl ?_
            have := sp_lookers_lt (t := A.1) hw (iN a1)
            refine hr_goto (tgt := 40) X dX0_glances_29 (by decide) ?_
            have hq8 : sq_glances a1 a2 A = ((nI (sp_lookers A.1 (iN a1))), A) := by
              simp [sq_glances, sq_noTen, sq_no_1, hgn1, eq_false fhgn4.1, eq_true fhgn4.2, eq_true c18]
            exact hr_iret X hr dX0_glances_40 (by rw [hq8]; exact ⟨rfl, ca, rfl, h⟩)
        · cases hrn4
    · cases hrn1

abbrev rk_X0_seed : Room := { frames := 12, cells := 0, slots := 0, locals := 400 }
theorem tc_seed {l : Launch} {D : hg_D} {lo : Nat} (htr : l.stackTraces = false) {G : hg_G} {ca : Nat → Nat} {A : ab_S} (h : cp_R G ca A) (hW : ab_wf A) {a1 : Int32} :
    hg_M l D lo yX0_seed (ws_ yX0_seed cX0_seed 3 ((some FieldType.int))) rk_X0_seed [.ref (ca 0), .int a1] G (cp_Po ca (sq_seed a1 A)) := by
  refine hg_M.of htr (by decide) [some (.ref (ca 0)), some (.int a1), none] rfl (Nat.le_of_ble_eq_true rfl) ?_
  intro p e s m args below meth c X hr hnm htab
  have X : hg_X p l s m args meth c D lo "TaxOnLooks" cX0_seed 3 := X
  have hw := hW.w; have w0 := hw.b0; have w1 := hw.b1; have w2 := hw.b2; have w3 := hw.b3; have w36 := hW.b36; have w43 := hW.b43
  have hpw := sp_wpk hw; have hpb := sp_bpk hw
  obtain ⟨K, hK, hKs, hKb⟩ := h.w.sk
  refine hr_aload0 (q := 1) X dX0_seed_0 rfl ?_
  refine hr_getR (v := (cp_w ca 0)) (q := 4) X dX0_seed_1 rfl fr_q250_0 rfl h.o.1 h.o.2.2.2.2.2.2.1 ?_
  refine hr_getI (v := (A.1.2 6)) (q := 7) X dX0_seed_4 rfl fr_q168_2 rfl h.w.ob h.w.f6 ?_
  refine hr_istore2 (q := 8) X dX0_seed_7 rfl rfl (Nat.le_of_ble_eq_true rfl) ?_
  refine hr_aload0 (q := 9) X dX0_seed_8 rfl ?_
  refine hr_getR (v := (cp_w ca 0)) (q := 12) X dX0_seed_9 rfl fr_q250_0 rfl h.o.1 h.o.2.2.2.2.2.2.1 ?_
  refine hr_iload1 (q := 13) X dX0_seed_12 rfl ?_
  refine hr_putI (q := 16) X dX0_seed_13 rfl fw_q168_2 (fun h => nomatch h) rfl rfl rfl h.w.ob ?_
  have z1 : cp_R (hs_I G (cp_w ca 0) 6 a1) ca (ab_i A 6 a1) := h.town (hg_fr.rf.I ⟨21, .w (by decide), ⟨by decide, by decide, by decide⟩, rfl⟩) (h.w.seti h.wD (k := 6) (by decide) _) (fun a h1 h2 => funext fun i => by first | rfl | exact sp_set_o (by omega)) rfl rfl
  refine hr_iload2 (q := 17) X dX0_seed_16 rfl ?_
  have hq2 : sq_seed a1 A = ((A.1.2 6), ab_i A 6 a1) := by
    simp [sq_seed, sq_noTen, sq_no_1]
  exact hr_iret X hr dX0_seed_17 (by rw [hq2]; exact ⟨rfl, ca, rfl, z1⟩)

abbrev rk_X0_put : Room := { frames := 12, cells := 40, slots := 3000, locals := 400 }
theorem tc_put {l : Launch} {D : hg_D} {lo : Nat} (htr : l.stackTraces = false) {G : hg_G} {ca : Nat → Nat} {A : ab_S} (h : cp_R G ca A) (hW : ab_wf A) {a1 a2 : Int32} :
    hg_M l D lo yX0_put (wsW_ yX0_put cX0_put 4 ((some FieldType.int)) [(0, 39, 40, 21)]) rk_X0_put [.ref (ca 0), .int a1, .int a2] G (cp_Po ca (sq_put a1 a2 A)) := by
  refine hg_M.ofH htr (by decide) [some (.ref (ca 0)), some (.int a1), some (.int a2), none] rfl (Nat.le_of_ble_eq_true rfl) ?_
  intro p e s m args below meth c X hr hnm htab
  have X : hg_X p l s m args meth c D lo "TaxOnLooks" cX0_put 4 := X
  refine hr_room (kr' := 40) (nr' := 3000) (Nat.le_of_ble_eq_true rfl) (Nat.le_of_ble_eq_true rfl) ?_
  have hw := hW.w; have w0 := hw.b0; have w1 := hw.b1; have w2 := hw.b2; have w3 := hw.b3; have w36 := hW.b36; have w43 := hW.b43
  have hpw := sp_wpk hw; have hpb := sp_bpk hw
  obtain ⟨K, hK, hKs, hKb⟩ := h.w.sk
  refine hr_aload0 (q := 1) X dX0_put_0 rfl ?_
  refine hr_iload1 (q := 2) X dX0_put_1 rfl ?_
  refine hr_call (kr := 39) (nr := 2993) (q := 5) (hc_V (n := 1) (ci := 0) (As := [.int a1]) X dX0_put_2 rfl (tc_mustPerson X.tr h hW (x := a1)) q563 cv_X0_mustPerson ⟨Nat.le_of_ble_eq_true rfl, Nat.le_of_ble_eq_true rfl⟩ rfl (Nat.le_of_ble_eq_true rfl) h.o.1 rfl rfl) rfl (fun qxn1 E Gxn1 hpn1 _ => ?_) (fun r Gn1 hpn1 _ => ?_)
  · obtain ⟨hgn1, hrn1, -⟩ | ⟨hgn1, qn1, hrn1, htn1⟩ := hpn1
    · cases hrn1
    · cases hrn1
      have hxn1 := h.T htn1
      refine hx_catch (name := "TaxOnLooks$Refused") X [] ⟨0, 39, 40, 21⟩ [] htab (fun z hz => nomatch hz) (by decide) (by decide) q277 (by decide) ?_
      refine hr_astore3 (q := 41) X dX0_put_40 rfl rfl (Nat.le_of_ble_eq_true rfl) ?_
      refine hr_aload0 (q := 42) X dX0_put_41 rfl ?_
      refine hr_aload3 (q := 43) X dX0_put_42 rfl ?_
      refine hr_call0 (q := 46) (hc_V (n := 1) (ci := 0) (As := [.ref qxn1]) X dX0_put_43 rfl (tc_refused X.tr hxn1 hW (q := qxn1) htn1.2.1 htn1.2.2.1 (k := 1) (by decide) (by decide) (by decide)) q452 cv_X0_refused ⟨Nat.le_of_ble_eq_true rfl, Nat.le_of_ble_eq_true rfl⟩ rfl (Nat.le_of_ble_eq_true rfl) hxn1.o.1 rfl rfl) rfl (fun qx E G' hp => by cases hp.1) (fun r Gf2 hp _ => ?_)
      obtain ⟨hvf2, hhf2⟩ := hp
      cases hvf2
      have hq3 : sq_put a1 a2 A = ((-1), (sq_no (-1) A).2) := by
        simp [sq_put, sq_noTen, sq_no_1, hgn1]
      exact hr_iret X hr dX0_put_46 (by rw [hq3]; exact ⟨rfl, ca, rfl, hhf2⟩)
  · obtain ⟨hgn1, hrn1, hGn1⟩ | ⟨hgn1, qn1, hrn1, htn1⟩ := hpn1
    · cases hrn1
      have hGn1 := hGn1.symm
      subst hGn1
      obtain ⟨ea1, la1⟩ := sp_in_n hgn1 (by omega)
      refine hr_L (L' := [some (.ref (ca 0)), some (.int (nI (iN a1))), some (.int a2), none]) (by rw [← ea1]) ?_
      refine hr_aload0 (q := 6) X dX0_put_5 rfl ?_
      refine hr_getR (v := (cp_w ca 0)) (q := 9) X dX0_put_6 rfl fr_q250_0 rfl h.o.1 h.o.2.2.2.2.2.2.1 ?_
      refine hr_iload2 (q := 10) X dX0_put_9 rfl ?_
      refine hr_callP (q := 13) (hc_V (n := 1) (ci := 2) (As := [.int a2]) X dX0_put_10 rfl (tn_isFree X.tr h.w hw (x := a2)) q632 cv_X2_isFree ⟨Nat.le_of_ble_eq_true rfl, Nat.le_of_ble_eq_true rfl⟩ rfl (Nat.le_of_ble_eq_true rfl) h.w.ob rfl rfl) rfl ?_
      refine hr_bipush (v := (-6)) (q := 15) X dX0_put_13 rfl rfl ?_
      refine hr_call (kr := 38) (nr := 2986) (q := 18) (hc_S (n := 2) (As := [.int (bI (sp_free A.1 a2)), .int (-6)]) X dX0_put_15 rfl (tc_need X.tr (g := sp_free A.1 a2) (w := (-6))) q383 cs_X0_need ⟨Nat.le_of_ble_eq_true rfl, Nat.le_of_ble_eq_true rfl⟩ rfl (Nat.le_of_ble_eq_true rfl)) rfl (fun qxn4 E Gxn4 hpn4 _ => ?_) (fun r Gn4 hpn4 _ => ?_)
      · obtain ⟨hgn4, hrn4, -⟩ | ⟨hgn4, qn4, hrn4, htn4⟩ := hpn4
        · cases hrn4
        · cases hrn4
          have hxn4 := h.T htn4
          refine hx_catch (name := "TaxOnLooks$Refused") X [] ⟨0, 39, 40, 21⟩ [] htab (fun z hz => nomatch hz) (by decide) (by decide) q277 (by decide) ?_
          have fhgn4 := sp_free_f hgn4
          refine hr_astore3 (q := 41) X dX0_put_40 rfl rfl (Nat.le_of_ble_eq_true rfl) ?_
          refine hr_aload0 (q := 42) X dX0_put_41 rfl ?_
          refine hr_aload3 (q := 43) X dX0_put_42 rfl ?_
          refine hr_call0 (q := 46) (hc_V (n := 1) (ci := 0) (As := [.ref qxn4]) X dX0_put_43 rfl (tc_refused X.tr hxn4 hW (q := qxn4) htn4.2.1 htn4.2.2.1 (k := 6) (by decide) (by decide) (by decide)) q452 cv_X0_refused ⟨Nat.le_of_ble_eq_true rfl, Nat.le_of_ble_eq_true rfl⟩ rfl (Nat.le_of_ble_eq_true rfl) hxn4.o.1 rfl rfl) rfl (fun qx E G' hp => by cases hp.1) (fun r Gf5 hp _ => ?_)
          obtain ⟨hvf5, hhf5⟩ := hp
          cases hvf5
          have hq6 : sq_put a1 a2 A = ((-6), (sq_no (-6) A).2) := by
            rcases fhgn4 with g | ⟨g, g2⟩
            · simp [sq_put, sq_noTen, sq_no_1, hgn1, g]
            · simp [sq_put, sq_noTen, sq_no_1, hgn1, g, eq_true g2]
          exact hr_iret X hr dX0_put_46 (by rw [hq6]; exact ⟨rfl, ca, rfl, hhf5⟩)
      · obtain ⟨hgn4, hrn4, hGn4⟩ | ⟨hgn4, qn4, hrn4, htn4⟩ := hpn4
        · cases hrn4
          have hGn4 := hGn4.symm
          subst hGn4
          obtain ⟨fhgn4, khgn4⟩ := sp_free_t hgn4
          obtain ⟨ea2, la2⟩ := sp_in_n fhgn4 (by omega)
          refine hr_L (L' := [some (.ref (ca 0)), some (.int (nI (iN a1))), some (.int (nI (iN a2))), none]) (by rw [← ea2]) ?_
          refine hr_aload0 (q := 19) X dX0_put_18 rfl ?_
          refine hr_getR (v := (cp_w ca 0)) (q := 22) X dX0_put_19 rfl fr_q250_0 rfl h.o.1 h.o.2.2.2.2.2.2.1 ?_
          refine hr_getR (v := (cp_w ca 4)) (q := 25) X dX0_put_22 rfl fr_q190_2 rfl h.w.ob h.w.f14 ?_
          refine hr_iload1 (q := 26) X dX0_put_25 rfl ?_
          have b7 := hw.b14 (p := iN a1) (by omega)
          refine hr_ialdN (v := (nI (A.1.1 14 (iN a1)))) (q := 27) X dX0_put_26 rfl h.w.k4 (Or.inl rfl) (by omega) (by decide) (h.w.e4 (by omega)) ?_
          refine hr_istore3 (q := 28) X dX0_put_27 rfl rfl (Nat.le_of_ble_eq_true rfl) ?_
          refine hr_aload0 (q := 29) X dX0_put_28 rfl ?_
          refine hr_getR (v := (cp_w ca 0)) (q := 32) X dX0_put_29 rfl fr_q250_0 rfl h.o.1 h.o.2.2.2.2.2.2.1 ?_
          refine hr_getR (v := (cp_w ca 4)) (q := 35) X dX0_put_32 rfl fr_q190_2 rfl h.w.ob h.w.f14 ?_
          refine hr_iload1 (q := 36) X dX0_put_35 rfl ?_
          refine hr_iload2 (q := 37) X dX0_put_36 rfl ?_
          refine hr_iastN (q := 38) X dX0_put_37 rfl h.w.k4 (by omega) (by decide) ?_
          have z8 : cp_R (hs_I G (cp_w ca 4) (iN a1) ((nI (iN a2)))) ca (ab_n A 14 (iN a1) (iN a2)) := h.town (hg_fr.rf.I ⟨25, .w (by decide), ⟨by decide, by decide, by decide⟩, rfl⟩) (h.w.putA h.wD (i := 4) (a := 14) (Or.inr (Or.inr ⟨rfl, rfl⟩))) (fun a h1 h2 => funext fun i => by first | rfl | exact sp_set_o (by omega)) rfl rfl
          refine hr_iload3 (q := 39) X dX0_put_38 rfl ?_
          have hq9 : sq_put a1 a2 A = ((nI (A.1.1 14 (iN a1))), ab_n A 14 (iN a1) (iN a2)) := by
            simp [sq_put, sq_noTen, sq_no_1, hgn1, fhgn4, eq_false khgn4]
          exact hr_iret X hr dX0_put_39 (by rw [hq9]; exact ⟨rfl, ca, rfl, z8⟩)
        · cases hrn4
    · cases hrn1

abbrev rk_X0_squareOf : Room := { frames := 12, cells := 0, slots := 0, locals := 400 }
theorem tc_squareOf {l : Launch} {D : hg_D} {lo : Nat} (htr : l.stackTraces = false) {G : hg_G} {ca : Nat → Nat} {A : ab_S} (h : cp_R G ca A) (hW : ab_wf A) {a1 a2 : Int32} :
    hg_M l D lo yX0_squareOf (ws_ yX0_squareOf cX0_squareOf 3 ((some FieldType.int))) rk_X0_squareOf [.ref (ca 0), .int a1, .int a2] G (cp_Po ca (sq_squareOf a1 a2 A)) := by
  refine hg_M.of htr (by decide) [some (.ref (ca 0)), some (.int a1), some (.int a2)] rfl (Nat.le_of_ble_eq_true rfl) ?_
  intro p e s m args below meth c X hr hnm htab
  have X : hg_X p l s m args meth c D lo "TaxOnLooks" cX0_squareOf 3 := X
  have hw := hW.w; have w0 := hw.b0; have w1 := hw.b1; have w2 := hw.b2; have w3 := hw.b3; have w36 := hW.b36; have w43 := hW.b43
  have hpw := sp_wpk hw; have hpb := sp_bpk hw
  obtain ⟨K, hK, hKs, hKb⟩ := h.w.sk
  refine hr_iload1 (q := 1) X dX0_squareOf_0 rfl ?_
  refine hr_i2l (v := a1.toInt64) (q := 2) X dX0_squareOf_1 rfl rfl ?_
  refine hr_lconst (v := (lN 0)) (q := 3) X dX0_squareOf_2 rfl rfl ?_
  refine hr_ldc2 (q := 6) X dX0_squareOf_3 rfl q748 ?_
  refine hr_callP (v := .int (bI (sp_fr a1 (nI 0) (nI 35)))) (q := 9) (hc_S (n := 3) (As := [.long a1.toInt64, .long (lN 0), .long 35]) X dX0_squareOf_6 rfl (tc_in X.tr (x := a1) (b := 0) (z := 35) (by decide) (by decide)) q387 cs_X0_in ⟨Nat.le_of_ble_eq_true rfl, Nat.le_of_ble_eq_true rfl⟩ rfl (Nat.le_of_ble_eq_true rfl)) rfl ?_
  refine hr_ifB_ne (q := 12) (tgt := 17) X dX0_squareOf_9 rfl (by decide) (fun c9 => ?_) (fun c9 => ?_)
  · have fc9 := c9
    rw [sp_fr_in] at fc9
    obtain ⟨ea1, la1⟩ := sp_in_n fc9 (by omega)
    refine hr_L (L' := [some (.ref (ca 0)), some (.int (nI (iN a1))), some (.int a2)]) (by rw [← ea1]) ?_
    refine hr_iload2 (q := 18) X dX0_squareOf_17 rfl ?_
    by_cases e18_0 : a2 = nI 0
    · refine hr_tableIn (off := 26) (tgt := 44) X dX0_squareOf_18 (by rw [e18_0]; decide) (by rw [e18_0]; decide) (by rw [e18_0]; rfl) (by decide) ?_
      refine hr_aload0 (q := 45) X dX0_squareOf_44 rfl ?_
      refine hr_getR (v := (cp_w ca 0)) (q := 48) X dX0_squareOf_45 rfl fr_q250_0 rfl h.o.1 h.o.2.2.2.2.2.2.1 ?_
      refine hr_iload1 (q := 49) X dX0_squareOf_48 rfl ?_
      refine hr_callP (q := 52) (hc_V (n := 1) (ci := 2) (As := [.int (nI (iN a1))]) X dX0_squareOf_49 rfl (tn_isWall X.tr h.w hw (z := iN a1) (by omega)) q810 cv_X2_isWall ⟨Nat.le_of_ble_eq_true rfl, Nat.le_of_ble_eq_true rfl⟩ rfl (Nat.le_of_ble_eq_true rfl) h.w.ob rfl rfl) rfl ?_
      refine hr_ifB_eq (q := 55) (tgt := 59) X dX0_squareOf_52 rfl (by decide) (fun c52 => ?_) (fun c52 => ?_)
      · have hx : A.1.1 16 (iN a1) = 0 := by have h8 := hw.b16 (c := iN a1) (by omega); have h9 : ¬ A.1.1 16 (iN a1) = 1 := (by simpa using c52); omega
        refine hr_iconst (v := (nI 0)) (q := 60) X dX0_squareOf_59 rfl rfl ?_
        have hq1 : sq_squareOf a1 a2 A = ((nI 0), A) := by
          simp [sq_squareOf, sq_noTen, sq_no_1, fc9, eq_true e18_0, hx]
        exact hr_iret X hr dX0_squareOf_60 (by rw [hq1]; exact ⟨rfl, ca, rfl, h⟩)
      · have hx : A.1.1 16 (iN a1) = 1 := by simpa using c52
        refine hr_iconst (v := (nI 1)) (q := 56) X dX0_squareOf_55 rfl rfl ?_
        refine hr_goto (tgt := 60) X dX0_squareOf_56 (by decide) ?_
        have hq2 : sq_squareOf a1 a2 A = ((nI 1), A) := by
          simp [sq_squareOf, sq_noTen, sq_no_1, fc9, eq_true e18_0, hx]
        exact hr_iret X hr dX0_squareOf_60 (by rw [hq2]; exact ⟨rfl, ca, rfl, h⟩)
    by_cases e18_1 : a2 = nI 1
    · refine hr_tableIn (off := 43) (tgt := 61) X dX0_squareOf_18 (by rw [e18_1]; decide) (by rw [e18_1]; decide) (by rw [e18_1]; rfl) (by decide) ?_
      refine hr_aload0 (q := 62) X dX0_squareOf_61 rfl ?_
      refine hr_getR (v := (cp_w ca 0)) (q := 65) X dX0_squareOf_62 rfl fr_q250_0 rfl h.o.1 h.o.2.2.2.2.2.2.1 ?_
      refine hr_getJ (v := (lN (sp_pk (A.1.1 17) 36))) (q := 68) X dX0_squareOf_65 rfl fr_q174_2 rfl h.w.ob h.w.f8 ?_
      refine hr_iload1 (q := 69) X dX0_squareOf_68 rfl ?_
      refine hr_lshr (v := (lN ((sp_pk (A.1.1 17) 36) / 2 ^ (iN a1)))) (q := 70) X dX0_squareOf_69 rfl (lN_shr (by omega) (by omega)) ?_
      refine hr_lconst (v := (lN 1)) (q := 71) X dX0_squareOf_70 rfl rfl ?_
      refine hr_land (v := (lN (((sp_pk (A.1.1 17) 36) / 2 ^ (iN a1)) % 2))) (q := 72) X dX0_squareOf_71 rfl (lN_and1 (Nat.lt_of_le_of_lt (Nat.div_le_self _ _) (by omega))) ?_
      refine hr_l2i (v := (nI (A.1.1 17 (iN a1)))) (q := 73) X dX0_squareOf_72 rfl (by rw [sp_bbit hw (by omega)]; have := hw.b17 (c := iN a1) (by omega); rcases (show A.1.1 17 (iN a1) = 0 ∨ A.1.1 17 (iN a1) = 1 by omega) with e | e <;> rw [e] <;> rfl) ?_
      have hq3 : sq_squareOf a1 a2 A = ((nI (A.1.1 17 (iN a1))), A) := by
        simp [sq_squareOf, sq_noTen, sq_no_1, fc9, eq_false e18_0, eq_true e18_1]
      exact hr_iret X hr dX0_squareOf_73 (by rw [hq3]; exact ⟨rfl, ca, rfl, h⟩)
    by_cases e18_2 : a2 = nI 2
    · refine hr_tableIn (off := 56) (tgt := 74) X dX0_squareOf_18 (by rw [e18_2]; decide) (by rw [e18_2]; decide) (by rw [e18_2]; rfl) (by decide) ?_
      refine hr_aload0 (q := 75) X dX0_squareOf_74 rfl ?_
      refine hr_getR (v := (cp_w ca 0)) (q := 78) X dX0_squareOf_75 rfl fr_q250_0 rfl h.o.1 h.o.2.2.2.2.2.2.1 ?_
      refine hr_iload1 (q := 79) X dX0_squareOf_78 rfl ?_
      refine hr_callP (q := 82) (hc_V (n := 1) (ci := 2) (As := [.int (nI (iN a1))]) X dX0_squareOf_79 rfl (tn_standAt X.tr h.w hw (z := iN a1) (by omega)) q749 cv_X2_standAt ⟨Nat.le_of_ble_eq_true rfl, Nat.le_of_ble_eq_true rfl⟩ rfl (Nat.le_of_ble_eq_true rfl) h.w.ob rfl rfl) rfl ?_
      have := sp_there_lt (t := A.1) hw (iN a1)
      have hq4 : sq_squareOf a1 a2 A = ((nI (sp_there A.1 (iN a1))), A) := by
        simp [sq_squareOf, sq_noTen, sq_no_1, fc9, eq_false e18_0, eq_false e18_1, eq_true e18_2]
      exact hr_iret X hr dX0_squareOf_82 (by rw [hq4]; exact ⟨rfl, ca, rfl, h⟩)
    refine hr_tableOut (tgt := 83) X dX0_squareOf_18 (sp_out (n := 3) (by decide) (fun i hi => by match i, hi with | 0, _ => exact e18_0 | 1, _ => exact e18_1 | 2, _ => exact e18_2 | (k + 3), hi => omega)) (by decide) ?_
    refine hr_aload0 (q := 84) X dX0_squareOf_83 rfl ?_
    refine hr_call0 (q := 87) (hc_V (n := 0) (ci := 0) (As := []) X dX0_squareOf_84 rfl (tc_beyond X.tr h hW) q778 cv_X0_beyond ⟨Nat.le_of_ble_eq_true rfl, Nat.le_of_ble_eq_true rfl⟩ rfl (Nat.le_of_ble_eq_true rfl) h.o.1 rfl rfl) rfl (fun qx E G' hp => by cases hp.1) (fun r Gf5 hp _ => ?_)
    obtain ⟨hvf5, hhf5⟩ := hp
    cases hvf5
    have hq6 : sq_squareOf a1 a2 A = ((-5), (sq_no (-5) A).2) := by
      simp [sq_squareOf, sq_noTen, sq_no_1, fc9, eq_false e18_0, eq_false e18_1, eq_false e18_2]
    exact hr_iret X hr dX0_squareOf_87 (by rw [hq6]; exact ⟨rfl, ca, rfl, hhf5⟩)
  · have fc9 := c9
    rw [sp_fr_in] at fc9
    refine hr_aload0 (q := 13) X dX0_squareOf_12 rfl ?_
    refine hr_call0 (q := 16) (hc_V (n := 0) (ci := 0) (As := []) X dX0_squareOf_13 rfl (tc_beyond X.tr h hW) q778 cv_X0_beyond ⟨Nat.le_of_ble_eq_true rfl, Nat.le_of_ble_eq_true rfl⟩ rfl (Nat.le_of_ble_eq_true rfl) h.o.1 rfl rfl) rfl (fun qx E G' hp => by cases hp.1) (fun r Gf7 hp _ => ?_)
    obtain ⟨hvf7, hhf7⟩ := hp
    cases hvf7
    have hq8 : sq_squareOf a1 a2 A = ((-5), (sq_no (-5) A).2) := by
      simp [sq_squareOf, sq_noTen, sq_no_1, fc9]
    exact hr_iret X hr dX0_squareOf_16 (by rw [hq8]; exact ⟨rfl, ca, rfl, hhf7⟩)

abbrev rk_X0_personOf : Room := { frames := 12, cells := 0, slots := 0, locals := 400 }
theorem tc_personOf {l : Launch} {D : hg_D} {lo : Nat} (htr : l.stackTraces = false) {G : hg_G} {ca : Nat → Nat} {A : ab_S} (h : cp_R G ca A) (hW : ab_wf A) {a1 a2 : Int32} :
    hg_M l D lo yX0_personOf (ws_ yX0_personOf cX0_personOf 3 ((some FieldType.int))) rk_X0_personOf [.ref (ca 0), .int a1, .int a2] G (cp_Po ca (sq_personOf a1 a2 A)) := by
  refine hg_M.of htr (by decide) [some (.ref (ca 0)), some (.int a1), some (.int a2)] rfl (Nat.le_of_ble_eq_true rfl) ?_
  intro p e s m args below meth c X hr hnm htab
  have X : hg_X p l s m args meth c D lo "TaxOnLooks" cX0_personOf 3 := X
  have hw := hW.w; have w0 := hw.b0; have w1 := hw.b1; have w2 := hw.b2; have w3 := hw.b3; have w36 := hW.b36; have w43 := hW.b43
  have hpw := sp_wpk hw; have hpb := sp_bpk hw
  obtain ⟨K, hK, hKs, hKb⟩ := h.w.sk
  refine hr_aload0 (q := 1) X dX0_personOf_0 rfl ?_
  refine hr_getR (v := (cp_w ca 0)) (q := 4) X dX0_personOf_1 rfl fr_q250_0 rfl h.o.1 h.o.2.2.2.2.2.2.1 ?_
  refine hr_iload1 (q := 5) X dX0_personOf_4 rfl ?_
  refine hr_callP (q := 8) (hc_V (n := 1) (ci := 2) (As := [.int a1]) X dX0_personOf_5 rfl (tn_isPerson X.tr h.w hw (x := a1)) q567 cv_X2_isPerson ⟨Nat.le_of_ble_eq_true rfl, Nat.le_of_ble_eq_true rfl⟩ rfl (Nat.le_of_ble_eq_true rfl) h.w.ob rfl rfl) rfl ?_
  refine hr_ifB_ne (q := 11) (tgt := 16) X dX0_personOf_8 rfl (by decide) (fun c8 => ?_) (fun c8 => ?_)
  · obtain ⟨ea1, la1⟩ := sp_in_n c8 (by omega)
    refine hr_L (L' := [some (.ref (ca 0)), some (.int (nI (iN a1))), some (.int a2)]) (by rw [← ea1]) ?_
    refine hr_iload2 (q := 17) X dX0_personOf_16 rfl ?_
    by_cases e17_0 : a2 = nI 0
    · refine hr_tableIn (off := 47) (tgt := 64) X dX0_personOf_17 (by rw [e17_0]; decide) (by rw [e17_0]; decide) (by rw [e17_0]; rfl) (by decide) ?_
      refine hr_aload0 (q := 65) X dX0_personOf_64 rfl ?_
      refine hr_getR (v := (cp_w ca 0)) (q := 68) X dX0_personOf_65 rfl fr_q250_0 rfl h.o.1 h.o.2.2.2.2.2.2.1 ?_
      refine hr_getR (v := (cp_w ca 1)) (q := 71) X dX0_personOf_68 rfl fr_q181_2 rfl h.w.ob h.w.f11 ?_
      refine hr_iload1 (q := 72) X dX0_personOf_71 rfl ?_
      obtain ⟨q1, hq1a, hq1k, hq1i, hq1b, hq1s⟩ := h.w.pe (p := iN a1) (by omega)
      have hq19 := hw.b9 (p := iN a1) (by omega)
      refine hr_aaldN (v := q1) (q := 73) X dX0_personOf_72 rfl h.w.k1 (by decide) (by omega) (by decide) hq1a ?_
      refine hr_callP (q := 76) (hcP_kind (k := A.1.1 9 (iN a1)) (by omega) hq1k X dX0_personOf_73 q782 ⟨Nat.le_of_ble_eq_true rfl, Nat.le_of_ble_eq_true rfl⟩ (Nat.le_of_ble_eq_true rfl)) rfl ?_
      have hq2 : sq_personOf a1 a2 A = ((nI (A.1.1 9 (iN a1))), A) := by
        simp [sq_personOf, sq_noTen, sq_no_1, c8, eq_true e17_0]
      exact hr_iret X hr dX0_personOf_76 (by rw [hq2]; exact ⟨rfl, ca, rfl, h⟩)
    by_cases e17_1 : a2 = nI 1
    · refine hr_tableIn (off := 60) (tgt := 77) X dX0_personOf_17 (by rw [e17_1]; decide) (by rw [e17_1]; decide) (by rw [e17_1]; rfl) (by decide) ?_
      refine hr_aload0 (q := 78) X dX0_personOf_77 rfl ?_
      refine hr_getR (v := (cp_w ca 0)) (q := 81) X dX0_personOf_78 rfl fr_q250_0 rfl h.o.1 h.o.2.2.2.2.2.2.1 ?_
      refine hr_getR (v := (cp_w ca 1)) (q := 84) X dX0_personOf_81 rfl fr_q181_2 rfl h.w.ob h.w.f11 ?_
      refine hr_iload1 (q := 85) X dX0_personOf_84 rfl ?_
      obtain ⟨q3, hq3a, hq3k, hq3i, hq3b, hq3s⟩ := h.w.pe (p := iN a1) (by omega)
      have hq39 := hw.b9 (p := iN a1) (by omega)
      refine hr_aaldN (v := q3) (q := 86) X dX0_personOf_85 rfl h.w.k1 (by decide) (by omega) (by decide) hq3a ?_
      refine hr_getI (v := (nI (A.1.1 10 (iN a1)))) (q := 89) X dX0_personOf_86 rfl (fp_q672 _ (by omega)) (fp_ft _ (by omega) 1 (by decide)) hq3k hq3b ?_
      have hq4 : sq_personOf a1 a2 A = ((nI (A.1.1 10 (iN a1))), A) := by
        simp [sq_personOf, sq_noTen, sq_no_1, c8, eq_false e17_0, eq_true e17_1]
      exact hr_iret X hr dX0_personOf_89 (by rw [hq4]; exact ⟨rfl, ca, rfl, h⟩)
    by_cases e17_2 : a2 = nI 2
    · refine hr_tableIn (off := 73) (tgt := 90) X dX0_personOf_17 (by rw [e17_2]; decide) (by rw [e17_2]; decide) (by rw [e17_2]; rfl) (by decide) ?_
      refine hr_aload0 (q := 91) X dX0_personOf_90 rfl ?_
      refine hr_getR (v := (cp_w ca 0)) (q := 94) X dX0_personOf_91 rfl fr_q250_0 rfl h.o.1 h.o.2.2.2.2.2.2.1 ?_
      refine hr_getR (v := (cp_w ca 2)) (q := 97) X dX0_personOf_94 rfl fr_q183_2 rfl h.w.ob h.w.f12 ?_
      refine hr_iload1 (q := 98) X dX0_personOf_97 rfl ?_
      have b5 := hw.b11 (p := iN a1) (by omega)
      refine hr_ialdN (v := (nI (A.1.1 11 (iN a1)))) (q := 99) X dX0_personOf_98 rfl h.w.k2 (Or.inl rfl) (by omega) (by decide) (h.w.e2 (by omega)) ?_
      have hq6 : sq_personOf a1 a2 A = ((nI (A.1.1 11 (iN a1))), A) := by
        simp [sq_personOf, sq_noTen, sq_no_1, c8, eq_false e17_0, eq_false e17_1, eq_true e17_2]
      exact hr_iret X hr dX0_personOf_99 (by rw [hq6]; exact ⟨rfl, ca, rfl, h⟩)
    by_cases e17_3 : a2 = nI 3
    · refine hr_tableIn (off := 83) (tgt := 100) X dX0_personOf_17 (by rw [e17_3]; decide) (by rw [e17_3]; decide) (by rw [e17_3]; rfl) (by decide) ?_
      refine hr_aload0 (q := 101) X dX0_personOf_100 rfl ?_
      refine hr_getR (v := (cp_w ca 0)) (q := 104) X dX0_personOf_101 rfl fr_q250_0 rfl h.o.1 h.o.2.2.2.2.2.2.1 ?_
      refine hr_getR (v := (cp_w ca 1)) (q := 107) X dX0_personOf_104 rfl fr_q181_2 rfl h.w.ob h.w.f11 ?_
      refine hr_iload1 (q := 108) X dX0_personOf_107 rfl ?_
      obtain ⟨q7, hq7a, hq7k, hq7i, hq7b, hq7s⟩ := h.w.pe (p := iN a1) (by omega)
      have hq79 := hw.b9 (p := iN a1) (by omega)
      refine hr_aaldN (v := q7) (q := 109) X dX0_personOf_108 rfl h.w.k1 (by decide) (by omega) (by decide) hq7a ?_
      refine hr_getI (v := (nI (A.1.1 12 (iN a1)))) (q := 112) X dX0_personOf_109 rfl (fp_q680 _ (by omega)) (fp_ft _ (by omega) 2 (by decide)) hq7k hq7s ?_
      have hq8 : sq_personOf a1 a2 A = ((nI (A.1.1 12 (iN a1))), A) := by
        simp [sq_personOf, sq_noTen, sq_no_1, c8, eq_false e17_0, eq_false e17_1, eq_false e17_2, eq_true e17_3]
      exact hr_iret X hr dX0_personOf_112 (by rw [hq8]; exact ⟨rfl, ca, rfl, h⟩)
    by_cases e17_4 : a2 = nI 4
    · refine hr_tableIn (off := 96) (tgt := 113) X dX0_personOf_17 (by rw [e17_4]; decide) (by rw [e17_4]; decide) (by rw [e17_4]; rfl) (by decide) ?_
      refine hr_aload0 (q := 114) X dX0_personOf_113 rfl ?_
      refine hr_getR (v := (cp_w ca 0)) (q := 117) X dX0_personOf_114 rfl fr_q250_0 rfl h.o.1 h.o.2.2.2.2.2.2.1 ?_
      refine hr_getR (v := (cp_w ca 3)) (q := 120) X dX0_personOf_117 rfl fr_q186_2 rfl h.w.ob h.w.f13 ?_
      refine hr_iload1 (q := 121) X dX0_personOf_120 rfl ?_
      have b9 := hw.b13 (p := iN a1) (by omega)
      refine hr_ialdN (v := (nI (A.1.1 13 (iN a1)))) (q := 122) X dX0_personOf_121 rfl h.w.k3 (Or.inl rfl) (by omega) (by decide) (h.w.e3 (by omega)) ?_
      have hq10 : sq_personOf a1 a2 A = ((nI (A.1.1 13 (iN a1))), A) := by
        simp [sq_personOf, sq_noTen, sq_no_1, c8, eq_false e17_0, eq_false e17_1, eq_false e17_2, eq_false e17_3, eq_true e17_4]
      exact hr_iret X hr dX0_personOf_122 (by rw [hq10]; exact ⟨rfl, ca, rfl, h⟩)
    by_cases e17_5 : a2 = nI 5
    · refine hr_tableIn (off := 106) (tgt := 123) X dX0_personOf_17 (by rw [e17_5]; decide) (by rw [e17_5]; decide) (by rw [e17_5]; rfl) (by decide) ?_
      refine hr_aload0 (q := 124) X dX0_personOf_123 rfl ?_
      refine hr_getR (v := (cp_w ca 0)) (q := 127) X dX0_personOf_124 rfl fr_q250_0 rfl h.o.1 h.o.2.2.2.2.2.2.1 ?_
      refine hr_getR (v := (cp_w ca 4)) (q := 130) X dX0_personOf_127 rfl fr_q190_2 rfl h.w.ob h.w.f14 ?_
      refine hr_iload1 (q := 131) X dX0_personOf_130 rfl ?_
      have b11 := hw.b14 (p := iN a1) (by omega)
      refine hr_ialdN (v := (nI (A.1.1 14 (iN a1)))) (q := 132) X dX0_personOf_131 rfl h.w.k4 (Or.inl rfl) (by omega) (by decide) (h.w.e4 (by omega)) ?_
      have hq12 : sq_personOf a1 a2 A = ((nI (A.1.1 14 (iN a1))), A) := by
        simp [sq_personOf, sq_noTen, sq_no_1, c8, eq_false e17_0, eq_false e17_1, eq_false e17_2, eq_false e17_3, eq_false e17_4, eq_true e17_5]
      exact hr_iret X hr dX0_personOf_132 (by rw [hq12]; exact ⟨rfl, ca, rfl, h⟩)
    by_cases e17_6 : a2 = nI 6
    · refine hr_tableIn (off := 116) (tgt := 133) X dX0_personOf_17 (by rw [e17_6]; decide) (by rw [e17_6]; decide) (by rw [e17_6]; rfl) (by decide) ?_
      refine hr_aload0 (q := 134) X dX0_personOf_133 rfl ?_
      refine hr_getR (v := (cp_w ca 0)) (q := 137) X dX0_personOf_134 rfl fr_q250_0 rfl h.o.1 h.o.2.2.2.2.2.2.1 ?_
      refine hr_getI (v := (nI K)) (q := 140) X dX0_personOf_137 rfl fr_q177_2 rfl h.w.ob hKs ?_
      refine hr_iload1 (q := 141) X dX0_personOf_140 rfl ?_
      refine hr_ishr (v := (nI (K / 2 ^ (iN a1)))) (q := 142) X dX0_personOf_141 rfl (sp_shr (by omega) (by omega)) ?_
      refine hr_iconst (v := (nI 1)) (q := 143) X dX0_personOf_142 rfl rfl ?_
      refine hr_iand (v := (nI ((K / 2 ^ (iN a1)) % 2))) (q := 144) X dX0_personOf_143 rfl (sp_and1 (Nat.lt_of_le_of_lt (Nat.div_le_self _ _) (by omega))) ?_
      refine hr_st1 (v' := .int (nI (A.1.1 15 (iN a1)))) (congrArg Value.int (congrArg nI (hKb _ (by omega)))) ?_
      have hq13 : sq_personOf a1 a2 A = ((nI (A.1.1 15 (iN a1))), A) := by
        simp [sq_personOf, sq_noTen, sq_no_1, c8, eq_false e17_0, eq_false e17_1, eq_false e17_2, eq_false e17_3, eq_false e17_4, eq_false e17_5, eq_true e17_6]
      exact hr_iret X hr dX0_personOf_144 (by rw [hq13]; exact ⟨rfl, ca, rfl, h⟩)
    by_cases e17_7 : a2 = nI 7
    · refine hr_tableIn (off := 128) (tgt := 145) X dX0_personOf_17 (by rw [e17_7]; decide) (by rw [e17_7]; decide) (by rw [e17_7]; rfl) (by decide) ?_
      refine hr_aload0 (q := 146) X dX0_personOf_145 rfl ?_
      refine hr_getR (v := (cp_w ca 0)) (q := 149) X dX0_personOf_146 rfl fr_q250_0 rfl h.o.1 h.o.2.2.2.2.2.2.1 ?_
      refine hr_iload1 (q := 150) X dX0_personOf_149 rfl ?_
      refine hr_callP (q := 153) (hc_V (n := 1) (ci := 2) (As := [.int (nI (iN a1))]) X dX0_personOf_150 rfl (tn_show X.tr h.w hw (x := iN a1) (by omega)) q805 cv_X2_show ⟨Nat.le_of_ble_eq_true rfl, Nat.le_of_ble_eq_true rfl⟩ rfl (Nat.le_of_ble_eq_true rfl) h.w.ob rfl rfl) rfl ?_
      have := sp_shows_lt (t := A.1) hw (x := (iN a1)) (by omega)
      have hq14 : sq_personOf a1 a2 A = ((nI (sp_shows A.1 (iN a1))), A) := by
        simp [sq_personOf, sq_noTen, sq_no_1, c8, eq_false e17_0, eq_false e17_1, eq_false e17_2, eq_false e17_3, eq_false e17_4, eq_false e17_5, eq_false e17_6, eq_true e17_7]
      exact hr_iret X hr dX0_personOf_153 (by rw [hq14]; exact ⟨rfl, ca, rfl, h⟩)
    refine hr_tableOut (tgt := 154) X dX0_personOf_17 (sp_out (n := 8) (by decide) (fun i hi => by match i, hi with | 0, _ => exact e17_0 | 1, _ => exact e17_1 | 2, _ => exact e17_2 | 3, _ => exact e17_3 | 4, _ => exact e17_4 | 5, _ => exact e17_5 | 6, _ => exact e17_6 | 7, _ => exact e17_7 | (k + 8), hi => omega)) (by decide) ?_
    refine hr_aload0 (q := 155) X dX0_personOf_154 rfl ?_
    refine hr_call0 (q := 158) (hc_V (n := 0) (ci := 0) (As := []) X dX0_personOf_155 rfl (tc_beyond X.tr h hW) q778 cv_X0_beyond ⟨Nat.le_of_ble_eq_true rfl, Nat.le_of_ble_eq_true rfl⟩ rfl (Nat.le_of_ble_eq_true rfl) h.o.1 rfl rfl) rfl (fun qx E G' hp => by cases hp.1) (fun r Gf15 hp _ => ?_)
    obtain ⟨hvf15, hhf15⟩ := hp
    cases hvf15
    have hq16 : sq_personOf a1 a2 A = ((-5), (sq_no (-5) A).2) := by
      simp [sq_personOf, sq_noTen, sq_no_1, c8, eq_false e17_0, eq_false e17_1, eq_false e17_2, eq_false e17_3, eq_false e17_4, eq_false e17_5, eq_false e17_6, eq_false e17_7]
    exact hr_iret X hr dX0_personOf_158 (by rw [hq16]; exact ⟨rfl, ca, rfl, hhf15⟩)
  · refine hr_aload0 (q := 12) X dX0_personOf_11 rfl ?_
    refine hr_call0 (q := 15) (hc_V (n := 0) (ci := 0) (As := []) X dX0_personOf_12 rfl (tc_beyond X.tr h hW) q778 cv_X0_beyond ⟨Nat.le_of_ble_eq_true rfl, Nat.le_of_ble_eq_true rfl⟩ rfl (Nat.le_of_ble_eq_true rfl) h.o.1 rfl rfl) rfl (fun qx E G' hp => by cases hp.1) (fun r Gf17 hp _ => ?_)
    obtain ⟨hvf17, hhf17⟩ := hp
    cases hvf17
    have hq18 : sq_personOf a1 a2 A = ((-5), (sq_no (-5) A).2) := by
      simp [sq_personOf, sq_noTen, sq_no_1, c8]
    exact hr_iret X hr dX0_personOf_15 (by rw [hq18]; exact ⟨rfl, ca, rfl, hhf17⟩)

abbrev rk_X0_walk : Room := { frames := 12, cells := 40, slots := 3000, locals := 400 }
theorem tc_walk {l : Launch} {D : hg_D} {lo : Nat} (htr : l.stackTraces = false) {G : hg_G} {ca : Nat → Nat} {A : ab_S} (h : cp_R G ca A) (hW : ab_wf A) {a1 a2 a3 : Int32} :
    hg_M l D lo yX0_walk (wsW_ yX0_walk cX0_walk 5 ((some FieldType.int)) [(0, 76, 124, 21), (77, 123, 124, 21)]) rk_X0_walk [.ref (ca 0), .int a1, .int a2, .int a3] G (cp_Po ca (sq_walk a1 a2 a3 A)) := by
  refine hg_M.ofH htr (by decide) [some (.ref (ca 0)), some (.int a1), some (.int a2), some (.int a3), none] rfl (Nat.le_of_ble_eq_true rfl) ?_
  intro p e s m args below meth c X hr hnm htab
  have X : hg_X p l s m args meth c D lo "TaxOnLooks" cX0_walk 5 := X
  refine hr_room (kr' := 40) (nr' := 3000) (Nat.le_of_ble_eq_true rfl) (Nat.le_of_ble_eq_true rfl) ?_
  have hw := hW.w; have w0 := hw.b0; have w1 := hw.b1; have w2 := hw.b2; have w3 := hw.b3; have w36 := hW.b36; have w43 := hW.b43
  have hpw := sp_wpk hw; have hpb := sp_bpk hw
  obtain ⟨K, hK, hKs, hKb⟩ := h.w.sk
  refine hr_aload0 (q := 1) X dX0_walk_0 rfl ?_
  refine hr_iload1 (q := 2) X dX0_walk_1 rfl ?_
  refine hr_call (kr := 39) (nr := 2993) (q := 5) (hc_V (n := 1) (ci := 0) (As := [.int a1]) X dX0_walk_2 rfl (tc_mustPerson X.tr h hW (x := a1)) q563 cv_X0_mustPerson ⟨Nat.le_of_ble_eq_true rfl, Nat.le_of_ble_eq_true rfl⟩ rfl (Nat.le_of_ble_eq_true rfl) h.o.1 rfl rfl) rfl (fun qxn1 E Gxn1 hpn1 _ => ?_) (fun r Gn1 hpn1 _ => ?_)
  · obtain ⟨hgn1, hrn1, -⟩ | ⟨hgn1, qn1, hrn1, htn1⟩ := hpn1
    · cases hrn1
    · cases hrn1
      have hxn1 := h.T htn1
      refine hx_catch (name := "TaxOnLooks$Refused") X [] ⟨0, 76, 124, 21⟩ [⟨77, 123, 124, 21⟩] htab (fun z hz => nomatch hz) (by decide) (by decide) q277 (by decide) ?_
      refine hr_astore4 (q := 126) X dX0_walk_124 rfl rfl (Nat.le_of_ble_eq_true rfl) ?_
      refine hr_aload0 (q := 127) X dX0_walk_126 rfl ?_
      refine hr_aload4 (q := 129) X dX0_walk_127 rfl ?_
      refine hr_call0 (q := 132) (hc_V (n := 1) (ci := 0) (As := [.ref qxn1]) X dX0_walk_129 rfl (tc_refused X.tr hxn1 hW (q := qxn1) htn1.2.1 htn1.2.2.1 (k := 1) (by decide) (by decide) (by decide)) q452 cv_X0_refused ⟨Nat.le_of_ble_eq_true rfl, Nat.le_of_ble_eq_true rfl⟩ rfl (Nat.le_of_ble_eq_true rfl) hxn1.o.1 rfl rfl) rfl (fun qx E G' hp => by cases hp.1) (fun r Gf2 hp _ => ?_)
      obtain ⟨hvf2, hhf2⟩ := hp
      cases hvf2
      refine hr_bipush (v := (nI 10)) (q := 134) X dX0_walk_132 rfl rfl ?_
      refine hr_isub (v := ((-1) - (nI 10))) (q := 135) X dX0_walk_134 rfl rfl ?_
      have hq3 : sq_walk a1 a2 a3 A = (((-1) - (nI 10)), (sq_no (-1) A).2) := by
        simp [sq_walk, sq_noTen, sq_no_1, hgn1]
      exact hr_iret X hr dX0_walk_135 (by rw [hq3]; exact ⟨rfl, ca, rfl, hhf2⟩)
  · obtain ⟨hgn1, hrn1, hGn1⟩ | ⟨hgn1, qn1, hrn1, htn1⟩ := hpn1
    · cases hrn1
      have hGn1 := hGn1.symm
      subst hGn1
      obtain ⟨ea1, la1⟩ := sp_in_n hgn1 (by omega)
      refine hr_L (L' := [some (.ref (ca 0)), some (.int (nI (iN a1))), some (.int a2), some (.int a3), none]) (by rw [← ea1]) ?_
      refine hr_iload3 (q := 6) X dX0_walk_5 rfl ?_
      refine hr_i2l (v := a3.toInt64) (q := 7) X dX0_walk_6 rfl rfl ?_
      refine hr_lconst (v := (lN 0)) (q := 8) X dX0_walk_7 rfl rfl ?_
      refine hr_ldc2 (q := 11) X dX0_walk_8 rfl q1118 ?_
      refine hr_callP (v := .int (bI (sp_fr a3 (nI 0) (nI 2)))) (q := 14) (hc_S (n := 3) (As := [.long a3.toInt64, .long (lN 0), .long 2]) X dX0_walk_11 rfl (tc_in X.tr (x := a3) (b := 0) (z := 2) (by decide) (by decide)) q387 cs_X0_in ⟨Nat.le_of_ble_eq_true rfl, Nat.le_of_ble_eq_true rfl⟩ rfl (Nat.le_of_ble_eq_true rfl)) rfl ?_
      refine hr_bipush (v := (-5)) (q := 16) X dX0_walk_14 rfl rfl ?_
      refine hr_call (kr := 38) (nr := 2986) (q := 19) (hc_S (n := 2) (As := [.int (bI (sp_fr a3 (nI 0) (nI 2))), .int (-5)]) X dX0_walk_16 rfl (tc_need X.tr (g := sp_fr a3 (nI 0) (nI 2)) (w := (-5))) q383 cs_X0_need ⟨Nat.le_of_ble_eq_true rfl, Nat.le_of_ble_eq_true rfl⟩ rfl (Nat.le_of_ble_eq_true rfl)) rfl (fun qxn4 E Gxn4 hpn4 _ => ?_) (fun r Gn4 hpn4 _ => ?_)
      · obtain ⟨hgn4, hrn4, -⟩ | ⟨hgn4, qn4, hrn4, htn4⟩ := hpn4
        · cases hrn4
        · cases hrn4
          have hxn4 := h.T htn4
          refine hx_catch (name := "TaxOnLooks$Refused") X [] ⟨0, 76, 124, 21⟩ [⟨77, 123, 124, 21⟩] htab (fun z hz => nomatch hz) (by decide) (by decide) q277 (by decide) ?_
          have fhgn4 : a3 < (0 : Int32) ∨ (¬ a3 < (0 : Int32) ∧ ¬ a3 ≤ nI 2) := sp_fr_f hgn4
          refine hr_astore4 (q := 126) X dX0_walk_124 rfl rfl (Nat.le_of_ble_eq_true rfl) ?_
          refine hr_aload0 (q := 127) X dX0_walk_126 rfl ?_
          refine hr_aload4 (q := 129) X dX0_walk_127 rfl ?_
          refine hr_call0 (q := 132) (hc_V (n := 1) (ci := 0) (As := [.ref qxn4]) X dX0_walk_129 rfl (tc_refused X.tr hxn4 hW (q := qxn4) htn4.2.1 htn4.2.2.1 (k := 5) (by decide) (by decide) (by decide)) q452 cv_X0_refused ⟨Nat.le_of_ble_eq_true rfl, Nat.le_of_ble_eq_true rfl⟩ rfl (Nat.le_of_ble_eq_true rfl) hxn4.o.1 rfl rfl) rfl (fun qx E G' hp => by cases hp.1) (fun r Gf5 hp _ => ?_)
          obtain ⟨hvf5, hhf5⟩ := hp
          cases hvf5
          refine hr_bipush (v := (nI 10)) (q := 134) X dX0_walk_132 rfl rfl ?_
          refine hr_isub (v := ((-5) - (nI 10))) (q := 135) X dX0_walk_134 rfl rfl ?_
          have hq6 : sq_walk a1 a2 a3 A = (((-5) - (nI 10)), (sq_no (-5) A).2) := by
            rcases fhgn4 with g | ⟨g, g2⟩
            · simp [sq_walk, sq_noTen, sq_no_1, hgn1, eq_true g]
            · simp [sq_walk, sq_noTen, sq_no_1, hgn1, eq_false g, eq_false g2]
          exact hr_iret X hr dX0_walk_135 (by rw [hq6]; exact ⟨rfl, ca, rfl, hhf5⟩)
      · obtain ⟨hgn4, hrn4, hGn4⟩ | ⟨hgn4, qn4, hrn4, htn4⟩ := hpn4
        · cases hrn4
          have hGn4 := hGn4.symm
          subst hGn4
          have fhgn4 : ¬ a3 < (0 : Int32) ∧ a3 ≤ nI 2 := sp_fr_t hgn4
          refine hr_aload0 (q := 20) X dX0_walk_19 rfl ?_
          refine hr_getR (v := (cp_w ca 0)) (q := 23) X dX0_walk_20 rfl fr_q250_0 rfl h.o.1 h.o.2.2.2.2.2.2.1 ?_
          refine hr_iload2 (q := 24) X dX0_walk_23 rfl ?_
          refine hr_callP (q := 27) (hc_V (n := 1) (ci := 2) (As := [.int a2]) X dX0_walk_24 rfl (tn_isFree X.tr h.w hw (x := a2)) q632 cv_X2_isFree ⟨Nat.le_of_ble_eq_true rfl, Nat.le_of_ble_eq_true rfl⟩ rfl (Nat.le_of_ble_eq_true rfl) h.w.ob rfl rfl) rfl ?_
          refine hr_bipush (v := (-6)) (q := 29) X dX0_walk_27 rfl rfl ?_
          refine hr_call (kr := 37) (nr := 2979) (q := 32) (hc_S (n := 2) (As := [.int (bI (sp_free A.1 a2)), .int (-6)]) X dX0_walk_29 rfl (tc_need X.tr (g := sp_free A.1 a2) (w := (-6))) q383 cs_X0_need ⟨Nat.le_of_ble_eq_true rfl, Nat.le_of_ble_eq_true rfl⟩ rfl (Nat.le_of_ble_eq_true rfl)) rfl (fun qxn7 E Gxn7 hpn7 _ => ?_) (fun r Gn7 hpn7 _ => ?_)
          · obtain ⟨hgn7, hrn7, -⟩ | ⟨hgn7, qn7, hrn7, htn7⟩ := hpn7
            · cases hrn7
            · cases hrn7
              have hxn7 := h.T htn7
              refine hx_catch (name := "TaxOnLooks$Refused") X [] ⟨0, 76, 124, 21⟩ [⟨77, 123, 124, 21⟩] htab (fun z hz => nomatch hz) (by decide) (by decide) q277 (by decide) ?_
              have fhgn7 := sp_free_f hgn7
              refine hr_astore4 (q := 126) X dX0_walk_124 rfl rfl (Nat.le_of_ble_eq_true rfl) ?_
              refine hr_aload0 (q := 127) X dX0_walk_126 rfl ?_
              refine hr_aload4 (q := 129) X dX0_walk_127 rfl ?_
              refine hr_call0 (q := 132) (hc_V (n := 1) (ci := 0) (As := [.ref qxn7]) X dX0_walk_129 rfl (tc_refused X.tr hxn7 hW (q := qxn7) htn7.2.1 htn7.2.2.1 (k := 6) (by decide) (by decide) (by decide)) q452 cv_X0_refused ⟨Nat.le_of_ble_eq_true rfl, Nat.le_of_ble_eq_true rfl⟩ rfl (Nat.le_of_ble_eq_true rfl) hxn7.o.1 rfl rfl) rfl (fun qx E G' hp => by cases hp.1) (fun r Gf8 hp _ => ?_)
              obtain ⟨hvf8, hhf8⟩ := hp
              cases hvf8
              refine hr_bipush (v := (nI 10)) (q := 134) X dX0_walk_132 rfl rfl ?_
              refine hr_isub (v := ((-6) - (nI 10))) (q := 135) X dX0_walk_134 rfl rfl ?_
              have hq9 : sq_walk a1 a2 a3 A = (((-6) - (nI 10)), (sq_no (-6) A).2) := by
                rcases fhgn7 with g | ⟨g, g2⟩
                · simp [sq_walk, sq_noTen, sq_no_1, hgn1, eq_false fhgn4.1, eq_true fhgn4.2, g]
                · simp [sq_walk, sq_noTen, sq_no_1, hgn1, eq_false fhgn4.1, eq_true fhgn4.2, g, eq_true g2]
              exact hr_iret X hr dX0_walk_135 (by rw [hq9]; exact ⟨rfl, ca, rfl, hhf8⟩)
          · obtain ⟨hgn7, hrn7, hGn7⟩ | ⟨hgn7, qn7, hrn7, htn7⟩ := hpn7
            · cases hrn7
              have hGn7 := hGn7.symm
              subst hGn7
              obtain ⟨fhgn7, khgn7⟩ := sp_free_t hgn7
              obtain ⟨ea2, la2⟩ := sp_in_n fhgn7 (by omega)
              refine hr_L (L' := [some (.ref (ca 0)), some (.int (nI (iN a1))), some (.int (nI (iN a2))), some (.int a3), none]) (by rw [← ea2]) ?_
              have hto : ¬ A.1.1 16 (iN a2) = 1 := by assumption
              have h14 := hw.b14 (p := iN a1) (by omega)
              refine hr_aload0 (q := 33) X dX0_walk_32 rfl ?_
              refine hr_getR (v := (ca 5)) (q := 36) X dX0_walk_33 rfl fr_q249_0 rfl h.o.1 h.o.2.2.2.2.2.1 ?_
              refine hr_aload0 (q := 37) X dX0_walk_36 rfl ?_
              refine hr_getR (v := (cp_d ca 0)) (q := 40) X dX0_walk_37 rfl fr_q248_0 rfl h.o.1 h.o.2.2.2.2.1 ?_
              refine hr_aload0 (q := 41) X dX0_walk_40 rfl ?_
              refine hr_getR (v := (cp_w ca 0)) (q := 44) X dX0_walk_41 rfl fr_q250_0 rfl h.o.1 h.o.2.2.2.2.2.2.1 ?_
              refine hr_call0 (q := 47) (hc_V (n := 1) (ci := 2) (As := [.ref (cp_w ca 0)]) X dX0_walk_44 rfl (tn_take_c X.tr (ta := cp_d ca) h.w w0 w3 (fun p hp => hw.b9 hp) h.d h.dD h.dw) q816 cv_X2_take ⟨Nat.le_of_ble_eq_true rfl, Nat.le_of_ble_eq_true rfl⟩ rfl (Nat.le_of_ble_eq_true rfl) h.d.1.1 rfl rfl) rfl (fun qx E G' hp => by cases hp.1) (fun r Gt10 hp _ => ?_)
              obtain ⟨hvt10, hTt10, hkt10, hft10, -⟩ := hp
              cases hvt10
              rw [sp_set_99 w36] at hTt10
              have ht10 := h.takes hft10 hTt10
              refine hr_iload1 (q := 48) X dX0_walk_47 rfl ?_
              refine hr_iload2 (q := 49) X dX0_walk_48 rfl ?_
              refine hr_call0 (q := 52) (hc_V (n := 3) (ci := 3) (As := [.ref (cp_d ca 0), .int (nI (iN a1)), .int (nI (iN a2))]) X dX0_walk_49 rfl (wa_find X.tr (ta := cp_d ca) ht10.a hTt10 ht10.dD hw (i := iN a1) (to := iN a2) (by omega) (by omega) hto) q1119 cv_X3_find ⟨Nat.le_of_ble_eq_true rfl, Nat.le_of_ble_eq_true rfl⟩ rfl (Nat.le_of_ble_eq_true rfl) ht10.a.1 rfl rfl) rfl (fun qx E G' hp => by cases hp.1) (fun r Gt11 hp _ => ?_)
              obtain ⟨hvt11, hTt11, hft11⟩ := hp
              cases hvt11
              have ht11 := ht10.finds hft11 hTt11
              have hdu : ∀ d, d < 36 → ¬ A.1.1 16 d = 1 → sp_dutyAt A.1 (iN a1) d ≤ 63 := fun d hd hfd => sp_dutyAt_free hw hd hfd
              have hIf := wk_fin_I (t := A.1) hdu (to := iN a2) (by omega)
              have hJf := wk_fin_J (t := A.1) (du := (sp_dutyAt A.1 (iN a1))) (iN a2)
              have hxf := wk_fin_x (t := A.1) (du := (sp_dutyAt A.1 (iN a1))) (iN a2)
              refine hr_aload0 (q := 53) X dX0_walk_52 rfl ?_
              refine hr_getR (v := (cp_w ca 0)) (q := 56) X dX0_walk_53 rfl fr_q250_0 rfl ht11.o.1 ht11.o.2.2.2.2.2.2.1 ?_
              refine hr_getR (v := (cp_w ca 4)) (q := 59) X dX0_walk_56 rfl fr_q190_2 rfl ht11.w.ob ht11.w.f14 ?_
              refine hr_iload1 (q := 60) X dX0_walk_59 rfl ?_
              have b12 := hw.b14 (p := iN a1) (by omega)
              refine hr_ialdN (v := (nI (A.1.1 14 (iN a1)))) (q := 61) X dX0_walk_60 rfl ht11.w.k4 (Or.inl rfl) (by omega) (by decide) (ht11.w.e4 (by omega)) ?_
              refine hr_istore4 (q := 63) X dX0_walk_61 rfl rfl (Nat.le_of_ble_eq_true rfl) ?_
              refine hr_aload0 (q := 64) X dX0_walk_63 rfl ?_
              refine hr_getR (v := (ca 5)) (q := 67) X dX0_walk_64 rfl fr_q249_0 rfl ht11.o.1 ht11.o.2.2.2.2.2.1 ?_
              refine hr_iload4 (q := 69) X dX0_walk_67 rfl ?_
              refine hr_callP (q := 72) (hc_V (n := 1) (ci := 3) (As := [.int (nI (A.1.1 14 (iN a1)))]) X dX0_walk_69 rfl (wa_comes X.tr hTt11 hw hdu hIf (d := A.1.1 14 (iN a1)) (by omega)) q1141 cv_X3_comes ⟨Nat.le_of_ble_eq_true rfl, Nat.le_of_ble_eq_true rfl⟩ rfl (Nat.le_of_ble_eq_true rfl) hTt11.1 rfl rfl) rfl ?_
              refine hr_ifB_ne (q := 75) (tgt := 77) X dX0_walk_72 rfl (by decide) (fun c72 => ?_) (fun c72 => ?_)
              · have hm : ¬ wk_fin A.1 (sp_dutyAt A.1 (iN a1)) (iN a2) (A.1.1 14 (iN a1)) = 100000000 := fun e => by rw [e] at c72; simp [wk_cv] at c72
                have hqq := wk_cv_q hIf h14 hm
                have hfl := wk_first_lt hJf hxf h14 hm
                refine hr_iload3 (q := 78) X dX0_walk_77 rfl ?_
                refine hr_if_ne (q := 81) (tgt := 93) X dX0_walk_78 rfl (by decide) (fun c78 => ?_) (fun c78 => ?_)
                · refine hr_iload3 (q := 94) X dX0_walk_93 rfl ?_
                  refine hr_iconst (v := (nI 1)) (q := 95) X dX0_walk_94 rfl rfl ?_
                  refine hr_icmp_ne (q := 98) (tgt := 110) X dX0_walk_95 rfl (by decide) (fun c95 => ?_) (fun c95 => ?_)
                  · refine hr_aload0 (q := 111) X dX0_walk_110 rfl ?_
                    refine hr_getR (v := (ca 5)) (q := 114) X dX0_walk_111 rfl fr_q249_0 rfl ht11.o.1 ht11.o.2.2.2.2.2.1 ?_
                    refine hr_aload0 (q := 115) X dX0_walk_114 rfl ?_
                    refine hr_getR (v := (cp_d ca 0)) (q := 118) X dX0_walk_115 rfl fr_q248_0 rfl ht11.o.1 ht11.o.2.2.2.2.1 ?_
                    refine hr_iload4 (q := 120) X dX0_walk_118 rfl ?_
                    refine hr_callP (q := 123) (hc_V (n := 2) (ci := 3) (As := [.ref (cp_d ca 0), .int (nI (A.1.1 14 (iN a1)))]) X dX0_walk_120 rfl (wa_first X.tr hTt11 hw hdu hIf hJf hxf (i := A.1.1 14 (iN a1)) (by omega) (by assumption)) q1153 cv_X3_first ⟨Nat.le_of_ble_eq_true rfl, Nat.le_of_ble_eq_true rfl⟩ rfl (Nat.le_of_ble_eq_true rfl) hTt11.1 rfl rfl) rfl ?_
                    refine hr_st1 (v' := .int (oI (wk_first A.1 (sp_dutyAt A.1 (iN a1)) (wk_fin A.1 (sp_dutyAt A.1 (iN a1)) (iN a2)) (A.1.1 14 (iN a1))))) (congrArg Value.int (oI_of (by omega)).symm) ?_
                    have hq13 : sq_walk a1 a2 a3 A = ((oI (wk_first A.1 (sp_dutyAt A.1 (iN a1)) (wk_fin A.1 (sp_dutyAt A.1 (iN a1)) (iN a2)) (A.1.1 14 (iN a1)))), A) := by
                      simp [sq_walk, sq_noTen, sq_no_1, hgn1, eq_false fhgn4.1, eq_true fhgn4.2, fhgn7, eq_false khgn7, eq_false hm, eq_false c78, eq_false c95]
                    exact hr_iret X hr dX0_walk_123 (by rw [hq13]; exact ⟨rfl, ca, rfl, ht11⟩)
                  · refine hr_aload0 (q := 99) X dX0_walk_98 rfl ?_
                    refine hr_getR (v := (ca 5)) (q := 102) X dX0_walk_99 rfl fr_q249_0 rfl ht11.o.1 ht11.o.2.2.2.2.2.1 ?_
                    refine hr_iload4 (q := 104) X dX0_walk_102 rfl ?_
                    refine hr_callP (q := 107) (hc_V (n := 1) (ci := 3) (As := [.int (nI (A.1.1 14 (iN a1)))]) X dX0_walk_104 rfl (wa_steps X.tr hTt11 hw hdu hIf (d := A.1.1 14 (iN a1)) (by omega)) q1149 cv_X3_steps ⟨Nat.le_of_ble_eq_true rfl, Nat.le_of_ble_eq_true rfl⟩ rfl (Nat.le_of_ble_eq_true rfl) hTt11.1 rfl rfl) rfl ?_
                    refine hr_st1 (v' := .int (nI (wk_fin A.1 (sp_dutyAt A.1 (iN a1)) (iN a2) (A.1.1 14 (iN a1)) % 1000))) (congrArg Value.int (congrArg nI hqq.2)) ?_
                    refine hr_goto (tgt := 123) X dX0_walk_107 (by decide) ?_
                    have hq14 : sq_walk a1 a2 a3 A = ((nI (wk_fin A.1 (sp_dutyAt A.1 (iN a1)) (iN a2) (A.1.1 14 (iN a1)) % 1000)), A) := by
                      simp [sq_walk, sq_noTen, sq_no_1, hgn1, eq_false fhgn4.1, eq_true fhgn4.2, fhgn7, eq_false khgn7, eq_false hm, eq_false c78, eq_true c95]
                    exact hr_iret X hr dX0_walk_123 (by rw [hq14]; exact ⟨rfl, ca, rfl, ht11⟩)
                · refine hr_aload0 (q := 82) X dX0_walk_81 rfl ?_
                  refine hr_getR (v := (ca 5)) (q := 85) X dX0_walk_82 rfl fr_q249_0 rfl ht11.o.1 ht11.o.2.2.2.2.2.1 ?_
                  refine hr_iload4 (q := 87) X dX0_walk_85 rfl ?_
                  refine hr_callP (q := 90) (hc_V (n := 1) (ci := 3) (As := [.int (nI (A.1.1 14 (iN a1)))]) X dX0_walk_87 rfl (wa_cost X.tr hTt11 hw hdu hIf (d := A.1.1 14 (iN a1)) (by omega)) q1145 cv_X3_cost ⟨Nat.le_of_ble_eq_true rfl, Nat.le_of_ble_eq_true rfl⟩ rfl (Nat.le_of_ble_eq_true rfl) hTt11.1 rfl rfl) rfl ?_
                  refine hr_st1 (v' := .int (nI (wk_fin A.1 (sp_dutyAt A.1 (iN a1)) (iN a2) (A.1.1 14 (iN a1)) / 1000))) (congrArg Value.int (congrArg nI hqq.1)) ?_
                  refine hr_goto (tgt := 123) X dX0_walk_90 (by decide) ?_
                  have hq15 : sq_walk a1 a2 a3 A = ((nI (wk_fin A.1 (sp_dutyAt A.1 (iN a1)) (iN a2) (A.1.1 14 (iN a1)) / 1000)), A) := by
                    simp [sq_walk, sq_noTen, sq_no_1, hgn1, eq_false fhgn4.1, eq_true fhgn4.2, fhgn7, eq_false khgn7, eq_false hm, eq_true c78]
                  exact hr_iret X hr dX0_walk_123 (by rw [hq15]; exact ⟨rfl, ca, rfl, ht11⟩)
              · have hm : wk_fin A.1 (sp_dutyAt A.1 (iN a1)) (iN a2) (A.1.1 14 (iN a1)) = 100000000 := (wk_cv_lt hIf h14).elim (fun z => z.1) (fun z => False.elim (by have := z.2.1; simp at c72; omega))
                refine hr_iconst (v := (-1)) (q := 76) X dX0_walk_75 rfl rfl ?_
                have hq16 : sq_walk a1 a2 a3 A = ((-1), A) := by
                  simp [sq_walk, sq_noTen, sq_no_1, hgn1, eq_false fhgn4.1, eq_true fhgn4.2, fhgn7, eq_false khgn7, eq_true hm]
                exact hr_iret X hr dX0_walk_76 (by rw [hq16]; exact ⟨rfl, ca, rfl, ht11⟩)
            · cases hrn7
        · cases hrn4
    · cases hrn1

abbrev rk_X0_stand : Room := { frames := 12, cells := 40, slots := 3000, locals := 400 }
theorem tc_stand {l : Launch} {D : hg_D} {lo : Nat} (htr : l.stackTraces = false) {G : hg_G} {ca : Nat → Nat} {A : ab_S} (h : cp_R G ca A) (hW : ab_wf A) {a1 a2 : Int32} :
    hg_M l D lo yX0_stand (wsW_ yX0_stand cX0_stand 5 ((some FieldType.int)) [(0, 125, 126, 21)]) rk_X0_stand [.ref (ca 0), .int a1, .int a2] G (cp_Po ca (sq_stand a1 a2 A)) := by
  refine hg_M.ofH htr (by decide) [some (.ref (ca 0)), some (.int a1), some (.int a2), none, none] rfl (Nat.le_of_ble_eq_true rfl) ?_
  intro p e s m args below meth c X hr hnm htab
  have X : hg_X p l s m args meth c D lo "TaxOnLooks" cX0_stand 5 := X
  refine hr_room (kr' := 40) (nr' := 3000) (Nat.le_of_ble_eq_true rfl) (Nat.le_of_ble_eq_true rfl) ?_
  have hw := hW.w; have w0 := hw.b0; have w1 := hw.b1; have w2 := hw.b2; have w3 := hw.b3; have w36 := hW.b36; have w43 := hW.b43
  have hpw := sp_wpk hw; have hpb := sp_bpk hw
  obtain ⟨K, hK, hKs, hKb⟩ := h.w.sk
  refine hr_aload0 (q := 1) X dX0_stand_0 rfl ?_
  refine hr_iload1 (q := 2) X dX0_stand_1 rfl ?_
  refine hr_call (kr := 39) (nr := 2993) (q := 5) (hc_V (n := 1) (ci := 0) (As := [.int a1]) X dX0_stand_2 rfl (tc_mustPerson X.tr h hW (x := a1)) q563 cv_X0_mustPerson ⟨Nat.le_of_ble_eq_true rfl, Nat.le_of_ble_eq_true rfl⟩ rfl (Nat.le_of_ble_eq_true rfl) h.o.1 rfl rfl) rfl (fun qxn1 E Gxn1 hpn1 _ => ?_) (fun r Gn1 hpn1 _ => ?_)
  · obtain ⟨hgn1, hrn1, -⟩ | ⟨hgn1, qn1, hrn1, htn1⟩ := hpn1
    · cases hrn1
    · cases hrn1
      have hxn1 := h.T htn1
      refine hx_catch (name := "TaxOnLooks$Refused") X [] ⟨0, 125, 126, 21⟩ [] htab (fun z hz => nomatch hz) (by decide) (by decide) q277 (by decide) ?_
      refine hr_astore3 (q := 127) X dX0_stand_126 rfl rfl (Nat.le_of_ble_eq_true rfl) ?_
      refine hr_aload0 (q := 128) X dX0_stand_127 rfl ?_
      refine hr_aload3 (q := 129) X dX0_stand_128 rfl ?_
      refine hr_call0 (q := 132) (hc_V (n := 1) (ci := 0) (As := [.ref qxn1]) X dX0_stand_129 rfl (tc_refused X.tr hxn1 hW (q := qxn1) htn1.2.1 htn1.2.2.1 (k := 1) (by decide) (by decide) (by decide)) q452 cv_X0_refused ⟨Nat.le_of_ble_eq_true rfl, Nat.le_of_ble_eq_true rfl⟩ rfl (Nat.le_of_ble_eq_true rfl) hxn1.o.1 rfl rfl) rfl (fun qx E G' hp => by cases hp.1) (fun r Gf2 hp _ => ?_)
      obtain ⟨hvf2, hhf2⟩ := hp
      cases hvf2
      have hq3 : sq_stand a1 a2 A = ((-1), (sq_no (-1) A).2) := by
        simp [sq_stand, sq_noTen, sq_no_1, hgn1]
      exact hr_iret X hr dX0_stand_132 (by rw [hq3]; exact ⟨rfl, ca, rfl, hhf2⟩)
  · obtain ⟨hgn1, hrn1, hGn1⟩ | ⟨hgn1, qn1, hrn1, htn1⟩ := hpn1
    · cases hrn1
      have hGn1 := hGn1.symm
      subst hGn1
      obtain ⟨ea1, la1⟩ := sp_in_n hgn1 (by omega)
      refine hr_L (L' := [some (.ref (ca 0)), some (.int (nI (iN a1))), some (.int a2), none, none]) (by rw [← ea1]) ?_
      refine hr_iload2 (q := 6) X dX0_stand_5 rfl ?_
      refine hr_i2l (v := a2.toInt64) (q := 7) X dX0_stand_6 rfl rfl ?_
      refine hr_lconst (v := (lN 0)) (q := 8) X dX0_stand_7 rfl rfl ?_
      refine hr_lconst (v := (lN 1)) (q := 9) X dX0_stand_8 rfl rfl ?_
      refine hr_callP (v := .int (bI (sp_fr a2 (nI 0) (nI 1)))) (q := 12) (hc_S (n := 3) (As := [.long a2.toInt64, .long (lN 0), .long (lN 1)]) X dX0_stand_9 rfl (tc_in X.tr (x := a2) (b := 0) (z := 1) (by decide) (by decide)) q387 cs_X0_in ⟨Nat.le_of_ble_eq_true rfl, Nat.le_of_ble_eq_true rfl⟩ rfl (Nat.le_of_ble_eq_true rfl)) rfl ?_
      refine hr_bipush (v := (-5)) (q := 14) X dX0_stand_12 rfl rfl ?_
      refine hr_call (kr := 38) (nr := 2986) (q := 17) (hc_S (n := 2) (As := [.int (bI (sp_fr a2 (nI 0) (nI 1))), .int (-5)]) X dX0_stand_14 rfl (tc_need X.tr (g := sp_fr a2 (nI 0) (nI 1)) (w := (-5))) q383 cs_X0_need ⟨Nat.le_of_ble_eq_true rfl, Nat.le_of_ble_eq_true rfl⟩ rfl (Nat.le_of_ble_eq_true rfl)) rfl (fun qxn4 E Gxn4 hpn4 _ => ?_) (fun r Gn4 hpn4 _ => ?_)
      · obtain ⟨hgn4, hrn4, -⟩ | ⟨hgn4, qn4, hrn4, htn4⟩ := hpn4
        · cases hrn4
        · cases hrn4
          have hxn4 := h.T htn4
          refine hx_catch (name := "TaxOnLooks$Refused") X [] ⟨0, 125, 126, 21⟩ [] htab (fun z hz => nomatch hz) (by decide) (by decide) q277 (by decide) ?_
          have fhgn4 : a2 < (0 : Int32) ∨ (¬ a2 < (0 : Int32) ∧ ¬ a2 ≤ nI 1) := sp_fr_f hgn4
          refine hr_astore3 (q := 127) X dX0_stand_126 rfl rfl (Nat.le_of_ble_eq_true rfl) ?_
          refine hr_aload0 (q := 128) X dX0_stand_127 rfl ?_
          refine hr_aload3 (q := 129) X dX0_stand_128 rfl ?_
          refine hr_call0 (q := 132) (hc_V (n := 1) (ci := 0) (As := [.ref qxn4]) X dX0_stand_129 rfl (tc_refused X.tr hxn4 hW (q := qxn4) htn4.2.1 htn4.2.2.1 (k := 5) (by decide) (by decide) (by decide)) q452 cv_X0_refused ⟨Nat.le_of_ble_eq_true rfl, Nat.le_of_ble_eq_true rfl⟩ rfl (Nat.le_of_ble_eq_true rfl) hxn4.o.1 rfl rfl) rfl (fun qx E G' hp => by cases hp.1) (fun r Gf5 hp _ => ?_)
          obtain ⟨hvf5, hhf5⟩ := hp
          cases hvf5
          have hq6 : sq_stand a1 a2 A = ((-5), (sq_no (-5) A).2) := by
            rcases fhgn4 with g | ⟨g, g2⟩
            · simp [sq_stand, sq_noTen, sq_no_1, hgn1, eq_true g]
            · simp [sq_stand, sq_noTen, sq_no_1, hgn1, eq_false g, eq_false g2]
          exact hr_iret X hr dX0_stand_132 (by rw [hq6]; exact ⟨rfl, ca, rfl, hhf5⟩)
      · obtain ⟨hgn4, hrn4, hGn4⟩ | ⟨hgn4, qn4, hrn4, htn4⟩ := hpn4
        · cases hrn4
          have hGn4 := hGn4.symm
          subst hGn4
          have fhgn4 : ¬ a2 < (0 : Int32) ∧ a2 ≤ nI 1 := sp_fr_t hgn4
          have h14 := hw.b14 (p := iN a1) (by omega)
          have hto : ¬ A.1.1 16 (A.1.1 14 (iN a1)) = 1 := by have := hw.2.2.2.2.2.2.1 (iN a1) (by omega); omega
          refine hr_aload0 (q := 18) X dX0_stand_17 rfl ?_
          refine hr_getR (v := (ca 5)) (q := 21) X dX0_stand_18 rfl fr_q249_0 rfl h.o.1 h.o.2.2.2.2.2.1 ?_
          refine hr_aload0 (q := 22) X dX0_stand_21 rfl ?_
          refine hr_getR (v := (cp_d ca 0)) (q := 25) X dX0_stand_22 rfl fr_q248_0 rfl h.o.1 h.o.2.2.2.2.1 ?_
          refine hr_aload0 (q := 26) X dX0_stand_25 rfl ?_
          refine hr_getR (v := (cp_w ca 0)) (q := 29) X dX0_stand_26 rfl fr_q250_0 rfl h.o.1 h.o.2.2.2.2.2.2.1 ?_
          refine hr_call0 (q := 32) (hc_V (n := 1) (ci := 2) (As := [.ref (cp_w ca 0)]) X dX0_stand_29 rfl (tn_take_c X.tr (ta := cp_d ca) h.w w0 w3 (fun p hp => hw.b9 hp) h.d h.dD h.dw) q816 cv_X2_take ⟨Nat.le_of_ble_eq_true rfl, Nat.le_of_ble_eq_true rfl⟩ rfl (Nat.le_of_ble_eq_true rfl) h.d.1.1 rfl rfl) rfl (fun qx E G' hp => by cases hp.1) (fun r Gt7 hp _ => ?_)
          obtain ⟨hvt7, hTt7, hkt7, hft7, -⟩ := hp
          cases hvt7
          rw [sp_set_99 w36] at hTt7
          have ht7 := h.takes hft7 hTt7
          refine hr_iload1 (q := 33) X dX0_stand_32 rfl ?_
          refine hr_aload0 (q := 34) X dX0_stand_33 rfl ?_
          refine hr_getR (v := (cp_w ca 0)) (q := 37) X dX0_stand_34 rfl fr_q250_0 rfl ht7.o.1 ht7.o.2.2.2.2.2.2.1 ?_
          refine hr_getR (v := (cp_w ca 4)) (q := 40) X dX0_stand_37 rfl fr_q190_2 rfl ht7.w.ob ht7.w.f14 ?_
          refine hr_iload1 (q := 41) X dX0_stand_40 rfl ?_
          have b8 := hw.b14 (p := iN a1) (by omega)
          refine hr_ialdN (v := (nI (A.1.1 14 (iN a1)))) (q := 42) X dX0_stand_41 rfl ht7.w.k4 (Or.inl rfl) (by omega) (by decide) (ht7.w.e4 (by omega)) ?_
          refine hr_call0 (q := 45) (hc_V (n := 3) (ci := 3) (As := [.ref (cp_d ca 0), .int (nI (iN a1)), .int (nI (A.1.1 14 (iN a1)))]) X dX0_stand_42 rfl (wa_find X.tr (ta := cp_d ca) ht7.a hTt7 ht7.dD hw (i := iN a1) (to := A.1.1 14 (iN a1)) (by omega) (by omega) hto) q1119 cv_X3_find ⟨Nat.le_of_ble_eq_true rfl, Nat.le_of_ble_eq_true rfl⟩ rfl (Nat.le_of_ble_eq_true rfl) ht7.a.1 rfl rfl) rfl (fun qx E G' hp => by cases hp.1) (fun r Gt9 hp _ => ?_)
          obtain ⟨hvt9, hTt9, hft9⟩ := hp
          cases hvt9
          have ht9 := ht7.finds hft9 hTt9
          have hdu : ∀ d, d < 36 → ¬ A.1.1 16 d = 1 → sp_dutyAt A.1 (iN a1) d ≤ 63 := fun d hd hfd => sp_dutyAt_free hw hd hfd
          have hIf := wk_fin_I (t := A.1) hdu (to := A.1.1 14 (iN a1)) (by omega)
          have hJf := wk_fin_J (t := A.1) (du := (sp_dutyAt A.1 (iN a1))) (A.1.1 14 (iN a1))
          have hxf := wk_fin_x (t := A.1) (du := (sp_dutyAt A.1 (iN a1))) (A.1.1 14 (iN a1))
          refine hr_aload0 (q := 46) X dX0_stand_45 rfl ?_
          refine hr_getR (v := (cp_w ca 0)) (q := 49) X dX0_stand_46 rfl fr_q250_0 rfl ht9.o.1 ht9.o.2.2.2.2.2.2.1 ?_
          refine hr_getR (v := (cp_w ca 4)) (q := 52) X dX0_stand_49 rfl fr_q190_2 rfl ht9.w.ob ht9.w.f14 ?_
          refine hr_iload1 (q := 53) X dX0_stand_52 rfl ?_
          have b10 := hw.b14 (p := iN a1) (by omega)
          refine hr_ialdN (v := (nI (A.1.1 14 (iN a1)))) (q := 54) X dX0_stand_53 rfl ht9.w.k4 (Or.inl rfl) (by omega) (by decide) (ht9.w.e4 (by omega)) ?_
          refine hr_istore3 (q := 55) X dX0_stand_54 rfl rfl (Nat.le_of_ble_eq_true rfl) ?_
          refine hr_bipush (v := (nI 35)) (q := 57) X dX0_stand_55 rfl rfl ?_
          refine hr_istore4 (q := 59) X dX0_stand_57 rfl rfl (Nat.le_of_ble_eq_true rfl) ?_
          refine hr_L (L' := [some (.ref (ca 0)), some (.int (nI (iN a1))), some (.int a2), some (.int (nI (A.1.1 14 (iN a1)))), some (.int (nI 36 - nI 1))]) (by rw [show nI 36 - nI 1 = nI 35 by decide]) ?_
          have loop59 : ∀ (kr nr n : Nat) (m9 B : Nat), (m9 + 1 ≤ n) → (m9 ≤ 36) → (B < 36) → (¬ A.1.1 16 B = 1) → (∀ j, m9 ≤ j → j < 36 → ¬ A.1.1 16 j = 1 → sp_dutyAt A.1 (iN a1) B ≤ sp_dutyAt A.1 (iN a1) j) → (∀ j, m9 ≤ j → j < B → ¬ A.1.1 16 j = 1 → sp_dutyAt A.1 (iN a1) B < sp_dutyAt A.1 (iN a1) j) → hg_W p l e rk_X0_stand s m args below meth c (hg_Q below D lo args s rk_X0_stand G (cp_Po ca (sq_stand a1 a2 A))) D lo G.1 5 kr nr Gt9 59 [some (.ref (ca 0)), some (.int (nI (iN a1))), some (.int a2), some (.int (nI B)), some (.int (nI m9 - nI 1))] [] := by
            intro kr nr n
            induction n with
            | zero =>
              intro m9 B h59_0 h59_1 h59_2 h59_3 h59_4 h59_5
              omega
            | succ n ih =>
              intro m9 B h59_0 h59_1 h59_2 h59_3 h59_4 h59_5
              refine hr_iload4 (q := 61) X dX0_stand_59 rfl ?_
              refine hr_if_lt (q := 64) (tgt := 109) X dX0_stand_61 rfl (by decide) (fun c61 => ?_) (fun c61 => ?_)
              · have hm0 := (cp_neg0 m9 (by omega)).mp c61
                subst hm0
                have hst := sp_stand_is hw h59_2 h59_3 (fun j hj hf => h59_4 j (Nat.zero_le _) hj hf) (fun j hj hf => h59_5 j (Nat.zero_le _) hj hf)
                refine hr_iload2 (q := 110) X dX0_stand_109 rfl ?_
                refine hr_if_ne (q := 113) (tgt := 117) X dX0_stand_110 rfl (by decide) (fun c110 => ?_) (fun c110 => ?_)
                · refine hr_aload0 (q := 118) X dX0_stand_117 rfl ?_
                  refine hr_getR (v := (ca 5)) (q := 121) X dX0_stand_118 rfl fr_q249_0 rfl ht9.o.1 ht9.o.2.2.2.2.2.1 ?_
                  refine hr_iload3 (q := 122) X dX0_stand_121 rfl ?_
                  refine hr_callP (q := 125) (hc_V (n := 1) (ci := 3) (As := [.int (nI B)]) X dX0_stand_122 rfl (wa_owes X.tr hTt9 hw hdu hIf (d := B) (by omega) (h59_3)) q1161 cv_X3_owes ⟨Nat.le_of_ble_eq_true rfl, Nat.le_of_ble_eq_true rfl⟩ rfl (Nat.le_of_ble_eq_true rfl) hTt9.1 rfl rfl) rfl ?_
                  have hq11 : sq_stand a1 a2 A = ((nI ((sp_dutyAt A.1 (iN a1)) B)), A) := by
                    simp [sq_stand, sq_noTen, sq_no_1, hgn1, eq_false fhgn4.1, eq_true fhgn4.2, hst, eq_false c110]
                  exact hr_iret X hr dX0_stand_125 (by rw [hq11]; exact ⟨rfl, ca, rfl, ht9⟩)
                · refine hr_iload3 (q := 114) X dX0_stand_113 rfl ?_
                  refine hr_goto (tgt := 125) X dX0_stand_114 (by decide) ?_
                  have hq12 : sq_stand a1 a2 A = ((nI B), A) := by
                    simp [sq_stand, sq_noTen, sq_no_1, hgn1, eq_false fhgn4.1, eq_true fhgn4.2, hst, eq_true c110]
                  exact hr_iret X hr dX0_stand_125 (by rw [hq12]; exact ⟨rfl, ca, rfl, ht9⟩)
              · have hm0 : ¬ m9 = 0 := fun e => c61 ((cp_neg0 m9 (by omega)).mpr e)
                obtain ⟨c9, rfl⟩ : ∃ c9, m9 = c9 + 1 := ⟨m9 - 1, by omega⟩
                refine hr_L (L' := [some (.ref (ca 0)), some (.int (nI (iN a1))), some (.int a2), some (.int (nI B)), some (.int (nI c9))]) (by rw [pk_sub (by omega), Nat.add_sub_cancel]) ?_
                refine hr_aload0 (q := 65) X dX0_stand_64 rfl ?_
                refine hr_getR (v := (cp_w ca 0)) (q := 68) X dX0_stand_65 rfl fr_q250_0 rfl ht9.o.1 ht9.o.2.2.2.2.2.2.1 ?_
                refine hr_iload4 (q := 70) X dX0_stand_68 rfl ?_
                refine hr_callP (q := 73) (hc_V (n := 1) (ci := 2) (As := [.int (nI c9)]) X dX0_stand_70 rfl (tn_isFreeN X.tr ht9.w hw (z := c9) (by omega)) q632 cv_X2_isFree ⟨Nat.le_of_ble_eq_true rfl, Nat.le_of_ble_eq_true rfl⟩ rfl (Nat.le_of_ble_eq_true rfl) ht9.w.ob rfl rfl) rfl ?_
                refine hr_ifB_eq (q := 76) (tgt := 101) X dX0_stand_73 rfl (by decide) (fun c73 => ?_) (fun c73 => ?_)
                · have hwl : A.1.1 16 c9 = 1 := by simpa using c73
                  refine hr_iload3 (q := 102) X dX0_stand_101 rfl ?_
                  refine hr_istore3 (q := 103) X dX0_stand_102 rfl rfl (Nat.le_of_ble_eq_true rfl) ?_
                  refine hr_iinc4 (v := (nI c9 - nI 1)) (q := 106) X dX0_stand_103 rfl (cp_dec _) rfl (Nat.le_of_ble_eq_true rfl) ?_
                  refine hr_goto (tgt := 59) X dX0_stand_106 (by decide) ?_
                  exact ih c9 B (by omega) (by omega) h59_2 h59_3 (fun j h1 h2 h3 => by by_cases e : j = c9 <;> first | (rw [e] at h3 ⊢; exact absurd hwl h3) | exact h59_4 j (by omega) h2 h3) (fun j h1 h2 h3 => by by_cases e : j = c9 <;> first | (rw [e] at h3 ⊢; exact absurd hwl h3) | exact h59_5 j (by omega) h2 h3)
                · have hfc : ¬ A.1.1 16 c9 = 1 := by simpa using c73
                  have q1 := hdu c9 (by omega) hfc
                  have q2 := hdu B h59_2 h59_3
                  refine hr_aload0 (q := 77) X dX0_stand_76 rfl ?_
                  refine hr_getR (v := (ca 5)) (q := 80) X dX0_stand_77 rfl fr_q249_0 rfl ht9.o.1 ht9.o.2.2.2.2.2.1 ?_
                  refine hr_iload4 (q := 82) X dX0_stand_80 rfl ?_
                  refine hr_callP (q := 85) (hc_V (n := 1) (ci := 3) (As := [.int (nI c9)]) X dX0_stand_82 rfl (wa_owes X.tr hTt9 hw hdu hIf (d := c9) (by omega) (hfc)) q1161 cv_X3_owes ⟨Nat.le_of_ble_eq_true rfl, Nat.le_of_ble_eq_true rfl⟩ rfl (Nat.le_of_ble_eq_true rfl) hTt9.1 rfl rfl) rfl ?_
                  refine hr_aload0 (q := 86) X dX0_stand_85 rfl ?_
                  refine hr_getR (v := (ca 5)) (q := 89) X dX0_stand_86 rfl fr_q249_0 rfl ht9.o.1 ht9.o.2.2.2.2.2.1 ?_
                  refine hr_iload3 (q := 90) X dX0_stand_89 rfl ?_
                  refine hr_callP (q := 93) (hc_V (n := 1) (ci := 3) (As := [.int (nI B)]) X dX0_stand_90 rfl (wa_owes X.tr hTt9 hw hdu hIf (d := B) (by omega) (h59_3)) q1161 cv_X3_owes ⟨Nat.le_of_ble_eq_true rfl, Nat.le_of_ble_eq_true rfl⟩ rfl (Nat.le_of_ble_eq_true rfl) hTt9.1 rfl rfl) rfl ?_
                  refine hr_icmpN_gt (q := 96) (tgt := 101) X dX0_stand_93 rfl (by decide) (by omega) (by omega) (fun c93 => ?_) (fun c93 => ?_)
                  · refine hr_iload3 (q := 102) X dX0_stand_101 rfl ?_
                    refine hr_istore3 (q := 103) X dX0_stand_102 rfl rfl (Nat.le_of_ble_eq_true rfl) ?_
                    refine hr_iinc4 (v := (nI c9 - nI 1)) (q := 106) X dX0_stand_103 rfl (cp_dec _) rfl (Nat.le_of_ble_eq_true rfl) ?_
                    refine hr_goto (tgt := 59) X dX0_stand_106 (by decide) ?_
                    exact ih c9 B (by omega) (by omega) h59_2 h59_3 (fun j h1 h2 h3 => by by_cases e : j = c9 <;> first | (rw [e] at h3 ⊢; exact (by omega)) | exact h59_4 j (by omega) h2 h3) (fun j h1 h2 h3 => by by_cases e : j = c9 <;> first | (rw [e] at h3 ⊢; exact (by omega)) | exact h59_5 j (by omega) h2 h3)
                  · refine hr_iload4 (q := 98) X dX0_stand_96 rfl ?_
                    refine hr_goto (tgt := 102) X dX0_stand_98 (by decide) ?_
                    refine hr_istore3 (q := 103) X dX0_stand_102 rfl rfl (Nat.le_of_ble_eq_true rfl) ?_
                    refine hr_iinc4 (v := (nI c9 - nI 1)) (q := 106) X dX0_stand_103 rfl (cp_dec _) rfl (Nat.le_of_ble_eq_true rfl) ?_
                    refine hr_goto (tgt := 59) X dX0_stand_106 (by decide) ?_
                    exact ih c9 c9 (by omega) (by omega) (by omega) hfc (fun j h1 h2 h3 => by by_cases e : j = c9 <;> first | (rw [e]; exact Nat.le_refl _) | (have := h59_4 j (by omega) h2 h3; omega)) (fun j h1 h2 h3 => by omega)
          exact loop59 _ _ 37 36 (A.1.1 14 (iN a1)) (by omega) (by omega) h14 hto (fun j h1 h2 h3 => by omega) (fun j h1 h2 h3 => by omega)
        · cases hrn4
    · cases hrn1

theorem tc_lookersAt {l : Launch} {D : hg_D} {lo : Nat} (htr : l.stackTraces = false) {G : hg_G} {ca : Nat → Nat} {A : ab_S} (h : cp_R G ca A) (hW : ab_wf A) {z : Nat} (hz : z < 36) :
    hg_M l D lo yX0_lookersAt (ws_ yX0_lookersAt cX0_lookersAt 4 ((some FieldType.int))) rm_X0_lookersAt [.ref (ca 0), .int (nI z)] G (hg_Pv G (.int (nI (sp_seers A.1 z)))) := by
  refine hg_M.of htr (by decide) [some (.ref (ca 0)), some (.int (nI z)), none, none] rfl (Nat.le_of_ble_eq_true rfl) ?_
  intro p e s m args below meth c X hr hnm htab
  have X : hg_X p l s m args meth c D lo "TaxOnLooks" cX0_lookersAt 4 := X
  have hw := hW.w; have w0 := hw.b0; have w1 := hw.b1; have w2 := hw.b2; have w3 := hw.b3; have w36 := hW.b36; have w43 := hW.b43
  obtain ⟨K, hK, hKs, hKb⟩ := h.w.sk
  refine hr_iconst (v := (nI 0)) (q := 1) X dX0_lookersAt_0 rfl rfl ?_
  refine hr_istore2 (q := 2) X dX0_lookersAt_1 rfl rfl (Nat.le_of_ble_eq_true rfl) ?_
  refine hr_iconst (v := (nI 0)) (q := 3) X dX0_lookersAt_2 rfl rfl ?_
  refine hr_istore3 (q := 4) X dX0_lookersAt_3 rfl rfl (Nat.le_of_ble_eq_true rfl) ?_
  have loop4 : ∀ (kr nr n : Nat) (i S : Nat), (i ≤ A.1.1 0 0) → (A.1.1 0 0 + 1 ≤ i + n) → (S = sp_sum (fun x => if (decide (¬ (A.1.1 9 x = 3 ∨ A.1.1 9 x = 5)) && sp_sees A.1 (A.1.1 14 x) z) = true then 1 else 0) i) → hg_W p l e rm_X0_lookersAt s m args below meth c (hg_Q below D lo args s rm_X0_lookersAt G (hg_Pv G (.int (nI (sp_seers A.1 z))))) D lo G.1 4 kr nr G 4 [some (.ref (ca 0)), some (.int (nI z)), some (.int (nI S)), some (.int (nI i))] [] := by
    intro kr nr n
    induction n with
    | zero =>
      intro i S h4_0 h4_1 h4_2
      omega
    | succ n ih =>
      intro i S h4_0 h4_1 h4_2
      refine hr_iload3 (q := 5) X dX0_lookersAt_4 rfl ?_
      refine hr_aload0 (q := 6) X dX0_lookersAt_5 rfl ?_
      refine hr_getR (v := (cp_w ca 0)) (q := 9) X dX0_lookersAt_6 rfl fr_q250_0 rfl h.o.1 h.o.2.2.2.2.2.2.1 ?_
      refine hr_getI (v := (nI (A.1.1 0 0))) (q := 12) X dX0_lookersAt_9 rfl fr_q154_2 rfl h.w.ob h.w.f0 ?_
      refine hr_icmpN_ge (q := 15) (tgt := 64) X dX0_lookersAt_12 rfl (by decide) (by omega) (by omega) (fun c12 => ?_) (fun c12 => ?_)
      · refine hr_iload2 (q := 65) X dX0_lookersAt_64 rfl ?_
        exact hr_iret X hr dX0_lookersAt_65 ⟨hz_i (congrArg nI (by rw [h4_2, show i = A.1.1 0 0 by omega]; rfl)), rfl⟩
      · refine hr_iload2 (q := 16) X dX0_lookersAt_15 rfl ?_
        refine hr_aload0 (q := 17) X dX0_lookersAt_16 rfl ?_
        refine hr_getR (v := (cp_w ca 0)) (q := 20) X dX0_lookersAt_17 rfl fr_q250_0 rfl h.o.1 h.o.2.2.2.2.2.2.1 ?_
        refine hr_getR (v := (cp_w ca 1)) (q := 23) X dX0_lookersAt_20 rfl fr_q181_2 rfl h.w.ob h.w.f11 ?_
        refine hr_iload3 (q := 24) X dX0_lookersAt_23 rfl ?_
        obtain ⟨q1, hq1a, hq1k, hq1i, hq1b, hq1s⟩ := h.w.pe (p := i) (by omega)
        have hq19 := hw.b9 (p := i) (by omega)
        refine hr_aaldN (v := q1) (q := 25) X dX0_lookersAt_24 rfl h.w.k1 (by decide) (by omega) (by decide) hq1a ?_
        refine hr_callP (q := 28) (hcP_looksAtAll (k := A.1.1 9 i) (by omega) hq1k X dX0_lookersAt_25 q1217 ⟨Nat.le_of_ble_eq_true rfl, Nat.le_of_ble_eq_true rfl⟩ (Nat.le_of_ble_eq_true rfl)) rfl ?_
        refine hr_ifB_eq (q := 31) (tgt := 55) X dX0_lookersAt_28 rfl (by decide) (fun c28 => ?_) (fun c28 => ?_)
        · refine hr_iconst (v := (nI 0)) (q := 56) X dX0_lookersAt_55 rfl rfl ?_
          refine hr_iadd (v := (nI (S + 0))) (q := 57) X dX0_lookersAt_56 rfl (nI_add _ _) ?_
          refine hr_istore2 (q := 58) X dX0_lookersAt_57 rfl rfl (Nat.le_of_ble_eq_true rfl) ?_
          refine hr_iinc3 (v := (nI (i + 1))) (q := 61) X dX0_lookersAt_58 rfl (nI_add _ _) rfl (Nat.le_of_ble_eq_true rfl) ?_
          refine hr_goto (tgt := 4) X dX0_lookersAt_61 (by decide) ?_
          exact ih (i + 1) (S + 0) (by omega) (by omega) (by have := cp_seers h4_2; rw [c28] at this; simpa using this)
        · refine hr_aload0 (q := 32) X dX0_lookersAt_31 rfl ?_
          refine hr_getR (v := (cp_w ca 0)) (q := 35) X dX0_lookersAt_32 rfl fr_q250_0 rfl h.o.1 h.o.2.2.2.2.2.2.1 ?_
          refine hr_aload0 (q := 36) X dX0_lookersAt_35 rfl ?_
          refine hr_getR (v := (cp_w ca 0)) (q := 39) X dX0_lookersAt_36 rfl fr_q250_0 rfl h.o.1 h.o.2.2.2.2.2.2.1 ?_
          refine hr_getR (v := (cp_w ca 4)) (q := 42) X dX0_lookersAt_39 rfl fr_q190_2 rfl h.w.ob h.w.f14 ?_
          refine hr_iload3 (q := 43) X dX0_lookersAt_42 rfl ?_
          have b2 := hw.b14 (p := i) (by omega)
          refine hr_ialdN (v := (nI (A.1.1 14 i))) (q := 44) X dX0_lookersAt_43 rfl h.w.k4 (Or.inl rfl) (by omega) (by decide) (h.w.e4 (by omega)) ?_
          refine hr_iload1 (q := 45) X dX0_lookersAt_44 rfl ?_
          have h14 := hw.b14 (p := i) (by omega)
          refine hr_callP (q := 48) (hc_V (n := 2) (ci := 2) (As := [.int (nI (A.1.1 14 i)), .int (nI z)]) X dX0_lookersAt_45 rfl (tn_isInView X.tr h.w hw (a := A.1.1 14 i) (b := z) (by omega) (by omega)) q1000 cv_X2_isInView ⟨Nat.le_of_ble_eq_true rfl, Nat.le_of_ble_eq_true rfl⟩ rfl (Nat.le_of_ble_eq_true rfl) h.w.ob rfl rfl) rfl ?_
          refine hr_ifB_eq (q := 51) (tgt := 55) X dX0_lookersAt_48 rfl (by decide) (fun c48 => ?_) (fun c48 => ?_)
          · refine hr_iconst (v := (nI 0)) (q := 56) X dX0_lookersAt_55 rfl rfl ?_
            refine hr_iadd (v := (nI (S + 0))) (q := 57) X dX0_lookersAt_56 rfl (nI_add _ _) ?_
            refine hr_istore2 (q := 58) X dX0_lookersAt_57 rfl rfl (Nat.le_of_ble_eq_true rfl) ?_
            refine hr_iinc3 (v := (nI (i + 1))) (q := 61) X dX0_lookersAt_58 rfl (nI_add _ _) rfl (Nat.le_of_ble_eq_true rfl) ?_
            refine hr_goto (tgt := 4) X dX0_lookersAt_61 (by decide) ?_
            exact ih (i + 1) (S + 0) (by omega) (by omega) (by have := cp_seers h4_2; rw [c28, c48] at this; simpa using this)
          · refine hr_iconst (v := (nI 1)) (q := 52) X dX0_lookersAt_51 rfl rfl ?_
            refine hr_goto (tgt := 56) X dX0_lookersAt_52 (by decide) ?_
            refine hr_iadd (v := (nI (S + 1))) (q := 57) X dX0_lookersAt_56 rfl (nI_add _ _) ?_
            refine hr_istore2 (q := 58) X dX0_lookersAt_57 rfl rfl (Nat.le_of_ble_eq_true rfl) ?_
            refine hr_iinc3 (v := (nI (i + 1))) (q := 61) X dX0_lookersAt_58 rfl (nI_add _ _) rfl (Nat.le_of_ble_eq_true rfl) ?_
            refine hr_goto (tgt := 4) X dX0_lookersAt_61 (by decide) ?_
            exact ih (i + 1) (S + 1) (by omega) (by omega) (by have := cp_seers h4_2; rw [c28, c48] at this; simpa using this)
  exact loop4 _ _ (A.1.1 0 0 + 1) 0 0 (by omega) (by omega) rfl

abbrev rk_X0_crowd : Room := { frames := 12, cells := 40, slots := 3000, locals := 400 }
theorem tc_crowd {l : Launch} {D : hg_D} {lo : Nat} (htr : l.stackTraces = false) {G : hg_G} {ca : Nat → Nat} {A : ab_S} (h : cp_R G ca A) (hW : ab_wf A) {a1 : Int32} :
    hg_M l D lo yX0_crowd (wsW_ yX0_crowd cX0_crowd 5 ((some FieldType.int)) [(0, 82, 83, 21)]) rk_X0_crowd [.ref (ca 0), .int a1] G (cp_Po ca (sq_crowd a1 A)) := by
  refine hg_M.ofH htr (by decide) [some (.ref (ca 0)), some (.int a1), none, none, none] rfl (Nat.le_of_ble_eq_true rfl) ?_
  intro p e s m args below meth c X hr hnm htab
  have X : hg_X p l s m args meth c D lo "TaxOnLooks" cX0_crowd 5 := X
  refine hr_room (kr' := 40) (nr' := 3000) (Nat.le_of_ble_eq_true rfl) (Nat.le_of_ble_eq_true rfl) ?_
  have hw := hW.w; have w0 := hw.b0; have w1 := hw.b1; have w2 := hw.b2; have w3 := hw.b3; have w36 := hW.b36; have w43 := hW.b43
  have hpw := sp_wpk hw; have hpb := sp_bpk hw
  obtain ⟨K, hK, hKs, hKb⟩ := h.w.sk
  refine hr_iload1 (q := 1) X dX0_crowd_0 rfl ?_
  refine hr_i2l (v := a1.toInt64) (q := 2) X dX0_crowd_1 rfl rfl ?_
  refine hr_lconst (v := (lN 0)) (q := 3) X dX0_crowd_2 rfl rfl ?_
  refine hr_lconst (v := (lN 1)) (q := 4) X dX0_crowd_3 rfl rfl ?_
  refine hr_callP (v := .int (bI (sp_fr a1 (nI 0) (nI 1)))) (q := 7) (hc_S (n := 3) (As := [.long a1.toInt64, .long (lN 0), .long (lN 1)]) X dX0_crowd_4 rfl (tc_in X.tr (x := a1) (b := 0) (z := 1) (by decide) (by decide)) q387 cs_X0_in ⟨Nat.le_of_ble_eq_true rfl, Nat.le_of_ble_eq_true rfl⟩ rfl (Nat.le_of_ble_eq_true rfl)) rfl ?_
  refine hr_bipush (v := (-5)) (q := 9) X dX0_crowd_7 rfl rfl ?_
  refine hr_call (kr := 39) (nr := 2993) (q := 12) (hc_S (n := 2) (As := [.int (bI (sp_fr a1 (nI 0) (nI 1))), .int (-5)]) X dX0_crowd_9 rfl (tc_need X.tr (g := sp_fr a1 (nI 0) (nI 1)) (w := (-5))) q383 cs_X0_need ⟨Nat.le_of_ble_eq_true rfl, Nat.le_of_ble_eq_true rfl⟩ rfl (Nat.le_of_ble_eq_true rfl)) rfl (fun qxn1 E Gxn1 hpn1 _ => ?_) (fun r Gn1 hpn1 _ => ?_)
  · obtain ⟨hgn1, hrn1, -⟩ | ⟨hgn1, qn1, hrn1, htn1⟩ := hpn1
    · cases hrn1
    · cases hrn1
      have hxn1 := h.T htn1
      refine hx_catch (name := "TaxOnLooks$Refused") X [] ⟨0, 82, 83, 21⟩ [] htab (fun z hz => nomatch hz) (by decide) (by decide) q277 (by decide) ?_
      have fhgn1 : a1 < (0 : Int32) ∨ (¬ a1 < (0 : Int32) ∧ ¬ a1 ≤ nI 1) := sp_fr_f hgn1
      refine hr_astore2 (q := 84) X dX0_crowd_83 rfl rfl (Nat.le_of_ble_eq_true rfl) ?_
      refine hr_aload0 (q := 85) X dX0_crowd_84 rfl ?_
      refine hr_aload2 (q := 86) X dX0_crowd_85 rfl ?_
      refine hr_call0 (q := 89) (hc_V (n := 1) (ci := 0) (As := [.ref qxn1]) X dX0_crowd_86 rfl (tc_refused X.tr hxn1 hW (q := qxn1) htn1.2.1 htn1.2.2.1 (k := 5) (by decide) (by decide) (by decide)) q452 cv_X0_refused ⟨Nat.le_of_ble_eq_true rfl, Nat.le_of_ble_eq_true rfl⟩ rfl (Nat.le_of_ble_eq_true rfl) hxn1.o.1 rfl rfl) rfl (fun qx E G' hp => by cases hp.1) (fun r Gf2 hp _ => ?_)
      obtain ⟨hvf2, hhf2⟩ := hp
      cases hvf2
      have hq3 : sq_crowd a1 A = ((-5), (sq_no (-5) A).2) := by
        rcases fhgn1 with g | ⟨g, g2⟩
        · simp [sq_crowd, sq_noTen, sq_no_1, eq_true g]
        · simp [sq_crowd, sq_noTen, sq_no_1, eq_false g, eq_false g2]
      exact hr_iret X hr dX0_crowd_89 (by rw [hq3]; exact ⟨rfl, ca, rfl, hhf2⟩)
  · obtain ⟨hgn1, hrn1, hGn1⟩ | ⟨hgn1, qn1, hrn1, htn1⟩ := hpn1
    · cases hrn1
      have hGn1 := hGn1.symm
      subst hGn1
      have fhgn1 : ¬ a1 < (0 : Int32) ∧ a1 ≤ nI 1 := sp_fr_t hgn1
      refine hr_iconst (v := (nI 0)) (q := 13) X dX0_crowd_12 rfl rfl ?_
      refine hr_istore2 (q := 14) X dX0_crowd_13 rfl rfl (Nat.le_of_ble_eq_true rfl) ?_
      refine hr_iconst (v := (nI 0)) (q := 15) X dX0_crowd_14 rfl rfl ?_
      refine hr_istore3 (q := 16) X dX0_crowd_15 rfl rfl (Nat.le_of_ble_eq_true rfl) ?_
      refine hr_iconst (v := (nI 0)) (q := 17) X dX0_crowd_16 rfl rfl ?_
      refine hr_istore4 (q := 19) X dX0_crowd_17 rfl rfl (Nat.le_of_ble_eq_true rfl) ?_
      have loop19 : ∀ (kr nr n : Nat) (i B S : Nat), (i ≤ 36) → (37 ≤ i + n) → (B = sp_bst (fun _ => true) (fun a b => decide (sp_seers A.1 b < sp_seers A.1 a)) (i - 1 + 1)) → (B < 36) → (S = sp_sum (fun c => if sp_lit A.1 c = true then 1 else 0) i) → hg_W p l e rk_X0_crowd s m args below meth c (hg_Q below D lo args s rk_X0_crowd G (cp_Po ca (sq_crowd a1 A))) D lo G.1 5 kr nr G 19 [some (.ref (ca 0)), some (.int a1), some (.int (nI B)), some (.int (nI S)), some (.int (nI i))] [] := by
        intro kr nr n
        induction n with
        | zero =>
          intro i B S h19_0 h19_1 h19_2 h19_3 h19_4
          omega
        | succ n ih =>
          intro i B S h19_0 h19_1 h19_2 h19_3 h19_4
          refine hr_iload4 (q := 21) X dX0_crowd_19 rfl ?_
          refine hr_bipush (v := (nI 36)) (q := 23) X dX0_crowd_21 rfl rfl ?_
          refine hr_icmpN_ge (q := 26) (tgt := 73) X dX0_crowd_23 rfl (by decide) (by omega) (by omega) (fun c23 => ?_) (fun c23 => ?_)
          · have hi36 : i = 36 := by omega
            subst hi36
            have hB9 : sp_crowd A.1 = B := h19_2.symm
            have hS9 : sp_lits A.1 = S := h19_4.symm
            refine hr_iload1 (q := 74) X dX0_crowd_73 rfl ?_
            refine hr_if_ne (q := 77) (tgt := 81) X dX0_crowd_74 rfl (by decide) (fun c74 => ?_) (fun c74 => ?_)
            · refine hr_iload3 (q := 82) X dX0_crowd_81 rfl ?_
              have hq4 : sq_crowd a1 A = ((nI S), A) := by
                simp [sq_crowd, sq_noTen, sq_no_1, eq_false fhgn1.1, eq_true fhgn1.2, hB9, hS9, eq_false c74]
              exact hr_iret X hr dX0_crowd_82 (by rw [hq4]; exact ⟨rfl, ca, rfl, h⟩)
            · refine hr_iload2 (q := 78) X dX0_crowd_77 rfl ?_
              refine hr_goto (tgt := 82) X dX0_crowd_78 (by decide) ?_
              have hq5 : sq_crowd a1 A = ((nI B), A) := by
                simp [sq_crowd, sq_noTen, sq_no_1, eq_false fhgn1.1, eq_true fhgn1.2, hB9, hS9, eq_true c74]
              exact hr_iret X hr dX0_crowd_82 (by rw [hq5]; exact ⟨rfl, ca, rfl, h⟩)
          · refine hr_aload0 (q := 27) X dX0_crowd_26 rfl ?_
            refine hr_iload4 (q := 29) X dX0_crowd_27 rfl ?_
            refine hr_callP (q := 32) (hc_V (n := 1) (ci := 0) (As := [.int (nI i)]) X dX0_crowd_29 rfl (tc_lookersAt X.tr h hW (z := i) (by omega)) q1213 cv_X0_lookersAt ⟨Nat.le_of_ble_eq_true rfl, Nat.le_of_ble_eq_true rfl⟩ rfl (Nat.le_of_ble_eq_true rfl) h.o.1 rfl rfl) rfl ?_
            have := sp_seers_le hw i
            refine hr_aload0 (q := 33) X dX0_crowd_32 rfl ?_
            refine hr_iload2 (q := 34) X dX0_crowd_33 rfl ?_
            refine hr_callP (q := 37) (hc_V (n := 1) (ci := 0) (As := [.int (nI B)]) X dX0_crowd_34 rfl (tc_lookersAt X.tr h hW (z := B) (by omega)) q1213 cv_X0_lookersAt ⟨Nat.le_of_ble_eq_true rfl, Nat.le_of_ble_eq_true rfl⟩ rfl (Nat.le_of_ble_eq_true rfl) h.o.1 rfl rfl) rfl ?_
            have := sp_seers_le hw B
            refine hr_icmpN_le (q := 40) (tgt := 45) X dX0_crowd_37 rfl (by decide) (by omega) (by omega) (fun c37 => ?_) (fun c37 => ?_)
            · refine hr_iload2 (q := 46) X dX0_crowd_45 rfl ?_
              refine hr_istore2 (q := 47) X dX0_crowd_46 rfl rfl (Nat.le_of_ble_eq_true rfl) ?_
              refine hr_iload3 (q := 48) X dX0_crowd_47 rfl ?_
              refine hr_aload0 (q := 49) X dX0_crowd_48 rfl ?_
              refine hr_getR (v := (cp_w ca 0)) (q := 52) X dX0_crowd_49 rfl fr_q250_0 rfl h.o.1 h.o.2.2.2.2.2.2.1 ?_
              refine hr_iload4 (q := 54) X dX0_crowd_52 rfl ?_
              refine hr_callP (q := 57) (hc_V (n := 1) (ci := 2) (As := [.int (nI i)]) X dX0_crowd_54 rfl (tn_isLit X.tr h.w hw (z := i) (by omega)) q1218 cv_X2_isLit ⟨Nat.le_of_ble_eq_true rfl, Nat.le_of_ble_eq_true rfl⟩ rfl (Nat.le_of_ble_eq_true rfl) h.w.ob rfl rfl) rfl ?_
              refine hr_ifB_eq (q := 60) (tgt := 64) X dX0_crowd_57 rfl (by decide) (fun c57 => ?_) (fun c57 => ?_)
              · refine hr_iconst (v := (nI 0)) (q := 65) X dX0_crowd_64 rfl rfl ?_
                refine hr_iadd (v := (nI (S + 0))) (q := 66) X dX0_crowd_65 rfl (nI_add _ _) ?_
                refine hr_istore3 (q := 67) X dX0_crowd_66 rfl rfl (Nat.le_of_ble_eq_true rfl) ?_
                refine hr_iinc4 (v := (nI (i + 1))) (q := 70) X dX0_crowd_67 rfl (nI_add _ _) rfl (Nat.le_of_ble_eq_true rfl) ?_
                refine hr_goto (tgt := 19) X dX0_crowd_70 (by decide) ?_
                exact ih (i + 1) B (S + 0) (by omega) (by omega) (sp_bst_k2 (by omega) h19_2 (decide_eq_false (by omega))) (by omega) (by rw [sp_sum, ← h19_4, c57]; rfl)
              · refine hr_iconst (v := (nI 1)) (q := 61) X dX0_crowd_60 rfl rfl ?_
                refine hr_goto (tgt := 65) X dX0_crowd_61 (by decide) ?_
                refine hr_iadd (v := (nI (S + 1))) (q := 66) X dX0_crowd_65 rfl (nI_add _ _) ?_
                refine hr_istore3 (q := 67) X dX0_crowd_66 rfl rfl (Nat.le_of_ble_eq_true rfl) ?_
                refine hr_iinc4 (v := (nI (i + 1))) (q := 70) X dX0_crowd_67 rfl (nI_add _ _) rfl (Nat.le_of_ble_eq_true rfl) ?_
                refine hr_goto (tgt := 19) X dX0_crowd_70 (by decide) ?_
                exact ih (i + 1) B (S + 1) (by omega) (by omega) (sp_bst_k2 (by omega) h19_2 (decide_eq_false (by omega))) (by omega) (by rw [sp_sum, ← h19_4, c57]; rfl)
            · refine hr_iload4 (q := 42) X dX0_crowd_40 rfl ?_
              refine hr_goto (tgt := 46) X dX0_crowd_42 (by decide) ?_
              refine hr_istore2 (q := 47) X dX0_crowd_46 rfl rfl (Nat.le_of_ble_eq_true rfl) ?_
              refine hr_iload3 (q := 48) X dX0_crowd_47 rfl ?_
              refine hr_aload0 (q := 49) X dX0_crowd_48 rfl ?_
              refine hr_getR (v := (cp_w ca 0)) (q := 52) X dX0_crowd_49 rfl fr_q250_0 rfl h.o.1 h.o.2.2.2.2.2.2.1 ?_
              refine hr_iload4 (q := 54) X dX0_crowd_52 rfl ?_
              refine hr_callP (q := 57) (hc_V (n := 1) (ci := 2) (As := [.int (nI i)]) X dX0_crowd_54 rfl (tn_isLit X.tr h.w hw (z := i) (by omega)) q1218 cv_X2_isLit ⟨Nat.le_of_ble_eq_true rfl, Nat.le_of_ble_eq_true rfl⟩ rfl (Nat.le_of_ble_eq_true rfl) h.w.ob rfl rfl) rfl ?_
              refine hr_ifB_eq (q := 60) (tgt := 64) X dX0_crowd_57 rfl (by decide) (fun c57 => ?_) (fun c57 => ?_)
              · refine hr_iconst (v := (nI 0)) (q := 65) X dX0_crowd_64 rfl rfl ?_
                refine hr_iadd (v := (nI (S + 0))) (q := 66) X dX0_crowd_65 rfl (nI_add _ _) ?_
                refine hr_istore3 (q := 67) X dX0_crowd_66 rfl rfl (Nat.le_of_ble_eq_true rfl) ?_
                refine hr_iinc4 (v := (nI (i + 1))) (q := 70) X dX0_crowd_67 rfl (nI_add _ _) rfl (Nat.le_of_ble_eq_true rfl) ?_
                refine hr_goto (tgt := 19) X dX0_crowd_70 (by decide) ?_
                exact ih (i + 1) i (S + 0) (by omega) (by omega) (sp_bst_y2 h19_2 (decide_eq_true (by omega)) (decide_eq_false (Nat.lt_irrefl _))) (by omega) (by rw [sp_sum, ← h19_4, c57]; rfl)
              · refine hr_iconst (v := (nI 1)) (q := 61) X dX0_crowd_60 rfl rfl ?_
                refine hr_goto (tgt := 65) X dX0_crowd_61 (by decide) ?_
                refine hr_iadd (v := (nI (S + 1))) (q := 66) X dX0_crowd_65 rfl (nI_add _ _) ?_
                refine hr_istore3 (q := 67) X dX0_crowd_66 rfl rfl (Nat.le_of_ble_eq_true rfl) ?_
                refine hr_iinc4 (v := (nI (i + 1))) (q := 70) X dX0_crowd_67 rfl (nI_add _ _) rfl (Nat.le_of_ble_eq_true rfl) ?_
                refine hr_goto (tgt := 19) X dX0_crowd_70 (by decide) ?_
                exact ih (i + 1) i (S + 1) (by omega) (by omega) (sp_bst_y2 h19_2 (decide_eq_true (by omega)) (decide_eq_false (Nat.lt_irrefl _))) (by omega) (by rw [sp_sum, ← h19_4, c57]; rfl)
      exact loop19 _ _ 37 0 0 0 (by omega) (by omega) (sp_bst_1 _).symm (by decide) rfl
    · cases hrn1

abbrev rk_X0_all : Room := { frames := 12, cells := 40, slots := 3000, locals := 400 }
theorem tc_all {l : Launch} {D : hg_D} {lo : Nat} (htr : l.stackTraces = false) {G : hg_G} {ca : Nat → Nat} {A : ab_S} (h : cp_R G ca A) (hW : ab_wf A) {a1 : Int32} :
    hg_M l D lo yX0_all (wsW_ yX0_all cX0_all 6 ((some FieldType.int)) [(0, 143, 144, 21)]) rk_X0_all [.ref (ca 0), .int a1] G (cp_Po ca (sq_all a1 A)) := by
  refine hg_M.ofH htr (by decide) [some (.ref (ca 0)), some (.int a1), none, none, none, none] rfl (Nat.le_of_ble_eq_true rfl) ?_
  intro p e s m args below meth c X hr hnm htab
  have X : hg_X p l s m args meth c D lo "TaxOnLooks" cX0_all 6 := X
  refine hr_room (kr' := 40) (nr' := 3000) (Nat.le_of_ble_eq_true rfl) (Nat.le_of_ble_eq_true rfl) ?_
  have hw := hW.w; have w0 := hw.b0; have w1 := hw.b1; have w2 := hw.b2; have w3 := hw.b3; have w36 := hW.b36; have w43 := hW.b43
  have hpw := sp_wpk hw; have hpb := sp_bpk hw
  obtain ⟨K, hK, hKs, hKb⟩ := h.w.sk
  refine hr_iload1 (q := 1) X dX0_all_0 rfl ?_
  refine hr_i2l (v := a1.toInt64) (q := 2) X dX0_all_1 rfl rfl ?_
  refine hr_lconst (v := (lN 0)) (q := 3) X dX0_all_2 rfl rfl ?_
  refine hr_ldc2 (q := 6) X dX0_all_3 rfl q386 ?_
  refine hr_callP (v := .int (bI (sp_fr a1 (nI 0) (nI 3)))) (q := 9) (hc_S (n := 3) (As := [.long a1.toInt64, .long (lN 0), .long 3]) X dX0_all_6 rfl (tc_in X.tr (x := a1) (b := 0) (z := 3) (by decide) (by decide)) q387 cs_X0_in ⟨Nat.le_of_ble_eq_true rfl, Nat.le_of_ble_eq_true rfl⟩ rfl (Nat.le_of_ble_eq_true rfl)) rfl ?_
  refine hr_bipush (v := (-5)) (q := 11) X dX0_all_9 rfl rfl ?_
  refine hr_call (kr := 39) (nr := 2993) (q := 14) (hc_S (n := 2) (As := [.int (bI (sp_fr a1 (nI 0) (nI 3))), .int (-5)]) X dX0_all_11 rfl (tc_need X.tr (g := sp_fr a1 (nI 0) (nI 3)) (w := (-5))) q383 cs_X0_need ⟨Nat.le_of_ble_eq_true rfl, Nat.le_of_ble_eq_true rfl⟩ rfl (Nat.le_of_ble_eq_true rfl)) rfl (fun qxn1 E Gxn1 hpn1 _ => ?_) (fun r Gn1 hpn1 _ => ?_)
  · obtain ⟨hgn1, hrn1, -⟩ | ⟨hgn1, qn1, hrn1, htn1⟩ := hpn1
    · cases hrn1
    · cases hrn1
      have hxn1 := h.T htn1
      refine hx_catch (name := "TaxOnLooks$Refused") X [] ⟨0, 143, 144, 21⟩ [] htab (fun z hz => nomatch hz) (by decide) (by decide) q277 (by decide) ?_
      have fhgn1 : a1 < (0 : Int32) ∨ (¬ a1 < (0 : Int32) ∧ ¬ a1 ≤ nI 3) := sp_fr_f hgn1
      refine hr_astore2 (q := 145) X dX0_all_144 rfl rfl (Nat.le_of_ble_eq_true rfl) ?_
      refine hr_aload0 (q := 146) X dX0_all_145 rfl ?_
      refine hr_aload2 (q := 147) X dX0_all_146 rfl ?_
      refine hr_call0 (q := 150) (hc_V (n := 1) (ci := 0) (As := [.ref qxn1]) X dX0_all_147 rfl (tc_refused X.tr hxn1 hW (q := qxn1) htn1.2.1 htn1.2.2.1 (k := 5) (by decide) (by decide) (by decide)) q452 cv_X0_refused ⟨Nat.le_of_ble_eq_true rfl, Nat.le_of_ble_eq_true rfl⟩ rfl (Nat.le_of_ble_eq_true rfl) hxn1.o.1 rfl rfl) rfl (fun qx E G' hp => by cases hp.1) (fun r Gf2 hp _ => ?_)
      obtain ⟨hvf2, hhf2⟩ := hp
      cases hvf2
      have hq3 : sq_all a1 A = ((-5), (sq_no (-5) A).2) := by
        rcases fhgn1 with g | ⟨g, g2⟩
        · simp [sq_all, sq_noTen, sq_no_1, eq_true g]
        · simp [sq_all, sq_noTen, sq_no_1, eq_false g, eq_false g2]
      exact hr_iret X hr dX0_all_150 (by rw [hq3]; exact ⟨rfl, ca, rfl, hhf2⟩)
  · obtain ⟨hgn1, hrn1, hGn1⟩ | ⟨hgn1, qn1, hrn1, htn1⟩ := hpn1
    · cases hrn1
      have hGn1 := hGn1.symm
      subst hGn1
      have fhgn1 : ¬ a1 < (0 : Int32) ∧ a1 ≤ nI 3 := sp_fr_t hgn1
      refine hr_iconst (v := (nI 0)) (q := 15) X dX0_all_14 rfl rfl ?_
      refine hr_istore2 (q := 16) X dX0_all_15 rfl rfl (Nat.le_of_ble_eq_true rfl) ?_
      refine hr_iconst (v := (nI 0)) (q := 17) X dX0_all_16 rfl rfl ?_
      refine hr_istore3 (q := 18) X dX0_all_17 rfl rfl (Nat.le_of_ble_eq_true rfl) ?_
      refine hr_iconst (v := (nI 0)) (q := 19) X dX0_all_18 rfl rfl ?_
      refine hr_istore4 (q := 21) X dX0_all_19 rfl rfl (Nat.le_of_ble_eq_true rfl) ?_
      refine hr_iconst (v := (nI 0)) (q := 22) X dX0_all_21 rfl rfl ?_
      refine hr_istore5 (q := 24) X dX0_all_22 rfl rfl (Nat.le_of_ble_eq_true rfl) ?_
      have loop24 : ∀ (kr nr n : Nat) (i F Rn S : Nat), (i ≤ A.1.1 0 0) → (A.1.1 0 0 + 1 ≤ i + n) → (F = sp_sum (sp_wouldPay A.1) i) → (Rn = sp_sum (fun x => if A.1.1 13 x < sp_owes A.1 x then 2 ^ x else 0) i) → (S = sp_sum (fun x => if sp_owes A.1 x = 0 then 1 else 0) i) → hg_W p l e rk_X0_all s m args below meth c (hg_Q below D lo args s rk_X0_all G (cp_Po ca (sq_all a1 A))) D lo G.1 6 kr nr G 24 [some (.ref (ca 0)), some (.int a1), some (.int (nI F)), some (.int (nI Rn)), some (.int (nI S)), some (.int (nI i))] [] := by
        intro kr nr n
        induction n with
        | zero =>
          intro i F Rn S h24_0 h24_1 h24_2 h24_3 h24_4
          omega
        | succ n ih =>
          intro i F Rn S h24_0 h24_1 h24_2 h24_3 h24_4
          refine hr_iload5 (q := 26) X dX0_all_24 rfl ?_
          refine hr_aload0 (q := 27) X dX0_all_26 rfl ?_
          refine hr_getR (v := (cp_w ca 0)) (q := 30) X dX0_all_27 rfl fr_q250_0 rfl h.o.1 h.o.2.2.2.2.2.2.1 ?_
          refine hr_getI (v := (nI (A.1.1 0 0))) (q := 33) X dX0_all_30 rfl fr_q154_2 rfl h.w.ob h.w.f0 ?_
          refine hr_icmpN_ge (q := 36) (tgt := 109) X dX0_all_33 rfl (by decide) (by omega) (by omega) (fun c33 => ?_) (fun c33 => ?_)
          · have him : i = A.1.1 0 0 := by omega
            rw [him] at h24_2 h24_3 h24_4
            refine hr_iload1 (q := 110) X dX0_all_109 rfl ?_
            refine hr_if_ne (q := 113) (tgt := 123) X dX0_all_110 rfl (by decide) (fun c110 => ?_) (fun c110 => ?_)
            · refine hr_iload1 (q := 124) X dX0_all_123 rfl ?_
              refine hr_iconst (v := (nI 1)) (q := 125) X dX0_all_124 rfl rfl ?_
              refine hr_icmp_ne (q := 128) (tgt := 132) X dX0_all_125 rfl (by decide) (fun c125 => ?_) (fun c125 => ?_)
              · refine hr_iload1 (q := 133) X dX0_all_132 rfl ?_
                refine hr_iconst (v := (nI 2)) (q := 134) X dX0_all_133 rfl rfl ?_
                refine hr_icmp_ne (q := 137) (tgt := 141) X dX0_all_134 rfl (by decide) (fun c134 => ?_) (fun c134 => ?_)
                · refine hr_iload4 (q := 143) X dX0_all_141 rfl ?_
                  have hk := cp_a3 fhgn1.1 fhgn1.2 c110 c125 c134
                  have hv : sp_all A.1 (iN a1) = S := by rw [hk, h24_4]; rfl
                  have hq4 : sq_all a1 A = ((nI S), A) := by
                    simp [sq_all, sq_noTen, sq_no_1, eq_false fhgn1.1, eq_true fhgn1.2, hv]
                  exact hr_iret X hr dX0_all_143 (by rw [hq4]; exact ⟨rfl, ca, rfl, h⟩)
                · refine hr_iload3 (q := 138) X dX0_all_137 rfl ?_
                  refine hr_goto (tgt := 143) X dX0_all_138 (by decide) ?_
                  have hk : iN a1 = 2 := by rw [c134]; decide
                  have hv : sp_all A.1 (iN a1) = Rn := by rw [hk, h24_3]; rfl
                  have hq5 : sq_all a1 A = ((nI Rn), A) := by
                    simp [sq_all, sq_noTen, sq_no_1, eq_false fhgn1.1, eq_true fhgn1.2, hv]
                  exact hr_iret X hr dX0_all_143 (by rw [hq5]; exact ⟨rfl, ca, rfl, h⟩)
              · refine hr_iload2 (q := 129) X dX0_all_128 rfl ?_
                refine hr_goto (tgt := 143) X dX0_all_129 (by decide) ?_
                have hk : iN a1 = 1 := by rw [c125]; decide
                have hv : sp_all A.1 (iN a1) = F := by rw [hk, h24_2]; rfl
                have hq6 : sq_all a1 A = ((nI F), A) := by
                  simp [sq_all, sq_noTen, sq_no_1, eq_false fhgn1.1, eq_true fhgn1.2, hv]
                exact hr_iret X hr dX0_all_143 (by rw [hq6]; exact ⟨rfl, ca, rfl, h⟩)
            · refine hr_aload0 (q := 114) X dX0_all_113 rfl ?_
              refine hr_getR (v := (cp_w ca 0)) (q := 117) X dX0_all_114 rfl fr_q250_0 rfl h.o.1 h.o.2.2.2.2.2.2.1 ?_
              refine hr_callP (q := 120) (hc_V (n := 0) (ci := 2) (As := []) X dX0_all_117 rfl (tn_duties X.tr h.w hw ) q1109 cv_X2_duties ⟨Nat.le_of_ble_eq_true rfl, Nat.le_of_ble_eq_true rfl⟩ rfl (Nat.le_of_ble_eq_true rfl) h.w.ob rfl rfl) rfl ?_
              have := sp_duties_le (t := A.1) hw
              refine hr_goto (tgt := 143) X dX0_all_120 (by decide) ?_
              have hk : iN a1 = 0 := by rw [c110]; decide
              have hv : sp_all A.1 (iN a1) = sp_duties A.1 := by rw [hk]; rfl
              have hq7 : sq_all a1 A = ((nI (sp_duties A.1)), A) := by
                simp [sq_all, sq_noTen, sq_no_1, eq_false fhgn1.1, eq_true fhgn1.2, hv]
              exact hr_iret X hr dX0_all_143 (by rw [hq7]; exact ⟨rfl, ca, rfl, h⟩)
          · have hSl : Rn < 2 ^ i := by rw [h24_3]; exact cp_ru i
            have hpu := hw.b13 (p := i) (by omega)
            refine hr_iload2 (q := 37) X dX0_all_36 rfl ?_
            refine hr_aload0 (q := 38) X dX0_all_37 rfl ?_
            refine hr_getR (v := (cp_w ca 0)) (q := 41) X dX0_all_38 rfl fr_q250_0 rfl h.o.1 h.o.2.2.2.2.2.2.1 ?_
            refine hr_iload5 (q := 43) X dX0_all_41 rfl ?_
            refine hr_callP (q := 46) (hc_V (n := 1) (ci := 2) (As := [.int (nI i)]) X dX0_all_43 rfl (tn_fine X.tr h.w hw (x := i) (by omega)) q1101 cv_X2_fine ⟨Nat.le_of_ble_eq_true rfl, Nat.le_of_ble_eq_true rfl⟩ rfl (Nat.le_of_ble_eq_true rfl) h.w.ob rfl rfl) rfl ?_
            refine hr_iadd (v := (nI (F + (sp_wouldPay A.1 i)))) (q := 47) X dX0_all_46 rfl (nI_add _ _) ?_
            refine hr_istore2 (q := 48) X dX0_all_47 rfl rfl (Nat.le_of_ble_eq_true rfl) ?_
            refine hr_iload3 (q := 49) X dX0_all_48 rfl ?_
            refine hr_aload0 (q := 50) X dX0_all_49 rfl ?_
            refine hr_getR (v := (cp_w ca 0)) (q := 53) X dX0_all_50 rfl fr_q250_0 rfl h.o.1 h.o.2.2.2.2.2.2.1 ?_
            refine hr_iload5 (q := 55) X dX0_all_53 rfl ?_
            refine hr_callP (q := 58) (hc_V (n := 1) (ci := 2) (As := [.int (nI i)]) X dX0_all_55 rfl (tn_duty X.tr h.w hw (x := i) (by omega)) q1067 cv_X2_duty ⟨Nat.le_of_ble_eq_true rfl, Nat.le_of_ble_eq_true rfl⟩ rfl (Nat.le_of_ble_eq_true rfl) h.w.ob rfl rfl) rfl ?_
            have := sp_owes_lt (t := A.1) hw i
            refine hr_aload0 (q := 59) X dX0_all_58 rfl ?_
            refine hr_getR (v := (cp_w ca 0)) (q := 62) X dX0_all_59 rfl fr_q250_0 rfl h.o.1 h.o.2.2.2.2.2.2.1 ?_
            refine hr_getR (v := (cp_w ca 3)) (q := 65) X dX0_all_62 rfl fr_q186_2 rfl h.w.ob h.w.f13 ?_
            refine hr_iload5 (q := 67) X dX0_all_65 rfl ?_
            have b8 := hw.b13 (p := i) (by omega)
            refine hr_ialdN (v := (nI (A.1.1 13 i))) (q := 68) X dX0_all_67 rfl h.w.k3 (Or.inl rfl) (by omega) (by decide) (h.w.e3 (by omega)) ?_
            refine hr_icmpN_le (q := 71) (tgt := 78) X dX0_all_68 rfl (by decide) (by omega) (by omega) (fun c68 => ?_) (fun c68 => ?_)
            · refine hr_iconst (v := (nI 0)) (q := 79) X dX0_all_78 rfl rfl ?_
              refine hr_ior (v := (nI Rn)) (q := 80) X dX0_all_79 rfl (sp_or0 _) ?_
              refine hr_istore3 (q := 81) X dX0_all_80 rfl rfl (Nat.le_of_ble_eq_true rfl) ?_
              refine hr_iload4 (q := 83) X dX0_all_81 rfl ?_
              refine hr_aload0 (q := 84) X dX0_all_83 rfl ?_
              refine hr_getR (v := (cp_w ca 0)) (q := 87) X dX0_all_84 rfl fr_q250_0 rfl h.o.1 h.o.2.2.2.2.2.2.1 ?_
              refine hr_iload5 (q := 89) X dX0_all_87 rfl ?_
              refine hr_callP (q := 92) (hc_V (n := 1) (ci := 2) (As := [.int (nI i)]) X dX0_all_89 rfl (tn_duty X.tr h.w hw (x := i) (by omega)) q1067 cv_X2_duty ⟨Nat.le_of_ble_eq_true rfl, Nat.le_of_ble_eq_true rfl⟩ rfl (Nat.le_of_ble_eq_true rfl) h.w.ob rfl rfl) rfl ?_
              have := sp_owes_lt (t := A.1) hw i
              refine hr_ifN_ne (q := 95) (tgt := 99) X dX0_all_92 rfl (by decide) (by omega) (fun c92 => ?_) (fun c92 => ?_)
              · refine hr_iconst (v := (nI 0)) (q := 100) X dX0_all_99 rfl rfl ?_
                refine hr_iadd (v := (nI (S + 0))) (q := 101) X dX0_all_100 rfl (nI_add _ _) ?_
                refine hr_istore4 (q := 103) X dX0_all_101 rfl rfl (Nat.le_of_ble_eq_true rfl) ?_
                refine hr_iinc5 (v := (nI (i + 1))) (q := 106) X dX0_all_103 rfl (nI_add _ _) rfl (Nat.le_of_ble_eq_true rfl) ?_
                refine hr_goto (tgt := 24) X dX0_all_106 (by decide) ?_
                exact ih (i + 1) (F + (sp_wouldPay A.1 i)) Rn (S + 0) (by omega) (by omega) (by rw [sp_sum, ← h24_2]) (by rw [sp_sum, ← h24_3, if_neg (by omega)]; rfl) (by rw [sp_sum, ← h24_4, if_neg (by omega)])
              · refine hr_iconst (v := (nI 1)) (q := 96) X dX0_all_95 rfl rfl ?_
                refine hr_goto (tgt := 100) X dX0_all_96 (by decide) ?_
                refine hr_iadd (v := (nI (S + 1))) (q := 101) X dX0_all_100 rfl (nI_add _ _) ?_
                refine hr_istore4 (q := 103) X dX0_all_101 rfl rfl (Nat.le_of_ble_eq_true rfl) ?_
                refine hr_iinc5 (v := (nI (i + 1))) (q := 106) X dX0_all_103 rfl (nI_add _ _) rfl (Nat.le_of_ble_eq_true rfl) ?_
                refine hr_goto (tgt := 24) X dX0_all_106 (by decide) ?_
                exact ih (i + 1) (F + (sp_wouldPay A.1 i)) Rn (S + 1) (by omega) (by omega) (by rw [sp_sum, ← h24_2]) (by rw [sp_sum, ← h24_3, if_neg (by omega)]; rfl) (by rw [sp_sum, ← h24_4, if_pos (by omega)])
            · refine hr_iconst (v := (nI 1)) (q := 72) X dX0_all_71 rfl rfl ?_
              refine hr_iload5 (q := 74) X dX0_all_72 rfl ?_
              refine hr_ishl (v := (nI (2 ^ i))) (q := 75) X dX0_all_74 rfl (sp_shl (by omega)) ?_
              refine hr_goto (tgt := 79) X dX0_all_75 (by decide) ?_
              refine hr_ior (v := (nI (Rn + 2 ^ i))) (q := 80) X dX0_all_79 rfl (sp_or2 (by omega) hSl) ?_
              refine hr_istore3 (q := 81) X dX0_all_80 rfl rfl (Nat.le_of_ble_eq_true rfl) ?_
              refine hr_iload4 (q := 83) X dX0_all_81 rfl ?_
              refine hr_aload0 (q := 84) X dX0_all_83 rfl ?_
              refine hr_getR (v := (cp_w ca 0)) (q := 87) X dX0_all_84 rfl fr_q250_0 rfl h.o.1 h.o.2.2.2.2.2.2.1 ?_
              refine hr_iload5 (q := 89) X dX0_all_87 rfl ?_
              refine hr_callP (q := 92) (hc_V (n := 1) (ci := 2) (As := [.int (nI i)]) X dX0_all_89 rfl (tn_duty X.tr h.w hw (x := i) (by omega)) q1067 cv_X2_duty ⟨Nat.le_of_ble_eq_true rfl, Nat.le_of_ble_eq_true rfl⟩ rfl (Nat.le_of_ble_eq_true rfl) h.w.ob rfl rfl) rfl ?_
              have := sp_owes_lt (t := A.1) hw i
              refine hr_ifN_ne (q := 95) (tgt := 99) X dX0_all_92 rfl (by decide) (by omega) (fun c92 => ?_) (fun c92 => ?_)
              · refine hr_iconst (v := (nI 0)) (q := 100) X dX0_all_99 rfl rfl ?_
                refine hr_iadd (v := (nI (S + 0))) (q := 101) X dX0_all_100 rfl (nI_add _ _) ?_
                refine hr_istore4 (q := 103) X dX0_all_101 rfl rfl (Nat.le_of_ble_eq_true rfl) ?_
                refine hr_iinc5 (v := (nI (i + 1))) (q := 106) X dX0_all_103 rfl (nI_add _ _) rfl (Nat.le_of_ble_eq_true rfl) ?_
                refine hr_goto (tgt := 24) X dX0_all_106 (by decide) ?_
                exact ih (i + 1) (F + (sp_wouldPay A.1 i)) (Rn + 2 ^ i) (S + 0) (by omega) (by omega) (by rw [sp_sum, ← h24_2]) (by rw [sp_sum, ← h24_3, if_pos (by omega)]) (by rw [sp_sum, ← h24_4, if_neg (by omega)])
              · refine hr_iconst (v := (nI 1)) (q := 96) X dX0_all_95 rfl rfl ?_
                refine hr_goto (tgt := 100) X dX0_all_96 (by decide) ?_
                refine hr_iadd (v := (nI (S + 1))) (q := 101) X dX0_all_100 rfl (nI_add _ _) ?_
                refine hr_istore4 (q := 103) X dX0_all_101 rfl rfl (Nat.le_of_ble_eq_true rfl) ?_
                refine hr_iinc5 (v := (nI (i + 1))) (q := 106) X dX0_all_103 rfl (nI_add _ _) rfl (Nat.le_of_ble_eq_true rfl) ?_
                refine hr_goto (tgt := 24) X dX0_all_106 (by decide) ?_
                exact ih (i + 1) (F + (sp_wouldPay A.1 i)) (Rn + 2 ^ i) (S + 1) (by omega) (by omega) (by rw [sp_sum, ← h24_2]) (by rw [sp_sum, ← h24_3, if_pos (by omega)]) (by rw [sp_sum, ← h24_4, if_pos (by omega)])
      exact loop24 _ _ (A.1.1 0 0 + 1) 0 0 0 0 (by omega) (by omega) rfl rfl rfl
    · cases hrn1

