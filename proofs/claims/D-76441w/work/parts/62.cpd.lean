/-! what a shelf holds is another -/
theorem cp_R.ex {G : hg_G} {ca : Nat → Nat} {A : ab_S} (h : cp_R G ca A) {r : Nat} (hr : cp_pr A r) : ¬ G.1 (ca r) = none := fun z => h.ne z hr rfl
theorem tn_R.same {G : hg_G} {ta : Nat → Nat} {t t' : sp_S} (h : tn_R G ta t) (e : ∀ a, a < 18 ∨ a = 36 → t'.1 a = t.1 a) (e2 : t'.2 = t.2) : tn_R G ta t' := by
  unfold tn_R at h ⊢
  rw [e 0 (by omega), e 1 (by omega), e 2 (by omega), e 3 (by omega), e 9 (by omega), e 10 (by omega), e 11 (by omega), e 12 (by omega), e 13 (by omega), e 14 (by omega), e 15 (by omega), e 16 (by omega), e 17 (by omega), e 36 (by omega), e2]
  exact h
theorem cp_R.hold {G G' : hg_G} {ca : Nat → Nat} {A : ab_S} (h : cp_R G ca A) {i : Nat} (hi : i < 8) {ca' : Nat → Nat} {B : ab_S}
    (hc : ∀ r, r ≠ 31 + i → r ≠ 39 + i → ca' r = ca r) (hf : hg_fr (fun a => a = ca (8 + i) ∨ G.1 a = none) G G')
    (hk : G'.1 (ca (8 + i)) = some (0, 4)) (hv : G'.2.2.2 (ca (8 + i)) 0 = cp_held G' ca' B i)
    (e1 : ∀ a j, (a < 18 ∨ 21 < a ∨ j ≠ i) → B.1.1 a j = A.1.1 a j) (e2 : B.1.2 = A.1.2) (e3 : B.2.1 = A.2.1) (e4 : B.2.2.1 = A.2.2.1) (e5 : ∀ m, ¬ (160 * i ≤ m ∧ m < 160 * i + 160) → B.2.2.2 m = A.2.2.2 m)
    (hr : B.1.1 18 i = 1 → (rr_R G' (ca' (31 + i)) (ca' (39 + i)) (B.1.1 19 i) (B.1.1 20 i) ∧ ∀ j, j < B.1.1 20 i → rr_el G' (ca' (39 + i)) (B.1.1 19 i) j = B.2.2.2 (160 * i + j)) ∧ G.1 (ca' (31 + i)) = none ∧ G.1 (ca' (39 + i)) = none ∧ ca' (31 + i) ≠ ca' (39 + i)) : cp_R G' ca' B := by
  have st : ∀ r, cp_pr A r → r ≠ 8 + i → hg_st G G' (ca r) := fun r hr hs => hf _ (fun z => by
    rcases z with z | z
    · exact hs (h.j r (8 + i) hr (.w (by omega)) z)
    · exact h.ex hr z)
  have c : ∀ r, r < 31 → ca' r = ca r := fun r hr => hc r (by omega) (by omega)
  have eF : ∀ a, a < 18 ∨ 21 < a → B.1.1 a = A.1.1 a := fun a ha => funext fun j => e1 a j (by omega)
  have pr : ∀ r, cp_pr B r → r ≠ 31 + i → r ≠ 39 + i → cp_pr A r := fun r hb n1 n2 => by
    rcases hb with hb | ⟨a1, a2, a3⟩ | ⟨a1, a2, a3⟩ | ⟨a1, a2, a3⟩
    · exact Or.inl hb
    · exact Or.inr (Or.inl ⟨a1, a2, by rw [← e1 43 0 (by omega)]; exact a3⟩)
    · exact Or.inr (Or.inr (Or.inl ⟨a1, a2, by rw [← e1 18 _ (by omega)]; exact a3⟩))
    · exact Or.inr (Or.inr (Or.inr ⟨a1, a2, by rw [← e1 18 _ (by omega)]; exact a3⟩))
  refine ⟨?_, ?_, ?_, ?_, ?_, ?_, ?_, ?_, ?_, ?_⟩
  · have o := h.o.st (st 0 (.w (by decide)) (by omega))
    unfold cp_0 at o ⊢
    rw [c 0 (by decide), c 1 (by decide), c 2 (by decide), c 3 (by decide), c 16 (by decide), c 5 (by decide), c 21 (by decide), c 26 (by decide), e1 43 0 (by omega), e2]
    exact o
  · obtain ⟨s1, -, -, s4⟩ := st 1 (.w (by decide)) (by omega)
    rw [cp_1, c 1 (by decide)]
    refine ⟨s1.trans h.s.1, fun j hj => ?_⟩
    rw [c (8 + j) (by omega)]
    obtain ⟨g1, g2, g3⟩ := h.s.2 j hj
    by_cases e : j = i
    · subst e
      exact ⟨(s4 j).trans g1, hk, hv⟩
    · obtain ⟨q1, -, -, q4⟩ := st (8 + j) (.w (by omega)) (by omega)
      refine ⟨(s4 j).trans g1, q1.trans g2, (q4 0).trans (g3.trans ?_)⟩
      unfold cp_held
      rw [e1 18 j (by omega), e1 21 j (by omega), hc (31 + j) (by omega) (by omega), c 22 (by decide), (st 22 (.w (by decide)) (by omega)).2.2.2]
  · intro j hj h1
    by_cases e : j = i
    · subst e
      exact (hr h1).1
    · rw [e1 18 j (by omega)] at h1
      obtain ⟨g1, g2⟩ := h.r j hj h1
      have s1 := st (31 + j) (.r hj h1) (by omega)
      have s2 := st (39 + j) (.e hj h1) (by omega)
      rw [hc (31 + j) (by omega) (by omega), hc (39 + j) (by omega) (by omega), e1 19 j (by omega), e1 20 j (by omega)]
      refine ⟨g1.st s1 s2, fun k hk => (rr_el.st s2).trans ((g2 k hk).trans (e5 _ ?_).symm)⟩
      have := g1.2.1
      omega
  · rw [cp_3, c 2 (by decide), e4]
    exact h.f.st (st 2 (.w (by decide)) (by omega))
  · have g := h.t.st (st 3 (.w (by decide)) (by omega)) (st 4 (.w (by decide)) (by omega))
    rw [c 3 (by decide), c 4 (by decide)]
    unfold tr_R at g ⊢
    rw [e2, e4]
    exact g
  · rw [c 5 (by decide), c 6 (by decide), c 7 (by decide)]
    exact h.a.stt (st 5 (.w (by decide)) (by omega)) (st 6 (.w (by decide)) (by omega)) (st 7 (.w (by decide)) (by omega))
  · have := h.d.st (G' := G') (fun k hk => st (16 + k) (.w (by omega)) (by omega))
    unfold tn_K at this ⊢
    simp only [c 16 (by decide), c 17 (by decide), c 18 (by decide), c 19 (by decide), c 20 (by decide)] at this ⊢
    exact this
  · have fr : tn_R G' (fun k => ca (21 + k)) A.1 := h.w.fr hf (fun k hk z => by
      rcases z with z | z
      · have := h.j (21 + k) (8 + i) (.w (by omega)) (.w (by omega)) z
        omega
      · exact h.ex (r := 21 + k) (.w (by omega)) z) (fun p q hp hq z => by
      obtain ⟨q2, k1, k2, -⟩ := h.w.pe hp
      cases hq.symm.trans k1
      rcases z with z | z
      · exact h.np (r := 8 + i) (.w (by omega)) (by rw [← z]; exact k2)
      · rw [k2] at z; cases z)
    have e : (fun k => ca' (21 + k)) = fun k => if k < 10 then ca (21 + k) else ca' (21 + k) := funext fun k => by
      by_cases z : k < 10
      · rw [if_pos z]; exact c _ (by omega)
      · rw [if_neg z]
    have := fr.same (t' := B.1) (fun a ha => eF a (by omega)) e2
    unfold tn_R at this ⊢
    simp only [c 21 (by decide), c 22 (by decide), c 23 (by decide), c 24 (by decide), c 25 (by decide)] at this ⊢
    exact this
  · intro h1
    have h2 : A.1.1 43 0 = 1 := by rw [← e1 43 0 (by omega)]; exact h1
    obtain ⟨g1, g2⟩ := h.i h2
    have fr : tn_R G' (fun k => ca (26 + k)) A.2.1 := g1.fr hf (fun k hk z => by
      rcases z with z | z
      · have := h.j (26 + k) (8 + i) (.im h2 (by omega) (by omega)) (.w (by omega)) z
        omega
      · exact h.ex (r := 26 + k) (.im h2 (by omega) (by omega)) z) (fun p q hp hq z => by
      obtain ⟨q2, k1, k2, -⟩ := g1.pe hp
      cases hq.symm.trans k1
      rcases z with z | z
      · exact h.np (r := 8 + i) (.w (by omega)) (by rw [← z]; exact k2)
      · rw [k2] at z; cases z)
    rw [e3]
    refine ⟨?_, g2⟩
    unfold tn_R at fr ⊢
    simp only [c 26 (by decide), c 27 (by decide), c 28 (by decide), c 29 (by decide), c 30 (by decide)] at fr ⊢
    exact fr
  · intro a b ha hb e
    by_cases a1 : a = 31 + i ∨ a = 39 + i
    · have g18 : B.1.1 18 i = 1 := by
        rcases a1 with rfl | rfl
        · rcases ha with z | ⟨z1, z2, z3⟩ | ⟨z1, z2, z3⟩ | ⟨z1, z2, z3⟩
          · omega
          · omega
          · rwa [show 31 + i - 31 = i by omega] at z3
          · omega
        · rcases ha with z | ⟨z1, z2, z3⟩ | ⟨z1, z2, z3⟩ | ⟨z1, z2, z3⟩
          · omega
          · omega
          · omega
          · rwa [show 39 + i - 39 = i by omega] at z3
      obtain ⟨-, n1, n2, n3⟩ := hr g18
      by_cases b1 : b = 31 + i ∨ b = 39 + i
      · rcases a1 with rfl | rfl <;> rcases b1 with rfl | rfl
        · rfl
        · exact absurd e n3
        · exact absurd e.symm n3
        · rfl
      · have hb' := pr b hb (fun z => b1 (Or.inl z)) (fun z => b1 (Or.inr z))
        rw [hc b (fun z => b1 (Or.inl z)) (fun z => b1 (Or.inr z))] at e
        refine absurd ?_ (h.ex hb')
        rw [← e]
        rcases a1 with rfl | rfl
        · exact n1
        · exact n2
    · have ha' := pr a ha (fun z => a1 (Or.inl z)) (fun z => a1 (Or.inr z))
      rw [hc a (fun z => a1 (Or.inl z)) (fun z => a1 (Or.inr z))] at e
      by_cases b1 : b = 31 + i ∨ b = 39 + i
      · have g18 : B.1.1 18 i = 1 := by
          rcases b1 with rfl | rfl
          · rcases hb with z | ⟨z1, z2, z3⟩ | ⟨z1, z2, z3⟩ | ⟨z1, z2, z3⟩
            · omega
            · omega
            · rwa [show 31 + i - 31 = i by omega] at z3
            · omega
          · rcases hb with z | ⟨z1, z2, z3⟩ | ⟨z1, z2, z3⟩ | ⟨z1, z2, z3⟩
            · omega
            · omega
            · omega
            · rwa [show 39 + i - 39 = i by omega] at z3
        obtain ⟨-, n1, n2, n3⟩ := hr g18
        refine absurd ?_ (h.ex ha')
        rw [e]
        rcases b1 with rfl | rfl
        · exact n1
        · exact n2
      · rw [hc b (fun z => b1 (Or.inl z)) (fun z => b1 (Or.inr z))] at e
        exact h.j a b ha' (pr b hb (fun z => b1 (Or.inl z)) (fun z => b1 (Or.inr z))) e
/-- a row's elements are others -/
theorem cp_R.elem {G G' : hg_G} {ca : Nat → Nat} {A : ab_S} (h : cp_R G ca A) {i : Nat} (hi : i < 8) (h1 : A.1.1 18 i = 1) (hf : hg_fr (fun a => a = ca (39 + i)) G G') (hk : G'.1 (ca (39 + i)) = G.1 (ca (39 + i))) {B : ab_S}
    (eB : B.1 = A.1) (e3 : B.2.1 = A.2.1) (e4 : B.2.2.1 = A.2.2.1) (e5 : ∀ m, ¬ (160 * i ≤ m ∧ m < 160 * i + 160) → B.2.2.2 m = A.2.2.2 m)
    (hel : ∀ j, j < A.1.1 20 i → rr_el G' (ca (39 + i)) (A.1.1 19 i) j = B.2.2.2 (160 * i + j)) : cp_R G' ca B := by
  have hp := cp_pr.e hi h1
  have st : ∀ r, cp_pr A r → r ≠ 39 + i → hg_st G G' (ca r) := fun r hr hs => hf _ (fun z => hs (h.j r (39 + i) hr hp z))
  obtain ⟨B1, B21, B3, B4⟩ := B
  dsimp only at eB e3 e4 e5 hel
  subst eB e3 e4
  refine ⟨h.o.st (st 0 (.w (by decide)) (by omega)), h.s.st (st 1 (.w (by decide)) (by omega)) (fun j hj => st _ (.w (by omega)) (by omega)) (st 22 (.w (by decide)) (by omega)).2.2.2, fun j hj hj1 => ?_, h.f.st (st 2 (.w (by decide)) (by omega)),
    h.t.st (st 3 (.w (by decide)) (by omega)) (st 4 (.w (by decide)) (by omega)), h.a.stt (st 5 (.w (by decide)) (by omega)) (st 6 (.w (by decide)) (by omega)) (st 7 (.w (by decide)) (by omega)), h.d.st (fun j hj => st _ (.w (by omega)) (by omega)), ?_, fun h2 => ⟨?_, (h.i h2).2⟩, h.j⟩
  · have hj1 : A.1.1 18 j = 1 := hj1
    obtain ⟨g1, g2⟩ := h.r j hj hj1
    by_cases e : j = i
    · subst e
      have s1 := st (31 + j) (.r hj hj1) (by omega)
      exact ⟨⟨g1.1, g1.2.1, s1.1.trans g1.2.2.1, (s1.2.2.2 0).trans g1.2.2.2.1, hk.trans g1.2.2.2.2⟩, hel⟩
    · have s1 := st (31 + j) (.r hj hj1) (by omega)
      have s2 := st (39 + j) (.e hj hj1) (by omega)
      refine ⟨g1.st s1 s2, fun k hk => (rr_el.st s2).trans ((g2 k hk).trans (e5 _ ?_).symm)⟩
      have := g1.2.1
      have hk : k < A.1.1 20 j := hk
      omega
  · exact h.w.fr hf (fun k hk z => by
      have := h.j (21 + k) (39 + i) (.w (by omega)) hp z
      omega) (fun p q hp9 hq z => by
      obtain ⟨q2, k1, k2, -⟩ := h.w.pe hp9
      cases hq.symm.trans k1
      exact h.np hp (by rw [← z]; exact k2))
  · exact (h.i h2).1.fr hf (fun k hk z => by
      have := h.j (26 + k) (39 + i) (.im h2 (by omega) (by omega)) hp z
      omega) (fun p q hp9 hq z => by
      obtain ⟨q2, k1, k2, -⟩ := (h.i h2).1.pe hp9
      cases hq.symm.trans k1
      exact h.np hp (by rw [← z]; exact k2))
/-! what classes are -/
theorem hg_clR2 : ∀ s, s ≤ 3 → ∃ r, hg_cl[8 + s]? = some r ∧ hg_tw r.1 ∧ (r.1, "TaxOnLooks$Row") ∈ hg_cs ∧ ∀ c ∈ ["TaxOnLooks$Person", "TaxOnLooks$Beauty", "TaxOnLooks$Actress", "TaxOnLooks$Blind", "TaxOnLooks$Lover", "TaxOnLooks$Child", "TaxOnLooks$Shamed"], (r.1, c) ∈ hg_nc := fun s hs => match s, hs with
  | 0, _ => ⟨_, rfl, ⟨by decide +kernel, by decide +kernel⟩, by decide, by decide⟩
  | 1, _ => ⟨_, rfl, ⟨by decide +kernel, by decide +kernel⟩, by decide, by decide⟩
  | 2, _ => ⟨_, rfl, ⟨by decide +kernel, by decide +kernel⟩, by decide, by decide⟩
  | 3, _ => ⟨_, rfl, ⟨by decide +kernel, by decide +kernel⟩, by decide, by decide⟩
  | k + 4, h => absurd h (by omega)
theorem hg_clP3 : ∀ k, k ≤ 6 → ∃ r, hg_cl[12 + k]? = some r ∧ (r.1, "TaxOnLooks$Row") ∈ hg_nc ∧ hg_tw r.1 := fun k hk => match k, hk with
  | 0, _ => ⟨_, rfl, by decide, by decide +kernel, by decide +kernel⟩
  | 1, _ => ⟨_, rfl, by decide, by decide +kernel, by decide +kernel⟩
  | 2, _ => ⟨_, rfl, by decide, by decide +kernel, by decide +kernel⟩
  | 3, _ => ⟨_, rfl, by decide, by decide +kernel, by decide +kernel⟩
  | 4, _ => ⟨_, rfl, by decide, by decide +kernel, by decide +kernel⟩
  | 5, _ => ⟨_, rfl, by decide, by decide +kernel, by decide +kernel⟩
  | 6, _ => ⟨_, rfl, by decide, by decide +kernel, by decide +kernel⟩
  | k + 7, h => absurd h (by omega)
abbrev rk_X0_shelf : Room := { frames := 10, cells := 4, slots := 229, locals := 10260 }
theorem tc_shelf {l : Launch} {D : hg_D} {lo : Nat} (htr : l.stackTraces = false) {G : hg_G} {ca : Nat → Nat} {A : ab_S} (h : cp_R G ca A) {x : Int32} :
    hg_M l D lo yX0_shelf (wsW_ yX0_shelf cX0_shelf 3 ((some (FieldType.object "TaxOnLooks$Shelf"))) [(0, 6, 7, 99)]) rk_X0_shelf [.ref (ca 0), .int x] G (fun r G' => (sp_in x 8 = true ∧ r = .inl (some (.ref (ca (8 + iN x)))) ∧ G' = G) ∨ (sp_in x 8 = false ∧ ∃ q, r = .inr (q, "TaxOnLooks$Refused") ∧ tx_T 6 q (-1) G G')) := by
  refine hg_M.ofH htr (by decide) [some (.ref (ca 0)), some (.int x), none] rfl (Nat.le_of_ble_eq_true rfl) ?_
  intro p e s m args below meth c X hr hnm htab
  have X : hg_X p l s m args meth c D lo "TaxOnLooks" cX0_shelf 3 := X
  refine hr_room (kr' := 4) (nr' := 229) (Nat.le_of_ble_eq_true rfl) (Nat.le_of_ble_eq_true rfl) ?_
  refine hr_aload0 (q := 1) X dX0_shelf_0 rfl ?_
  refine hr_getR (v := (ca 1)) (q := 4) X dX0_shelf_1 rfl fr_q245_0 rfl h.o.1 h.o.2.1 ?_
  refine hr_iload1 (q := 5) X dX0_shelf_4 rfl ?_
  by_cases hin : sp_in x 8 = true
  · obtain ⟨ex, lx⟩ := sp_in_n hin (by decide)
    refine hr_st1 (v' := .int (nI (iN x))) (congrArg Value.int ex) ?_
    refine hr_aaldN (v := (ca (8 + iN x))) (q := 6) X dX0_shelf_5 rfl h.s.1 (by decide) (by omega) (by decide) (h.s.2 _ (by omega)).1 ?_
    exact hr_aret X hr rfl dX0_shelf_6 (Or.inl ⟨hin, rfl, rfl⟩)
  · have hin : sp_in x 8 = false := by cases e : sp_in x 8 <;> simp_all
    have hno : ¬ vp_in x 8 := fun z => by
      have g := of_decide_eq_false hin
      refine g ⟨Int32.not_lt.mp (fun e => z (Or.inl e)), ?_⟩
      have g0 := sp_geN (x := x) (fun e => z (Or.inl e))
      have g1 : iN x < 8 := Nat.not_le.mp (fun e => z (Or.inr e))
      rw [g0.1]
      exact (nI_ltI g0.2 (by decide)).mpr g1
    refine hr_aaldX (kr := 1) (nr := 7) X dX0_shelf_5 h.s.1 (Or.inl rfl) hno (by decide) (Nat.le_of_ble_eq_true rfl) (Nat.le_of_ble_eq_true rfl) (fun q9 => ?_)
    refine hx_catch (name := "java/lang/ArrayIndexOutOfBoundsException") X [] ⟨0, 6, 7, 99⟩ [] htab (fun _ h => absurd h List.not_mem_nil) (by decide) (by decide) q282 (by decide) ?_
    refine hr_astore2 (q := 8) X dX0_shelf_7 rfl rfl (Nat.le_of_ble_eq_true rfl) ?_
    refine hr_new (kr := 0) (nr := 0) (q := 11) (ci := 6) (T := TX6) (N := 7) (ty := tyX6) X dX0_shelf_8 rfl q277 q360 q94 rfl in_X6 tyX6_ok (by decide) (fun x1 hlx1 hnx1 => ?_)
    refine hr_dup (q := 12) X dX0_shelf_11 rfl rfl ?_
    refine hr_iconst (v := (-1)) (q := 13) X dX0_shelf_12 rfl rfl ?_
    refine hr_call0 (q := 16) (hc_I (n := 1) (As := [.int (-1)]) X dX0_shelf_13 rfl (tx_new6 X.tr (b := x1) (if_pos rfl) (w := (-1))) q368 cj_X6_init ⟨Nat.le_of_ble_eq_true rfl, Nat.le_of_ble_eq_true rfl⟩ rfl (Nat.le_of_ble_eq_true rfl)) rfl (fun qx E G' hp => by cases hp.1) (fun r Gw2 hp _ => ?_)
    obtain ⟨hvw2, hkw2, hww2, hbtw2⟩ := hp
    cases hvw2
    have htw2 : tx_T 6 x1 (-1) G Gw2 := ⟨hnx1, by rw [hkw2]; exact if_pos rfl, hww2, hg_bt.N.tr hbtw2⟩
    refine hr_athrow X dX0_shelf_16 (ci := 6) htw2.2.1 rfl rfl ?_
    exact hx_out X (by rw [htab]; exact List.forall_mem_cons.mpr ⟨Or.inl (by decide), fun _ h => absurd h List.not_mem_nil⟩) (Or.inr ⟨hin, x1, rfl, htw2⟩)

abbrev rk_X4_row : Room := { frames := 10, cells := 4, slots := 1017, locals := 10260 }
theorem ts_row_r {l : Launch} {D : hg_D} {lo : Nat} (htr : l.stackTraces = false) {G : hg_G} {a : Nat} (hs : G.1 a = some (0, 4)) {x s0 : Nat} (hv : G.2.2.2 a 0 = some x) (hs0 : s0 ≤ 3) (hx : G.1 x = some (0, 8 + s0)) :
    hg_M l D lo yX4_row (wsW_ yX4_row cX4_row 2 ((some (FieldType.object "TaxOnLooks$Row"))) [(0, 23, 24, 21)]) rk_X4_row [.ref a] G (fun r G' => r = .inl (some (.ref x)) ∧ G' = G) := by
  refine hg_M.ofH htr (by decide) [some (.ref a), none] rfl (Nat.le_of_ble_eq_true rfl) ?_
  intro p e s m args below meth c X hr hnm htab
  have X : hg_X p l s m args meth c D lo "TaxOnLooks$Shelf" cX4_row 2 := X
  refine hr_room (kr' := 4) (nr' := 1017) (Nat.le_of_ble_eq_true rfl) (Nat.le_of_ble_eq_true rfl) ?_
  obtain ⟨rr, hrr, htw, hcs, hnc⟩ := hg_clR2 s0 hs0
  refine hr_aload0 (q := 1) X dX4_row_0 rfl ?_
  refine hr_getR (v := x) (q := 4) X dX4_row_1 rfl fr_q240_4 rfl hs hv ?_
  refine hr_castY (q := 7) X dX4_row_4 rfl q478 hx hrr (Or.inr hcs) ?_
  refine hr_astore1 (q := 8) X dX4_row_7 rfl rfl (Nat.le_of_ble_eq_true rfl) ?_
  refine hr_aload1 (q := 9) X dX4_row_8 rfl ?_
  refine hr_ifnullS (q := 12) (tgt := 16) X dX4_row_9 rfl (by decide) ?_
  refine hr_iconst (v := (bI true)) (q := 13) X dX4_row_12 rfl rfl ?_
  refine hr_goto (tgt := 17) X dX4_row_13 (by decide) ?_
  refine hr_bipush (v := (-3)) (q := 19) X dX4_row_17 rfl rfl ?_
  refine hr_call (kr := 3) (nr := 1010) (q := 22) (hc_S (n := 2) (As := [.int (bI true), .int (-3)]) X dX4_row_19 rfl (tc_need X.tr (g := true) (w := (-3))) q479 cs_X0_need ⟨Nat.le_of_ble_eq_true rfl, Nat.le_of_ble_eq_true rfl⟩ rfl (Nat.le_of_ble_eq_true rfl)) rfl (fun qx E G1 hp _ => ?_) (fun r G1 hp _ => ?_)
  · obtain ⟨-, hr9, -⟩ | ⟨hg9, -⟩ := hp
    · cases hr9
    · cases hg9
  · obtain ⟨-, hr9, hG9⟩ | ⟨hg9, -⟩ := hp
    · cases hr9
      have hG9 := hG9.symm
      subst hG9
      refine hr_aload1 (q := 23) X dX4_row_22 rfl ?_
      exact hr_aret X hr rfl dX4_row_23 ⟨rfl, rfl⟩
    · cases hg9

theorem ts_row_n {l : Launch} {D : hg_D} {lo : Nat} (htr : l.stackTraces = false) {G : hg_G} {a : Nat} (hs : G.1 a = some (0, 4)) (hv : G.2.2.2 a 0 = none) :
    hg_M l D lo yX4_row (wsW_ yX4_row cX4_row 2 ((some (FieldType.object "TaxOnLooks$Row"))) [(0, 23, 24, 21)]) rk_X4_row [.ref a] G (fun r G' => ∃ q, r = .inr (q, "TaxOnLooks$Refused") ∧ tx_T 6 q (-3) G G') := by
  refine hg_M.ofH htr (by decide) [some (.ref a), none] rfl (Nat.le_of_ble_eq_true rfl) ?_
  intro p e s m args below meth c X hr hnm htab
  have X : hg_X p l s m args meth c D lo "TaxOnLooks$Shelf" cX4_row 2 := X
  refine hr_room (kr' := 4) (nr' := 1017) (Nat.le_of_ble_eq_true rfl) (Nat.le_of_ble_eq_true rfl) ?_
  refine hr_aload0 (q := 1) X dX4_row_0 rfl ?_
  refine hr_getQ (v := none) (q := 4) X dX4_row_1 rfl fr_q240_4 rfl hs hv ?_
  refine hr_st1 (v' := .null) rfl ?_
  refine hr_castN (q := 7) X dX4_row_4 rfl ?_
  refine hr_astoreN1 (q := 8) X dX4_row_7 rfl rfl (Nat.le_of_ble_eq_true rfl) ?_
  refine hr_aloadN1 (q := 9) X dX4_row_8 rfl ?_
  refine hr_ifnullN (q := 12) (tgt := 16) X dX4_row_9 rfl (by decide) ?_
  refine hr_iconst (v := (bI false)) (q := 17) X dX4_row_16 rfl rfl ?_
  refine hr_bipush (v := (-3)) (q := 19) X dX4_row_17 rfl rfl ?_
  refine hr_call (kr := 3) (nr := 1010) (q := 22) (hc_S (n := 2) (As := [.int (bI false), .int (-3)]) X dX4_row_19 rfl (tc_need X.tr (g := false) (w := (-3))) q479 cs_X0_need ⟨Nat.le_of_ble_eq_true rfl, Nat.le_of_ble_eq_true rfl⟩ rfl (Nat.le_of_ble_eq_true rfl)) rfl (fun qx E G1 hp _ => ?_) (fun r G1 hp _ => ?_)
  · obtain ⟨hg9, -⟩ | ⟨-, q9, hr9, ht9⟩ := hp
    · cases hg9
    · cases hr9
      exact hx_out X (by rw [htab]; exact List.forall_mem_cons.mpr ⟨Or.inr ⟨by decide, _, q464, by decide⟩, fun _ h => absurd h List.not_mem_nil⟩) ⟨_, rfl, ht9⟩
  · obtain ⟨hg9, -⟩ | ⟨-, q9, hr9, -⟩ := hp
    · cases hg9
    · cases hr9

theorem ts_row_p {l : Launch} {D : hg_D} {lo : Nat} (htr : l.stackTraces = false) {G : hg_G} {a : Nat} (hs : G.1 a = some (0, 4)) {x k : Nat} (hv : G.2.2.2 a 0 = some x) (hk : k ≤ 6) (hx : G.1 x = some (0, 12 + k)) :
    hg_M l D lo yX4_row (wsW_ yX4_row cX4_row 2 ((some (FieldType.object "TaxOnLooks$Row"))) [(0, 23, 24, 21)]) rk_X4_row [.ref a] G (fun r G' => ∃ q, r = .inr (q, "TaxOnLooks$Refused") ∧ tx_T 6 q (-2) G G') := by
  refine hg_M.ofH htr (by decide) [some (.ref a), none] rfl (Nat.le_of_ble_eq_true rfl) ?_
  intro p e s m args below meth c X hr hnm htab
  have X : hg_X p l s m args meth c D lo "TaxOnLooks$Shelf" cX4_row 2 := X
  refine hr_room (kr' := 4) (nr' := 1017) (Nat.le_of_ble_eq_true rfl) (Nat.le_of_ble_eq_true rfl) ?_
  obtain ⟨rr, hrr, hno, htw⟩ := hg_clP3 k hk
  obtain ⟨r2, hr2, hcp⟩ := hg_clP2 k hk
  refine hr_aload0 (q := 1) X dX4_row_0 rfl ?_
  refine hr_getR (v := x) (q := 4) X dX4_row_1 rfl fr_q240_4 rfl hs hv ?_
  refine hr_castX (kr := 1) (nr := 7) X dX4_row_4 q478 hx hrr hno htw ⟨by decide +kernel, by decide +kernel⟩ (Nat.le_of_ble_eq_true rfl) (by rw [show ([Value.ref x].map fun v => v.category).sum = 1 from rfl]; exact Nat.le_of_ble_eq_true rfl) (fun q9 => ?_)
  refine hx_catch (name := "java/lang/ClassCastException") X [] ⟨0, 23, 24, 21⟩ [] htab (fun _ h => absurd h List.not_mem_nil) (by decide) (by decide) q464 (by decide) ?_
  refine hr_astore1 (q := 25) X dX4_row_24 rfl rfl (Nat.le_of_ble_eq_true rfl) ?_
  refine hr_new (kr := 0) (nr := 0) (q := 28) (ci := 6) (T := TX6) (N := 7) (ty := tyX6) X dX4_row_25 rfl q480 q360 q94 rfl in_X6 tyX6_ok (by decide) (fun x1 hlx1 hnx1 => ?_)
  refine hr_dup (q := 29) X dX4_row_28 rfl rfl ?_
  refine hr_bipush (v := (-2)) (q := 31) X dX4_row_29 rfl rfl ?_
  refine hr_call0 (q := 34) (hc_I (n := 1) (As := [.int (-2)]) X dX4_row_31 rfl (tx_new6 X.tr (b := x1) (if_pos rfl) (w := (-2))) q481 cj_X6_init ⟨Nat.le_of_ble_eq_true rfl, Nat.le_of_ble_eq_true rfl⟩ rfl (Nat.le_of_ble_eq_true rfl)) rfl (fun qx E G' hp => by cases hp.1) (fun r Gw2 hp _ => ?_)
  obtain ⟨hvw2, hkw2, hww2, hbtw2⟩ := hp
  cases hvw2
  have htw2 : tx_T 6 x1 (-2) G Gw2 := ⟨hnx1, by rw [hkw2]; exact if_pos rfl, hww2, hg_bt.N.tr hbtw2⟩
  refine hr_athrow X dX4_row_34 (ci := 6) htw2.2.1 rfl rfl ?_
  exact hx_out X (by rw [htab]; exact List.forall_mem_cons.mpr ⟨Or.inl (by decide), fun _ h => absurd h List.not_mem_nil⟩) ⟨x1, rfl, htw2⟩

theorem ts_holdsPerson_r {l : Launch} {D : hg_D} {lo : Nat} (htr : l.stackTraces = false) {G : hg_G} {a : Nat} (hs : G.1 a = some (0, 4)) {x s0 : Nat} (hv : G.2.2.2 a 0 = some x) (hs0 : s0 ≤ 3) (hx : G.1 x = some (0, 8 + s0)) :
    hg_M l D lo yX4_holdsPerson (ws_ yX4_holdsPerson cX4_holdsPerson 1 ((some FieldType.boolean))) rm_X4_holdsPerson [.ref a] G (hg_Pv G (.int (bI false))) := by
  refine hg_M.of htr (by decide) [some (.ref a)] rfl (Nat.le_of_ble_eq_true rfl) ?_
  intro p e s m args below meth c X hr hnm htab
  have X : hg_X p l s m args meth c D lo "TaxOnLooks$Shelf" cX4_holdsPerson 1 := X
  obtain ⟨rr, hrr, htw, hcs, hnc⟩ := hg_clR2 s0 hs0
  refine hr_aload0 (q := 1) X dX4_holdsPerson_0 rfl ?_
  refine hr_getR (v := x) (q := 4) X dX4_holdsPerson_1 rfl fr_q240_4 rfl hs hv ?_
  refine hr_instZ (q := 7) X dX4_holdsPerson_4 rfl q506 hx hrr (hnc _ (by decide)) ?_
  exact hr_zret X hr rfl dX4_holdsPerson_7 ⟨rfl, rfl⟩

theorem ts_holdsPerson_n {l : Launch} {D : hg_D} {lo : Nat} (htr : l.stackTraces = false) {G : hg_G} {a : Nat} (hs : G.1 a = some (0, 4)) (hv : G.2.2.2 a 0 = none) :
    hg_M l D lo yX4_holdsPerson (ws_ yX4_holdsPerson cX4_holdsPerson 1 ((some FieldType.boolean))) rm_X4_holdsPerson [.ref a] G (hg_Pv G (.int (bI false))) := by
  refine hg_M.of htr (by decide) [some (.ref a)] rfl (Nat.le_of_ble_eq_true rfl) ?_
  intro p e s m args below meth c X hr hnm htab
  have X : hg_X p l s m args meth c D lo "TaxOnLooks$Shelf" cX4_holdsPerson 1 := X
  refine hr_aload0 (q := 1) X dX4_holdsPerson_0 rfl ?_
  refine hr_getQ (v := none) (q := 4) X dX4_holdsPerson_1 rfl fr_q240_4 rfl hs hv ?_
  refine hr_st1 (v' := .null) rfl ?_
  refine hr_instN (q := 7) X dX4_holdsPerson_4 rfl ?_
  exact hr_zret X hr rfl dX4_holdsPerson_7 ⟨rfl, rfl⟩

theorem ts_holdsPerson_p {l : Launch} {D : hg_D} {lo : Nat} (htr : l.stackTraces = false) {G : hg_G} {a : Nat} (hs : G.1 a = some (0, 4)) {x k : Nat} (hv : G.2.2.2 a 0 = some x) (hk : k ≤ 6) (hx : G.1 x = some (0, 12 + k)) :
    hg_M l D lo yX4_holdsPerson (ws_ yX4_holdsPerson cX4_holdsPerson 1 ((some FieldType.boolean))) rm_X4_holdsPerson [.ref a] G (hg_Pv G (.int (bI true))) := by
  refine hg_M.of htr (by decide) [some (.ref a)] rfl (Nat.le_of_ble_eq_true rfl) ?_
  intro p e s m args below meth c X hr hnm htab
  have X : hg_X p l s m args meth c D lo "TaxOnLooks$Shelf" cX4_holdsPerson 1 := X
  obtain ⟨rr, hrr, hno, htw⟩ := hg_clP3 k hk
  obtain ⟨r2, hr2, hcp⟩ := hg_clP2 k hk
  refine hr_aload0 (q := 1) X dX4_holdsPerson_0 rfl ?_
  refine hr_getR (v := x) (q := 4) X dX4_holdsPerson_1 rfl fr_q240_4 rfl hs hv ?_
  refine hr_instY (q := 7) X dX4_holdsPerson_4 rfl q506 hx hr2 hcp ?_
  exact hr_zret X hr rfl dX4_holdsPerson_7 ⟨rfl, rfl⟩

theorem tc_row {l : Launch} {D : hg_D} {lo : Nat} (htr : l.stackTraces = false) {G : hg_G} {ca : Nat → Nat} {A : ab_S} (h : cp_R G ca A) (hW : ab_wf A) {i : Nat} (hi : i < 8) :
    hg_M l D lo yX4_row (wsW_ yX4_row cX4_row 2 ((some (FieldType.object "TaxOnLooks$Row"))) [(0, 23, 24, 21)]) rk_X4_row [.ref (ca (8 + i))] G (fun r G' => (A.1.1 18 i = 1 ∧ r = .inl (some (.ref (ca (31 + i)))) ∧ G' = G) ∨ (A.1.1 18 i = 2 ∧ ∃ q, r = .inr (q, "TaxOnLooks$Refused") ∧ tx_T 6 q (-2) G G') ∨ (A.1.1 18 i = 0 ∧ ∃ q, r = .inr (q, "TaxOnLooks$Refused") ∧ tx_T 6 q (-3) G G')) := by
  obtain ⟨-, g2, g3⟩ := h.s.2 i hi
  have b := hW.b18 hi
  unfold cp_held at g3
  by_cases h0 : A.1.1 18 i = 0
  · rw [if_pos h0] at g3
    exact (ts_row_n htr g2 g3).imp fun r G' p => Or.inr (Or.inr ⟨h0, p⟩)
  · rw [if_neg h0] at g3
    by_cases h1 : A.1.1 18 i = 1
    · rw [if_pos h1] at g3
      have g := (h.r i hi h1).1
      exact (ts_row_r htr g2 g3 g.1 g.2.2.1).imp fun r G' p => Or.inl ⟨h1, p⟩
    · rw [if_neg h1] at g3
      have h2 : A.1.1 18 i = 2 := by omega
      have w0 := hW.w.b0
      obtain ⟨q, k1, k2, -⟩ := h.w.pe (hW.b21 hi h2)
      exact (ts_row_p htr g2 (g3.trans k1) (hW.w.b9 (by have := hW.b21 hi h2; omega)) k2).imp fun r G' p => Or.inr (Or.inl ⟨h2, p⟩)
theorem tc_holdsP {l : Launch} {D : hg_D} {lo : Nat} (htr : l.stackTraces = false) {G : hg_G} {ca : Nat → Nat} {A : ab_S} (h : cp_R G ca A) (hW : ab_wf A) {i : Nat} (hi : i < 8) :
    hg_M l D lo yX4_holdsPerson (ws_ yX4_holdsPerson cX4_holdsPerson 1 ((some FieldType.boolean))) rm_X4_holdsPerson [.ref (ca (8 + i))] G (hg_Pv G (.int (bI (decide (A.1.1 18 i = 2))))) := by
  obtain ⟨-, g2, g3⟩ := h.s.2 i hi
  have b := hW.b18 hi
  unfold cp_held at g3
  by_cases h0 : A.1.1 18 i = 0
  · rw [if_pos h0] at g3
    rw [decide_eq_false (by omega)]
    exact ts_holdsPerson_n htr g2 g3
  · rw [if_neg h0] at g3
    by_cases h1 : A.1.1 18 i = 1
    · rw [if_pos h1] at g3
      have g := (h.r i hi h1).1
      rw [decide_eq_false (by omega)]
      exact ts_holdsPerson_r htr g2 g3 g.1 g.2.2.1
    · rw [if_neg h1] at g3
      have h2 : A.1.1 18 i = 2 := by omega
      have w0 := hW.w.b0
      obtain ⟨q, k1, k2, -⟩ := h.w.pe (hW.b21 hi h2)
      rw [decide_eq_true h2]
      exact ts_holdsPerson_p htr g2 (g3.trans k1) (hW.w.b9 (by have := hW.b21 hi h2; omega)) k2

abbrev rk_X0_newRow : Room := { frames := 10, cells := 2, slots := 161, locals := 10260 }
theorem tc_newRow {l : Launch} {D : hg_D} {lo : Nat} (htr : l.stackTraces = false) {G : hg_G} {s0 n : Nat} (hs0 : s0 ≤ 3) (hn : n ≤ 160) :
    hg_M l D lo yX0_newRow (wsW_ yX0_newRow cX0_newRow 3 ((some (FieldType.object "TaxOnLooks$Row"))) [(0, 40, 78, 135), (41, 49, 78, 135), (50, 58, 78, 135), (59, 67, 78, 135), (68, 78, 78, 135)]) rk_X0_newRow [.int (nI s0), .int (nI n)] G (fun r G' => ∃ x y, r = .inl (some (.ref x)) ∧ G.1 x = none ∧ G.1 y = none ∧ x ≠ y ∧ rr_R G' x y s0 n ∧ (∀ j, rr_el G' y s0 j = 0) ∧ hg_fr (fun a => a = x ∨ a = y) G G') := by
  refine hg_M.ofH htr (by decide) [some (.int (nI s0)), some (.int (nI n)), none] rfl (Nat.le_of_ble_eq_true rfl) ?_
  intro p e s m args below meth c X hr hnm htab
  have X : hg_X p l s m args meth c D lo "TaxOnLooks" cX0_newRow 3 := X
  refine hr_room (kr' := 2) (nr' := 161) (Nat.le_of_ble_eq_true rfl) (Nat.le_of_ble_eq_true rfl) ?_
  refine hr_iload0 (q := 1) X dX0_newRow_0 rfl ?_
  by_cases e0 : s0 = 0
  · subst e0
    refine hr_tableIn (off := 31) (tgt := 32) X dX0_newRow_1 (by decide) (by decide) rfl (by decide) ?_
    refine hr_new (kr := 1) (nr := 160) (q := 35) (ci := 8) (T := TX8) (N := 1) (ty := tyX8) X dX0_newRow_32 rfl q407 q408 q97 rfl in_X8 tyX8_ok (by decide) (fun x1 hlx1 hnx1 => ?_)
    refine hr_dup (q := 36) X dX0_newRow_35 rfl rfl ?_
    refine hr_iload1 (q := 37) X dX0_newRow_36 rfl ?_
    refine hr_call (kr := 0) (nr := 0) (q := 40) (hc_I (n := 1) (As := [.int (nI n)]) X dX0_newRow_37 rfl (pr_init_0 X.tr (x := x1) (if_pos rfl) hn) q409 cj_X8_init ⟨Nat.le_of_ble_eq_true rfl, Nat.le_of_ble_eq_true rfl⟩ rfl (Nat.le_of_ble_eq_true rfl)) rfl (fun qx E G' hp _ => by cases hp.1) (fun r Gy2 hp _ => ?_)
    obtain ⟨hvy2, yy2, hyy2, hRy2, hzy2, hfy2⟩ := hp
    cases hvy2
    obtain ⟨hy1y2, hy2y2⟩ := hs_Nn hyy2
    exact hr_aret X hr rfl dX0_newRow_40 ⟨x1, yy2, rfl, hnx1, hy2y2, Ne.symm hy1y2, hRy2, hzy2, (hg_fr.rf.N (Or.inl rfl)).tr hfy2⟩
  by_cases e1 : s0 = 1
  · subst e1
    refine hr_tableIn (off := 40) (tgt := 41) X dX0_newRow_1 (by decide) (by decide) rfl (by decide) ?_
    refine hr_new (kr := 1) (nr := 160) (q := 44) (ci := 9) (T := TX9) (N := 1) (ty := tyX9) X dX0_newRow_41 rfl q420 q421 q98 rfl in_X9 tyX9_ok (by decide) (fun x3 hlx3 hnx3 => ?_)
    refine hr_dup (q := 45) X dX0_newRow_44 rfl rfl ?_
    refine hr_iload1 (q := 46) X dX0_newRow_45 rfl ?_
    refine hr_call (kr := 0) (nr := 0) (q := 49) (hc_I (n := 1) (As := [.int (nI n)]) X dX0_newRow_46 rfl (pr_init_1 X.tr (x := x3) (if_pos rfl) hn) q422 cj_X9_init ⟨Nat.le_of_ble_eq_true rfl, Nat.le_of_ble_eq_true rfl⟩ rfl (Nat.le_of_ble_eq_true rfl)) rfl (fun qx E G' hp _ => by cases hp.1) (fun r Gy4 hp _ => ?_)
    obtain ⟨hvy4, yy4, hyy4, hRy4, hzy4, hfy4⟩ := hp
    cases hvy4
    obtain ⟨hy1y4, hy2y4⟩ := hs_Nn hyy4
    exact hr_aret X hr rfl dX0_newRow_49 ⟨x3, yy4, rfl, hnx3, hy2y4, Ne.symm hy1y4, hRy4, hzy4, (hg_fr.rf.N (Or.inl rfl)).tr hfy4⟩
  by_cases e2 : s0 = 2
  · subst e2
    refine hr_tableIn (off := 49) (tgt := 50) X dX0_newRow_1 (by decide) (by decide) rfl (by decide) ?_
    refine hr_new (kr := 1) (nr := 160) (q := 53) (ci := 10) (T := TX10) (N := 1) (ty := tyX10) X dX0_newRow_50 rfl q431 q432 q99 rfl in_X10 tyX10_ok (by decide) (fun x5 hlx5 hnx5 => ?_)
    refine hr_dup (q := 54) X dX0_newRow_53 rfl rfl ?_
    refine hr_iload1 (q := 55) X dX0_newRow_54 rfl ?_
    refine hr_call (kr := 0) (nr := 0) (q := 58) (hc_I (n := 1) (As := [.int (nI n)]) X dX0_newRow_55 rfl (pr_init_2 X.tr (x := x5) (if_pos rfl) hn) q433 cj_X10_init ⟨Nat.le_of_ble_eq_true rfl, Nat.le_of_ble_eq_true rfl⟩ rfl (Nat.le_of_ble_eq_true rfl)) rfl (fun qx E G' hp _ => by cases hp.1) (fun r Gy6 hp _ => ?_)
    obtain ⟨hvy6, yy6, hyy6, hRy6, hzy6, hfy6⟩ := hp
    cases hvy6
    obtain ⟨hy1y6, hy2y6⟩ := hs_Nn hyy6
    exact hr_aret X hr rfl dX0_newRow_58 ⟨x5, yy6, rfl, hnx5, hy2y6, Ne.symm hy1y6, hRy6, hzy6, (hg_fr.rf.N (Or.inl rfl)).tr hfy6⟩
  have e3 : s0 = 3 := by omega
  subst e3
  refine hr_tableIn (off := 58) (tgt := 59) X dX0_newRow_1 (by decide) (by decide) rfl (by decide) ?_
  refine hr_new (kr := 1) (nr := 160) (q := 62) (ci := 11) (T := TX11) (N := 1) (ty := tyX11) X dX0_newRow_59 rfl q441 q442 q100 rfl in_X11 tyX11_ok (by decide) (fun x7 hlx7 hnx7 => ?_)
  refine hr_dup (q := 63) X dX0_newRow_62 rfl rfl ?_
  refine hr_iload1 (q := 64) X dX0_newRow_63 rfl ?_
  refine hr_call (kr := 0) (nr := 0) (q := 67) (hc_I (n := 1) (As := [.int (nI n)]) X dX0_newRow_64 rfl (pr_init_3 X.tr (x := x7) (if_pos rfl) hn) q443 cj_X11_init ⟨Nat.le_of_ble_eq_true rfl, Nat.le_of_ble_eq_true rfl⟩ rfl (Nat.le_of_ble_eq_true rfl)) rfl (fun qx E G' hp _ => by cases hp.1) (fun r Gy8 hp _ => ?_)
  obtain ⟨hvy8, yy8, hyy8, hRy8, hzy8, hfy8⟩ := hp
  cases hvy8
  obtain ⟨hy1y8, hy2y8⟩ := hs_Nn hyy8
  exact hr_aret X hr rfl dX0_newRow_67 ⟨x7, yy8, rfl, hnx7, hy2y8, Ne.symm hy1y8, hRy8, hzy8, (hg_fr.rf.N (Or.inl rfl)).tr hfy8⟩

