/-! images -/
section CP15
variable {G G' : hg_G} {ca : Nat → Nat} {A B : ab_S}
theorem cp_R.nf (h : cp_R G ca A) (hf : hg_fr (fun a => G.1 a = none) G G') : cp_R G' ca A := by
  have st : ∀ r, cp_pr A r → hg_st G G' (ca r) := fun r hr => hf _ (h.ex hr)
  have tw : ∀ (ta : Nat → Nat) (t : sp_S), tn_R G ta t → tn_R G' ta t := fun ta t ht => ht.fr hf (fun j hj e => by
    have hj2 : j = 0 ∨ j = 1 ∨ j = 2 ∨ j = 3 ∨ j = 4 := by omega
    rcases hj2 with rfl | rfl | rfl | rfl | rfl
    · rw [ht.ob] at e; cases e
    · rw [ht.k1] at e; cases e
    · rw [ht.k2] at e; cases e
    · rw [ht.k3] at e; cases e
    · rw [ht.k4] at e; cases e) (fun p q' hp hq' e => by
    obtain ⟨q2, h1, h2, -⟩ := ht.pe hp
    cases hq'.symm.trans h1
    rw [h2] at e
    cases e)
  exact ⟨h.o.st (st 0 (.w (by decide))), h.s.st (st 1 (.w (by decide))) (fun i hi => st _ (.w (by omega))) (st 22 (.w (by decide))).2.2.2, h.r.st (fun i hi h1 => ⟨st _ (.r hi h1), st _ (.e hi h1)⟩), h.f.st (st 2 (.w (by decide))),
    h.t.st (st 3 (.w (by decide))) (st 4 (.w (by decide))), h.a.stt (st 5 (.w (by decide))) (st 6 (.w (by decide))) (st 7 (.w (by decide))), h.d.st (fun i hi => st _ (.w (by omega))), tw _ _ h.w,
    fun h1 => ⟨tw _ _ (h.i h1).1, (h.i h1).2⟩, h.j⟩
def cp_ci (ca : Nat → Nat) (k : Nat) (ta : Nat → Nat) : Nat → Nat := fun r => if k ≤ r ∧ r < k + 5 then ta (r - k) else ca r
theorem cp_ci_o {k r : Nat} {ta : Nat → Nat} (h : ¬ (k ≤ r ∧ r < k + 5)) : cp_ci ca k ta r = ca r := if_neg h
theorem cp_ci_i {k j : Nat} {ta : Nat → Nat} (h : j < 5) : cp_ci ca k ta (k + j) = ta j := by
  unfold cp_ci
  rw [if_pos ⟨by omega, by omega⟩, Nat.add_sub_cancel_left]
theorem tn_R.ci {k : Nat} {ta : Nat → Nat} {t : sp_S} (h : tn_R G ta t) : tn_R G (fun i => cp_ci ca k ta (k + i)) t := by
  have e : ∀ i, i < 5 → cp_ci ca k ta (k + i) = ta i := fun i hi => cp_ci_i hi
  unfold tn_R at h ⊢
  simp only [e 0 (by decide), e 1 (by decide), e 2 (by decide), e 3 (by decide), e 4 (by decide)]
  exact h
theorem tn_K.co {k m : Nat} {ta : Nat → Nat} (h : tn_K G (fun i => ca (m + i))) (hm : m + 5 ≤ k ∨ k + 5 ≤ m) : tn_K G (fun i => cp_ci ca k ta (m + i)) := by
  have e : ∀ i, i < 5 → cp_ci ca k ta (m + i) = ca (m + i) := fun i hi => cp_ci_o (by omega)
  unfold tn_K at h ⊢
  simp only [e 0 (by decide), e 1 (by decide), e 2 (by decide), e 3 (by decide), e 4 (by decide)]
  exact h
theorem tn_R.co {k m : Nat} {ta : Nat → Nat} {t : sp_S} (h : tn_R G (fun i => ca (m + i)) t) (hm : m + 5 ≤ k ∨ k + 5 ≤ m) : tn_R G (fun i => cp_ci ca k ta (m + i)) t := by
  have e : ∀ i, i < 5 → cp_ci ca k ta (m + i) = ca (m + i) := fun i hi => cp_ci_o (by omega)
  unfold tn_R at h ⊢
  simp only [e 0 (by decide), e 1 (by decide), e 2 (by decide), e 3 (by decide), e 4 (by decide)]
  exact h
theorem cp_ij.ci {k : Nat} {ta : Nat → Nat} (h : cp_ij ca A) (hk : k = 21 ∨ k = 26) (hD : tn_D ta) (hx : ∀ i, i < 5 → ∀ r, cp_pr A r → ca r ≠ ta i) (hp : ∀ r, cp_pr B r → ¬ (k ≤ r ∧ r < k + 5) → cp_pr A r) : cp_ij (cp_ci ca k ta) B := fun i j hi hj e => by
  by_cases h1 : k ≤ i ∧ i < k + 5
  · by_cases h2 : k ≤ j ∧ j < k + 5
    · unfold cp_ci at e
      rw [if_pos h1, if_pos h2] at e
      have := hD (i - k) (j - k) (by omega) (by omega) e
      omega
    · unfold cp_ci at e
      rw [if_pos h1, if_neg h2] at e
      exact absurd e.symm (hx (i - k) (by omega) j (hp j hj h2))
  · by_cases h2 : k ≤ j ∧ j < k + 5
    · unfold cp_ci at e
      rw [if_neg h1, if_pos h2] at e
      exact absurd e (hx (j - k) (by omega) i (hp i hi h1))
    · unfold cp_ci at e
      rw [if_neg h1, if_neg h2] at e
      exact h i j (hp i hi h1) (hp j hj h2) e
/-- cell 0 is written at a field -/
theorem cp_R.z0 (h : cp_R G ca A) {k : Nat} {v : Option Nat} : (∀ r, cp_pr A r → r ≠ 0 → hg_st G (hs_R G (ca 0) k v) (ca r)) ∧ ∀ (ta : Nat → Nat) (t : sp_S), (∀ i, i < 5 → ta i ≠ ca 0) → tn_R G ta t → tn_R (hs_R G (ca 0) k v) ta t := by
  have hf : hg_fr (fun a => a = ca 0) G (hs_R G (ca 0) k v) := hg_fr.rf.R rfl
  refine ⟨fun r hr h0 => hf _ (fun e => h0 (h.j r 0 hr (.w (by decide)) e)), fun ta t hn ht => ht.fr hf (fun j hj => hn j hj) (fun p q hp hq e => ?_)⟩
  obtain ⟨q2, h1, h2, -⟩ := ht.pe hp
  cases hq.symm.trans h1
  exact h.np (r := 0) (.w (by decide)) (by rw [← e]; exact h2)
theorem cp_R.imaged (h : cp_R G ca A) {ta : Nat → Nat} (hT : tn_R G ta A.1) (hD : tn_D ta) (hx : ∀ i, i < 5 → ∀ r, cp_pr A r → ca r ≠ ta i) (h36 : A.1.1 36 0 = 99) :
    cp_R (hs_R G (ca 0) 6 (some (ta 0))) (cp_ci ca 26 ta) (sp_set A.1 43 0 1, A.1, A.2.2) := by
  obtain ⟨st, tw⟩ := h.z0 (k := 6) (v := some (ta 0))
  have c : ∀ r, r < 26 ∨ 31 ≤ r → cp_ci ca 26 ta r = ca r := fun r hr => cp_ci_o (by omega)
  have e1 : ∀ a, a ≠ 43 → (sp_set A.1 43 0 1).1 a = A.1.1 a := fun a ha => funext fun i => if_neg ha
  have e43 : (sp_set A.1 43 0 1).1 43 0 = 1 := by simp [sp_set]
  have o := h.o
  refine ⟨?_, ?_, ?_, ?_, ?_, ?_, ?_, ?_, ?_, ?_⟩
  · unfold cp_0
    rw [c 0 (by omega), c 1 (by omega), c 2 (by omega), c 3 (by omega), c 16 (by omega), c 5 (by omega), c 21 (by omega)]
    refine ⟨o.1, (hs_Rnj (by decide)).trans o.2.1, (hs_Rnj (by decide)).trans o.2.2.1, (hs_Rnj (by decide)).trans o.2.2.2.1, (hs_Rnj (by decide)).trans o.2.2.2.2.1, (hs_Rnj (by decide)).trans o.2.2.2.2.2.1, (hs_Rnj (by decide)).trans o.2.2.2.2.2.2.1, ?_, o.2.2.2.2.2.2.2.2⟩
    rw [hs_Req]
    show _ = if (sp_set A.1 43 0 1).1 43 0 = 1 then some (cp_ci ca 26 ta 26) else none
    rw [if_pos e43, show (26 : Nat) = 26 + 0 from rfl, cp_ci_i (by decide)]
  · have s := h.s.st (st 1 (.w (by decide)) (by omega)) (fun i hi => st _ (.w (by omega)) (by omega)) (st 22 (.w (by decide)) (by omega)).2.2.2
    unfold cp_1 at s ⊢
    rw [c 1 (by omega)]
    refine ⟨s.1, fun i hi => ?_⟩
    have g := s.2 i hi
    rw [c (8 + i) (by omega)]
    unfold cp_held at g ⊢
    rw [c (31 + i) (by omega), c 22 (by omega)]
    show _ ∧ _ ∧ _ = if (sp_set A.1 43 0 1).1 18 i = 0 then none else if (sp_set A.1 43 0 1).1 18 i = 1 then some (ca (31 + i)) else (hs_R G (ca 0) 6 (some (ta 0))).2.2.2 (ca 22) ((sp_set A.1 43 0 1).1 21 i)
    rw [e1 18 (by decide), e1 21 (by decide)]
    exact g
  · intro i hi h1
    have h1 : (sp_set A.1 43 0 1).1 18 i = 1 := h1
    rw [e1 18 (by decide)] at h1
    have g := h.r.st (G' := hs_R G (ca 0) 6 (some (ta 0))) (fun i hi h1 => ⟨st _ (.r hi h1) (by omega), st _ (.e hi h1) (by omega)⟩) i hi h1
    rw [c (31 + i) (by omega), c (39 + i) (by omega)]
    show rr_R _ _ _ ((sp_set A.1 43 0 1).1 19 i) ((sp_set A.1 43 0 1).1 20 i) ∧ ∀ j, j < (sp_set A.1 43 0 1).1 20 i → rr_el _ _ ((sp_set A.1 43 0 1).1 19 i) j = A.2.2.2 (160 * i + j)
    rw [e1 19 (by decide), e1 20 (by decide)]
    exact g
  · have g := h.f.st (st 2 (.w (by decide)) (by omega))
    unfold cp_3 at g ⊢
    rw [c 2 (by omega)]
    exact g
  · have g := h.t.st (st 3 (.w (by decide)) (by omega)) (st 4 (.w (by decide)) (by omega))
    rw [c 3 (by omega), c 4 (by omega)]
    exact g
  · rw [c 5 (by omega), c 6 (by omega), c 7 (by omega)]
    exact h.a.stt (st 5 (.w (by decide)) (by omega)) (st 6 (.w (by decide)) (by omega)) (st 7 (.w (by decide)) (by omega))
  · exact (h.d.st (G' := hs_R G (ca 0) 6 (some (ta 0))) (fun i hi => st _ (.w (by omega)) (by omega))).co (by decide)
  · have g := tw _ _ (fun i hi e => by have := h.j (21 + i) 0 (.w (by omega)) (.w (by decide)) e; omega) h.w
    exact (tn_R.co (ta := ta) g (by decide)).same (fun a ha => e1 a (by omega)) rfl
  · intro _
    refine ⟨tn_R.ci (tw _ _ (fun i hi e => hx i hi 0 (.w (by decide)) e.symm) hT), h36⟩
  · refine cp_ij.ci h.j (Or.inr rfl) hD hx (fun r hr hn => ?_)
    rcases hr with hb | ⟨a1, a2, a3⟩ | ⟨a1, a2, a3⟩ | ⟨a1, a2, a3⟩
    · exact Or.inl hb
    · exact absurd ⟨a1, by omega⟩ hn
    · exact Or.inr (Or.inr (Or.inl ⟨a1, a2, by have a3 : (sp_set A.1 43 0 1).1 18 (r - 31) = 1 := a3; rw [e1 18 (by decide)] at a3; exact a3⟩))
    · exact Or.inr (Or.inr (Or.inr ⟨a1, a2, by have a3 : (sp_set A.1 43 0 1).1 18 (r - 39) = 1 := a3; rw [e1 18 (by decide)] at a3; exact a3⟩))
end CP15
/-! restored: shelves that still hold who was there before -/
def cp_wk (G : hg_G) (ca : Nat → Nat) (B : ab_S) (j : Nat) : Prop := (B.1.1 18 j = 0 → G.2.2.2 (ca (8 + j)) 0 = none) ∧ (B.1.1 18 j = 1 → G.2.2.2 (ca (8 + j)) 0 = some (ca (31 + j))) ∧ (B.1.1 18 j = 2 → ∃ q k, G.2.2.2 (ca (8 + j)) 0 = some q ∧ G.1 q = some (0, 12 + k) ∧ k ≤ 6 ∧ G.2.1 q 0 = nI (B.1.1 21 j))
def cp_1w (G : hg_G) (ca : Nat → Nat) (B : ab_S) (i : Nat) : Prop := G.1 (ca 1) = some (5, 8) ∧ ∀ j, j < 8 → G.2.2.2 (ca 1) j = some (ca (8 + j)) ∧ G.1 (ca (8 + j)) = some (0, 4) ∧ (j < i → G.2.2.2 (ca (8 + j)) 0 = cp_held G ca (ab_fl B 8) j) ∧ (i ≤ j → cp_wk G ca B j)
def cp_V (G : hg_G) (ca : Nat → Nat) (A : ab_S) (i : Nat) : Prop :=
  cp_0 G ca A ∧ cp_1w G ca A i ∧ cp_2 G ca A ∧ cp_3 G ca A ∧ tr_R G (ca 3) (ca 4) A ∧ wa_K G (ca 5) (ca 6) (ca 7) ∧ tn_K G (fun i => ca (16 + i)) ∧ tn_R G (fun i => ca (21 + i)) A.1 ∧ cp_im G ca A ∧ cp_ij ca A
section CP16
variable {G G' : hg_G} {ca : Nat → Nat} {A B : ab_S} {i : Nat}
theorem cp_V.np (h : cp_V G ca B i) {r k : Nat} (hr : 8 ≤ r ∧ r < 16) (hk : G.1 (ca r) = some (0, 12 + k)) : False := by
  have e := (h.2.1.2 (r - 8) (by omega)).2.1
  rw [show 8 + (r - 8) = r by omega, hk] at e
  have := (Prod.mk.inj (Option.some.inj e)).2
  omega
theorem cp_V.step (h : cp_V G ca B i) (hi : i < 8) {o : Option Nat} (G2 : hg_G) (hG : G2 = G ∨ G2 = hs_R G (ca (8 + i)) 0 o) (hv : G2.2.2.2 (ca (8 + i)) 0 = cp_held G2 ca (ab_fl B 8) i) : cp_V G2 ca B (i + 1) := by
  obtain ⟨h0, h1, h2, h3, h4, h5, h6, h7, h8, h9⟩ := h
  have hh : cp_V G ca B i := ⟨h0, h1, h2, h3, h4, h5, h6, h7, h8, h9⟩
  have hf : hg_fr (fun a => a = ca (8 + i)) G G2 := by
    rcases hG with e | e
    · rw [e]; exact hg_fr.rf
    · rw [e]; exact hg_fr.rf.R rfl
  have h1e : G2.1 = G.1 := by rcases hG with e | e <;> rw [e] <;> rfl
  have st : ∀ r, cp_pr B r → r ≠ 8 + i → hg_st G G2 (ca r) := fun r hr hn => hf _ (fun e => hn (h9 r (8 + i) hr (.w (by omega)) e))
  have tw : ∀ (m : Nat) (t : sp_S), tn_R G (fun k => ca (m + k)) t → (∀ k, k < 5 → cp_pr B (m + k) ∧ m + k ≠ 8 + i) → tn_R G2 (fun k => ca (m + k)) t := fun m t ht hm => ht.fr hf (fun j hj e => (hm j hj).2 (h9 _ _ (hm j hj).1 (.w (by omega)) e)) (fun p q hp hq e => by
    obtain ⟨q2, k1, k2, -⟩ := ht.pe hp
    cases hq.symm.trans k1
    exact hh.np (r := 8 + i) (by omega) (by rw [← e]; exact k2))
  refine ⟨h0.st (st 0 (.w (by decide)) (by omega)), ⟨by rw [h1e]; exact h1.1, fun j hj => ?_⟩, h2.st (fun j hj g => ⟨st _ (.r hj g) (by omega), st _ (.e hj g) (by omega)⟩), h3.st (st 2 (.w (by decide)) (by omega)), h4.st (st 3 (.w (by decide)) (by omega)) (st 4 (.w (by decide)) (by omega)),
    h5.stt (st 5 (.w (by decide)) (by omega)) (st 6 (.w (by decide)) (by omega)) (st 7 (.w (by decide)) (by omega)), h6.st (fun j hj => st _ (.w (by omega)) (by omega)), tw 21 _ h7 (fun k hk => ⟨.w (by omega), by omega⟩), fun g => ⟨tw 26 _ (h8 g).1 (fun k hk => ⟨.im g (by omega) (by omega), by omega⟩), (h8 g).2⟩, h9⟩
  obtain ⟨g1, g2, g3, g4⟩ := h1.2 j hj
  refine ⟨((st 1 (.w (by decide)) (by omega)).2.2.2 j).trans g1, by rw [h1e]; exact g2, fun hji => ?_, fun hij => ?_⟩
  · by_cases e : j = i
    · subst e; exact hv
    · have s := st (8 + j) (.w (by omega)) (by omega)
      refine (s.2.2.2 0).trans ((g3 (by omega)).trans ?_)
      unfold cp_held
      rw [(st 22 (.w (by decide)) (by omega)).2.2.2]
  · have s := st (8 + j) (.w (by omega)) (by omega)
    obtain ⟨k1, k2, k3⟩ := g4 (by omega)
    refine ⟨fun z => (s.2.2.2 0).trans (k1 z), fun z => (s.2.2.2 0).trans (k2 z), fun z => ?_⟩
    obtain ⟨q, k, m1, m2, m3, m4⟩ := k3 z
    refine ⟨q, k, (s.2.2.2 0).trans m1, by rw [h1e]; exact m2, m3, ?_⟩
    have : hg_st G G2 q := hf _ (fun e => hh.np (r := 8 + i) (by omega) (by rw [← e]; exact m2))
    exact (this.2.1 0).trans m4
theorem ab_fl_18 {B : ab_S} {j : Nat} (hj : j < 8) : (ab_fl B 8).1.1 18 j = if B.1.1 18 j = 2 ∧ B.1.1 0 0 ≤ B.1.1 21 j then 0 else B.1.1 18 j := by
  by_cases g : B.1.1 18 j = 2 ∧ B.1.1 0 0 ≤ B.1.1 21 j
  · rw [if_pos g]; exact if_pos ⟨rfl, hj, g⟩
  · rw [if_neg g]; exact if_neg (fun z => g z.2.2)
theorem cp_V.fin (h : cp_V G ca B 8) : cp_R G ca (ab_fl B 8) := by
  obtain ⟨h0, h1, h2, h3, h4, h5, h6, h7, h8, h9⟩ := h
  have e : ∀ a, a ≠ 18 → (ab_fl B 8).1.1 a = B.1.1 a := fun a ha => funext fun j => ab_fl_o ha
  have e18 : ∀ j, j < 8 → (ab_fl B 8).1.1 18 j = 1 → B.1.1 18 j = 1 := fun j hj g => by
    rw [ab_fl_18 hj] at g
    split at g
    · cases g
    · exact g
  refine ⟨?_, ⟨h1.1, fun j hj => ⟨(h1.2 j hj).1, (h1.2 j hj).2.1, (h1.2 j hj).2.2.1 hj⟩⟩, fun j hj g => ?_, h3, h4, h5, h6, h7.same (fun a ha => e a (by omega)) rfl, fun g => ?_, fun a b ha hb => ?_⟩
  · unfold cp_0 at h0 ⊢
    rw [e 43 (by decide)]
    exact h0
  · rw [e 19 (by decide), e 20 (by decide)]
    exact h2 j hj (e18 j hj g)
  · rw [e 43 (by decide)] at g
    exact h8 g
  · have pr : ∀ r, cp_pr (ab_fl B 8) r → cp_pr B r := fun r hr => by
      rcases hr with hb | ⟨a1, a2, a3⟩ | ⟨a1, a2, a3⟩ | ⟨a1, a2, a3⟩
      · exact Or.inl hb
      · exact Or.inr (Or.inl ⟨a1, a2, by rw [← e 43 (by decide)]; exact a3⟩)
      · exact Or.inr (Or.inr (Or.inl ⟨a1, a2, e18 _ (by omega) a3⟩))
      · exact Or.inr (Or.inr (Or.inr ⟨a1, a2, e18 _ (by omega) a3⟩))
    exact h9 a b (pr a ha) (pr b hb)
/-- the town is another object: w is written -/
theorem cp_R.back (h : cp_R G ca A) (hW : ab_wf A) {ta : Nat → Nat} {t : sp_S} (hT : tn_R G ta t) (h36 : t.1 36 0 = 99) (hD : tn_D ta) (hx : ∀ i, i < 5 → ∀ r, cp_pr A r → ca r ≠ ta i) :
    cp_V (hs_R G (ca 0) 5 (some (ta 0))) (cp_ci ca 21 ta) (sp_back A t) 0 := by
  obtain ⟨st, tw⟩ := h.z0 (k := 5) (v := some (ta 0))
  have c : ∀ r, r < 21 ∨ 26 ≤ r → cp_ci ca 21 ta r = ca r := fun r hr => cp_ci_o (by omega)
  have e1 : ∀ a, ¬ (a < 4 ∨ (9 ≤ a ∧ a ≤ 17)) → (sp_back A t).1.1 a = A.1.1 a := fun a ha => funext fun i => sp_back_o ha
  have o := h.o
  refine ⟨?_, ?_, ?_, ?_, ?_, ?_, ?_, ?_, ?_, ?_⟩
  · unfold cp_0
    rw [c 0 (by omega), c 1 (by omega), c 2 (by omega), c 3 (by omega), c 16 (by omega), c 5 (by omega), c 26 (by omega), e1 43 (by omega)]
    refine ⟨o.1, (hs_Rnj (by decide)).trans o.2.1, (hs_Rnj (by decide)).trans o.2.2.1, (hs_Rnj (by decide)).trans o.2.2.2.1, (hs_Rnj (by decide)).trans o.2.2.2.2.1, (hs_Rnj (by decide)).trans o.2.2.2.2.2.1, ?_, (hs_Rnj (by decide)).trans o.2.2.2.2.2.2.2.1, o.2.2.2.2.2.2.2.2⟩
    rw [hs_Req, show (21 : Nat) = 21 + 0 from rfl, cp_ci_i (by decide)]
  · unfold cp_1w
    rw [c 1 (by omega)]
    refine ⟨h.s.1, fun j hj => ?_⟩
    obtain ⟨g1, g2, g3⟩ := h.s.2 j hj
    have s1 := st 1 (.w (by decide)) (by omega)
    have s8 := st (8 + j) (.w (by omega)) (by omega)
    rw [c (8 + j) (by omega)]
    refine ⟨(s1.2.2.2 j).trans g1, g2, fun z => absurd z (Nat.not_lt_zero _), fun _ => ?_⟩
    unfold cp_wk
    rw [c (8 + j) (by omega), c (31 + j) (by omega), e1 18 (by omega), e1 21 (by omega), s8.2.2.2 0, g3]
    unfold cp_held
    refine ⟨fun z => if_pos z, fun z => by rw [if_neg (by omega), if_pos z], fun z => ?_⟩
    rw [if_neg (by omega), if_neg (by omega)]
    obtain ⟨q, k1, k2, k3, -⟩ := h.w.pe (hW.b21 hj z)
    have w0 := hW.w.b0
    have w1 := hW.b21 hj z
    exact ⟨q, _, k1, k2, hW.w.b9 (by omega), k3⟩
  · intro i hi h1
    rw [e1 18 (by omega)] at h1
    have g := h.r.st (G' := hs_R G (ca 0) 5 (some (ta 0))) (fun i hi h1 => ⟨st _ (.r hi h1) (by omega), st _ (.e hi h1) (by omega)⟩) i hi h1
    rw [c (31 + i) (by omega), c (39 + i) (by omega), e1 19 (by omega), e1 20 (by omega)]
    exact g
  · have g := h.f.st (st 2 (.w (by decide)) (by omega))
    unfold cp_3 at g ⊢
    rw [c 2 (by omega)]
    exact g
  · have g := h.t.st (st 3 (.w (by decide)) (by omega)) (st 4 (.w (by decide)) (by omega))
    rw [c 3 (by omega), c 4 (by omega)]
    unfold tr_R at g ⊢
    have e42 : (sp_back A t).1.2 42 = A.1.2 42 := by
      show (if 4 ≤ 42 ∧ 42 ≤ 6 then t.2 42 else A.1.2 42) = _
      exact if_neg (by decide)
    rw [e42]
    exact g
  · rw [c 5 (by omega), c 6 (by omega), c 7 (by omega)]
    exact h.a.stt (st 5 (.w (by decide)) (by omega)) (st 6 (.w (by decide)) (by omega)) (st 7 (.w (by decide)) (by omega))
  · exact (h.d.st (G' := hs_R G (ca 0) 5 (some (ta 0))) (fun i hi => st _ (.w (by omega)) (by omega))).co (by decide)
  · have g : tn_R (hs_R G (ca 0) 5 (some (ta 0))) (fun i => cp_ci ca 21 ta (21 + i)) t := tn_R.ci (tw _ _ (fun i hi e => hx i hi 0 (.w (by decide)) e.symm) hT)
    have e2 : ∀ a, a < 4 ∨ (9 ≤ a ∧ a ≤ 17) → (sp_back A t).1.1 a = t.1 a := fun a ha => funext fun i => sp_back_i ha
    have e36 : (sp_back A t).1.1 36 0 = t.1 36 0 := by rw [e1 36 (by omega), hW.b36, h36]
    have e4 : ∀ k, 4 ≤ k ∧ k ≤ 6 → (sp_back A t).1.2 k = t.2 k := fun k hk => if_pos hk
    unfold tn_R at g ⊢
    rw [e2 0 (by omega), e2 1 (by omega), e2 2 (by omega), e2 3 (by omega), e2 9 (by omega), e2 10 (by omega), e2 11 (by omega), e2 12 (by omega), e2 13 (by omega), e2 14 (by omega), e2 15 (by omega), e2 16 (by omega), e2 17 (by omega), e36, e4 4 (by omega), e4 5 (by omega), e4 6 (by omega)]
    exact g
  · intro g
    rw [e1 43 (by omega)] at g
    have q := tw _ _ (fun i hi e => by have := h.j (26 + i) 0 (.im g (by omega) (by omega)) (.w (by decide)) e; omega) (h.i g).1
    exact ⟨tn_R.co (ta := ta) q (by decide), (h.i g).2⟩
  · refine cp_ij.ci h.j (Or.inl rfl) hD hx (fun r hr hn => ?_)
    rcases hr with hb | ⟨a1, a2, a3⟩ | ⟨a1, a2, a3⟩ | ⟨a1, a2, a3⟩
    · exact Or.inl hb
    · exact Or.inr (Or.inl ⟨a1, a2, by rw [← e1 43 (by omega)]; exact a3⟩)
    · exact Or.inr (Or.inr (Or.inl ⟨a1, a2, by rw [← e1 18 (by omega)]; exact a3⟩))
    · exact Or.inr (Or.inr (Or.inr ⟨a1, a2, by rw [← e1 18 (by omega)]; exact a3⟩))
end CP16
abbrev rk_X0_image : Room := { frames := 12, cells := 40, slots := 3000, locals := 400 }
theorem tc_image {l : Launch} {D : hg_D} {lo : Nat} (htr : l.stackTraces = false) {G : hg_G} {ca : Nat → Nat} {A : ab_S} (h : cp_R G ca A) (hW : ab_wf A) :
    hg_M l D lo yX0_image (ws_ yX0_image cX0_image 1 ((some FieldType.int))) rk_X0_image [.ref (ca 0)] G (cp_Po ca (nI (A.1.1 0 0), (sp_set A.1 43 0 1, A.1, A.2.2))) := by
  refine hg_M.of htr (by decide) [some (.ref (ca 0))] rfl (Nat.le_of_ble_eq_true rfl) ?_
  intro p e s m args below meth c X hr hnm htab
  have X : hg_X p l s m args meth c D lo "TaxOnLooks" cX0_image 1 := X
  refine hr_room (kr' := 40) (nr' := 3000) (Nat.le_of_ble_eq_true rfl) (Nat.le_of_ble_eq_true rfl) ?_
  have hw := hW.w; have w0 := hw.b0; have w1 := hw.b1; have w2 := hw.b2; have w3 := hw.b3; have w36 := hW.b36; have w43 := hW.b43
  have hpw := sp_wpk hw; have hpb := sp_bpk hw
  obtain ⟨K, hK, hKs, hKb⟩ := h.w.sk
  refine hr_aload0 (q := 1) X dX0_image_0 rfl ?_
  refine hr_new (kr := 39) (nr := 2985) (q := 4) (ci := 2) (T := TX2) (N := 15) (ty := tyX2) X dX0_image_1 rfl q144 q145 q84 rfl in_X2 tyX2_ok (by decide) (fun x1 hlx1 hnx1 => ?_)
  refine hr_dup (q := 5) X dX0_image_4 rfl rfl ?_
  refine hr_call (kr := 35) (nr := 2957) (q := 8) (hc_I (n := 0) (As := []) X dX0_image_5 rfl (tn_init X.tr (o := x1) (if_pos rfl) (fun k => if_pos rfl) (fun k => if_pos rfl)) q146 cj_X2_init ⟨Nat.le_of_ble_eq_true rfl, Nat.le_of_ble_eq_true rfl⟩ rfl (Nat.le_of_ble_eq_true rfl)) rfl (fun qx E G' hp _ => by cases hp.1) (fun r Gi hp _ => ?_)
  obtain ⟨hvi, ta9, h09, hT9, hD9, hn9, hf9⟩ := hp
  cases hvi
  subst h09
  have hfr9 : hg_fr (fun a => G.1 a = none) G Gi := ((hg_fr.rf (W := fun a => G.1 a = none)).N hnx1).tr (hf9.mono (fun a z => z.elim (fun e => by rw [e]; exact hnx1) (fun z => (hs_Nn z).2)))
  have hta9 : ∀ i, i < 5 → G.1 (ta9 i) = none := fun i hi => by
    by_cases e : i = 0
    · rw [e]; exact hnx1
    · exact (hs_Nn (hn9 i (by omega) hi)).2
  have hi9 := h.nf hfr9
  refine hr_aload0 (q := 9) X dX0_image_8 rfl ?_
  refine hr_getR (v := (cp_w ca 0)) (q := 12) X dX0_image_9 rfl fr_q250_0 rfl hi9.o.1 hi9.o.2.2.2.2.2.2.1 ?_
  have hX9 : tn_X ta9 (cp_w ca) := fun i j hi hj e => by
    have := hta9 i hi
    rw [e] at this
    exact h.ex (r := 21 + j) (.w (by omega)) this
  refine hr_call0 (q := 15) (hc_V (n := 1) (ci := 2) (As := [.ref (cp_w ca 0)]) X dX0_image_12 rfl (tn_take_c X.tr (ta := ta9) (tb := cp_w ca) (hi9.w) hw.b0 hw.b3 (fun p hp => hw.b9 hp) hT9.K hD9 hX9) q816 cv_X2_take ⟨Nat.le_of_ble_eq_true rfl, Nat.le_of_ble_eq_true rfl⟩ rfl (Nat.le_of_ble_eq_true rfl) hT9.ob rfl rfl) rfl (fun qx E G' hp => by cases hp.1) (fun r Gk hp _ => ?_)
  obtain ⟨hvk, hTk, -, hfk, -⟩ := hp
  cases hvk
  rw [sp_set_99 w36] at hTk
  have hk9 := h.nf (hfr9.tr (hfk.mono (fun a ⟨i, hi, e⟩ => by rw [e]; exact hta9 i hi)))
  have hx9 : ∀ i, i < 5 → ∀ r, cp_pr A r → ca r ≠ ta9 i := fun i hi r hr e => h.ex hr (by rw [e]; exact hta9 i hi)
  refine hr_putR (q := 18) X dX0_image_15 rfl fw_q251_0 (fun h => nomatch h) rfl rfl hk9.o.1 ?_
  have hE := hk9.imaged hTk hD9 hx9 w36
  refine hr_aload0 (q := 19) X dX0_image_18 rfl ?_
  refine hr_getR (v := (cp_w ca 0)) (q := 22) X dX0_image_19 rfl fr_q250_0 rfl hk9.o.1 ((hs_Rnj (by decide)).trans hk9.o.2.2.2.2.2.2.1) ?_
  refine hr_getI (v := (nI (A.1.1 0 0))) (q := 25) X dX0_image_22 rfl fr_q154_2 rfl hk9.w.ob hk9.w.f0 ?_
  exact hr_iret X hr dX0_image_25 ⟨rfl, cp_ci ca 26 ta9, cp_ci_o (by decide), hE⟩

theorem tc_follow {l : Launch} {D : hg_D} {lo : Nat} (htr : l.stackTraces = false) {G : hg_G} {ca : Nat → Nat} {B : ab_S} (h : cp_V G ca B 0) (hB : sp_wf B.1) (b18 : ∀ j, j < 8 → B.1.1 18 j ≤ 2 ∧ (B.1.1 18 j = 2 → B.1.1 21 j < 7)) :
    hg_M l D lo yX0_shelvesFollow (ws_ yX0_shelvesFollow cX0_shelvesFollow 6 (none)) rm_X0_shelvesFollow [.ref (ca 0)] G (fun r G' => r = .inl none ∧ cp_R G' ca (ab_fl B 8)) := by
  refine hg_M.of htr (by decide) [some (.ref (ca 0)), none, none, none, none, none] rfl (Nat.le_of_ble_eq_true rfl) ?_
  intro p e s m args below meth c X hr hnm htab
  have X : hg_X p l s m args meth c D lo "TaxOnLooks" cX0_shelvesFollow 6 := X
  have w0 := hB.b0; have w1 := hB.b1; have w2 := hB.b2; have w3 := hB.b3
  refine hr_aload0 (q := 1) X dX0_shelvesFollow_0 rfl ?_
  refine hr_getR (v := (ca 1)) (q := 4) X dX0_shelvesFollow_1 rfl fr_q245_0 rfl h.1.1 h.1.2.1 ?_
  refine hr_astore1 (q := 5) X dX0_shelvesFollow_4 rfl rfl (Nat.le_of_ble_eq_true rfl) ?_
  refine hr_aload1 (q := 6) X dX0_shelvesFollow_5 rfl ?_
  refine hr_alen (v := nI 8) (q := 7) X dX0_shelvesFollow_6 rfl h.2.1.1 (by decide) rfl ?_
  refine hr_istore2 (q := 8) X dX0_shelvesFollow_7 rfl rfl (Nat.le_of_ble_eq_true rfl) ?_
  refine hr_iconst (v := (nI 0)) (q := 9) X dX0_shelvesFollow_8 rfl rfl ?_
  refine hr_istore3 (q := 10) X dX0_shelvesFollow_9 rfl rfl (Nat.le_of_ble_eq_true rfl) ?_
  have loop10 : ∀ (kr nr n : Nat) (i : Nat) (G9 : hg_G), (i ≤ 8) → (9 ≤ i + n) → (cp_V G9 ca B i) → hg_W p l e rm_X0_shelvesFollow s m args below meth c (hg_Q below D lo args s rm_X0_shelvesFollow G (fun r G' => r = .inl none ∧ cp_R G' ca (ab_fl B 8))) D lo G.1 6 kr nr G9 10 [some (.ref (ca 0)), some (.ref (ca 1)), some (.int (nI 8)), some (.int (nI i)), none, none] [] := by
    intro kr nr n
    induction n with
    | zero =>
      intro i G9 h10_0 h10_1 h10_2
      omega
    | succ n ih =>
      intro i G9 h10_0 h10_1 h10_2
      refine hr_iload3 (q := 11) X dX0_shelvesFollow_10 rfl ?_
      refine hr_iload2 (q := 12) X dX0_shelvesFollow_11 rfl ?_
      refine hr_icmpN_ge (q := 15) (tgt := 78) X dX0_shelvesFollow_12 rfl (by decide) (by omega) (by omega) (fun c12 => ?_) (fun c12 => ?_)
      · have hi8 : i = 8 := by omega
        subst hi8
        exact hr_vret X hr dX0_shelvesFollow_78 ⟨rfl, h10_2.fin⟩
      · refine hr_aload1 (q := 16) X dX0_shelvesFollow_15 rfl ?_
        refine hr_iload3 (q := 17) X dX0_shelvesFollow_16 rfl ?_
        refine hr_aaldN (v := (ca (8 + i))) (q := 18) X dX0_shelvesFollow_17 rfl h10_2.2.1.1 (by decide) (by omega) (by decide) (h10_2.2.1.2 i (by omega)).1 ?_
        refine hr_astore4 (q := 20) X dX0_shelvesFollow_18 rfl rfl (Nat.le_of_ble_eq_true rfl) ?_
        obtain ⟨g1, g2, -, g4⟩ := h10_2.2.1.2 i (by omega)
        obtain ⟨k0, k1, k2⟩ := g4 (Nat.le_refl _)
        have b18i := b18 i (by omega)
        have e18 := ab_fl_18 (B := B) (j := i) (by omega)
        by_cases m0 : B.1.1 18 i = 0
        · have g3 := k0 m0
          have hnx : cp_V G9 ca B (i + 1) := h10_2.step (by omega) (o := none) G9 (Or.inl rfl) (by rw [g3]; unfold cp_held; rw [e18.trans ((if_neg (by omega)).trans m0), if_pos rfl])
          refine hr_aload4 (q := 22) X dX0_shelvesFollow_20 rfl ?_
          refine hr_callP (v := .int (nI 0)) (q := 25) (hc_V (n := 0) (ci := 4) (As := []) X dX0_shelvesFollow_22 rfl (ts_holdsPerson_n X.tr g2 g3) q502 cv_X4_holdsPerson ⟨Nat.le_of_ble_eq_true rfl, Nat.le_of_ble_eq_true rfl⟩ rfl (Nat.le_of_ble_eq_true rfl) g2 rfl rfl) rfl ?_
          refine hr_if_eq (q := 28) (tgt := 72) X dX0_shelvesFollow_25 rfl (by decide) (fun _ => ?_) (fun z => absurd z (by decide))
          refine hr_iinc3 (v := (nI (i + 1))) (q := 75) X dX0_shelvesFollow_72 rfl (nI_add _ _) rfl (Nat.le_of_ble_eq_true rfl) ?_
          refine hr_goto (tgt := 10) X dX0_shelvesFollow_75 (by decide) ?_
          refine hr_fg4 ?_
          exact ih (i + 1) G9 (by omega) (by omega) hnx
        by_cases m1 : B.1.1 18 i = 1
        · have g3 := k1 m1
          have q1 := (h10_2.2.2.1 i (by omega) m1).1
          have hnx : cp_V G9 ca B (i + 1) := h10_2.step (by omega) (o := none) G9 (Or.inl rfl) (by rw [g3]; unfold cp_held; rw [e18.trans ((if_neg (by omega)).trans m1), if_neg (by decide), if_pos rfl])
          refine hr_aload4 (q := 22) X dX0_shelvesFollow_20 rfl ?_
          refine hr_callP (v := .int (nI 0)) (q := 25) (hc_V (n := 0) (ci := 4) (As := []) X dX0_shelvesFollow_22 rfl (ts_holdsPerson_r X.tr g2 g3 q1.1 q1.2.2.1) q502 cv_X4_holdsPerson ⟨Nat.le_of_ble_eq_true rfl, Nat.le_of_ble_eq_true rfl⟩ rfl (Nat.le_of_ble_eq_true rfl) g2 rfl rfl) rfl ?_
          refine hr_if_eq (q := 28) (tgt := 72) X dX0_shelvesFollow_25 rfl (by decide) (fun _ => ?_) (fun z => absurd z (by decide))
          refine hr_iinc3 (v := (nI (i + 1))) (q := 75) X dX0_shelvesFollow_72 rfl (nI_add _ _) rfl (Nat.le_of_ble_eq_true rfl) ?_
          refine hr_goto (tgt := 10) X dX0_shelvesFollow_75 (by decide) ?_
          refine hr_fg4 ?_
          exact ih (i + 1) G9 (by omega) (by omega) hnx
        have m2 : B.1.1 18 i = 2 := by omega
        obtain ⟨q, k, g3, hqk, hk6, hqi⟩ := k2 m2
        have b21i := b18i.2 m2
        obtain ⟨rr, hrr, hcs⟩ := hg_clP2 k hk6
        refine hr_aload4 (q := 22) X dX0_shelvesFollow_20 rfl ?_
        refine hr_callP (v := .int (nI 1)) (q := 25) (hc_V (n := 0) (ci := 4) (As := []) X dX0_shelvesFollow_22 rfl (ts_holdsPerson_p X.tr g2 g3 hk6 hqk) q502 cv_X4_holdsPerson ⟨Nat.le_of_ble_eq_true rfl, Nat.le_of_ble_eq_true rfl⟩ rfl (Nat.le_of_ble_eq_true rfl) g2 rfl rfl) rfl ?_
        refine hr_if_eq (q := 28) (tgt := 72) X dX0_shelvesFollow_25 rfl (by decide) (fun z => absurd z (by decide)) (fun _ => ?_)
        refine hr_aload4 (q := 30) X dX0_shelvesFollow_28 rfl ?_
        refine hr_getR (v := q) (q := 33) X dX0_shelvesFollow_30 rfl fr_q241_4 rfl g2 g3 ?_
        refine hr_castY (q := 36) X dX0_shelvesFollow_33 rfl q575 hqk hrr hcs ?_
        refine hr_getI (v := (nI (B.1.1 21 i))) (q := 39) X dX0_shelvesFollow_36 rfl (fp_q664 _ hk6) (fp_ft _ (by omega) 0 (by decide)) hqk hqi ?_
        refine hr_istore5 (q := 41) X dX0_shelvesFollow_39 rfl rfl (Nat.le_of_ble_eq_true rfl) ?_
        refine hr_aload4 (q := 43) X dX0_shelvesFollow_41 rfl ?_
        refine hr_aload0 (q := 44) X dX0_shelvesFollow_43 rfl ?_
        refine hr_getR (v := (cp_w ca 0)) (q := 47) X dX0_shelvesFollow_44 rfl fr_q250_0 rfl h10_2.1.1 h10_2.1.2.2.2.2.2.2.1 ?_
        refine hr_iload5 (q := 49) X dX0_shelvesFollow_47 rfl ?_
        refine hr_callP (q := 52) (hc_V (n := 1) (ci := 2) (As := [.int (nI (B.1.1 21 i))]) X dX0_shelvesFollow_49 rfl (tn_isPerson X.tr h10_2.2.2.2.2.2.2.2.1 hB (x := (nI (B.1.1 21 i)))) q567 cv_X2_isPerson ⟨Nat.le_of_ble_eq_true rfl, Nat.le_of_ble_eq_true rfl⟩ rfl (Nat.le_of_ble_eq_true rfl) h10_2.2.2.2.2.2.2.2.1.ob rfl rfl) rfl ?_
        refine hr_ifB_eq (q := 55) (tgt := 68) X dX0_shelvesFollow_52 rfl (by decide) (fun c52 => ?_) (fun c52 => ?_)
        · have hnp : ¬ B.1.1 21 i < B.1.1 0 0 := fun g => by rw [sp_in_t g (by omega)] at c52; cases c52
          refine hr_null (q := 69) X dX0_shelvesFollow_68 rfl ?_
          refine hr_putN (q := 72) X dX0_shelvesFollow_69 rfl fw_q241_4 (fun h => nomatch h) rfl rfl g2 ?_
          have hnx : cp_V (hs_R G9 (ca (8 + i)) 0 none) ca B (i + 1) := h10_2.step (by omega) (o := none) _ (Or.inr rfl) (by rw [hs_Req]; unfold cp_held; rw [e18.trans (if_pos ⟨m2, by omega⟩), if_pos rfl])
          refine hr_iinc3 (v := (nI (i + 1))) (q := 75) X dX0_shelvesFollow_72 rfl (nI_add _ _) rfl (Nat.le_of_ble_eq_true rfl) ?_
          refine hr_goto (tgt := 10) X dX0_shelvesFollow_75 (by decide) ?_
          refine hr_fg4 ?_
          refine hr_fg5 ?_
          exact ih (i + 1) (hs_R G9 (ca (8 + i)) 0 none) (by omega) (by omega) hnx
        · have hnp := (sp_inN (by omega) c52).2
          rw [iN_nI (by omega)] at hnp
          refine hr_aload0 (q := 56) X dX0_shelvesFollow_55 rfl ?_
          refine hr_getR (v := (cp_w ca 0)) (q := 59) X dX0_shelvesFollow_56 rfl fr_q250_0 rfl h10_2.1.1 h10_2.1.2.2.2.2.2.2.1 ?_
          refine hr_getR (v := (cp_w ca 1)) (q := 62) X dX0_shelvesFollow_59 rfl fr_q181_2 rfl h10_2.2.2.2.2.2.2.2.1.ob h10_2.2.2.2.2.2.2.2.1.f11 ?_
          refine hr_iload5 (q := 64) X dX0_shelvesFollow_62 rfl ?_
          obtain ⟨q1, hq1a, hq1k, hq1i, hq1b, hq1s⟩ := h10_2.2.2.2.2.2.2.2.1.pe (p := B.1.1 21 i) (by omega)
          have hq19 := hB.b9 (p := B.1.1 21 i) (by omega)
          refine hr_aaldN (v := q1) (q := 65) X dX0_shelvesFollow_64 rfl h10_2.2.2.2.2.2.2.2.1.k1 (by decide) (by omega) (by decide) hq1a ?_
          refine hr_goto (tgt := 69) X dX0_shelvesFollow_65 (by decide) ?_
          refine hr_putR (q := 72) X dX0_shelvesFollow_69 rfl fw_q241_4 (fun h => nomatch h) rfl rfl g2 ?_
          have hnx : cp_V (hs_R G9 (ca (8 + i)) 0 (some q1)) ca B (i + 1) := h10_2.step (by omega) (o := (some q1)) _ (Or.inr rfl) (by rw [hs_Req]; unfold cp_held; rw [e18.trans ((if_neg (by omega)).trans m2), if_neg (by decide), if_neg (by decide), hs_Rne (fun e => by have := h10_2.2.2.2.2.2.2.2.2.2 22 (8 + i) (.w (by decide)) (.w (by omega)) e; omega), ab_fl_o (by decide)]; exact hq1a.symm)
          refine hr_iinc3 (v := (nI (i + 1))) (q := 75) X dX0_shelvesFollow_72 rfl (nI_add _ _) rfl (Nat.le_of_ble_eq_true rfl) ?_
          refine hr_goto (tgt := 10) X dX0_shelvesFollow_75 (by decide) ?_
          refine hr_fg4 ?_
          refine hr_fg5 ?_
          exact ih (i + 1) (hs_R G9 (ca (8 + i)) 0 (some q1)) (by omega) (by omega) hnx
  exact loop10 _ _ 9 0 G (by omega) (by omega) h

abbrev rk_X0_restore : Room := { frames := 12, cells := 40, slots := 3000, locals := 400 }
theorem tc_restore {l : Launch} {D : hg_D} {lo : Nat} (htr : l.stackTraces = false) {G : hg_G} {ca : Nat → Nat} {A : ab_S} (h : cp_R G ca A) (hW : ab_wf A) :
    hg_M l D lo yX0_restore (wsW_ yX0_restore cX0_restore 2 ((some FieldType.int)) [(0, 46, 47, 21)]) rk_X0_restore [.ref (ca 0)] G (cp_Po ca (sq_restore A)) := by
  refine hg_M.ofH htr (by decide) [some (.ref (ca 0)), none] rfl (Nat.le_of_ble_eq_true rfl) ?_
  intro p e s m args below meth c X hr hnm htab
  have X : hg_X p l s m args meth c D lo "TaxOnLooks" cX0_restore 2 := X
  refine hr_room (kr' := 40) (nr' := 3000) (Nat.le_of_ble_eq_true rfl) (Nat.le_of_ble_eq_true rfl) ?_
  have hw := hW.w; have w0 := hw.b0; have w1 := hw.b1; have w2 := hw.b2; have w3 := hw.b3; have w36 := hW.b36; have w43 := hW.b43
  have hpw := sp_wpk hw; have hpb := sp_bpk hw
  obtain ⟨K, hK, hKs, hKb⟩ := h.w.sk
  by_cases k43 : A.1.1 43 0 = 1
  · have hwi := hW.im k43
    have h36i := (h.i k43).2
    refine hr_aload0 (q := 1) X dX0_restore_0 rfl ?_
    refine hr_getR (v := (ca 26)) (q := 4) X dX0_restore_1 rfl fr_q251_0 rfl h.o.1 (h.o.2.2.2.2.2.2.2.1.trans (if_pos k43)) ?_
    refine hr_ifnullS (q := 7) (tgt := 11) X dX0_restore_4 rfl (by decide) ?_
    refine hr_iconst (v := (bI true)) (q := 8) X dX0_restore_7 rfl rfl ?_
    refine hr_goto (tgt := 12) X dX0_restore_8 (by decide) ?_
    refine hr_bipush (v := (-6)) (q := 14) X dX0_restore_12 rfl rfl ?_
    refine hr_call (kr := 39) (nr := 2993) (q := 17) (hc_S (n := 2) (As := [.int (bI true), .int (-6)]) X dX0_restore_14 rfl (tc_need X.tr (g := true) (w := (-6))) q383 cs_X0_need ⟨Nat.le_of_ble_eq_true rfl, Nat.le_of_ble_eq_true rfl⟩ rfl (Nat.le_of_ble_eq_true rfl)) rfl (fun qxn1 E Gxn1 hpn1 _ => ?_) (fun r Gn1 hpn1 _ => ?_)
    · obtain ⟨hgn1, hrn1, -⟩ | ⟨hgn1, qn1, hrn1, htn1⟩ := hpn1
      · cases hrn1
      · cases hgn1
    · obtain ⟨hgn1, hrn1, hGn1⟩ | ⟨hgn1, qn1, hrn1, htn1⟩ := hpn1
      · cases hrn1
        have hGn1 := hGn1.symm
        subst hGn1
        refine hr_aload0 (q := 18) X dX0_restore_17 rfl ?_
        refine hr_new (kr := 38) (nr := 2978) (q := 21) (ci := 2) (T := TX2) (N := 15) (ty := tyX2) X dX0_restore_18 rfl q144 q145 q84 rfl in_X2 tyX2_ok (by decide) (fun x2 hlx2 hnx2 => ?_)
        refine hr_dup (q := 22) X dX0_restore_21 rfl rfl ?_
        refine hr_call (kr := 34) (nr := 2950) (q := 25) (hc_I (n := 0) (As := []) X dX0_restore_22 rfl (tn_init X.tr (o := x2) (if_pos rfl) (fun k => if_pos rfl) (fun k => if_pos rfl)) q146 cj_X2_init ⟨Nat.le_of_ble_eq_true rfl, Nat.le_of_ble_eq_true rfl⟩ rfl (Nat.le_of_ble_eq_true rfl)) rfl (fun qx E G' hp _ => by cases hp.1) (fun r Gi hp _ => ?_)
        obtain ⟨hvi, ta9, h09, hT9, hD9, hn9, hf9⟩ := hp
        cases hvi
        subst h09
        have hfr9 : hg_fr (fun a => G.1 a = none) G Gi := ((hg_fr.rf (W := fun a => G.1 a = none)).N hnx2).tr (hf9.mono (fun a z => z.elim (fun e => by rw [e]; exact hnx2) (fun z => (hs_Nn z).2)))
        have hta9 : ∀ i, i < 5 → G.1 (ta9 i) = none := fun i hi => by
          by_cases e : i = 0
          · rw [e]; exact hnx2
          · exact (hs_Nn (hn9 i (by omega) hi)).2
        have hi9 := h.nf hfr9
        refine hr_aload0 (q := 26) X dX0_restore_25 rfl ?_
        refine hr_getR (v := (ca 26)) (q := 29) X dX0_restore_26 rfl fr_q251_0 rfl hi9.o.1 (hi9.o.2.2.2.2.2.2.2.1.trans (if_pos k43)) ?_
        have hX9 : tn_X ta9 (fun i => ca (26 + i)) := fun i j hi hj e => by
          have := hta9 i hi
          rw [e] at this
          exact h.ex (r := 26 + j) (.im k43 (by omega) (by omega)) this
        refine hr_call0 (q := 32) (hc_V (n := 1) (ci := 2) (As := [.ref (ca 26)]) X dX0_restore_29 rfl (tn_take_c X.tr (ta := ta9) (tb := fun i => ca (26 + i)) ((hi9.i k43).1) hwi.b0 hwi.b3 (fun p hp => hwi.b9 hp) hT9.K hD9 hX9) q816 cv_X2_take ⟨Nat.le_of_ble_eq_true rfl, Nat.le_of_ble_eq_true rfl⟩ rfl (Nat.le_of_ble_eq_true rfl) hT9.ob rfl rfl) rfl (fun qx E G' hp => by cases hp.1) (fun r Gk hp _ => ?_)
        obtain ⟨hvk, hTk, -, hfk, -⟩ := hp
        cases hvk
        rw [sp_set_99 h36i] at hTk
        have hk9 := h.nf (hfr9.tr (hfk.mono (fun a ⟨i, hi, e⟩ => by rw [e]; exact hta9 i hi)))
        have hx9 : ∀ i, i < 5 → ∀ r, cp_pr A r → ca r ≠ ta9 i := fun i hi r hr e => h.ex hr (by rw [e]; exact hta9 i hi)
        refine hr_putR (q := 35) X dX0_restore_32 rfl fw_q250_0 (fun h => nomatch h) rfl rfl hk9.o.1 ?_
        have hE := hk9.back hW hTk h36i hD9 hx9
        refine hr_aload0 (q := 36) X dX0_restore_35 rfl ?_
        have hbw : sp_wf (sp_back A A.2.1).1 := by
          have e2 : ∀ a, a < 4 ∨ (9 ≤ a ∧ a ≤ 17) → (sp_back A A.2.1).1.1 a = A.2.1.1 a := fun a ha => funext fun i => sp_back_i ha
          have e36 : (sp_back A A.2.1).1.1 36 0 = A.2.1.1 36 0 := (sp_back_o (by decide)).trans (w36.trans h36i.symm)
          have g := hwi
          unfold sp_wf at g ⊢
          rw [e2 0 (by omega), e2 1 (by omega), e2 2 (by omega), e2 3 (by omega), e2 9 (by omega), e2 10 (by omega), e2 11 (by omega), e2 12 (by omega), e2 13 (by omega), e2 14 (by omega), e2 15 (by omega), e2 16 (by omega), e2 17 (by omega), e36]
          exact g
        have hb18 : ∀ j, j < 8 → (sp_back A A.2.1).1.1 18 j ≤ 2 ∧ ((sp_back A A.2.1).1.1 18 j = 2 → (sp_back A A.2.1).1.1 21 j < 7) := fun j hj => by
          rw [sp_back_o (by decide), sp_back_o (by decide)]
          have g1 := hW.b18 hj
          exact ⟨g1, fun z => by have := hW.b21 hj z; omega⟩
        refine hr_call0 (q := 39) (hc_V (n := 0) (ci := 0) (As := []) X dX0_restore_36 rfl (tc_follow X.tr hE hbw hb18) q1356 cv_X0_shelvesFollow ⟨Nat.le_of_ble_eq_true rfl, Nat.le_of_ble_eq_true rfl⟩ rfl (Nat.le_of_ble_eq_true rfl) hE.1.1 rfl rfl) rfl (fun qx E G' hp => by cases hp.1) (fun r Gf hp _ => ?_)
        obtain ⟨hvf, hF⟩ := hp
        cases hvf
        refine hr_aload0 (q := 40) X dX0_restore_39 rfl ?_
        refine hr_getR (v := (cp_w (cp_ci ca 21 ta9) 0)) (q := 43) X dX0_restore_40 rfl fr_q250_0 rfl hF.o.1 hF.o.2.2.2.2.2.2.1 ?_
        refine hr_getI (v := (nI ((ab_fl (sp_back A A.2.1) 8).1.1 0 0))) (q := 46) X dX0_restore_43 rfl fr_q154_2 rfl hF.w.ob hF.w.f0 ?_
        have hq : sq_restore A = ((nI ((ab_fl (sp_back A A.2.1) 8).1.1 0 0)), ab_fl (sp_back A A.2.1) 8) := by
          rw [sq_restore, if_neg (by omega), ab_fl_o (by decide)]
        exact hr_iret X hr dX0_restore_46 (by rw [hq]; exact ⟨rfl, (cp_ci ca 21 ta9), cp_ci_o (by decide), hF⟩)
      · cases hrn1
  · have k430 : A.1.1 43 0 = 0 := by omega
    refine hr_aload0 (q := 1) X dX0_restore_0 rfl ?_
    refine hr_getQ (v := none) (q := 4) X dX0_restore_1 rfl fr_q251_0 rfl h.o.1 (h.o.2.2.2.2.2.2.2.1.trans (if_neg k43)) ?_
    refine hr_st1 (v' := .null) rfl ?_
    refine hr_ifnullN (q := 7) (tgt := 11) X dX0_restore_4 rfl (by decide) ?_
    refine hr_iconst (v := (bI false)) (q := 12) X dX0_restore_11 rfl rfl ?_
    refine hr_bipush (v := (-6)) (q := 14) X dX0_restore_12 rfl rfl ?_
    refine hr_call (kr := 39) (nr := 2993) (q := 17) (hc_S (n := 2) (As := [.int (bI false), .int (-6)]) X dX0_restore_14 rfl (tc_need X.tr (g := false) (w := (-6))) q383 cs_X0_need ⟨Nat.le_of_ble_eq_true rfl, Nat.le_of_ble_eq_true rfl⟩ rfl (Nat.le_of_ble_eq_true rfl)) rfl (fun qxn3 E Gxn3 hpn3 _ => ?_) (fun r Gn3 hpn3 _ => ?_)
    · obtain ⟨hgn3, hrn3, -⟩ | ⟨hgn3, qn3, hrn3, htn3⟩ := hpn3
      · cases hrn3
      · cases hrn3
        have hxn3 := h.T htn3
        refine hx_catch (name := "TaxOnLooks$Refused") X [] ⟨0, 46, 47, 21⟩ [] htab (fun _ h => absurd h List.not_mem_nil) (by decide) (by decide) q277 (by decide) ?_
        refine hr_astore1 (q := 48) X dX0_restore_47 rfl rfl (Nat.le_of_ble_eq_true rfl) ?_
        refine hr_aload0 (q := 49) X dX0_restore_48 rfl ?_
        refine hr_aload1 (q := 50) X dX0_restore_49 rfl ?_
        refine hr_call0 (q := 53) (hc_V (n := 1) (ci := 0) (As := [.ref qxn3]) X dX0_restore_50 rfl (tc_refused X.tr hxn3 hW (q := qxn3) htn3.2.1 htn3.2.2.1 (k := 6) (by decide) (by decide) (by decide)) q452 cv_X0_refused ⟨Nat.le_of_ble_eq_true rfl, Nat.le_of_ble_eq_true rfl⟩ rfl (Nat.le_of_ble_eq_true rfl) hxn3.o.1 rfl rfl) rfl (fun qx E G' hp => by cases hp.1) (fun r Gf4 hp _ => ?_)
        obtain ⟨hvf4, hhf4⟩ := hp
        cases hvf4
        have hq5 : sq_restore A = ((-6), (sq_no (-6) A).2) := by
          simp [sq_restore, sq_noTen, sq_no_1, k430]
        exact hr_iret X hr dX0_restore_53 (by rw [hq5]; exact ⟨rfl, ca, rfl, hhf4⟩)
    · obtain ⟨hgn3, hrn3, hGn3⟩ | ⟨hgn3, qn3, hrn3, htn3⟩ := hpn3
      · cases hgn3
      · cases hrn3

