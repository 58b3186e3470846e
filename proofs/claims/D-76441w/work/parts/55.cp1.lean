/-! THE COMPONENT's object as the state of both: ca: 0 the object, 1 shelves, 2 refusals, 3 ran, 4 bodies, 5 walks, 6 owes, 7 left, 8.. shelves one by one, 16.. tried, 21.. w, 26.. imaged, 31.. rows, 39.. their arrays -/
def cp_pr (A : ab_S) (i : Nat) : Prop := i < 26 ∨ (26 ≤ i ∧ i < 31 ∧ A.1.1 43 0 = 1) ∨ (31 ≤ i ∧ i < 39 ∧ A.1.1 18 (i - 31) = 1) ∨ (39 ≤ i ∧ i < 47 ∧ A.1.1 18 (i - 39) = 1)
def cp_held (G : hg_G) (ca : Nat → Nat) (A : ab_S) (i : Nat) : Option Nat := if A.1.1 18 i = 0 then none else if A.1.1 18 i = 1 then some (ca (31 + i)) else G.2.2.2 (ca 22) (A.1.1 21 i)
def cp_0 (G : hg_G) (ca : Nat → Nat) (A : ab_S) : Prop :=
  G.1 (ca 0) = some (0, 0) ∧ G.2.2.2 (ca 0) 0 = some (ca 1) ∧ G.2.2.2 (ca 0) 1 = some (ca 2) ∧ G.2.2.2 (ca 0) 2 = some (ca 3) ∧ G.2.2.2 (ca 0) 3 = some (ca 16) ∧ G.2.2.2 (ca 0) 4 = some (ca 5) ∧ G.2.2.2 (ca 0) 5 = some (ca 21) ∧
  G.2.2.2 (ca 0) 6 = (if A.1.1 43 0 = 1 then some (ca 26) else none) ∧ G.2.1 (ca 0) 7 = A.1.2 7
def cp_1 (G : hg_G) (ca : Nat → Nat) (A : ab_S) : Prop := G.1 (ca 1) = some (5, 8) ∧ ∀ i, i < 8 → G.2.2.2 (ca 1) i = some (ca (8 + i)) ∧ G.1 (ca (8 + i)) = some (0, 4) ∧ G.2.2.2 (ca (8 + i)) 0 = cp_held G ca A i
def cp_2 (G : hg_G) (ca : Nat → Nat) (A : ab_S) : Prop := ∀ i, i < 8 → A.1.1 18 i = 1 → rr_R G (ca (31 + i)) (ca (39 + i)) (A.1.1 19 i) (A.1.1 20 i) ∧ ∀ j, j < A.1.1 20 i → rr_el G (ca (39 + i)) (A.1.1 19 i) j = A.2.2.2 (160 * i + j)
def cp_3 (G : hg_G) (ca : Nat → Nat) (A : ab_S) : Prop := G.1 (ca 2) = some (1, 8) ∧ ∀ j, j < 8 → G.2.1 (ca 2) j = A.2.2.1 8 j
def cp_im (G : hg_G) (ca : Nat → Nat) (A : ab_S) : Prop := A.1.1 43 0 = 1 → tn_R G (fun i => ca (26 + i)) A.2.1 ∧ A.2.1.1 36 0 = 99
def cp_ij (ca : Nat → Nat) (A : ab_S) : Prop := ∀ i j, cp_pr A i → cp_pr A j → ca i = ca j → i = j
def cp_R (G : hg_G) (ca : Nat → Nat) (A : ab_S) : Prop :=
  cp_0 G ca A ∧ cp_1 G ca A ∧ cp_2 G ca A ∧ cp_3 G ca A ∧ tr_R G (ca 3) (ca 4) A ∧ wa_K G (ca 5) (ca 6) (ca 7) ∧ tn_K G (fun i => ca (16 + i)) ∧ tn_R G (fun i => ca (21 + i)) A.1 ∧ cp_im G ca A ∧ cp_ij ca A
/-- a cell stays -/
def hg_st (G G' : hg_G) (a : Nat) : Prop := G'.1 a = G.1 a ∧ (∀ j, G'.2.1 a j = G.2.1 a j) ∧ (∀ j, G'.2.2.1 a j = G.2.2.1 a j) ∧ ∀ j, G'.2.2.2 a j = G.2.2.2 a j
section CPR
variable {G G' : hg_G} {ca : Nat → Nat} {A B : ab_S}
theorem cp_R.o (h : cp_R G ca A) : cp_0 G ca A := h.1
theorem cp_R.s (h : cp_R G ca A) : cp_1 G ca A := h.2.1
theorem cp_R.r (h : cp_R G ca A) : cp_2 G ca A := h.2.2.1
theorem cp_R.f (h : cp_R G ca A) : cp_3 G ca A := h.2.2.2.1
theorem cp_R.t (h : cp_R G ca A) : tr_R G (ca 3) (ca 4) A := h.2.2.2.2.1
theorem cp_R.a (h : cp_R G ca A) : wa_K G (ca 5) (ca 6) (ca 7) := h.2.2.2.2.2.1
theorem cp_R.d (h : cp_R G ca A) : tn_K G (fun i => ca (16 + i)) := h.2.2.2.2.2.2.1
theorem cp_R.w (h : cp_R G ca A) : tn_R G (fun i => ca (21 + i)) A.1 := h.2.2.2.2.2.2.2.1
theorem cp_R.i (h : cp_R G ca A) : cp_im G ca A := h.2.2.2.2.2.2.2.2.1
theorem cp_R.j (h : cp_R G ca A) : cp_ij ca A := h.2.2.2.2.2.2.2.2.2
theorem cp_R.wD (h : cp_R G ca A) : tn_D (fun i => ca (21 + i)) := fun i j hi hj e => by
  have := h.j (21 + i) (21 + j) (Or.inl (by omega)) (Or.inl (by omega)) e
  omega
theorem cp_R.dD (h : cp_R G ca A) : tn_D (fun i => ca (16 + i)) := fun i j hi hj e => by
  have := h.j (16 + i) (16 + j) (Or.inl (by omega)) (Or.inl (by omega)) e
  omega
theorem cp_R.dw (h : cp_R G ca A) : tn_X (fun i => ca (16 + i)) (fun i => ca (21 + i)) := fun i j hi hj e => by
  have := h.j (16 + i) (21 + j) (Or.inl (by omega)) (Or.inl (by omega)) e
  omega
theorem cp_R.wd (h : cp_R G ca A) : tn_X (fun i => ca (21 + i)) (fun i => ca (16 + i)) := fun i j hi hj e => by
  have := h.j (21 + i) (16 + j) (Or.inl (by omega)) (Or.inl (by omega)) e
  omega
/-! each part stays if its cells do -/
theorem cp_0.st (h : cp_0 G ca A) (s : hg_st G G' (ca 0)) : cp_0 G' ca A := by
  obtain ⟨h0, h1, h2, h3, h4, h5, h6, h7, h8⟩ := h
  obtain ⟨s1, s2, s3, s4⟩ := s
  exact ⟨s1.trans h0, (s4 0).trans h1, (s4 1).trans h2, (s4 2).trans h3, (s4 3).trans h4, (s4 4).trans h5, (s4 5).trans h6, (s4 6).trans h7, (s2 7).trans h8⟩
theorem cp_1.st (h : cp_1 G ca A) (s1 : hg_st G G' (ca 1)) (s8 : ∀ i, i < 8 → hg_st G G' (ca (8 + i))) (s22 : ∀ j, G'.2.2.2 (ca 22) j = G.2.2.2 (ca 22) j) : cp_1 G' ca A := by
  refine ⟨s1.1.trans h.1, fun i hi => ?_⟩
  obtain ⟨h1, h2, h3⟩ := h.2 i hi
  have e : cp_held G' ca A i = cp_held G ca A i := by unfold cp_held; rw [s22]
  exact ⟨(s1.2.2.2 i).trans h1, (s8 i hi).1.trans h2, ((s8 i hi).2.2.2 0).trans (h3.trans e.symm)⟩
theorem rr_R.st {x y k n : Nat} (h : rr_R G x y k n) (s1 : hg_st G G' x) (s2 : hg_st G G' y) : rr_R G' x y k n :=
  ⟨h.1, h.2.1, s1.1.trans h.2.2.1, (s1.2.2.2 0).trans h.2.2.2.1, s2.1.trans h.2.2.2.2⟩
theorem rr_el.st {y k j : Nat} (s2 : hg_st G G' y) : rr_el G' y k j = rr_el G y k j := by
  unfold rr_el
  rw [s2.2.1, s2.2.2.1]
theorem cp_2.st (h : cp_2 G ca A) (s1 : ∀ i, i < 8 → A.1.1 18 i = 1 → hg_st G G' (ca (31 + i)) ∧ hg_st G G' (ca (39 + i))) : cp_2 G' ca A := fun i hi h1 => by
  obtain ⟨g1, g2⟩ := h i hi h1
  obtain ⟨t1, t2⟩ := s1 i hi h1
  exact ⟨g1.st t1 t2, fun j hj => (rr_el.st t2).trans (g2 j hj)⟩
theorem cp_3.st (h : cp_3 G ca A) (s : hg_st G G' (ca 2)) : cp_3 G' ca A := ⟨s.1.trans h.1, fun j hj => (s.2.1 j).trans (h.2 j hj)⟩
theorem tr_R.st {x y : Nat} (h : tr_R G x y A) (s1 : hg_st G G' x) (s2 : hg_st G G' y) : tr_R G' x y A :=
  ⟨s1.1.trans h.1, (s1.2.2.2 0).trans h.2.1, s2.1.trans h.2.2.1, (s1.2.1 1).trans h.2.2.2.1, fun j hj => (s2.2.1 j).trans (h.2.2.2.2 j hj)⟩
theorem wa_K.stt {x y z : Nat} (h : wa_K G x y z) (s1 : hg_st G G' x) (s2 : hg_st G G' y) (s3 : hg_st G G' z) : wa_K G' x y z :=
  ⟨s1.1.trans h.1, (s1.2.2.2 0).trans h.2.1, (s1.2.2.2 1).trans h.2.2.1, s2.1.trans h.2.2.2.1, s3.1.trans h.2.2.2.2.1, h.2.2.2.2.2⟩
theorem tn_K.st {ta : Nat → Nat} (h : tn_K G ta) (s : ∀ i, i < 5 → hg_st G G' (ta i)) : tn_K G' ta := by
  obtain ⟨⟨h0, h1, h2, h3, h4⟩, g1, g2, g3, g4⟩ := h
  exact ⟨⟨(s 0 (by decide)).1.trans h0, (s 1 (by decide)).1.trans h1, (s 2 (by decide)).1.trans h2, (s 3 (by decide)).1.trans h3, (s 4 (by decide)).1.trans h4⟩, ((s 0 (by decide)).2.2.2 11).trans g1, ((s 0 (by decide)).2.2.2 12).trans g2, ((s 0 (by decide)).2.2.2 13).trans g3, ((s 0 (by decide)).2.2.2 14).trans g4⟩
/-- the roles written -/
def cp_W (ca : Nat → Nat) (A : ab_S) (S : Nat → Prop) (a : Nat) : Prop := ∃ r, cp_pr A r ∧ S r ∧ a = ca r
/-- no role is a person's -/
theorem cp_R.np (h : cp_R G ca A) {r k : Nat} (hr : cp_pr A r) (hk : G.1 (ca r) = some (0, 12 + k)) : False := by
  have hc : ∀ n m : Nat, G.1 (ca r) = some (n, m) → (n = 0 → m < 12) → False := fun n m e hm => by
    rw [e] at hk
    have h1 := (Prod.mk.inj (Option.some.inj hk)).1
    have h2 := (Prod.mk.inj (Option.some.inj hk)).2
    have := hm h1
    omega
  have ht : ∀ ta : Nat → Nat, tn_K G ta → ∀ i, i < 5 → ca r = ta i → False := fun ta ht i hi e => by
    obtain ⟨⟨h0, h1, h2, h3, h4⟩, -⟩ := ht
    have hi2 : i = 0 ∨ i = 1 ∨ i = 2 ∨ i = 3 ∨ i = 4 := by omega
    rcases hi2 with rfl | rfl | rfl | rfl | rfl
    · exact hc 0 2 (by rw [e]; exact h0) (fun _ => by decide)
    · exact hc 6 7 (by rw [e]; exact h1) (fun z => by cases z)
    · exact hc 1 7 (by rw [e]; exact h2) (fun z => by cases z)
    · exact hc 1 7 (by rw [e]; exact h3) (fun z => by cases z)
    · exact hc 1 7 (by rw [e]; exact h4) (fun z => by cases z)
  rcases hr with hr | ⟨hr0, hr, hi⟩ | ⟨hr1, hr2, hh⟩ | ⟨hr1, hr2, hh⟩
  · have hx : r = 0 ∨ r = 1 ∨ r = 2 ∨ r = 3 ∨ r = 4 ∨ r = 5 ∨ r = 6 ∨ r = 7 ∨ (8 ≤ r ∧ r < 16) ∨ (16 ≤ r ∧ r < 21) ∨ (21 ≤ r ∧ r < 26) := by omega
    rcases hx with rfl | rfl | rfl | rfl | rfl | rfl | rfl | rfl | ⟨g1, g2⟩ | ⟨g1, g2⟩ | ⟨g1, g2⟩
    · exact hc _ _ h.o.1 (fun _ => by decide)
    · exact hc _ _ h.s.1 (fun z => by cases z)
    · exact hc _ _ h.f.1 (fun z => by cases z)
    · exact hc _ _ h.t.1 (fun _ => by decide)
    · exact hc _ _ h.t.2.2.1 (fun z => by cases z)
    · exact hc _ _ h.a.1 (fun _ => by decide)
    · exact hc _ _ h.a.2.2.2.1 (fun z => by cases z)
    · exact hc _ _ h.a.2.2.2.2.1 (fun z => by cases z)
    · have := (h.s.2 (r - 8) (by omega)).2.1
      rw [show 8 + (r - 8) = r by omega] at this
      exact hc _ _ this (fun _ => by decide)
    · exact ht _ h.d (r - 16) (by omega) (by show ca r = ca (16 + (r - 16)); rw [show 16 + (r - 16) = r by omega])
    · exact ht _ h.w.K (r - 21) (by omega) (by show ca r = ca (21 + (r - 21)); rw [show 21 + (r - 21) = r by omega])
  · exact ht _ (h.i hi).1.K (r - 26) (by omega) (by show ca r = ca (26 + (r - 26)); rw [show 26 + (r - 26) = r by omega])
  · have := (h.r (r - 31) (by omega) hh).1
    have e := this.2.2.1
    rw [show 31 + (r - 31) = r by omega] at e
    have := this.1
    exact hc _ _ e (fun _ => by omega)
  · have := (h.r (r - 39) (by omega) hh).1
    have e := this.2.2.2.2
    rw [show 39 + (r - 39) = r by omega] at e
    unfold rr_k at e
    (repeat' split at e) <;> exact hc _ _ e (fun z => by cases z)
theorem cp_R.fw (h : cp_R G ca A) {S : Nat → Prop} (hf : hg_fr (cp_W ca A S) G G') {r : Nat} (hr : cp_pr A r) (hs : ¬ S r) : hg_st G G' (ca r) := hf _ (fun ⟨q, h1, h2, e⟩ => hs (by rw [h.j r q hr h1 e]; exact h2))
theorem cp_R.nw (h : cp_R G ca A) {S : Nat → Prop} {r : Nat} (hr : cp_pr A r) (hs : ¬ S r) : ¬ cp_W ca A S (ca r) := fun ⟨q, h1, h2, e⟩ => hs (by rw [h.j r q hr h1 e]; exact h2)
theorem cp_R.pw (h : cp_R G ca A) {S : Nat → Prop} {q k : Nat} (hk : G.1 q = some (0, 12 + k)) : ¬ cp_W ca A S q := fun ⟨r, h1, _, e⟩ => h.np h1 (by rw [← e]; exact hk)
theorem cp_R.fp (h : cp_R G ca A) {S : Nat → Prop} (hf : hg_fr (cp_W ca A S) G G') {q k : Nat} (hk : G.1 q = some (0, 12 + k)) : hg_st G G' q := hf _ (h.pw hk)
/-- a town of which nothing is written stays -/
theorem cp_R.tw (h : cp_R G ca A) {S : Nat → Prop} (hf : hg_fr (cp_W ca A S) G G') {ta : Nat → Nat} {t : sp_S} (ht : tn_R G ta t) {n : Nat} (hn : ∀ i, i < 5 → ta i = ca (n + i) ∧ cp_pr A (n + i) ∧ ¬ S (n + i)) : tn_R G' ta t :=
  ht.fr hf (fun j hj => by rw [(hn j hj).1]; exact h.nw (hn j hj).2.1 (hn j hj).2.2) (fun p q hp hq => by
    obtain ⟨q2, h1, h2, -⟩ := ht.pe hp
    cases hq.symm.trans h1
    exact h.pw h2)
theorem cp_pr.w {i : Nat} (h : i < 26) : cp_pr A i := Or.inl h
theorem cp_pr.im {i : Nat} (h1 : A.1.1 43 0 = 1) (h : 26 ≤ i) (h2 : i < 31) : cp_pr A i := Or.inr (Or.inl ⟨h, h2, h1⟩)
theorem cp_pr.r {i : Nat} (hi : i < 8) (h1 : A.1.1 18 i = 1) : cp_pr A (31 + i) := Or.inr (Or.inr (Or.inl ⟨by omega, by omega, by rw [show 31 + i - 31 = i by omega]; exact h1⟩))
theorem cp_pr.e {i : Nat} (hi : i < 8) (h1 : A.1.1 18 i = 1) : cp_pr A (39 + i) := Or.inr (Or.inr (Or.inr ⟨by omega, by omega, by rw [show 39 + i - 39 = i by omega]; exact h1⟩))
/-- nothing but what is scratch: walks' arrays, tried -/
def cp_sc (r : Nat) : Prop := r = 6 ∨ r = 7 ∨ (16 ≤ r ∧ r < 21)
theorem cp_R.scr (h : cp_R G ca A) (hf : hg_fr (cp_W ca A cp_sc) G G') (ha : wa_K G' (ca 5) (ca 6) (ca 7)) (hd : tn_K G' (fun i => ca (16 + i))) : cp_R G' ca A := by
  have ns : ∀ r, cp_sc r → r = 6 ∨ r = 7 ∨ (16 ≤ r ∧ r < 21) := fun r z => z
  have st : ∀ r, cp_pr A r → ¬ (r = 6 ∨ r = 7 ∨ (16 ≤ r ∧ r < 21)) → hg_st G G' (ca r) := fun r hr hs => h.fw hf hr hs
  exact ⟨h.o.st (st 0 (.w (by decide)) (by omega)), h.s.st (st 1 (.w (by decide)) (by omega)) (fun i hi => st _ (.w (by omega)) (by omega)) (st 22 (.w (by decide)) (by omega)).2.2.2, h.r.st (fun i hi h1 => ⟨st _ (.r hi h1) (by omega), st _ (.e hi h1) (by omega)⟩), h.f.st (st 2 (.w (by decide)) (by omega)),
    h.t.st (st 3 (.w (by decide)) (by omega)) (st 4 (.w (by decide)) (by omega)), ha, hd, h.tw hf h.w (n := 21) (fun i hi => ⟨rfl, .w (by omega), fun z => by have := ns _ z; omega⟩),
    fun h1 => ⟨h.tw hf (h.i h1).1 (n := 26) (fun i hi => ⟨rfl, .im h1 (by omega) (by omega), fun z => by have := ns _ z; omega⟩), (h.i h1).2⟩, h.j⟩
/-- a refusal is counted -/
theorem cp_R.no (h : cp_R G ca A) {k : Nat} {v : Int32} : cp_R (hs_I G (ca 2) k v) ca (ab_r A 8 k v) := by
  have hf : hg_fr (cp_W ca A (fun r => r = 2)) G (hs_I G (ca 2) k v) := hg_fr.rf.I ⟨2, .w (by decide), rfl, rfl⟩
  have st : ∀ r, cp_pr A r → ¬ r = 2 → hg_st G (hs_I G (ca 2) k v) (ca r) := fun r hr hs => h.fw hf hr hs
  refine ⟨h.o.st (st 0 (.w (by decide)) (by omega)), h.s.st (st 1 (.w (by decide)) (by omega)) (fun i hi => st _ (.w (by omega)) (by omega)) (st 22 (.w (by decide)) (by omega)).2.2.2, h.r.st (fun i hi h1 => ⟨st _ (.r hi h1) (by omega), st _ (.e hi h1) (by omega)⟩), ⟨h.f.1, fun j hj => ?_⟩,
    h.t.st (st 3 (.w (by decide)) (by omega)) (st 4 (.w (by decide)) (by omega)), h.a.stt (st 5 (.w (by decide)) (by omega)) (st 6 (.w (by decide)) (by omega)) (st 7 (.w (by decide)) (by omega)), h.d.st (fun i hi => st _ (.w (by omega)) (by omega)), h.tw hf h.w (n := 21) (fun i hi => ⟨rfl, .w (by omega), fun z => by omega⟩),
    fun h1 => ⟨h.tw hf (h.i h1).1 (n := 26) (fun i hi => ⟨rfl, .im h1 (by omega) (by omega), fun z => by omega⟩), (h.i h1).2⟩, h.j⟩
  show _ = (if (8 : Nat) = 8 then (if j = k then v else A.2.2.1 8 j) else A.2.2.1 8 j)
  rw [if_pos (rfl : (8 : Nat) = 8), hs_Iif]
  by_cases e : j = k
  · rw [if_pos e, if_pos e]
  · rw [if_neg e, if_neg e]; exact h.f.2 j hj
end CPR
