abbrev cp_w (ca : Nat → Nat) : Nat → Nat := fun i => ca (21 + i)
abbrev cp_d (ca : Nat → Nat) : Nat → Nat := fun i => ca (16 + i)
def cp_Po (ca : Nat → Nat) (q : Int32 × ab_S) : hg_Po := fun r G' => r = .inl (some (.int q.1)) ∧ ∃ ca' : Nat → Nat, ca' 0 = ca 0 ∧ cp_R G' ca' q.2
section CP2
variable {G G' : hg_G} {ca : Nat → Nat} {A B : ab_S}
/-- a new object beside it -/
theorem cp_R.ne (h : cp_R G ca A) {q r : Nat} (hq : G.1 q = none) (hr : cp_pr A r) : ca r ≠ q := fun e => by
  have hx : ∀ v, G.1 (ca r) = some v → False := fun v hv => by rw [e, hq] at hv; cases hv
  have ht : ∀ ta : Nat → Nat, tn_K G ta → ∀ i, i < 5 → ca r = ta i → False := fun ta ht i hi e => by
    obtain ⟨⟨h0, h1, h2, h3, h4⟩, -⟩ := ht
    have hi2 : i = 0 ∨ i = 1 ∨ i = 2 ∨ i = 3 ∨ i = 4 := by omega
    rcases hi2 with rfl | rfl | rfl | rfl | rfl
    · exact hx _ (by rw [e]; exact h0)
    · exact hx _ (by rw [e]; exact h1)
    · exact hx _ (by rw [e]; exact h2)
    · exact hx _ (by rw [e]; exact h3)
    · exact hx _ (by rw [e]; exact h4)
  rcases hr with hr | ⟨hr0, hr, hi⟩ | ⟨hr1, hr2, hh⟩ | ⟨hr1, hr2, hh⟩
  · have hx2 : r = 0 ∨ r = 1 ∨ r = 2 ∨ r = 3 ∨ r = 4 ∨ r = 5 ∨ r = 6 ∨ r = 7 ∨ (8 ≤ r ∧ r < 16) ∨ (16 ≤ r ∧ r < 21) ∨ (21 ≤ r ∧ r < 26) := by omega
    rcases hx2 with rfl | rfl | rfl | rfl | rfl | rfl | rfl | rfl | ⟨g1, g2⟩ | ⟨g1, g2⟩ | ⟨g1, g2⟩
    · exact hx _ h.o.1
    · exact hx _ h.s.1
    · exact hx _ h.f.1
    · exact hx _ h.t.1
    · exact hx _ h.t.2.2.1
    · exact hx _ h.a.1
    · exact hx _ h.a.2.2.2.1
    · exact hx _ h.a.2.2.2.2.1
    · have := (h.s.2 (r - 8) (by omega)).2.1
      rw [show 8 + (r - 8) = r by omega] at this
      exact hx _ this
    · exact ht _ h.d (r - 16) (by omega) (by show ca r = ca (16 + (r - 16)); rw [show 16 + (r - 16) = r by omega])
    · exact ht _ h.w.K (r - 21) (by omega) (by show ca r = ca (21 + (r - 21)); rw [show 21 + (r - 21) = r by omega])
  · exact ht _ (h.i hi).1.K (r - 26) (by omega) (by show ca r = ca (26 + (r - 26)); rw [show 26 + (r - 26) = r by omega])
  · have e := (h.r (r - 31) (by omega) hh).1.2.2.1
    rw [show 31 + (r - 31) = r by omega] at e
    exact hx _ e
  · have e := (h.r (r - 39) (by omega) hh).1.2.2.2.2
    rw [show 39 + (r - 39) = r by omega] at e
    exact hx _ e
theorem tn_R.bt {ta : Nat → Nat} {t : sp_S} (ht : tn_R G ta t) {q : Nat} (hq : G.1 q = none) (hf : hg_bt q G G') : tn_R G' ta t :=
  ht.fr (W := fun a => a = q) (fun a ha => hf a ha) (fun j hj e => by
    have hj2 : j = 0 ∨ j = 1 ∨ j = 2 ∨ j = 3 ∨ j = 4 := by omega
    rw [← e] at hq
    rcases hj2 with rfl | rfl | rfl | rfl | rfl
    · rw [ht.ob] at hq; cases hq
    · rw [ht.k1] at hq; cases hq
    · rw [ht.k2] at hq; cases hq
    · rw [ht.k3] at hq; cases hq
    · rw [ht.k4] at hq; cases hq) (fun p q' hp hq' e => by
    obtain ⟨q2, h1, h2, -⟩ := ht.pe hp
    cases hq'.symm.trans h1
    rw [← e, h2] at hq
    cases hq)
theorem cp_R.bt (h : cp_R G ca A) {q : Nat} (hq : G.1 q = none) (hf : hg_bt q G G') : cp_R G' ca A := by
  have st : ∀ r, cp_pr A r → hg_st G G' (ca r) := fun r hr => hf _ (h.ne hq hr)
  exact ⟨h.o.st (st 0 (.w (by decide))), h.s.st (st 1 (.w (by decide))) (fun i hi => st _ (.w (by omega))) (st 22 (.w (by decide))).2.2.2, h.r.st (fun i hi h1 => ⟨st _ (.r hi h1), st _ (.e hi h1)⟩), h.f.st (st 2 (.w (by decide))),
    h.t.st (st 3 (.w (by decide))) (st 4 (.w (by decide))), h.a.stt (st 5 (.w (by decide))) (st 6 (.w (by decide))) (st 7 (.w (by decide))), h.d.st (fun i hi => st _ (.w (by omega))), h.w.bt hq hf,
    fun h1 => ⟨(h.i h1).1.bt hq hf, (h.i h1).2⟩, h.j⟩
theorem cp_R.T (h : cp_R G ca A) {c q : Nat} {w : Int32} (ht : tx_T c q w G G') : cp_R G' ca A := h.bt ht.1 ht.2.2.2
/-- the town is another, in its own cells: what it holds for shelves stays -/
theorem cp_R.town (h : cp_R G ca A) (hf : hg_fr (cp_W ca A (fun r => 21 ≤ r ∧ r < 26 ∧ r ≠ 22)) G G') {t : sp_S} (ht : tn_R G' (cp_w ca) t) (h18 : ∀ a, 18 ≤ a → a ≠ 36 → t.1 a = A.1.1 a) (h7 : t.2 7 = A.1.2 7) (h42 : t.2 42 = A.1.2 42) : cp_R G' ca (t, A.2) := by
  have st : ∀ r, cp_pr A r → ¬ (21 ≤ r ∧ r < 26 ∧ r ≠ 22) → hg_st G G' (ca r) := fun r hr hs => h.fw hf hr hs
  have e43 : t.1 43 0 = A.1.1 43 0 := by rw [h18 43 (by decide) (by decide)]
  have e18 : t.1 18 = A.1.1 18 := h18 18 (by decide) (by decide)
  have o := h.o.st (st 0 (.w (by decide)) (by omega))
  have s := h.s.st (st 1 (.w (by decide)) (by omega)) (fun i hi => st _ (.w (by omega)) (by omega)) (st 22 (.w (by decide)) (by omega)).2.2.2
  have r := h.r.st (fun i hi h1 => ⟨st _ (.r hi h1) (by omega), st _ (.e hi h1) (by omega)⟩)
  have pr : ∀ i, cp_pr (t, A.2) i → cp_pr A i := fun i hi => by
    unfold cp_pr at hi ⊢
    rw [e43, e18] at hi
    exact hi
  refine ⟨⟨o.1, o.2.1, o.2.2.1, o.2.2.2.1, o.2.2.2.2.1, o.2.2.2.2.2.1, o.2.2.2.2.2.2.1, by rw [e43]; exact o.2.2.2.2.2.2.2.1, by rw [h7]; exact o.2.2.2.2.2.2.2.2⟩, ⟨s.1, fun i hi => ?_⟩, fun i hi h1 => ?_, h.f.st (st 2 (.w (by decide)) (by omega)), ?_,
    h.a.stt (st 5 (.w (by decide)) (by omega)) (st 6 (.w (by decide)) (by omega)) (st 7 (.w (by decide)) (by omega)), h.d.st (fun i hi => st _ (.w (by omega)) (by omega)), ht,
    fun h1 => ?_, fun i j hi hj => h.j i j (pr i hi) (pr j hj)⟩
  · have := s.2 i hi
    unfold cp_held at this ⊢
    rw [e18, h18 21 (by decide) (by decide)]
    exact this
  · have h1 : A.1.1 18 i = 1 := by rw [← e18]; exact h1
    have := r i hi h1
    rw [h18 19 (by decide) (by decide), h18 20 (by decide) (by decide)]
    exact this
  · have g := h.t.st (st 3 (.w (by decide)) (by omega)) (st 4 (.w (by decide)) (by omega))
    exact ⟨g.1, g.2.1, g.2.2.1, by rw [h42]; exact g.2.2.2.1, g.2.2.2.2⟩
  · have h1 : A.1.1 43 0 = 1 := by rw [← e43]; exact h1
    exact ⟨h.tw hf (h.i h1).1 (n := 26) (fun i hi => ⟨rfl, .im h1 (by omega) (by omega), fun z => by omega⟩), (h.i h1).2⟩
end CP2
