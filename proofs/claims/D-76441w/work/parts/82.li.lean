/-! THE LAW's PICTURE: the component's and the reference's pictures side by side, over what the start held under the line -/
section LIQ
variable {G G' : hg_G} {ca : Nat → Nat} {A : ab_S}
theorem cp_R.kd (h : cp_R G ca A) {r : Nat} (hr : cp_pr A r) : ∃ k n, G.1 (ca r) = some (k, n) ∧ hg_ro k n = false := by
  refine Classical.byContradiction fun hc => ?_
  have hx : ∀ k n : Nat, G.1 (ca r) = some (k, n) → hg_ro k n = false → False := fun k n e1 e2 => hc ⟨k, n, e1, e2⟩
  have ht : ∀ ta : Nat → Nat, tn_K G ta → ∀ i, i < 5 → ca r = ta i → False := fun ta ht i hi e => by
    obtain ⟨⟨h0, h1, h2, h3, h4⟩, -⟩ := ht
    have hi2 : i = 0 ∨ i = 1 ∨ i = 2 ∨ i = 3 ∨ i = 4 := by omega
    rcases hi2 with rfl | rfl | rfl | rfl | rfl
    · exact hx _ _ (by rw [e]; exact h0) rfl
    · exact hx _ _ (by rw [e]; exact h1) rfl
    · exact hx _ _ (by rw [e]; exact h2) rfl
    · exact hx _ _ (by rw [e]; exact h3) rfl
    · exact hx _ _ (by rw [e]; exact h4) rfl
  rcases hr with hr | ⟨hr0, hr, hi⟩ | ⟨hr1, hr2, hh⟩ | ⟨hr1, hr2, hh⟩
  · have hx2 : r = 0 ∨ r = 1 ∨ r = 2 ∨ r = 3 ∨ r = 4 ∨ r = 5 ∨ r = 6 ∨ r = 7 ∨ (8 ≤ r ∧ r < 16) ∨ (16 ≤ r ∧ r < 21) ∨ (21 ≤ r ∧ r < 26) := by omega
    rcases hx2 with rfl | rfl | rfl | rfl | rfl | rfl | rfl | rfl | ⟨g1, g2⟩ | ⟨g1, g2⟩ | ⟨g1, g2⟩
    · exact hx _ _ h.o.1 rfl
    · exact hx _ _ h.s.1 rfl
    · exact hx _ _ h.f.1 rfl
    · exact hx _ _ h.t.1 rfl
    · exact hx _ _ h.t.2.2.1 rfl
    · exact hx _ _ h.a.1 rfl
    · exact hx _ _ h.a.2.2.2.1 rfl
    · exact hx _ _ h.a.2.2.2.2.1 rfl
    · have := (h.s.2 (r - 8) (by omega)).2.1
      rw [show 8 + (r - 8) = r by omega] at this
      exact hx _ _ this rfl
    · exact ht _ h.d (r - 16) (by omega) (by show ca r = ca (16 + (r - 16)); rw [show 16 + (r - 16) = r by omega])
    · exact ht _ h.w.K (r - 21) (by omega) (by show ca r = ca (21 + (r - 21)); rw [show 21 + (r - 21) = r by omega])
  · exact ht _ (h.i hi).1.K (r - 26) (by omega) (by show ca r = ca (26 + (r - 26)); rw [show 26 + (r - 26) = r by omega])
  · have e := (h.r (r - 31) (by omega) hh).1.2.2.1
    have e2 := (h.r (r - 31) (by omega) hh).1.1
    rw [show 31 + (r - 31) = r by omega] at e
    refine hx _ _ e ?_
    generalize A.1.1 19 (r - 31) = k9 at e2
    have : k9 = 0 ∨ k9 = 1 ∨ k9 = 2 ∨ k9 = 3 := by omega
    rcases this with rfl | rfl | rfl | rfl <;> rfl
  · have e := (h.r (r - 39) (by omega) hh).1.2.2.2.2
    rw [show 39 + (r - 39) = r by omega] at e
    unfold rr_k at e
    (repeat' split at e) <;> exact hx _ _ e rfl
theorem cp_R.mv (h : cp_R G ca A) (hW : ab_wf A) (hf : ∀ a k n, G.1 a = some (k, n) → hg_ro k n = false → hg_st G G' a) : cp_R G' ca A := by
  have st : ∀ r, cp_pr A r → hg_st G G' (ca r) := fun r hr => by
    obtain ⟨k, n, h1, h2⟩ := h.kd hr
    exact hf _ k n h1 h2
  have tw : ∀ (ta : Nat → Nat) (t : sp_S), tn_R G ta t → sp_wf t → (∀ i, i < 5 → hg_st G G' (ta i)) → tn_R G' ta t := fun ta t h1 h2 h3 =>
    h1.fr (W := fun a => ¬ hg_st G G' a) (fun a ha => Classical.not_not.mp ha) (fun j hj z => z (h3 j hj)) (fun p q hp hq z => z (by
      obtain ⟨q2, g1, g2, -⟩ := h1.pe hp
      cases hq.symm.trans g1
      have := h2.b0
      have := h2.b9 (p := p) (by omega)
      refine hf _ _ _ g2 ?_
      generalize t.1 9 p = k9 at *
      have : k9 = 0 ∨ k9 = 1 ∨ k9 = 2 ∨ k9 = 3 ∨ k9 = 4 ∨ k9 = 5 ∨ k9 = 6 := by omega
      rcases this with rfl | rfl | rfl | rfl | rfl | rfl | rfl <;> rfl))
  exact ⟨h.o.st (st 0 (.w (by decide))), h.s.st (st 1 (.w (by decide))) (fun i hi => st _ (.w (by omega))) (st 22 (.w (by decide))).2.2.2, h.r.st (fun i hi h1 => ⟨st _ (.r hi h1), st _ (.e hi h1)⟩), h.f.st (st 2 (.w (by decide))),
    h.t.st (st 3 (.w (by decide))) (st 4 (.w (by decide))), h.a.stt (st 5 (.w (by decide))) (st 6 (.w (by decide))) (st 7 (.w (by decide))), h.d.st (fun i hi => st _ (.w (by omega))), tw _ _ h.w hW.w (fun i hi => st _ (.w (by omega))),
    fun h1 => ⟨tw _ _ (h.i h1).1 (hW.im h1) (fun i hi => st _ (.im h1 (by omega) (by omega))), (h.i h1).2⟩, h.j⟩
end LIQ
theorem js_S.mv {G G' : hg_G} {a : Nat} {l9 : List Nat} (h : js_S G a l9) (h1 : hg_st G G' a) (h2 : ∀ b, G.2.2.2 a 0 = some b → hg_st G G' b) : js_S G' a l9 := by
  obtain ⟨g1, g2, g3, g4, b, g5, g6, g7⟩ := h
  have h2 := h2 b g5
  exact ⟨h1.1.trans g1, (h1.2.1 1).trans g2, g3, g4, b, (h1.2.2.2 0).trans g5, h2.1.trans g6, fun j hj => (h2.2.1 j).trans (g7 j hj)⟩
/-- the strings and their bytes lie under the line -/
def lq_S (D : hg_D) (lo : Nat) (G : hg_G) : Prop := rd_Str D G ∧ ∀ i, i < 7 → D.2.2 i < lo ∧ ∀ b, G.2.2.2 (D.2.2 i) 0 = some b → b < lo
theorem lq_S.mv {D : hg_D} {lo : Nat} {G G' : hg_G} (h : lq_S D lo G) (hs : ∀ a, a < lo → hg_st G G' a) : rd_Str D G' := by
  obtain ⟨⟨h0, h1, h2, h3, h4, h5, h6⟩, hl⟩ := h
  have k : ∀ i l9, i < 7 → js_S G (D.2.2 i) l9 → js_S G' (D.2.2 i) l9 := fun i l9 hi h => h.mv (hs _ (hl i hi).1) (fun b e => hs _ ((hl i hi).2 b e))
  exact ⟨k 0 _ (by decide) h0, k 1 _ (by decide) h1, k 2 _ (by decide) h2, k 3 _ (by decide) h3, k 4 _ (by decide) h4, k 5 _ (by decide) h5, k 6 _ (by decide) h6⟩
/-- G, but only where b says -/
def hf_cut (b : Nat → Bool) (G : hg_G) : hg_G := (fun a => if b a = true then G.1 a else none, G.2)
theorem hf_cut.no {b : Nat → Bool} {G : hg_G} {a : Nat} (h : (hf_cut b G).1 a ≠ none) : b a = true ∧ G.1 a ≠ none := by
  by_cases e : b a = true
  · have h2 : (hf_cut b G).1 a = G.1 a := if_pos e
    rw [h2] at h
    exact ⟨e, h⟩
  · exact absurd (show (hf_cut b G).1 a = none from if_neg e) h
theorem hf_cut.st {b : Nat → Bool} {G : hg_G} {a : Nat} (h : b a = true) : hg_st G (hf_cut b G) a := ⟨if_pos h, fun _ => rfl, fun _ => rfl, fun _ => rfl⟩
theorem hf_cut.sub {b : Nat → Bool} {G : hg_G} : hg_sub (hf_cut b G) G := fun _ h => hf_st.sy (hf_cut.st (hf_cut.no h).1)
/-- A the component's state, B the reference's -/
def lq_I (D : hg_D) (lo x o : Nat) (am : Nat → Nat) (G0 G : hg_G) (A B : ab_S) : Prop :=
  (∀ a, a < lo → hg_st G0 G a) ∧ ∃ (ca : Nat → Nat) (Gc Gm : hg_G) (u : tw_S), ca 0 = x ∧ cp_R Gc ca A ∧ hg_sub Gc G ∧ (∀ a, Gc.1 a ≠ none → lo ≤ a) ∧ tw_R Gm o am u ∧ tw_A u B ∧ hg_sub Gm G ∧ (∀ a, Gm.1 a ≠ none → lo ≤ a) ∧ ∀ a, Gc.1 a ≠ none → Gm.1 a = none
def lq_C (x : Nat) (v : Value) (A : ab_S) : hg_Po := fun r G' => r = .inl (some v) ∧ ∃ ca' : Nat → Nat, ca' 0 = x ∧ cp_R G' ca' A
def lq_M (o : Nat) (am : Nat → Nat) (v : Value) (A : ab_S) : hg_Po := fun r G' => r = .inl (some v) ∧ ∃ u', tw_R G' o am u' ∧ tw_A u' A
def lq_P (D : hg_D) (lo x o : Nat) (am : Nat → Nat) (G0 : hg_G) (v : Value) (A B : ab_S) : hg_Po := fun r G' => r = .inl (some v) ∧ lq_I D lo x o am G0 G' A B
section LQI
variable {l : Launch} {D : hg_D} {lo x o : Nat} {am : Nat → Nat} {G0 G : hg_G} {A B A' B' : ab_S} {y : MethodName} {ws : List Cond} {rm : Room} {as : List Value} {v : Value}
theorem lq_I.kx (h : lq_I D lo x o am G0 G A B) : G.1 x = some (0, 0) := by
  obtain ⟨-, ca, Gc, Gm, u, h1, h2, h3, -⟩ := h
  have := h2.o.1
  rw [h1] at this
  exact (h3 x (by rw [this]; exact fun z => by cases z)).1.trans this
theorem lq_I.ko (h : lq_I D lo x o am G0 G A B) : G.1 o = some (0, 5) := by
  obtain ⟨-, ca, Gc, Gm, u, h1, h2, h3, h4, h5, h6, h7, -⟩ := h
  have := h5.1
  exact (h7 o (by rw [this]; exact fun z => by cases z)).1.trans this
theorem lq_I.c (h : lq_I D lo x o am G0 G A B) (hS : lq_S D lo G0) (hWA : ab_wf A) (hWA' : ab_wf A') (hM : ∀ (Gs : hg_G) (ca : Nat → Nat), ca 0 = x → cp_R Gs ca A → rd_Str D Gs → hg_M l D lo y ws rm as Gs (lq_C x v A')) : hg_M l D lo y ws rm as G (lq_P D lo x o am G0 v A' B) := by
  obtain ⟨h0, ca, Gc, Gm, u, h1, h2, h3, h4, h5, h6, h7, h8, h9⟩ := h
  let bb : Nat → Bool := fun a => decide (a < lo) || (Gc.1 a).isSome
  have hb1 : ∀ a, a < lo → bb a = true := fun a e => by show (decide (a < lo) || _) = true; simp [e]
  have hb2 : ∀ a, Gc.1 a ≠ none → bb a = true := fun a e => by
    show (_ || (Gc.1 a).isSome) = true
    cases e2 : Gc.1 a with
    | none => exact absurd e2 e
    | some w => simp
  have hb3 : ∀ a, bb a = true → a < lo ∨ Gc.1 a ≠ none := fun a e => by
    have e : (decide (a < lo) || (Gc.1 a).isSome) = true := e
    by_cases e3 : a < lo
    · exact Or.inl e3
    · refine Or.inr fun e2 => ?_
      rw [e2] at e
      simp [e3] at e
  have c1 : cp_R (hf_cut bb G) ca A := h2.mv hWA (fun a k n e _ => by
    have z : Gc.1 a ≠ none := by rw [e]; exact fun z => by cases z
    exact (h3 a z).tr (hf_cut.st (hb2 a z)))
  have c2 : rd_Str D (hf_cut bb G) := hS.mv (fun a ha => (h0 a ha).tr (hf_cut.st (hb1 a ha)))
  refine ((hM _ ca h1 c1 c2).frame hf_cut.sub).imp fun r G' hp => ?_
  obtain ⟨Gs, ⟨g1, ca', g2, g3⟩, rfl, g5, g6, g7⟩ := hp
  refine ⟨g1, fun a ha => (h0 a ha).tr (hg_jn.o (fun z => by have := (hf_ub.d.mp z).1; omega)), ca', hf_cut (fun a => decide (lo ≤ a)) Gs, Gm, u, g2, g3.mv hWA' (fun a k n e hr => hf_cut.st (decide_eq_true (g7 a k n e hr))), fun a z => ?_, fun a z => of_decide_eq_true (hf_cut.no z).1, h5, h6, fun a z => ?_, h8, fun a z => ?_⟩
  · have z1 := hf_cut.no z
    exact (hf_st.sy (hf_cut.st z1.1)).tr (hg_jn.i (hf_up.of (of_decide_eq_true z1.1) z1.2))
  · refine (h7 a z).tr (hg_jn.o (fun w => ?_))
    rcases g6 a w.no with e | ⟨-, e⟩
    · rcases hb3 a (hf_cut.no e).1 with e | e
      · have := h8 a z
        omega
      · exact z (h9 a e)
    · rw [(h7 a z).1] at e
      exact z e
  · have z1 := hf_cut.no z
    refine Classical.byContradiction fun z2 => ?_
    rcases g6 a z1.2 with e | ⟨-, e⟩
    · rcases hb3 a (hf_cut.no e).1 with e | e
      · have := h8 a z2
        omega
      · exact z2 (h9 a e)
    · rw [(h7 a z2).1] at e
      exact z2 e
theorem lq_I.m (h : lq_I D lo x o am G0 G A B) (hM : ∀ (Gs : hg_G) (u : tw_S), tw_R Gs o am u → tw_A u B → hg_M l D lo y ws rm as Gs (lq_M o am v B')) : hg_M l D lo y ws rm as G (lq_P D lo x o am G0 v A B') := by
  obtain ⟨h0, ca, Gc, Gm, u, h1, h2, h3, h4, h5, h6, h7, h8, h9⟩ := h
  refine ((hM _ u h5 h6).frame h7).imp fun r G' hp => ?_
  obtain ⟨Gs, ⟨g1, u', g2, g3⟩, rfl, g5, g6, g7⟩ := hp
  have g8 : ∀ a, Gs.1 a ≠ none → lo ≤ a := fun a z => (g6 a z).elim (h8 a) (fun w => w.1)
  have g9 : ∀ a, Gc.1 a ≠ none → Gs.1 a = none := fun a z => Classical.byContradiction fun w => by
    rcases g6 a w with e | ⟨-, e⟩
    · exact e (h9 a z)
    · rw [(h3 a z).1] at e
      exact z e
  exact ⟨g1, fun a ha => (h0 a ha).tr (hg_jn.o (fun z => by have := (hf_ub.d.mp z).1; omega)), ca, Gc, Gs, u', h1, h2, fun a z => (h3 a z).tr (hg_jn.o (fun w => w.no (g9 a z))), h4, g2, g3, fun a z => hg_jn.i (hf_up.of (g8 a z) z), g8, g9⟩
end LQI
