/-! what every call keeps: the ranges, and that the bodies that ran are few -/
def ab_W (A : ab_S) : Prop := ab_wf A ∧ ∃ r, r ≤ 40 ∧ A.1.2 42 = nI r
section KP
variable {A B : ab_S}
theorem ab_W.of (h : ab_W A) (hw : ab_wf B) (e : B.1.2 42 = A.1.2 42) : ab_W B := ⟨hw, by rw [e]; exact h.2⟩
theorem ab_W.no (h : ab_W A) (b : Int32) : ab_W (sq_no b A).2 := h.of (h.1.no b) rfl
theorem ab_W.noTen (h : ab_W A) (b : Int32) : ab_W (sq_noTen b A).2 := h.no b
theorem W_ite {c : Prop} [Decidable c] {a b : Int32 × ab_S} (h : ab_W a.2) (h' : ab_W b.2) : ab_W (if c then a else b).2 := by
  by_cases g : c
  · rw [if_pos g]; exact h
  · rw [if_neg g]; exact h'
theorem ab_W.view (h : ab_W A) (x y : Int32) : ab_W (sq_view x y A).2 := by
  unfold sq_view; (repeat' split) <;> first | exact h | exact h.no _
theorem ab_W.fault (h : ab_W A) : ab_W (sq_fault A).2 := h
theorem ab_W.personOf (h : ab_W A) (x y : Int32) : ab_W (sq_personOf x y A).2 := by
  unfold sq_personOf; (repeat' split) <;> first | exact h | exact h.no _
theorem ab_W.squareOf (h : ab_W A) (x y : Int32) : ab_W (sq_squareOf x y A).2 := by
  unfold sq_squareOf; (repeat' split) <;> first | exact h | exact h.no _
theorem ab_W.glances (h : ab_W A) (x y : Int32) : ab_W (sq_glances x y A).2 := by
  unfold sq_glances; (repeat' split) <;> first | exact h | exact h.no _
theorem ab_W.duty (h : ab_W A) (x y : Int32) : ab_W (sq_duty x y A).2 := by
  unfold sq_duty; (repeat' split) <;> first | exact h | exact h.no _
theorem ab_W.all (h : ab_W A) (x : Int32) : ab_W (sq_all x A).2 := by
  unfold sq_all; (repeat' split) <;> first | exact h | exact h.no _
theorem ab_W.walk (h : ab_W A) (x y z : Int32) : ab_W (sq_walk x y z A).2 := by
  unfold sq_walk; (repeat' split) <;> first | exact h | exact h.no _
theorem ab_W.stand (h : ab_W A) (x y : Int32) : ab_W (sq_stand x y A).2 := by
  unfold sq_stand; (repeat' split) <;> first | exact h | exact h.no _
theorem ab_W.sacks (h : ab_W A) (x y : Int32) : ab_W (sq_sacks x y A).2 := by
  unfold sq_sacks; (repeat' split) <;> first | exact h | exact h.no _
theorem ab_W.balconies (h : ab_W A) (x : Int32) : ab_W (sq_balconies x A).2 := by
  unfold sq_balconies; (repeat' split) <;> first | exact h | exact h.no _
theorem ab_W.fits (h : ab_W A) (x y : Int32) : ab_W (sq_fits x y A).2 := by
  unfold sq_fits; (repeat' split) <;> first | exact h | exact h.no _
theorem ab_W.most (h : ab_W A) (x : Int32) : ab_W (sq_most x A).2 := by
  unfold sq_most; (repeat' split) <;> first | exact h | exact h.no _
theorem ab_W.crowd (h : ab_W A) (x : Int32) : ab_W (sq_crowd x A).2 := by
  unfold sq_crowd; (repeat' split) <;> first | exact h | exact h.no _
theorem ab_W.judge (h : ab_W A) (x y : Int32) : ab_W (sq_judge x y A).2 := by
  unfold sq_judge; (repeat' split) <;> first | exact h | exact h.no _
theorem ab_W.behind (h : ab_W A) (x y z : Int32) : ab_W (sq_behind x y z A).2 := by
  unfold sq_behind; (repeat' split) <;> first | exact h | exact h.no _
theorem ab_W.trace (h : ab_W A) (x : Int32) : ab_W (sq_trace x A).2 := by
  unfold sq_trace; (repeat' split) <;> first | exact h | exact h.no _
theorem ab_W.status (h : ab_W A) (x : Int32) : ab_W (sq_status x A).2 := by
  unfold sq_status; repeat' first | (refine W_ite ?_ ?_) | exact h | exact h.no _
theorem ab_W.holds (h : ab_W A) (x : Int32) : ab_W (sq_holds x A).2 := by
  unfold sq_holds; (repeat' split) <;> first | exact h | exact h.no _
theorem ab_W.element (h : ab_W A) (x y : Int32) : ab_W (sq_element x y A).2 := by
  unfold sq_element; (repeat' split) <;> first | exact h | exact h.no _
theorem ab_W.says (h : ab_W A) (x y : Int32) : ab_W (sq_says x y A).2 := by
  unfold sq_says; repeat' first | (refine W_ite ?_ ?_) | exact h | exact h.no _
theorem ab_W.i (h : ab_W A) {k : Nat} (hk : ¬ 42 = k) (v : Int32) : ab_W (ab_i A k v) := h.of (h.1.i k v) (if_neg hk)
theorem ab_W.seed (h : ab_W A) (x : Int32) : ab_W (sq_seed x A).2 := h.i (by decide) x
theorem ab_W.n (h : ab_W A) {k j n : Nat} (hk : k ≠ 36 ∧ k ≠ 18 ∧ k ≠ 19 ∧ k ≠ 20 ∧ k ≠ 21 ∧ k ≠ 43 ∧ k ≠ 0) (hs : sp_wf (sp_set A.1 k j n)) : ab_W (ab_n A k j n) := h.of (h.1.n hk hs) rfl
theorem ab_W.put (h : ab_W A) (x y : Int32) : ab_W (sq_put x y A).2 := by
  unfold sq_put
  by_cases h1 : sp_in x (A.1.1 0 0) = true
  · rw [if_pos h1]
    by_cases h2 : sp_in y 36 = true
    · rw [if_pos h2]
      by_cases h3 : A.1.1 16 (iN y) = 1
      · rw [if_pos h3]; exact h.no _
      · rw [if_neg h3]
        have g := sp_inN (by decide) h2
        have := h.1.w.b16 g.2
        exact h.n (by decide) (sp_wf_at h.1.w g.2 (by omega))
    · rw [if_neg h2]; exact h.no _
  · rw [if_neg h1]; exact h.no _
theorem ab_W.sack (h : ab_W A) (x : Int32) (y : Bool) : ab_W (sq_sack x y A).2 := by
  unfold sq_sack
  (repeat' split) <;> first | exact h.no _ | exact h.n (by decide) (sp_wf_sack h.1.w (by decide))
theorem ab_W.ask (h : ab_W A) (x y : Int32) : ab_W (sq_ask x y A).2 := by
  have e : ∀ w v, (sq_asks w v A).1.2 42 = A.1.2 42 := fun w v => by
    unfold sq_asks
    (repeat' split) <;> rfl
  unfold sq_ask
  by_cases h1 : x < 0
  · rw [if_pos h1]; exact h.no _
  · rw [if_neg h1]
    by_cases h2 : nI 2 < x
    · rw [if_pos h2]; exact h.no _
    · rw [if_neg h2]
      by_cases h3 : sp_asked x y = true
      · rw [if_pos h3]
        (repeat' split) <;> exact h.of (h.1.asks h3) (e _ _)
      · rw [if_neg h3]; exact h.no _
theorem ab_W.set (h : ab_W A) (x y : Int32) (z : Int64) : ab_W (sq_set x y z A).2 := by
  unfold sq_set
  (repeat' split) <;> first | exact h.no _ | exact h.of (h.1.same rfl rfl) rfl
theorem ab_W.copy (h : ab_W A) (a b c d e : Int32) : ab_W (sq_copy a b c d e A).2 := by
  unfold sq_copy; repeat' first | (refine W_ite ?_ ?_) | exact h.no _ | exact h.of (h.1.same rfl rfl) rfl
theorem ab_W.build (h : ab_W A) (x y : Int32) (z : Bool) : ab_W (sq_build x y z A).2 := by
  have hb : ∀ n, n ≤ 1 → ab_W (ab_n A 17 (iN x) n) := fun n hn => h.n (by decide) (sp_wf_balcony h.1.w hn)
  have hz : ab_W (ab_n A 16 (iN x) 0) := h.n (by decide) (sp_wf_wall h.1.w (by decide) (Or.inl rfl))
  have h1 : sp_there A.1 (iN x) = 0 → ab_W (ab_n A 16 (iN x) 1) := fun g => h.n (by decide) (sp_wf_wall h.1.w (by decide) (Or.inr (fun p hp => sp_there_0 g hp)))
  unfold sq_build
  (repeat' split) <;> first | exact h.no _ | exact hz | exact hb _ (by decide) | exact h1 (by assumption) | (exfalso; simp_all; done)
theorem sp_wf_hi {t : sp_S} (h : sp_wf t) {k j n : Nat} (hk : 17 < k ∧ k ≠ 36) : sp_wf (sp_set t k j n) := by
  have e : ∀ a, a ≤ 17 ∨ a = 36 → (sp_set t k j n).1 a = t.1 a := fun a ha => funext fun i => if_neg (by omega)
  unfold sp_wf at h ⊢
  rw [e 0 (by omega), e 1 (by omega), e 2 (by omega), e 3 (by omega), e 9 (by omega), e 10 (by omega), e 11 (by omega), e 12 (by omega), e 13 (by omega), e 14 (by omega), e 15 (by omega), e 16 (by omega), e 17 (by omega), e 36 (by omega)]
  exact h
theorem ab_W.show (h : ab_W A) (x y : Int32) : ab_W (sq_show x y A).2 := by
  have key : ∀ j m q, j < 8 → m ≤ 2 → (m = 2 → q < A.1.1 0 0) → ab_W (ab_n (ab_n A 18 j m) 21 j q) := fun j m q hj hm hq => by
    refine h.of ⟨sp_wf_hi (sp_wf_hi h.1.w (by decide)) (by decide), h.1.b36, fun i hi => ?_, h.1.b43, h.1.im⟩ rfl
    have g := h.1.2.2.1 i hi
    have e18 : (ab_n (ab_n A 18 j m) 21 j q).1.1 18 i = if i = j then m else A.1.1 18 i := rfl
    have e21 : (ab_n (ab_n A 18 j m) 21 j q).1.1 21 i = if i = j then q else A.1.1 21 i := rfl
    have e19 : (ab_n (ab_n A 18 j m) 21 j q).1.1 19 i = A.1.1 19 i := rfl
    have e20 : (ab_n (ab_n A 18 j m) 21 j q).1.1 20 i = A.1.1 20 i := rfl
    have e0 : (ab_n (ab_n A 18 j m) 21 j q).1.1 0 0 = A.1.1 0 0 := rfl
    rw [e18, e19, e20, e21, e0]
    by_cases e : i = j
    · rw [if_pos e, if_pos e]
      exact ⟨hm, g.2.1, g.2.2.1, hq⟩
    · rw [if_neg e, if_neg e]
      exact g
  unfold sq_show
  by_cases h1 : sp_in x 8 = true
  · rw [if_pos h1]
    have g1 := (sp_inN (by decide) h1).2
    by_cases h2 : y = -1
    · rw [if_pos h2]; exact key _ _ _ g1 (by decide) (fun z => by cases z)
    · rw [if_neg h2]
      by_cases h3 : sp_in y (A.1.1 0 0) = true
      · rw [if_pos h3]
        have h0 := h.1.w.b0
        exact key _ _ _ g1 (by decide) (fun _ => (sp_inN (by omega) h3).2)
      · rw [if_neg h3]; exact h.no _
  · rw [if_neg h1]; exact h.no _
theorem ab_W.row (h : ab_W A) (x y z : Int32) : ab_W (sq_row x y z A).2 := by
  unfold sq_row
  by_cases h1 : sp_in x 8 = true
  · rw [if_pos h1]
    have g1 := (sp_inN (by decide) h1).2
    by_cases h2 : 0 ≤ z
    · rw [if_pos h2]
      by_cases h3 : y < 0
      · rw [if_pos h3]; exact h.no _
      · rw [if_neg h3]
        by_cases h4 : y ≤ nI 3
        · rw [if_pos h4]
          by_cases h5 : z ≤ nI 160
          · rw [if_pos h5]
            have g2 := sp_frN (x := y) (a := 0) (b := 3) (by decide) (by decide) (decide_eq_true ⟨Int32.not_lt.mp h3, h4⟩)
            have g3 := sp_frN (x := z) (a := 0) (b := 160) (by decide) (by decide) (decide_eq_true ⟨h2, h5⟩)
            refine h.of ⟨sp_wf_hi (sp_wf_hi (sp_wf_hi h.1.w (by decide)) (by decide)) (by decide), h.1.b36, fun i hi => ?_, h.1.b43, h.1.im⟩ rfl
            have g := h.1.2.2.1 i hi
            show (if i = iN x then 1 else A.1.1 18 i) ≤ 2 ∧ (if i = iN x then iN y else A.1.1 19 i) ≤ 3 ∧ (if i = iN x then iN z else A.1.1 20 i) ≤ 160 ∧ ((if i = iN x then 1 else A.1.1 18 i) = 2 → A.1.1 21 i < A.1.1 0 0)
            by_cases e : i = iN x
            · rw [if_pos e, if_pos e, if_pos e]
              exact ⟨by decide, g2.2.2, g3.2.2, fun z => by cases z⟩
            · rw [if_neg e, if_neg e, if_neg e]
              exact g
          · rw [if_neg h5]; exact h.no _
        · rw [if_neg h4]; exact h.no _
    · rw [if_neg h2]; exact h.no _
  · rw [if_neg h1]; exact h.no _
theorem ab_W.person (h : ab_W A) (a b c d e f : Int32) : ab_W (sq_person a b c d e f A).2 := by
  unfold sq_person
  by_cases h1 : a < 0
  · rw [if_pos h1]; exact h.no _
  rw [if_neg h1]
  by_cases h2 : a ≤ nI 6
  · rw [if_pos h2]
    have g2 := sp_frN (x := a) (a := 0) (b := 6) (by decide) (by decide) (decide_eq_true ⟨Int32.not_lt.mp h1, h2⟩)
    by_cases h3 : sp_fr b (nI 0) (nI 9) = true
    · rw [if_pos h3]
      by_cases h4 : sp_fr c (nI 0) (nI 20) = true
      · rw [if_pos h4]
        by_cases h5 : sp_fr d (nI 0) (nI 9) = true
        · rw [if_pos h5]
          by_cases h6 : sp_fr e (nI 0) (nI 9999) = true
          · rw [if_pos h6]
            by_cases h7 : sp_in f 36 = true
            · rw [if_pos h7]
              by_cases h8 : A.1.1 16 (iN f) = 1
              · rw [if_pos h8]; exact h.no _
              · rw [if_neg h8]
                by_cases h9 : A.1.1 0 0 = 7
                · rw [if_pos h9]; exact h.no _
                · rw [if_neg h9]
                  have g := sp_inN (by decide) h7
                  have w := h.1.w.b16 g.2
                  have w0 := h.1.w.b0
                  exact h.of (h.1.adds (by omega) g2.2.2 (sp_frN (by decide) (by decide) h3).2.2 (sp_frN (by decide) (by decide) h4).2.2 (sp_frN (by decide) (by decide) h5).2.2 (sp_frN (by decide) (by decide) h6).2.2 g.2 (by omega)) rfl
            · rw [if_neg h7]; exact h.no _
          · rw [if_neg h6]; exact h.no _
        · rw [if_neg h5]; exact h.no _
      · rw [if_neg h4]; exact h.no _
    · rw [if_neg h3]; exact h.no _
  · rw [if_neg h2]; exact h.no _
theorem sq_nHours_42 (A : ab_S) : ∀ k, (sq_nHours A k).1.2 42 = A.1.2 42
  | 0 => rfl
  | k + 1 => by
    have mv : ∀ B p, (sq_moves B p).1.2 42 = B.1.2 42 := fun B p => by
      induction p with
      | zero => rfl
      | succ p ih =>
        rw [← ih]
        rw [sq_moves]
        unfold sq_goes
        (repeat' split) <;> rfl
    have py : ∀ B p, (sq_pays B p).1.1.2 42 = B.1.2 42 := fun B p => by
      induction p with
      | zero => rfl
      | succ p ih => rw [← ih]; rfl
    have rn : ∀ B, (sq_rain B).1.2 42 = B.1.2 42 := fun B => rfl
    have e : (sq_hour (sq_nHours A k)).1.2 42 = (sq_nHours A k).1.2 42 := by
      show (sq_pays (sq_moves (sq_rain (sq_nHours A k)) _) _).1.1.2 42 = _
      rw [py, mv, rn]
    exact e.trans (sq_nHours_42 A k)
theorem ab_W.hours (h : ab_W A) (x : Int32) : ab_W (sq_hours x A).2 := by
  unfold sq_hours
  split
  · exact h.of (h.1.nHours _).1 (sq_nHours_42 A _)
  · exact h.no _
theorem ab_W.image (h : ab_W A) : ab_W (sp_set A.1 43 0 1, A.1, A.2.2) := by
  refine h.of ⟨sp_wf_hi h.1.w (by decide), h.1.b36, fun i hi => h.1.2.2.1 i hi, Nat.le_refl 1, fun _ => h.1.w⟩ rfl
theorem ab_W.done (h : ab_W A) (x y : Int32) : ab_W (sq_done x y A).2 := by
  unfold sq_done
  by_cases h1 : sq_barsOf x y A = 0
  · rw [if_pos h1]
    by_cases h2 : sq_bad A (iN x) (iN y) 41 0 = 99
    · rw [if_pos h2]
      have hn : iN y ≤ 40 := by
        unfold sq_barsOf at h1
        by_cases g0 : sq_wanted x A = 0
        · rw [if_pos g0] at h1
          by_cases g1 : 0 ≤ y
          · rw [if_pos g1] at h1
            by_cases g2 : y ≤ nI (A.1.1 20 (iN x))
            · rw [if_pos g2] at h1
              by_cases g3 : y ≤ nI 40
              · exact (sp_frN (x := y) (a := 0) (b := 40) (by decide) (by decide) (decide_eq_true ⟨g1, g3⟩)).2.2
              · rw [if_neg g3] at h1; exact absurd h1 (by decide)
            · rw [if_neg g2] at h1; exact absurd h1 (by decide)
          · rw [if_neg g1] at h1; exact absurd h1 (by decide)
        · rw [if_neg g0] at h1; exact absurd h1 g0
      have e := (sq_str_eq0 A (iN x) (sq_upto A (iN x) (iN y))).2.1
      have g : ab_W (sq_after A (iN x) (iN y)).1 := h.of (ab_wf.after h.1 _ _ hn) (congrFun e 42)
      exact (g.i (by decide) _).i (by decide) _
    · rw [if_neg h2]; exact h.no _
  · rw [if_neg h1]; exact h.no _
theorem ab_W.restore (h : ab_W A) : ab_W (sq_restore A).2 := by
  unfold sq_restore
  by_cases h1 : A.1.1 43 0 = 0
  · rw [if_pos h1]; exact h.no _
  · rw [if_neg h1]
    have w43 := h.1.b43
    have hi := h.1.im (by omega)
    have ei : ∀ a, a < 4 ∨ (9 ≤ a ∧ a ≤ 17) → ∀ i, (ab_fl (sp_back A A.2.1) 8).1.1 a i = A.2.1.1 a i := fun a ha i => (if_neg (fun z => by omega)).trans (if_pos ha)
    have eo : ∀ a, ¬ (a < 4 ∨ (9 ≤ a ∧ a ≤ 17)) → a ≠ 18 → ∀ i, (ab_fl (sp_back A A.2.1) 8).1.1 a i = A.1.1 a i := fun a ha h18 i => (if_neg (fun z => h18 z.1)).trans (if_neg ha)
    have E : ∀ a, a < 4 ∨ (9 ≤ a ∧ a ≤ 17) → (ab_fl (sp_back A A.2.1) 8).1.1 a = A.2.1.1 a := fun a ha => funext (ei a ha)
    have e18 : ∀ i, i < 8 → (ab_fl (sp_back A A.2.1) 8).1.1 18 i = if A.1.1 18 i = 2 ∧ A.2.1.1 0 0 ≤ A.1.1 21 i then 0 else A.1.1 18 i := fun i hi => by
      by_cases g : A.1.1 18 i = 2 ∧ A.2.1.1 0 0 ≤ A.1.1 21 i
      · rw [if_pos g]; exact if_pos ⟨rfl, hi, g⟩
      · rw [if_neg g]; exact if_neg (fun z => g z.2.2)
    refine h.of ⟨?_, ?_, fun i hi8 => ?_, ?_, fun h2 => ?_⟩ rfl
    · have e36 : (ab_fl (sp_back A A.2.1) 8).1.1 36 0 = 99 := (eo 36 (by decide) (by decide) 0).trans h.1.b36
      unfold sp_wf at hi ⊢
      rw [E 0 (by decide), E 1 (by decide), E 2 (by decide), E 3 (by decide), E 9 (by decide), E 10 (by decide), E 11 (by decide), E 12 (by decide), E 13 (by decide), E 14 (by decide), E 15 (by decide), E 16 (by decide), E 17 (by decide)]
      obtain ⟨a1, a2, a3, a4, a5, a6, a7, -⟩ := hi
      exact ⟨a1, a2, a3, a4, a5, a6, a7, Or.inl e36⟩
    · exact (eo 36 (by decide) (by decide) 0).trans h.1.b36
    · have g := h.1.2.2.1 i hi8
      rw [e18 i hi8, eo 19 (by decide) (by decide), eo 20 (by decide) (by decide), eo 21 (by decide) (by decide), ei 0 (by decide)]
      refine ⟨by split <;> omega, g.2.1, g.2.2.1, fun z => ?_⟩
      by_cases q : A.1.1 18 i = 2 ∧ A.2.1.1 0 0 ≤ A.1.1 21 i
      · rw [if_pos q] at z; cases z
      · rw [if_neg q] at z; omega
    · rw [eo 43 (by decide) (by decide)]; exact w43
    · exact hi
theorem rd_items_W {f : Nat → Int32} {E : Nat} : ∀ k (A : ab_S) p n, ab_wf A → p ≤ E → ab_wf (rd_items f E k A p n).2.2 ∧ ab_tw A (rd_items f E k A p n).2.2
  | 0, A, p, n, h, _ => ⟨h, ab_tw.rf⟩
  | k + 1, A, p, n, h, hp => by
    obtain ⟨g1, g2, g3⟩ := rd_item_wf (f := f) (E := E) h hp
    cases e : (rd_item f E A p).1
    · rw [rd_items_n e]
      exact ⟨g1, g2⟩
    · rw [rd_items_s e]
      have g4 := g3 e
      by_cases c1 : (rd_item f E A p).2.1 < E
      · by_cases c2 : f (rd_item f E A p).2.1 = nI 59
        · rw [rd_cont_s c1 c2]
          have := rd_items_W (f := f) (E := E) k (rd_item f E A p).2.2 ((rd_item f E A p).2.1 + 1) (n + 1) g1 (by omega)
          exact ⟨this.1, g2.tr this.2⟩
        · rw [rd_cont_w c1 c2]
          exact ⟨g1, g2⟩
      · rw [rd_cont_e (by omega)]
        exact ⟨g1, g2⟩
theorem ab_W.town (h : ab_W A) (x : Int32) : ab_W (sq_town x A).2 := by
  unfold sq_town
  by_cases h1 : sq_wanted x A = 0
  · rw [if_pos h1]
    have h0 := h.i (k := 7) (by decide) (-1)
    have g := rd_items_W (f := rd_f A (iN x)) (E := A.1.1 20 (iN x)) 200 (ab_i A 7 (-1)) 0 1 h0.1 (Nat.zero_le _)
    by_cases h2 : (sq_townZ (iN x) A).1 = true
    · rw [if_pos h2]
      exact h0.of g.1 (congrFun g.2.2.1 42)
    · rw [if_neg h2]
      exact (h0.i (by decide) _).no _
  · rw [if_neg h1]; exact h.no _
/-! bodies that ran -/
theorem sq_body_42 (b r : Nat) (A : ab_S) : (sq_body b r A).1.2 42 = nI (r + 1) := by
  unfold sq_body
  split <;> rfl
theorem sq_looking_42 (k : Nat) (x : Int32) (r : Nat) (A : ab_S) : ∃ s, s ≤ r + 3 ∧ (sq_looking k x r A).2.1.2 42 = nI s := by
  unfold sq_looking
  (repeat' split) <;> exact ⟨_, by omega, sq_body_42 _ _ _⟩
theorem sq_walking_42 (k : Nat) (x : Int32) (r : Nat) (A : ab_S) : ∃ s, s ≤ r + 5 ∧ (sq_walking k x r A).2.1.2 42 = nI s := by
  have g : ∀ x r' B, r' ≤ r + 2 → ∃ s, s ≤ r + 5 ∧ (sq_looking k x r' B).2.1.2 42 = nI s := fun x r' B hr => by
    obtain ⟨s, h1, h2⟩ := sq_looking_42 k x r' B
    exact ⟨s, by omega, h2⟩
  unfold sq_walking
  (repeat' split) <;> exact g _ _ _ (by omega)
theorem sq_paying_42 (k : Nat) (x : Int32) (r : Nat) (hr : r ≤ 20) (A : ab_S) : ∃ s, s ≤ r + 10 ∧ (sq_paying k x r A).2.1.2 42 = nI s := by
  have g : ∀ x y r' B, r' ≤ r + 2 → ∃ s, s ≤ r + 10 ∧ (sq_looking k x (iN ((sq_walking k y r' B).2.1.2 42)) (sq_walking k y r' B).2).2.1.2 42 = nI s := fun x y r' B hr' => by
    obtain ⟨s, h1, h2⟩ := sq_walking_42 k y r' B
    obtain ⟨q, h3, h4⟩ := sq_looking_42 k x (iN ((sq_walking k y r' B).2.1.2 42)) (sq_walking k y r' B).2
    refine ⟨q, ?_, h4⟩
    rw [h2, iN_nI (by omega)] at h3
    omega
  unfold sq_paying
  (repeat' split) <;> exact g _ _ _ _ (by omega)
theorem ab_W.act (h : ab_W A) (x y z : Int32) : ab_W (sq_act x y z A).2 := by
  have h0 : ab_W (ab_i A 42 (nI 0)) := ⟨h.1.i _ _, 0, by decide, rfl⟩
  have k : ∀ B, ab_rn (ab_i A 42 (nI 0)) B → ab_wf B := fun B hb => h0.1.same hb.1 hb.2.2.1
  unfold sq_act
  by_cases h1 : sp_in x (A.1.1 0 0) = true
  · rw [if_pos h1]
    by_cases h2 : y < 0
    · rw [if_pos h2]; exact h0
    rw [if_neg h2]
    by_cases h3 : y ≤ nI 2
    · rw [if_pos h3]
      by_cases h4 : y = 0
      · rw [if_pos h4]
        obtain ⟨s, g1, g2⟩ := sq_looking_42 (iN x) z 0 (ab_i A 42 (nI 0))
        exact ⟨k _ (ab_rn.look _ _ _ _), s, by omega, g2⟩
      · rw [if_neg h4]
        by_cases h5 : y = nI 1
        · rw [if_pos h5]
          obtain ⟨s, g1, g2⟩ := sq_walking_42 (iN x) z 0 (ab_i A 42 (nI 0))
          exact ⟨k _ (ab_rn.walk _ _ _ _), s, by omega, g2⟩
        · rw [if_neg h5]
          obtain ⟨s, g1, g2⟩ := sq_paying_42 (iN x) z 0 (by decide) (ab_i A 42 (nI 0))
          exact ⟨k _ (ab_rn.pay _ _ _ _), s, by omega, g2⟩
    · rw [if_neg h3]; exact h0
  · rw [if_neg h1]; exact h0
end KP
