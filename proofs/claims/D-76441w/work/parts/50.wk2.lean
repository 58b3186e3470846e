/-! WAYS, the component's labels: 100 times the duties, and the steps; 1000000: none -/
def wk_cv (m : Nat) : Nat := if m = 100000000 then 1000000 else 100 * (m / 1000) + m % 1000
theorem wk_nd : ∀ (n : Nat) (L : List Nat), L.Nodup → (∀ x ∈ L, x < n) → L.length ≤ n
  | 0, L, _, h => by
    cases L with
    | nil => exact Nat.le_refl _
    | cons a r => exact absurd (h a (List.mem_cons_self ..)) (Nat.not_lt_zero _)
  | n + 1, L, hd, h => by
    by_cases e : n ∈ L
    · have h1 := wk_nd n (L.erase n) (hd.erase n) (fun x hx => by
        have h2 := h x (List.mem_of_mem_erase hx)
        have h3 : x ≠ n := fun e2 => by
          rw [e2] at hx
          exact (List.Nodup.not_mem_erase hd) hx
        omega)
      have h2 := List.length_erase_of_mem e
      have h3 := List.length_pos_of_mem e
      omega
    · have h1 := wk_nd n L hd (fun x hx => by
        have h2 := h x hx
        have h3 : x ≠ n := fun e2 => e (e2 ▸ hx)
        omega)
      omega
/-- the label of c: of a way without a square twice -/
def wk_L (q : Nat → Nat) (c D S : Nat) (L : List (Nat × Nat)) : Prop := (L.map (·.1)).Nodup ∧ (∀ x ∈ L, x.1 < 36 ∧ q x.1 ≤ x.2 ∧ x.2 ≤ q c) ∧ S + 1 = L.length ∧ D ≤ 63 * S ∧ q c = 1000 * D + S
def wk_I (q : Nat → Nat) : Prop := ∀ c, c < 36 → q c = 100000000 ∨ ∃ D S L, wk_L q c D S L
theorem wk_I.bd {q : Nat → Nat} (h : wk_I q) {c : Nat} (hc : c < 36) : q c = 100000000 ∨ ∃ D S, S ≤ 35 ∧ D ≤ 2205 ∧ q c = 1000 * D + S := by
  rcases h c hc with h1 | ⟨D, S, L, h1, h2, h3, h4, h5⟩
  · exact Or.inl h1
  · have h6 := wk_nd 36 (L.map (·.1)) h1 (fun x hx => by
      obtain ⟨y, hy, rfl⟩ := List.mem_map.mp hx
      exact (h2 y hy).1)
    rw [List.length_map] at h6
    exact Or.inr ⟨D, S, by omega, by omega, h5⟩
theorem wk_I.set {q : Nat → Nat} {u : Nat} (h : wk_I q) {c d : Nat} (hc : c < 36) (hd : d < 36) (hu : u ≤ 63) (h3 : ¬ q d = 100000000) (h4 : q d + 1000 * u + 1 < q c) : wk_I (fun j => if j = c then q d + 1000 * u + 1 else q j) := by
  intro j hj
  have hle : ∀ j, (if j = c then q d + 1000 * u + 1 else q j) ≤ q j := fun j => by
    split
    · next e => rw [e]; omega
    · exact Nat.le_refl _
  by_cases e : j = c
  · rcases h d hd with g | ⟨D, S, L, g1, g2, g3, g4, g5⟩
    · exact absurd g h3
    · refine Or.inr ⟨D + u, S + 1, (c, q d + 1000 * u + 1) :: L, ?_, ?_, ?_, by omega, ?_⟩
      · rw [List.map_cons, List.nodup_cons]
        refine ⟨fun hx => ?_, g1⟩
        obtain ⟨y, hy, e2⟩ := List.mem_map.mp hx
        have := g2 y hy
        rw [e2] at this
        have e3 : (c, q d + 1000 * u + 1).1 = c := rfl
        rw [e3] at this
        omega
      · intro x hx
        show x.1 < 36 ∧ (if x.1 = c then q d + 1000 * u + 1 else q x.1) ≤ x.2 ∧ x.2 ≤ (if j = c then q d + 1000 * u + 1 else q j)
        rw [if_pos e]
        rcases List.mem_cons.mp hx with rfl | hx
        · exact ⟨hc, by rw [if_pos rfl]; exact Nat.le_refl _, Nat.le_refl _⟩
        · have g6 := g2 x hx
          exact ⟨g6.1, Nat.le_trans (hle x.1) g6.2.1, by omega⟩
      · rw [List.length_cons]; omega
      · show (if j = c then q d + 1000 * u + 1 else q j) = _
        rw [if_pos e]; omega
  · show (if j = c then q d + 1000 * u + 1 else q j) = 100000000 ∨ _
    rw [if_neg e]
    rcases h j hj with g | ⟨D, S, L, g1, g2, g3, g4, g5⟩
    · exact Or.inl g
    · refine Or.inr ⟨D, S, L, g1, fun x hx => ?_, g3, g4, ?_⟩
      · have g6 := g2 x hx
        show x.1 < 36 ∧ (if x.1 = c then q d + 1000 * u + 1 else q x.1) ≤ x.2 ∧ x.2 ≤ (if j = c then q d + 1000 * u + 1 else q j)
        rw [if_neg e]
        exact ⟨g6.1, Nat.le_trans (hle x.1) g6.2.1, g6.2.2⟩
      · show (if j = c then q d + 1000 * u + 1 else q j) = _
        rw [if_neg e]; exact g5
/-- a neighbour from which the label comes -/
def wk_J (t : sp_S) (du q : Nat → Nat) : Prop := ∀ c, c < 36 → q c = 100000000 ∨ q c = 0 ∨ (t.1 16 c ≠ 1 ∧ ∃ w, w < 4 ∧ ¬ sp_beside c w = 99 ∧ ¬ t.1 16 (sp_beside c w) = 1 ∧ ¬ q (sp_beside c w) = 100000000 ∧ q (sp_beside c w) + 1000 * du (sp_beside c w) + 1 ≤ q c)
section WK2
variable {t : sp_S} {du : Nat → Nat} {q : wk_S} {c : Nat}
theorem wk_rel_I (hdu : ∀ d, d < 36 → ¬ t.1 16 d = 1 → du d ≤ 63) (h : wk_I q.1) (hc : c < 36) (w : Nat) : wk_I (wk_rel t du q c w).1 := by
  unfold wk_rel
  split
  · exact h
  · next h1 =>
    split
    · exact h
    · next h2 =>
      split
      · exact h
      · next h3 =>
        split
        · next h4 =>
          have hd : sp_beside c w < 36 := by
            rcases sp_beside_lt (c := c) (w := w) hc with g | g
            all_goals omega
          exact h.set hc hd (hdu _ hd h2) h3 h4
        · exact h
theorem wk_ws_I (hdu : ∀ d, d < 36 → ¬ t.1 16 d = 1 → du d ≤ 63) (h : wk_I q.1) (hc : c < 36) : ∀ w, wk_I (wk_ws t du q c w).1
  | 0 => h
  | w + 1 => wk_rel_I hdu (wk_ws_I hdu h hc w) hc w
theorem wk_sq_I (hdu : ∀ d, d < 36 → ¬ t.1 16 d = 1 → du d ≤ 63) (h : wk_I q.1) (hc : c < 36) : wk_I (wk_sq t du q c).1 := by
  unfold wk_sq
  split
  · exact h
  · exact wk_ws_I hdu h hc 4
theorem wk_pass_I (hdu : ∀ d, d < 36 → ¬ t.1 16 d = 1 → du d ≤ 63) (h : wk_I q.1) : ∀ n, n ≤ 36 → wk_I (wk_pass t du q n).1
  | 0, _ => h
  | n + 1, hn => wk_sq_I hdu (wk_pass_I hdu h n (by omega)) (by omega)
theorem wk_run_I (hdu : ∀ d, d < 36 → ¬ t.1 16 d = 1 → du d ≤ 63) : ∀ n m, wk_I m → wk_I (wk_run t du n m)
  | 0, _, h => h
  | n + 1, m, h => by
    rw [wk_run]
    split
    · exact wk_run_I hdu n _ (wk_pass_I (q := (m, false)) hdu h 36 (Nat.le_refl _))
    · exact wk_pass_I (q := (m, false)) hdu h 36 (Nat.le_refl _)
theorem wk_m0_I {to : Nat} (hto : to < 36) : wk_I (wk_m0 t to) := by
  intro c hc
  by_cases e : c = to ∧ t.1 16 c = 0
  · refine Or.inr ⟨0, 0, [(c, 0)], by simp, ?_, rfl, by decide, by unfold wk_m0; rw [if_pos e]⟩
    intro x hx
    rw [List.mem_singleton.mp hx]
    unfold wk_m0
    rw [if_pos e]
    exact ⟨hc, Nat.le_refl _, Nat.le_refl _⟩
  · exact Or.inl (by unfold wk_m0; rw [if_neg e])
/-! where a label comes from -/
theorem wk_rel_J (hm : ∀ j, q.1 j ≤ 100000000) (h : wk_J t du q.1) (hf : ¬ t.1 16 c = 1) {w : Nat} (hw : w < 4) : wk_J t du (wk_rel t du q c w).1 := by
  unfold wk_rel
  split
  · exact h
  · next h1 =>
    split
    · exact h
    · next h2 =>
      split
      · exact h
      · next h3 =>
        split
        · next h4 =>
          intro j hj
          have hle : ∀ j, (if j = c then q.1 (sp_beside c w) + 1000 * du (sp_beside c w) + 1 else q.1 j) ≤ q.1 j := fun j => by
            split
            · next e => rw [e]; omega
            · exact Nat.le_refl _
          show (if j = c then q.1 (sp_beside c w) + 1000 * du (sp_beside c w) + 1 else q.1 j) = 100000000 ∨ (if j = c then q.1 (sp_beside c w) + 1000 * du (sp_beside c w) + 1 else q.1 j) = 0 ∨ _
          by_cases e : j = c
          · by_cases e9 : q.1 (sp_beside c w) + 1000 * du (sp_beside c w) + 1 = 100000000
            · rw [if_pos e]; exact Or.inl e9
            · refine Or.inr (Or.inr ⟨by rw [e]; exact hf, w, hw, by rw [e]; exact h1, by rw [e]; exact h2, ?_, ?_⟩)
              · rw [e]
                have := hle (sp_beside c w)
                show ¬ (if sp_beside c w = c then _ else _) = 100000000
                by_cases e2 : sp_beside c w = c
                · rw [if_pos e2]; exact e9
                · rw [if_neg e2]; exact h3
              · rw [e]
                have := hle (sp_beside c w)
                show (if sp_beside c w = c then _ else _) + _ + 1 ≤ (if c = c then _ else _)
                rw [if_pos rfl]
                by_cases e2 : sp_beside c w = c
                · exfalso; rw [e2] at h4; omega
                · rw [if_neg e2]; exact Nat.le_refl _
          · rw [if_neg e]
            rcases h j hj with g | g | ⟨g0, v, g1, g2, g3, g4, g5⟩
            · exact Or.inl g
            · exact Or.inr (Or.inl g)
            · refine Or.inr (Or.inr ⟨g0, v, g1, g2, g3, ?_, ?_⟩)
              · show ¬ (if sp_beside j v = c then _ else _) = 100000000
                have h8 := hle (sp_beside j v)
                by_cases e2 : sp_beside j v = c
                · rw [if_pos e2] at h8 ⊢
                  intro e9
                  have := hm c
                  omega
                · rw [if_neg e2]; exact g4
              · show (if sp_beside j v = c then _ else _) + _ + 1 ≤ (if j = c then _ else _)
                rw [if_neg e]
                exact Nat.le_trans (Nat.add_le_add_right (Nat.add_le_add_right (hle _) _) _) g5
        · exact h
theorem wk_ws_J (hm : ∀ j, q.1 j ≤ 100000000) (h : wk_J t du q.1) (hf : ¬ t.1 16 c = 1) : ∀ w, w ≤ 4 → wk_J t du (wk_ws t du q c w).1
  | 0, _ => h
  | w + 1, hw => wk_rel_J (fun j => Nat.le_trans (wk_ws_le j w) (hm j)) (wk_ws_J hm h hf w (by omega)) hf (by omega)
theorem wk_sq_J (hm : ∀ j, q.1 j ≤ 100000000) (h : wk_J t du q.1) : wk_J t du (wk_sq t du q c).1 := by
  unfold wk_sq
  split
  · exact h
  · next hf => exact wk_ws_J hm h hf 4 (Nat.le_refl _)
theorem wk_pass_J (hm : ∀ j, q.1 j ≤ 100000000) (h : wk_J t du q.1) : ∀ n, wk_J t du (wk_pass t du q n).1
  | 0 => h
  | n + 1 => wk_sq_J (fun j => Nat.le_trans (wk_pass_le j n) (hm j)) (wk_pass_J hm h n)
theorem wk_run_J : ∀ n m, (∀ j, m j ≤ 100000000) → wk_J t du m → wk_J t du (wk_run t du n m)
  | 0, _, _, h => h
  | n + 1, m, hm, h => by
    rw [wk_run]
    split
    · exact wk_run_J n _ (fun j => Nat.le_trans (wk_pass_le (q := (m, false)) j 36) (hm j)) (wk_pass_J (q := (m, false)) hm h 36)
    · exact wk_pass_J (q := (m, false)) hm h 36
theorem wk_m0_J {to : Nat} : wk_J t du (wk_m0 t to) := fun c _ => by
  unfold wk_m0
  split
  · exact Or.inr (Or.inl rfl)
  · exact Or.inl rfl
/-! a pass that changes nothing -/
theorem wk_rel_n {w : Nat} (h : (wk_rel t du q c w).2 = false) : q.2 = false ∧ wk_rel t du q c w = q := by
  unfold wk_rel at h ⊢
  (repeat' split at h) <;> first | (simp_all; done) | (simp_all; intro g; omega)
theorem wk_ws_n : ∀ w, (wk_ws t du q c w).2 = false → q.2 = false ∧ wk_ws t du q c w = q ∧ ∀ v, v < w → wk_rel t du q c v = q
  | 0, h => ⟨h, rfl, fun v hv => absurd hv (Nat.not_lt_zero _)⟩
  | w + 1, h => by
    have h1 := wk_rel_n (q := wk_ws t du q c w) (w := w) h
    have h2 := wk_ws_n w h1.1
    have h3 : wk_ws t du q c (w + 1) = q := h1.2.trans h2.2.1
    refine ⟨h2.1, h3, fun v hv => ?_⟩
    by_cases e : v = w
    · rw [e]
      have h4 := h1.2
      rw [h2.2.1] at h4
      exact h4
    · exact h2.2.2 v (by omega)
theorem wk_sq_n (h : (wk_sq t du q c).2 = false) : q.2 = false ∧ wk_sq t du q c = q ∧ (¬ t.1 16 c = 1 → ∀ v, v < 4 → wk_rel t du q c v = q) := by
  unfold wk_sq at h ⊢
  split at h
  · next e => exact ⟨h, by rw [if_pos e], fun g => absurd e g⟩
  · next e =>
    have h1 := wk_ws_n 4 h
    exact ⟨h1.1, by rw [if_neg e]; exact h1.2.1, fun _ => h1.2.2⟩
theorem wk_pass_n : ∀ n, (wk_pass t du q n).2 = false → wk_pass t du q n = q ∧ ∀ c, c < n → ¬ t.1 16 c = 1 → ∀ v, v < 4 → wk_rel t du q c v = q
  | 0, _ => ⟨rfl, fun c hc => absurd hc (Nat.not_lt_zero _)⟩
  | n + 1, h => by
    have h1 := wk_sq_n (q := wk_pass t du q n) (c := n) h
    have h2 := wk_pass_n n h1.1
    refine ⟨h1.2.1.trans h2.1, fun c hc hf v hv => ?_⟩
    by_cases e : c = n
    · rw [e] at hf ⊢
      have h4 := h1.2.2 hf v hv
      rw [h2.1] at h4
      exact h4
    · exact h2.2 c (by omega) hf v hv
theorem wk_run_fix : ∀ n m, sp_sum m 36 < n → (wk_pass t du (wk_run t du n m, false) 36).2 = false
  | 0, m, h => absurd h (Nat.not_lt_zero _)
  | n + 1, m, h => by
    cases e : (wk_pass t du (m, false) 36).2 with
    | true =>
      rw [wk_run_y e]
      exact wk_run_fix n _ (by have := wk_pass_sum e; omega)
    | false =>
      rw [wk_run_n e]
      have h1 := (wk_pass_n 36 e).1
      rw [h1]
      exact e
/-- at the end: who has a label and isn't there has a neighbour that fits -/
theorem wk_end {z : Nat → Nat} (hJ : wk_J t du z) (hz : (wk_pass t du (z, false) 36).2 = false) (hc : c < 36) (h0 : ¬ z c = 0) (h1 : ¬ z c = 100000000) : ∃ w, w < 4 ∧ ¬ sp_beside c w = 99 ∧ ¬ t.1 16 (sp_beside c w) = 1 ∧ ¬ z (sp_beside c w) = 100000000 ∧ z (sp_beside c w) + 1000 * du (sp_beside c w) + 1 = z c := by
  rcases hJ c hc with g | g | ⟨g0, w, g1, g2, g3, g4, g5⟩
  · exact absurd g h1
  · exact absurd g h0
  · refine ⟨w, g1, g2, g3, g4, ?_⟩
    have h2 := (wk_pass_n 36 hz).2 c hc g0 w g1
    by_cases e : z (sp_beside c w) + 1000 * du (sp_beside c w) + 1 < z c
    · have h3 := congrArg Prod.snd ((wk_rel_s (q := (z, false)) g2 g3 g4 e).symm.trans h2)
      cases h3
    · omega
theorem wk_fst_some {z : Nat → Nat} (hc : c < 36) : ∀ n w, w < n → ¬ sp_beside c w = 99 → ¬ t.1 16 (sp_beside c w) = 1 → ¬ z (sp_beside c w) = 100000000 → z (sp_beside c w) + 1000 * du (sp_beside c w) + 1 = z c → ¬ wk_fst t du z c n = 99
  | 0, w, h, _, _, _, _ => absurd h (Nat.not_lt_zero _)
  | n + 1, w, h, h1, h2, h3, h4 => by
    by_cases e : w = n
    · subst e
      rw [wk_fst, if_neg h1, if_neg h2, if_neg h3, if_pos h4]
      split
      · exact h1
      · next g => exact fun g2 => g (Or.inl g2)
    · have ih := wk_fst_some hc n w (by omega) h1 h2 h3 h4
      have h9 := wk_fst_lt (t := t) (du := du) (z := z) hc n
      have hb := sp_beside_lt (c := c) (w := n) hc
      rw [wk_fst]
      (repeat' split) <;> first | exact ih | omega
/-! the component's labels -/
def wk_by (du q : Nat → Nat) (d : Nat) : Nat := if 1000000 ≤ wk_cv (q d) then 1000000 else wk_cv (q d) + 100 * du d + 1
theorem wk_cv_e {D S : Nat} (hS : S ≤ 999) (hD : D ≤ 99999) : wk_cv (1000 * D + S) = 100 * D + S := by
  unfold wk_cv
  rw [if_neg (by omega)]
  omega
theorem wk_cv_much : wk_cv 100000000 = 1000000 := rfl
theorem wk_cv_lt {z : Nat → Nat} (hI : wk_I z) (hc : c < 36) : (z c = 100000000 ∧ wk_cv (z c) = 1000000) ∨ (z c ≠ 100000000 ∧ wk_cv (z c) ≤ 220535 ∧ ∃ D S, S ≤ 35 ∧ D ≤ 2205 ∧ z c = 1000 * D + S ∧ wk_cv (z c) = 100 * D + S) := by
  rcases hI.bd hc with g | ⟨D, S, h1, h2, h3⟩
  · exact Or.inl ⟨g, by rw [g]; rfl⟩
  · have e := wk_cv_e (S := S) (D := D) (by omega) (by omega)
    rw [← h3] at e
    exact Or.inr ⟨by omega, by omega, D, S, h1, h2, h3, e⟩
theorem wk_by_lt {z : Nat → Nat} {d : Nat} (hI : wk_I z) (hc : c < 36) (hd : d < 36) (hu : du d ≤ 63) : (wk_by du z d < wk_cv (z c) ↔ ¬ z d = 100000000 ∧ z d + 1000 * du d + 1 < z c) ∧ (¬ z d = 100000000 → wk_by du z d = wk_cv (z d + 1000 * du d + 1)) ∧ (¬ z c = 100000000 → (wk_by du z d = wk_cv (z c) ↔ ¬ z d = 100000000 ∧ z d + 1000 * du d + 1 = z c)) := by
  unfold wk_by
  rcases wk_cv_lt hI hd with ⟨e1, e2⟩ | ⟨e1, e2, D, S, h1, h2, h3, h4⟩
  · rw [if_pos (by omega)]
    rcases wk_cv_lt hI hc with ⟨f1, f2⟩ | ⟨f1, f2, D', S', g1, g2, g3, g4⟩
    · exact ⟨⟨fun h => by omega, fun h => absurd e1 h.1⟩, fun h => absurd e1 h, fun h => absurd f1 h⟩
    · exact ⟨⟨fun h => by omega, fun h => absurd e1 h.1⟩, fun h => absurd e1 h, fun _ => ⟨fun h => by omega, fun h => absurd e1 h.1⟩⟩
  · rw [if_neg (by omega)]
    have h5 : wk_cv (z d + 1000 * du d + 1) = 100 * (D + du d) + (S + 1) := by
      rw [← wk_cv_e (S := S + 1) (D := D + du d) (by omega) (by omega)]
      congr 1
      omega
    rcases wk_cv_lt hI hc with ⟨f1, f2⟩ | ⟨f1, f2, D', S', g1, g2, g3, g4⟩
    · exact ⟨⟨fun _ => ⟨e1, by omega⟩, fun _ => by omega⟩, fun _ => by omega, fun h => absurd f1 h⟩
    · exact ⟨⟨fun _ => ⟨e1, by omega⟩, fun h => by omega⟩, fun _ => by omega, fun _ => ⟨fun _ => ⟨e1, by omega⟩, fun h => by omega⟩⟩
theorem sp_beside_ne : ∀ c, c < 36 → ∀ w, w < 4 → ¬ sp_beside c w = c := by decide +kernel
end WK2
