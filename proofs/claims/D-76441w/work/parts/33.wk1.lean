/-! WAYS. Labels: 1000 times the duties, and the steps; 100000000: none -/
abbrev wk_S : Type := (Nat → Nat) × Bool
def wk_rel (t : sp_S) (du : Nat → Nat) (q : wk_S) (c w : Nat) : wk_S :=
  if sp_beside c w = 99 then q else if t.1 16 (sp_beside c w) = 1 then q else if q.1 (sp_beside c w) = 100000000 then q
  else if q.1 (sp_beside c w) + 1000 * du (sp_beside c w) + 1 < q.1 c then ((fun j => if j = c then q.1 (sp_beside c w) + 1000 * du (sp_beside c w) + 1 else q.1 j), true) else q
def wk_ws (t : sp_S) (du : Nat → Nat) (q : wk_S) (c : Nat) : Nat → wk_S
  | 0 => q
  | w + 1 => wk_rel t du (wk_ws t du q c w) c w
def wk_sq (t : sp_S) (du : Nat → Nat) (q : wk_S) (c : Nat) : wk_S := if t.1 16 c = 1 then q else wk_ws t du q c 4
def wk_pass (t : sp_S) (du : Nat → Nat) (q : wk_S) : Nat → wk_S
  | 0 => q
  | c + 1 => wk_sq t du (wk_pass t du q c) c
def wk_run (t : sp_S) (du : Nat → Nat) : Nat → (Nat → Nat) → Nat → Nat
  | 0, m => m
  | n + 1, m => if (wk_pass t du (m, false) 36).2 = true then wk_run t du n (wk_pass t du (m, false) 36).1 else (wk_pass t du (m, false) 36).1
def wk_m0 (t : sp_S) (to : Nat) : Nat → Nat := fun c => if c = to ∧ t.1 16 c = 0 then 0 else 100000000
def wk_fin (t : sp_S) (du : Nat → Nat) (to : Nat) : Nat → Nat := wk_run t du (sp_sum (wk_m0 t to) 36 + 2) (wk_m0 t to)
section WKL
variable {t : sp_S} {du : Nat → Nat} {q : wk_S} {c : Nat}
theorem wk_rel_le (w j : Nat) : (wk_rel t du q c w).1 j ≤ q.1 j := by
  unfold wk_rel
  (repeat' split) <;> try exact Nat.le_refl _
  rename_i h
  show (if j = c then _ else q.1 j) ≤ q.1 j
  split
  · rename_i e
    subst e
    omega
  · exact Nat.le_refl _
theorem wk_ws_le (j : Nat) : ∀ w, (wk_ws t du q c w).1 j ≤ q.1 j
  | 0 => Nat.le_refl _
  | w + 1 => Nat.le_trans (wk_rel_le w j) (wk_ws_le j w)
theorem wk_sq_le (j : Nat) : (wk_sq t du q c).1 j ≤ q.1 j := by
  unfold wk_sq
  split
  · exact Nat.le_refl _
  · exact wk_ws_le j 4
theorem wk_pass_le (j : Nat) : ∀ c, (wk_pass t du q c).1 j ≤ q.1 j
  | 0 => Nat.le_refl _
  | c + 1 => Nat.le_trans (wk_sq_le j) (wk_pass_le j c)
/-- a change is a fall -/
theorem wk_rel_ch {w : Nat} (h : (wk_rel t du q c w).2 = true) : q.2 = true ∨ (wk_rel t du q c w).1 c < q.1 c := by
  unfold wk_rel at h ⊢
  (repeat' split at h) <;> try (left; exact h)
  rename_i h1 h2 h3 h4
  right
  rw [if_neg h1, if_neg h2, if_neg h3, if_pos h4]
  show (if c = c then _ else _) < _
  rw [if_pos rfl]
  exact h4
theorem wk_ws_ch : ∀ w, (wk_ws t du q c w).2 = true → q.2 = true ∨ (wk_ws t du q c w).1 c < q.1 c
  | 0, h => Or.inl h
  | w + 1, h => by
    rcases wk_rel_ch (q := wk_ws t du q c w) h with g | g
    · rcases wk_ws_ch w g with g | g
      · exact Or.inl g
      · exact Or.inr (Nat.lt_of_le_of_lt (wk_rel_le w c) g)
    · exact Or.inr (Nat.lt_of_lt_of_le g (wk_ws_le c w))
theorem wk_pass_ch : ∀ n, (wk_pass t du q n).2 = true → q.2 = true ∨ ∃ c, c < n ∧ (wk_pass t du q n).1 c < q.1 c
  | 0, h => Or.inl h
  | n + 1, h => by
    have h2 : (wk_pass t du q n).2 = true ∨ (wk_sq t du (wk_pass t du q n) n).1 n < (wk_pass t du q n).1 n := by
      rw [wk_pass] at h
      unfold wk_sq at h ⊢
      split
      · rename_i g
        rw [if_pos g] at h
        exact Or.inl h
      · rename_i g
        rw [if_neg g] at h
        exact wk_ws_ch 4 h
    rcases h2 with g | g
    · rcases wk_pass_ch n g with g | ⟨c, h3, h4⟩
      · exact Or.inl g
      · exact Or.inr ⟨c, by omega, Nat.lt_of_le_of_lt (wk_sq_le c) h4⟩
    · exact Or.inr ⟨n, Nat.lt_succ_self n, Nat.lt_of_lt_of_le g (wk_pass_le n n)⟩
end WKL
theorem sp_sum_mono {f g : Nat → Nat} : ∀ n, (∀ j, j < n → f j ≤ g j) → sp_sum f n ≤ sp_sum g n
  | 0, _ => Nat.le_refl _
  | n + 1, h => Nat.add_le_add (sp_sum_mono n (fun j hj => h j (by omega))) (h n (Nat.lt_succ_self n))
theorem sp_sum_less {f g : Nat → Nat} : ∀ n, (∀ j, j < n → f j ≤ g j) → (∃ c, c < n ∧ f c < g c) → sp_sum f n < sp_sum g n
  | 0, _, h => by obtain ⟨c, hc, _⟩ := h; omega
  | n + 1, h, ⟨c, hc, h2⟩ => by
    rw [sp_sum, sp_sum]
    by_cases e : c = n
    · subst e
      have := sp_sum_mono c (fun j hj => h j (by omega))
      omega
    · have := sp_sum_less n (fun j hj => h j (by omega)) ⟨c, by omega, h2⟩
      have := h n (Nat.lt_succ_self n)
      omega
theorem wk_pass_sum {t : sp_S} {du m : Nat → Nat} (h : (wk_pass t du (m, false) 36).2 = true) : sp_sum (wk_pass t du (m, false) 36).1 36 < sp_sum m 36 := by
  rcases wk_pass_ch 36 h with g | g
  · cases g
  · exact sp_sum_less 36 (fun j _ => wk_pass_le j 36) g
theorem wk_run_y {t : sp_S} {du m : Nat → Nat} {n : Nat} (h : (wk_pass t du (m, false) 36).2 = true) : wk_run t du (n + 1) m = wk_run t du n (wk_pass t du (m, false) 36).1 := by rw [wk_run, if_pos h]
theorem wk_run_n {t : sp_S} {du m : Nat → Nat} {n : Nat} (h : (wk_pass t du (m, false) 36).2 = false) : wk_run t du (n + 1) m = (wk_pass t du (m, false) 36).1 := by rw [wk_run, if_neg (by rw [h]; decide)]
theorem wk_m0_le (t : sp_S) (to j : Nat) : wk_m0 t to j ≤ 100000000 := by
  unfold wk_m0
  split <;> omega
theorem sp_dutyAt_free {t : sp_S} (hw : sp_wf t) {x c : Nat} (hc : c < 36) (h : ¬ t.1 16 c = 1) : sp_dutyAt t x c ≤ 63 := by
  unfold sp_dutyAt
  rw [if_neg h]
  have := hw.b16 hc
  exact sp_owes_lt (sp_wf_at hw (x := x) hc (by omega)) x
theorem wk_rel_s {t : sp_S} {du : Nat → Nat} {q : wk_S} {c w : Nat} (h1 : ¬ sp_beside c w = 99) (h2 : ¬ t.1 16 (sp_beside c w) = 1) (h3 : ¬ q.1 (sp_beside c w) = 100000000) (h4 : q.1 (sp_beside c w) + 1000 * du (sp_beside c w) + 1 < q.1 c) : wk_rel t du q c w = ((fun j => if j = c then q.1 (sp_beside c w) + 1000 * du (sp_beside c w) + 1 else q.1 j), true) := by
  rw [wk_rel, if_neg h1, if_neg h2, if_neg h3, if_pos h4]
theorem wk_rel_k {t : sp_S} {du : Nat → Nat} {q : wk_S} {c w : Nat} (h : sp_beside c w = 99 ∨ t.1 16 (sp_beside c w) = 1 ∨ q.1 (sp_beside c w) = 100000000 ∨ q.1 c ≤ q.1 (sp_beside c w) + 1000 * du (sp_beside c w) + 1) : wk_rel t du q c w = q := by
  unfold wk_rel
  (repeat' split) <;> first | rfl | omega
/-- the way on: the least neighbour that fits (99: none) -/
def wk_fst (t : sp_S) (du z : Nat → Nat) (c : Nat) : Nat → Nat
  | 0 => 99
  | w + 1 => if sp_beside c w = 99 then wk_fst t du z c w else if t.1 16 (sp_beside c w) = 1 then wk_fst t du z c w else if z (sp_beside c w) = 100000000 then wk_fst t du z c w
    else if z (sp_beside c w) + 1000 * du (sp_beside c w) + 1 = z c then (if wk_fst t du z c w = 99 ∨ sp_beside c w < wk_fst t du z c w then sp_beside c w else wk_fst t du z c w) else wk_fst t du z c w
theorem wk_fst_lt {t : sp_S} {du z : Nat → Nat} {c : Nat} (hc : c < 36) : ∀ w, wk_fst t du z c w = 99 ∨ wk_fst t du z c w < 36
  | 0 => Or.inl rfl
  | w + 1 => by
    have h := wk_fst_lt (t := t) (du := du) (z := z) hc w
    have h2 := sp_beside_lt (c := c) (w := w) hc
    rw [wk_fst]
    (repeat' split) <;> first | exact h | (right; omega)
theorem wk_fst_y {t : sp_S} {du z : Nat → Nat} {c w : Nat} (h1 : ¬ sp_beside c w = 99) (h2 : ¬ t.1 16 (sp_beside c w) = 1) (h3 : ¬ z (sp_beside c w) = 100000000) (h4 : z (sp_beside c w) + 1000 * du (sp_beside c w) + 1 = z c) (h5 : wk_fst t du z c w = 99 ∨ sp_beside c w < wk_fst t du z c w) : wk_fst t du z c (w + 1) = sp_beside c w := by
  rw [wk_fst, if_neg h1, if_neg h2, if_neg h3, if_pos h4, if_pos h5]
theorem wk_fst_k {t : sp_S} {du z : Nat → Nat} {c w : Nat} (h : sp_beside c w = 99 ∨ t.1 16 (sp_beside c w) = 1 ∨ z (sp_beside c w) = 100000000 ∨ ¬ z (sp_beside c w) + 1000 * du (sp_beside c w) + 1 = z c ∨ ¬ (wk_fst t du z c w = 99 ∨ sp_beside c w < wk_fst t du z c w)) : wk_fst t du z c (w + 1) = wk_fst t du z c w := by
  rw [wk_fst]
  (repeat' split) <;> first | rfl | omega
def wk_first (t : sp_S) (du z : Nat → Nat) (c : Nat) : Nat := if z c = 0 then c else wk_fst t du z c 4
theorem wk_run_le {t : sp_S} {du : Nat → Nat} (j : Nat) : ∀ n m, wk_run t du n m j ≤ m j
  | 0, _ => Nat.le_refl _
  | n + 1, m => by
    rw [wk_run]
    split
    · exact Nat.le_trans (wk_run_le j n _) (wk_pass_le (q := (m, false)) j 36)
    · exact wk_pass_le (q := (m, false)) j 36
theorem wk_fin_le (t : sp_S) (du : Nat → Nat) (to j : Nat) : wk_fin t du to j ≤ 100000000 := Nat.le_trans (wk_run_le j _ _) (wk_m0_le t to j)
