/-! TEXTS. f: the letters, E of them -/
def rd_f (A : ab_S) (s : Nat) : Nat → Int32 := fun i => (A.2.2.2 (160 * s + i)).toInt32
def rd_is (f : Nat → Int32) (E p c : Nat) : Bool := decide (p < E ∧ f p = nI c)
/-- how far a word goes -/
def rd_mat (f : Nat → Int32) (E : Nat) : List Nat → Nat → Nat
  | [], p => p
  | c :: l, p => if rd_is f E p c = true then rd_mat f E l (p + 1) else p
def rd_dig (f : Nat → Int32) (E p : Nat) : Bool := decide (p < E ∧ nI 48 ≤ f p ∧ f p ≤ nI 57)
def rd_d (f : Nat → Int32) (p : Nat) : Nat := iN (f p) - 48
def rd_num (f : Nat → Int32) (E p : Nat) : Nat := if rd_dig f E (p + 1) = true then 10 * rd_d f p + rd_d f (p + 1) else rd_d f p
def rd_end (f : Nat → Int32) (E p : Nat) : Nat := if rd_dig f E (p + 1) = true then p + 2 else p + 1
def rd_W : List (List Nat) := [[119, 97, 108, 108], [103, 97, 112], [98, 97, 108, 99, 111, 110, 121], [112, 101, 114, 115, 111, 110], [115, 97, 99, 107], [109, 105, 116, 101], [114, 101, 97, 99, 104]]
def rd_w (w : Nat) : List Nat := rd_W.getD w []
/-- .. with its blank -/
def rd_v (w : Nat) : List Nat := rd_w w ++ [32]
def rd_st (w : Nat) : Nat := [0, 6, 11, 20, 28, 34, 40, 47].getD w 0
def rd_so (A : ab_S) (w i v : Nat) : Bool :=
  if w = 3 then decide (v ≤ sp_mosts.getD i 0 ∧ (i = 5 → A.1.1 16 v = 0)) else if w = 4 then decide (v < A.1.1 0 0)
  else if 4 < w then sp_asked (nI (w - 5)) (nI v) else decide (v < 36 ∧ (w = 0 → sp_there A.1 v = 0))
def rd_ns (f : Nat → Int32) (E : Nat) (A : ab_S) (w : Nat) : Nat → Nat → Nat → (Nat → Nat) → Bool × Nat × (Nat → Nat)
  | 0, _, p, v => (true, p, v)
  | k + 1, i, p, v =>
    if i = 0 ∨ rd_is f E p 32 = true then
      (if rd_dig f E (if i = 0 then p else p + 1) = true then
        (if rd_so A w i (rd_num f E (if i = 0 then p else p + 1)) = true then
          rd_ns f E A w k (i + 1) (rd_end f E (if i = 0 then p else p + 1)) (fun j => if j = i then rd_num f E (if i = 0 then p else p + 1) else v j)
        else (false, (if i = 0 then p else p + 1), v))
      else (false, (if i = 0 then p else p + 1), v))
    else (false, p, v)
def rd_sel (f : Nat → Int32) (E p : Nat) : Nat :=
  if rd_is f E p 119 = true then 0 else if rd_is f E p 103 = true then 1 else if rd_is f E p 98 = true then 2 else if rd_is f E p 112 = true then 3 else if rd_is f E p 115 = true then 4 else if rd_is f E p 109 = true then 5 else 6
def rd_do (A : ab_S) (w : Nat) (v : Nat → Nat) : ab_S :=
  if w = 0 then ab_n A 16 (v 0) 1 else if w = 1 then ab_n A 16 (v 0) 0 else if w = 2 then ab_n A 17 (v 0) 1
  else if w = 3 then (sq_adds (v 0) (v 1) (v 2) (v 3) (v 4) (v 5) A).2 else if w = 4 then ab_n A 15 (v 0) 1 else sq_asks (nI (w - 5)) (v 0) A
/-- one item at p: whether it's one; where it ends, or where it goes wrong -/
def rd_item (f : Nat → Int32) (E : Nat) (A : ab_S) (p : Nat) : Bool × Nat × ab_S :=
  if rd_mat f E (rd_w (rd_sel f E p)) p = p + (rd_w (rd_sel f E p)).length then
    (if rd_sel f E p = 3 ∧ A.1.1 0 0 = 7 then (false, p, A)
    else if rd_is f E (p + (rd_w (rd_sel f E p)).length) 32 = true then
      (if (rd_ns f E A (rd_sel f E p) (sp_nums.getD (rd_sel f E p) 0) 0 (p + (rd_w (rd_sel f E p)).length + 1) (fun _ => 0)).1 = true then
        (true, (rd_ns f E A (rd_sel f E p) (sp_nums.getD (rd_sel f E p) 0) 0 (p + (rd_w (rd_sel f E p)).length + 1) (fun _ => 0)).2.1, rd_do A (rd_sel f E p) (rd_ns f E A (rd_sel f E p) (sp_nums.getD (rd_sel f E p) 0) 0 (p + (rd_w (rd_sel f E p)).length + 1) (fun _ => 0)).2.2)
      else (false, (rd_ns f E A (rd_sel f E p) (sp_nums.getD (rd_sel f E p) 0) 0 (p + (rd_w (rd_sel f E p)).length + 1) (fun _ => 0)).2.1, A))
    else (false, p + (rd_w (rd_sel f E p)).length, A))
  else (false, rd_mat f E (rd_w (rd_sel f E p)) p, A)
/-- items from p on; n are told ahead -/
def rd_items (f : Nat → Int32) (E : Nat) : Nat → ab_S → Nat → Nat → Bool × Nat × ab_S
  | 0, A, p, _ => (false, p, A)
  | k + 1, A, p, n =>
    if (rd_item f E A p).1 = true then
      (if (rd_item f E A p).2.1 < E then
        (if f (rd_item f E A p).2.1 = nI 59 then rd_items f E k (rd_item f E A p).2.2 ((rd_item f E A p).2.1 + 1) (n + 1) else (false, (rd_item f E A p).2.1, (rd_item f E A p).2.2))
      else (true, n, (rd_item f E A p).2.2))
    else (false, (rd_item f E A p).2.1, (rd_item f E A p).2.2)
/-! the words, their places -/
theorem rd_words : ∀ w, w < 7 → ∀ j, j < (rd_v w).length → sp_words.getD (rd_st w + j) 0 = (rd_v w).getD j 0 ∧ (rd_v w).getD j 0 ≠ 0 ∧ rd_st w + j < 47 := by decide +kernel
theorem rd_words0 : ∀ w, w < 7 → sp_words.getD (rd_st w + (rd_v w).length) 0 = 0 ∧ rd_st w + (rd_v w).length < 47 ∧ rd_st (w + 1) = rd_st w + (rd_v w).length + 1 ∧ (rd_v w).length = (rd_w w).length + 1 ∧ (rd_v w).length ≤ 8 := by decide +kernel
def rd_zs (c : Nat) : Nat := ((sp_words.take c).filter (· == 0)).length
theorem rd_zs_s : ∀ c, c < 20 → rd_zs c < 3 ∧ rd_zs (c + 1) = (if sp_words.getD c 0 = 0 then 1 else 0) + rd_zs c := by decide +kernel
theorem rd_zs_20 : rd_zs 20 = 3 := by decide +kernel
theorem rd_six : ∀ j, j < 6 → sp_words.getD (20 + j) 0 = (rd_w 3).getD j 0 ∧ 32 < sp_words.getD (20 + j) 0 := by decide +kernel
theorem rd_six6 : sp_words.getD 26 0 = 32 := by decide +kernel
theorem rd_mat_n {f : Nat → Int32} {E p c : Nat} {l : List Nat} (h : ¬ (p < E ∧ f p = nI c)) : rd_mat f E (c :: l) p = p := by rw [rd_mat, rd_is, decide_eq_false h, if_neg (by decide)]
theorem rd_mat_y {f : Nat → Int32} {E p c : Nat} {l : List Nat} (h : p < E) (h2 : f p = nI c) : rd_mat f E (c :: l) p = rd_mat f E l (p + 1) := by rw [rd_mat, rd_is, decide_eq_true ⟨h, h2⟩, if_pos rfl]
theorem rd_drop {l : List Nat} {j : Nat} (h : j < l.length) : l.drop j = l.getD j 0 :: l.drop (j + 1) := by
  rw [List.drop_eq_getElem_cons h, List.getD_eq_getElem?_getD, List.getElem?_eq_getElem h]
  rfl
/-- at place j of a word: on, or at its end -/
theorem rd_mat_dy {f : Nat → Int32} {E p j : Nat} {l : List Nat} (hj : j < l.length) (h : p + j < E) (h2 : f (p + j) = nI (l.getD j 0)) : rd_mat f E (l.drop j) (p + j) = rd_mat f E (l.drop (j + 1)) (p + (j + 1)) := by
  rw [rd_drop hj, rd_mat_y h h2]
  rfl
theorem rd_mat_dn {f : Nat → Int32} {E p j : Nat} {l : List Nat} (hj : j < l.length) (h : ¬ (p + j < E ∧ f (p + j) = nI (l.getD j 0))) : rd_mat f E (l.drop j) (p + j) = p + j := by
  rw [rd_drop hj, rd_mat_n h]
theorem rd_mat_de {f : Nat → Int32} {E p j : Nat} {l : List Nat} (hj : j = l.length) : rd_mat f E (l.drop j) (p + j) = p + j := by
  rw [hj, List.drop_length]
  rfl
theorem rd_mat_le (f : Nat → Int32) (E : Nat) : ∀ (l : List Nat) (p : Nat), p ≤ rd_mat f E l p ∧ rd_mat f E l p ≤ p + l.length ∧ (p ≤ E → rd_mat f E l p ≤ E)
  | [], p => ⟨Nat.le_refl _, Nat.le_refl _, fun h => h⟩
  | c :: l, p => by
    by_cases h : p < E ∧ f p = nI c
    · rw [rd_mat_y h.1 h.2]
      have := rd_mat_le f E l (p + 1)
      rw [List.length_cons]
      refine ⟨by omega, by omega, fun _ => this.2.2 (by omega)⟩
    · rw [rd_mat_n h, List.length_cons]
      exact ⟨Nat.le_refl _, by omega, fun h => h⟩
theorem rd_mat_app (f : Nat → Int32) (E c : Nat) : ∀ (l : List Nat) (p : Nat), rd_mat f E (l ++ [c]) p = if rd_mat f E l p = p + l.length then (if rd_is f E (p + l.length) c = true then p + l.length + 1 else p + l.length) else rd_mat f E l p
  | [], p => by
    exact (if_pos (show rd_mat f E [] p = p + ([] : List Nat).length from rfl)).symm
  | d :: l, p => by
    rw [List.cons_append, List.length_cons]
    by_cases h : p < E ∧ f p = nI d
    · rw [rd_mat_y h.1 h.2, rd_mat_y h.1 h.2, rd_mat_app f E c l (p + 1), show p + 1 + l.length = p + (l.length + 1) by omega]
    · rw [rd_mat_n h, rd_mat_n h, if_neg (by omega)]
/-- the farthest of the first w words -/
def rd_far (f : Nat → Int32) (E p : Nat) : Nat → Nat
  | 0 => p
  | w + 1 => if rd_far f E p w < rd_mat f E (rd_v w) p then rd_mat f E (rd_v w) p else rd_far f E p w
def rd_full (f : Nat → Int32) (E p w : Nat) : Bool := rd_mat f E (rd_v w) p == p + (rd_v w).length
theorem rd_far_le {f : Nat → Int32} {E p : Nat} (h : p ≤ E) : ∀ w, p ≤ rd_far f E p w ∧ rd_far f E p w ≤ E
  | 0 => ⟨Nat.le_refl _, h⟩
  | w + 1 => by
    have h1 := rd_far_le (f := f) h w
    have h2 := rd_mat_le f E (rd_v w) p
    rw [rd_far]
    split
    · exact ⟨h2.1, h2.2.2 h⟩
    · exact h1
/-- the first letters are apart -/
theorem rd_first : ∀ w, w < 7 → ∀ w', w' < 7 → w ≠ w' → (rd_v w).getD 0 0 ≠ (rd_v w').getD 0 0 := by decide +kernel
theorem rd_firstN : ∀ w, w < 7 → (rd_v w).getD 0 0 < 128 ∧ 0 < (rd_v w).length ∧ 0 < (rd_w w).length := by decide +kernel
theorem rd_mat_first {f : Nat → Int32} {E p w : Nat} (hw : w < 7) (h : ¬ (p < E ∧ f p = nI ((rd_v w).getD 0 0))) : rd_mat f E (rd_v w) p = p := by
  have h1 := rd_firstN w hw
  have := rd_mat_dn (f := f) (E := E) (p := p) (j := 0) (l := rd_v w) h1.2.1 h
  exact this
theorem rd_sel_lt (f : Nat → Int32) (E p : Nat) : rd_sel f E p < 7 := by
  unfold rd_sel
  (repeat' split) <;> decide
theorem rd_sel_no {f : Nat → Int32} {E p w : Nat} (hw : w < 7) (h : w ≠ rd_sel f E p) : ¬ (p < E ∧ f p = nI ((rd_v w).getD 0 0)) := by
  intro z
  have hz : ∀ c, rd_is f E p c = decide (f p = nI c) := fun c => by simp [rd_is, z.1]
  have e : ∀ a b : Nat, a < 128 → b < 128 → a ≠ b → decide (nI a = nI b) = false := fun a b ha hb hab => decide_eq_false (fun y => hab ((nI_eq (by omega) (by omega)).mp y))
  apply h
  unfold rd_sel
  rw [hz, hz, hz, hz, hz, hz, z.2]
  have h7 : w = 0 ∨ w = 1 ∨ w = 2 ∨ w = 3 ∨ w = 4 ∨ w = 5 ∨ w = 6 := by omega
  rcases h7 with rfl | rfl | rfl | rfl | rfl | rfl | rfl <;> decide
theorem rd_mat_other {f : Nat → Int32} {E p w : Nat} (hw : w < 7) (h : w ≠ rd_sel f E p) : rd_mat f E (rd_v w) p = p := rd_mat_first hw (rd_sel_no hw h)
theorem rd_full_sel {f : Nat → Int32} {E p w : Nat} (hw : w < 7) (h : rd_full f E p w = true) : w = rd_sel f E p := by
  by_cases e : w = rd_sel f E p
  · exact e
  · have h1 := rd_mat_other hw e
    have h2 := rd_firstN w hw
    have h3 : rd_mat f E (rd_v w) p = p + (rd_v w).length := beq_iff_eq.mp h
    omega
theorem rd_far_k {f : Nat → Int32} {E p : Nat} : ∀ w, w ≤ rd_sel f E p → w ≤ 7 → rd_far f E p w = p
  | 0, _, _ => rfl
  | w + 1, h, h7 => by
    rw [rd_far, rd_mat_other (by omega) (by omega), rd_far_k w (by omega) (by omega), if_neg (by omega)]
theorem rd_far_s {f : Nat → Int32} {E p : Nat} : ∀ w, rd_sel f E p < w → w ≤ 7 → rd_far f E p w = rd_mat f E (rd_v (rd_sel f E p)) p
  | 0, h, _ => by omega
  | w + 1, h, h7 => by
    have h1 := rd_mat_le f E (rd_v (rd_sel f E p)) p
    rw [rd_far]
    by_cases e : w = rd_sel f E p
    · rw [rd_far_k w (by omega) (by omega), ← e]
      rw [← e] at h1
      split
      · rfl
      · omega
    · rw [rd_far_s w (by omega) (by omega), rd_mat_other (w := w) (by omega) e, if_neg (by omega)]
theorem rd_far_7 (f : Nat → Int32) (E p : Nat) : rd_far f E p 7 = rd_mat f E (rd_v (rd_sel f E p)) p := rd_far_s 7 (rd_sel_lt f E p) (by decide)
theorem rd_full_eq {f : Nat → Int32} {E p w : Nat} : rd_full f E p w = (decide (rd_mat f E (rd_w w) p = p + (rd_w w).length) && rd_is f E (p + (rd_w w).length) 32) := by
  have h := rd_mat_app f E 32 (rd_w w) p
  have h1 := rd_mat_le f E (rd_w w) p
  unfold rd_full
  rw [show rd_v w = rd_w w ++ [32] from rfl, h, List.length_append, show ([32] : List Nat).length = 1 from rfl]
  split
  · rename_i h2
    rw [h2]
    split
    · rename_i h3
      rw [h3]
      simp
      omega
    · rename_i h3
      simp [h3]
  · rename_i h2
    simp [h2]
    omega
/-! digits -/
theorem rd_dig_n {f : Nat → Int32} {E p : Nat} (h : rd_dig f E p = true) : p < E ∧ f p = nI (iN (f p)) ∧ 48 ≤ iN (f p) ∧ iN (f p) ≤ 57 := by
  have h := of_decide_eq_true h
  have h2 := sp_btw (a := 48) (b := 57) (by decide) (by decide) (Int32.not_lt.mpr h.2.1) h.2.2
  exact ⟨h.1, h2.1, h2.2.1, h2.2.2⟩
theorem rd_num_lt {f : Nat → Int32} {E p : Nat} (h : rd_dig f E p = true) : rd_num f E p < 100 := by
  have h1 := rd_dig_n h
  unfold rd_num rd_d
  split
  · rename_i h2
    have h3 := rd_dig_n h2
    omega
  · omega
theorem rd_end_le {f : Nat → Int32} {E p : Nat} (h : rd_dig f E p = true) : p < rd_end f E p ∧ rd_end f E p ≤ E := by
  have h1 := rd_dig_n h
  unfold rd_end
  split
  · rename_i h2
    have h3 := rd_dig_n h2
    omega
  · omega
theorem rd_wlt (j : Nat) : sp_words.getD j 0 < 128 := by
  by_cases h : j < 47
  · revert h
    have key : ∀ j, j < 47 → sp_words.getD j 0 < 128 := by decide +kernel
    exact key j
  · rw [List.getD_eq_getElem?_getD, List.getElem?_eq_none (by show 47 ≤ j; omega)]
    decide
theorem rd_zs_le : ∀ c, c ≤ 20 → rd_zs c ≤ 3 ∧ (3 ≤ rd_zs c → c = 20) ∧ (c = 20 → rd_zs c = 3) := by decide +kernel
theorem rd_zs_n : ∀ c, c < 20 → rd_zs (c + 1) = rd_zs c + (if sp_words.getD c 0 = 0 then 1 else 0) := by decide +kernel
/-- the reading's places -/
def rd_C (u : tw_S) (sh E p : Nat) : Prop := u.1 28 = nI (160 * sh) ∧ u.1 30 = nI E ∧ u.1 29 = nI p
theorem rd_digit {f : Nat → Int32} {E p : Nat} (h : rd_dig f E p = true) (a : Nat) : nI a + f p - nI 48 = nI (a + rd_d f p) := by
  obtain ⟨-, h2, h3, h4⟩ := rd_dig_n h
  unfold rd_d
  generalize iN (f p) = x at *
  rw [h2, nI_add, pk_sub (by omega), show a + x - 48 = a + (x - 48) by omega]
theorem rd_mlt (j : Nat) : sp_mosts.getD j 0 < 128 := by
  by_cases h : j < 6
  · revert h
    have key : ∀ j, j < 6 → sp_mosts.getD j 0 < 128 := by decide +kernel
    exact key j
  · rw [List.getD_eq_getElem?_getD, List.getElem?_eq_none (by show 6 ≤ j; omega)]
    decide
def rd_wd (f : Nat → Int32) (E p : Nat) : Nat := if rd_full f E p (rd_sel f E p) = true then rd_sel f E p else 99
theorem rd_wd_y {f : Nat → Int32} {E p k : Nat} (hk : k < 7) (h : rd_full f E p k = true) : rd_wd f E p = k ∧ rd_sel f E p = k := by
  have e := rd_full_sel hk h
  rw [rd_wd, ← e, if_pos h]
  exact ⟨rfl, rfl⟩
theorem rd_wd_n {f : Nat → Int32} {E p : Nat} (h : ∀ k, k < 7 → rd_full f E p k = false) : rd_wd f E p = 99 := by
  rw [rd_wd, if_neg (by rw [h _ (rd_sel_lt f E p)]; decide)]
theorem rd_wd_lt (f : Nat → Int32) (E p : Nat) : rd_wd f E p = 99 ∨ rd_wd f E p < 7 := by
  unfold rd_wd
  split
  · exact Or.inr (rd_sel_lt f E p)
  · exact Or.inl rfl
theorem rd_wd_99 {f : Nat → Int32} {E p : Nat} (h : rd_wd f E p = 99) : rd_full f E p (rd_sel f E p) = false := by
  have h1 := rd_sel_lt f E p
  unfold rd_wd at h
  split at h
  · omega
  · rename_i h2
    simpa using h2
theorem rd_wd_s {f : Nat → Int32} {E p : Nat} (h : ¬ rd_wd f E p = 99) : rd_full f E p (rd_sel f E p) = true ∧ rd_wd f E p = rd_sel f E p := by
  unfold rd_wd at h ⊢
  split at h
  · rename_i h2
    rw [if_pos h2]
    exact ⟨h2, rfl⟩
  · exact absurd rfl h
theorem rd_full_y {f : Nat → Int32} {E p w : Nat} (h : rd_full f E p w = true) : rd_mat f E (rd_w w) p = p + (rd_w w).length ∧ rd_is f E (p + (rd_w w).length) 32 = true := by
  rw [rd_full_eq, Bool.and_eq_true] at h
  exact ⟨of_decide_eq_true h.1, h.2⟩
/-- somebody told of when all are there -/
theorem rd_sel_3 {f : Nat → Int32} {E p : Nat} (h : rd_mat f E (rd_w 3) p = p + 6) : rd_sel f E p = 3 := by
  by_cases e : 3 = rd_sel f E p
  · exact e.symm
  · have h1 := rd_mat_other (f := f) (E := E) (p := p) (w := 3) (by decide) e
    have h2 := rd_mat_app f E 32 (rd_w 3) p
    have h3 : (rd_w 3).length = 6 := rfl
    rw [show rd_w 3 ++ [32] = rd_v 3 from rfl, h1, h3, if_pos h] at h2
    split at h2 <;> omega
theorem rd_item_7 {f : Nat → Int32} {E p : Nat} {A : ab_S} (h : rd_mat f E (rd_w 3) p = p + 6) (h7 : A.1.1 0 0 = 7) : rd_item f E A p = (false, p, A) := by
  rw [rd_item, rd_sel_3 h, if_pos (show rd_mat f E (rd_w 3) p = p + (rd_w 3).length from h), if_pos ⟨rfl, h7⟩]
theorem rd_item_w {f : Nat → Int32} {E p : Nat} {A : ab_S} (h : ¬ (rd_mat f E (rd_w 3) p = p + 6 ∧ A.1.1 0 0 = 7)) (hf : rd_full f E p (rd_sel f E p) = false) : rd_item f E A p = (false, rd_mat f E (rd_v (rd_sel f E p)) p, A) := by
  have h2 := rd_mat_app f E 32 (rd_w (rd_sel f E p)) p
  rw [show rd_w (rd_sel f E p) ++ [32] = rd_v (rd_sel f E p) from rfl] at h2
  rw [rd_item, h2]
  split
  · rename_i h3
    rw [rd_full_eq, decide_eq_true h3, Bool.true_and] at hf
    rw [if_neg (fun z => h ⟨by have := h3; rw [z.1] at this; exact this, z.2⟩), hf, if_neg (by decide), if_neg (by decide)]
  · rfl
/-- an item whose word is there, with its blank -/
theorem rd_v_len (k : Nat) : (rd_v k).length = (rd_w k).length + 1 := by rw [rd_v, List.length_append]; rfl
theorem rd_item_f {f : Nat → Int32} {E p k : Nat} {A : ab_S} (h : ¬ (rd_mat f E (rd_w 3) p = p + 6 ∧ A.1.1 0 0 = 7)) (hk : k = rd_sel f E p) (hf : rd_full f E p k = true) {Z : Bool × Nat × (Nat → Nat)} (hZ : rd_ns f E A k (sp_nums.getD k 0) 0 (p + (rd_v k).length) (fun _ => 0) = Z) : rd_item f E A p = if Z.1 = true then (true, Z.2.1, rd_do A k Z.2.2) else (false, Z.2.1, A) := by
  have h2 := rd_full_y hf
  rw [rd_v_len, ← Nat.add_assoc] at hZ
  rw [rd_item, ← hk, if_pos h2.1, if_neg (fun z => h ⟨by have := h2.1; rw [z.1] at this; exact this, z.2⟩), if_pos h2.2, hZ]
theorem rd_item_n {f : Nat → Int32} {E p k : Nat} {A : ab_S} (h : ¬ (rd_mat f E (rd_w 3) p = p + 6 ∧ A.1.1 0 0 = 7)) (hk : k = rd_sel f E p) (hf : rd_full f E p k = true) {q : Nat} {v : Nat → Nat} (hZ : rd_ns f E A k (sp_nums.getD k 0) 0 (p + (rd_v k).length) (fun _ => 0) = (false, q, v)) : rd_item f E A p = (false, q, A) := rd_item_f h hk hf hZ
theorem rd_item_y {f : Nat → Int32} {E p k : Nat} {A : ab_S} (h : ¬ (rd_mat f E (rd_w 3) p = p + 6 ∧ A.1.1 0 0 = 7)) (hk : k = rd_sel f E p) (hf : rd_full f E p k = true) {q : Nat} {v : Nat → Nat} (hZ : rd_ns f E A k (sp_nums.getD k 0) 0 (p + (rd_v k).length) (fun _ => 0) = (true, q, v)) : rd_item f E A p = (true, q, rd_do A k v) := rd_item_f h hk hf hZ
/-- numbers, one by one -/
theorem rd_ns_b {f : Nat → Int32} {E : Nat} {A : ab_S} {w m i q : Nat} {v : Nat → Nat} (hm : 0 < m) (hi : ¬ i = 0) (h : rd_is f E q 32 = false) : rd_ns f E A w m i q v = (false, q, v) := by
  obtain ⟨m, rfl⟩ : ∃ k, m = k + 1 := ⟨m - 1, by omega⟩
  rw [rd_ns, if_neg (by rw [h]; simp [hi])]
theorem rd_ns_d {f : Nat → Int32} {E : Nat} {A : ab_S} {w m i q Q : Nat} {v : Nat → Nat} (hm : 0 < m) (hQ : (i = 0 ∧ Q = q) ∨ (¬ i = 0 ∧ Q = q + 1 ∧ rd_is f E q 32 = true)) (h : rd_dig f E Q = false) : rd_ns f E A w m i q v = (false, Q, v) := by
  obtain ⟨m, rfl⟩ : ∃ k, m = k + 1 := ⟨m - 1, by omega⟩
  have e : (if i = 0 then q else q + 1) = Q := by split <;> omega
  rw [rd_ns, if_pos (hQ.imp (fun z => z.1) (fun z => z.2.2)), e, if_neg (by rw [h]; decide)]
theorem rd_ns_o {f : Nat → Int32} {E : Nat} {A : ab_S} {w m i q Q : Nat} {v : Nat → Nat} (hm : 0 < m) (hQ : (i = 0 ∧ Q = q) ∨ (¬ i = 0 ∧ Q = q + 1 ∧ rd_is f E q 32 = true)) (h : rd_dig f E Q = true) (h2 : rd_so A w i (rd_num f E Q) = false) : rd_ns f E A w m i q v = (false, Q, v) := by
  obtain ⟨m, rfl⟩ : ∃ k, m = k + 1 := ⟨m - 1, by omega⟩
  have e : (if i = 0 then q else q + 1) = Q := by split <;> omega
  rw [rd_ns, if_pos (hQ.imp (fun z => z.1) (fun z => z.2.2)), e, if_pos h, if_neg (by rw [h2]; decide)]
theorem rd_ns_s {f : Nat → Int32} {E : Nat} {A : ab_S} {w m i q Q : Nat} {v : Nat → Nat} (hQ : (i = 0 ∧ Q = q) ∨ (¬ i = 0 ∧ Q = q + 1 ∧ rd_is f E q 32 = true)) (h : rd_dig f E Q = true) (h2 : rd_so A w i (rd_num f E Q) = true) : rd_ns f E A w (m + 1) i q v = rd_ns f E A w m (i + 1) (rd_end f E Q) (fun j => if j = i then rd_num f E Q else v j) := by
  have e : (if i = 0 then q else q + 1) = Q := by split <;> omega
  rw [rd_ns, if_pos (hQ.imp (fun z => z.1) (fun z => z.2.2)), e, if_pos h, if_pos h2]
theorem rd_is_b {f : Nat → Int32} {E p c : Nat} : rd_is f E p c = true ↔ (p < E ∧ f p = nI c) := by simp [rd_is]
theorem rd_is_f {f : Nat → Int32} {E p c : Nat} (h : ¬ (p < E ∧ f p = nI c)) : rd_is f E p c = false := decide_eq_false h
