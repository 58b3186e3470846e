/-! small things for the ends of walks -/
theorem hz_b1 {b : Bool} (h : b = true) : (Sum.inl (some (Value.int (nI 1))) : hg_R) = .inl (some (.int (bI b))) := by subst h; rfl
theorem hz_b0 {b : Bool} (h : b = false) : (Sum.inl (some (Value.int (nI 0))) : hg_R) = .inl (some (.int (bI b))) := by subst h; rfl
theorem hz_i {v w : Int32} (h : v = w) : (Sum.inl (some (Value.int v)) : hg_R) = .inl (some (.int w)) := by subst h; rfl
theorem hz_l {v w : Int64} (h : v = w) : (Sum.inl (some (Value.long v)) : hg_R) = .inl (some (.long w)) := by subst h; rfl
theorem bI_nar (b : Bool) : narrow .boolean (.int (bI b)) = .int (bI b) := by cases b <;> rfl
theorem va_rf_cat (o : Option Nat) : (va_rf o).category = 1 := by cases o <;> rfl
/-- an int within n; an int between two -/
def sp_in (x : Int32) (n : Nat) : Bool := decide (0 ≤ x ∧ x < nI n)
def sp_fr (x a b : Int32) : Bool := decide (a ≤ x ∧ x ≤ b)
theorem sp_in_of {x : Int32} {n : Nat} (hn : n < 2 ^ 31) (h : sp_in x n = true) : ∃ j : Nat, j < n ∧ x = nI j := by
  have h := of_decide_eq_true h
  obtain ⟨j, hj, rfl⟩ := nI_of (x := x) (Int32.not_lt.mpr h.1)
  exact ⟨j, (nI_ltI hj hn).mp h.2, rfl⟩
theorem sp_in_t {n j : Nat} (hj : j < n) (hn : n < 2 ^ 31) : sp_in (nI j) n = true := decide_eq_true ⟨nI_pos' (by omega), nI_lt hj hn⟩
theorem sp_in_a {x : Int32} {n : Nat} (h : x < 0) : sp_in x n = false := decide_eq_false fun y => Int32.not_lt.mpr y.1 h
theorem sp_fr_a {x a b : Int32} (h : x < a) : sp_fr x a b = false := decide_eq_false fun y => Int32.not_lt.mpr y.1 h
/-! THE TOWN AS NUMBERS. t.1 f i: 0 people, 1 mite, 2 reach, 3 rain (at i = 0), 9 kind, 10 part, 11 looks, 12 shame, 13 purse, 14 at, 15 sacked, 16 wall, 17 balcony, 36 who isn't there in thought (99: nobody); t.2: 4 hours gone, 5 taken, 6 seed -/
abbrev sp_S : Type := (Nat → Nat → Nat) × (Nat → Int32)
def sp_dist (a b : Nat) : Nat := (a / 6 - b / 6) + (b / 6 - a / 6) + ((a % 6 - b % 6) + (b % 6 - a % 6))
/-- no wall from c on, by steps of st, before hi -/
def sp_clr (w : Nat → Nat) (st hi : Nat) : Nat → Nat → Bool
  | 0, _ => true
  | n + 1, c => if c < hi then (if w c = 1 then false else sp_clr w st hi n (c + st)) else true
def sp_sees (t : sp_S) (a b : Nat) : Bool :=
  if a = b then true else if (a / 6 ≠ b / 6 ∧ a % 6 ≠ b % 6) ∨ t.1 2 0 < sp_dist a b then false
  else sp_clr (t.1 16) (if a / 6 = b / 6 then 1 else 6) (max a b) 50 (min a b + (if a / 6 = b / 6 then 1 else 6))
def sp_lit (t : sp_S) (c : Nat) : Bool := (List.range 36).any fun b => t.1 17 b == 1 && sp_sees t b c
def sp_shows (t : sp_S) (x : Nat) : Nat :=
  if t.1 15 x = 1 then 0 else
    let v := if t.1 9 x = 1 then 2 * t.1 11 x else if t.1 9 x = 2 then 2 * t.1 11 x + t.1 10 x else if t.1 9 x = 6 then t.1 11 x - t.1 12 x else t.1 11 x
    if t.1 3 0 = 1 then v / 2 else v
def sp_would (t : sp_S) (x y : Nat) : Bool :=
  decide (x ≠ y ∧ x ≠ t.1 36 0 ∧ y ≠ t.1 36 0 ∧ t.1 9 x ≠ 3 ∧ t.1 9 x ≠ 5) && (sp_sees t (t.1 14 x) (t.1 14 y) && decide (t.1 12 x + sp_dist (t.1 14 x) (t.1 14 y) < sp_shows t y))
/-- whom one likes best among the first i (99: nobody) -/
def sp_best (t : sp_S) (x : Nat) : Nat → Nat
  | 0 => 99
  | y + 1 => if sp_would t x y = true ∧ (sp_best t x y = 99 ∨ sp_dist (t.1 14 x) (t.1 14 y) < sp_dist (t.1 14 x) (t.1 14 (sp_best t x y)) ∨ (sp_dist (t.1 14 x) (t.1 14 y) = sp_dist (t.1 14 x) (t.1 14 (sp_best t x y)) ∧ sp_shows t (sp_best t x y) < sp_shows t y)) then y else sp_best t x y
/-- a set of numbers under n as bits -/
def sp_bits (f : Nat → Bool) : Nat → Nat
  | 0 => 0
  | i + 1 => sp_bits f i + (if f i = true then 2 ^ i else 0)
def sp_bit (s y : Nat) : Bool := s / 2 ^ y % 2 == 1
def sp_lookedAt (t : sp_S) (x : Nat) : Nat :=
  if t.1 9 x = 4 ∨ t.1 9 x = 6 then (if sp_best t x (t.1 0 0) = 99 then 0 else 2 ^ sp_best t x (t.1 0 0)) else sp_bits (sp_would t x) (t.1 0 0)
def sp_lookers (t : sp_S) (y : Nat) : Nat := sp_bits (fun x => sp_bit (sp_lookedAt t x) y) (t.1 0 0)
def sp_cnt (s : Nat) : Nat → Nat
  | 0 => 0
  | k + 1 => sp_cnt s k + s / 2 ^ k % 2
def sp_entered (t : sp_S) (y : Nat) : Nat := if sp_lit t (t.1 14 y) = true then sp_cnt (sp_lookers t y) 7 else 0
def sp_owes (t : sp_S) (y : Nat) : Nat :=
  if t.1 9 y = 5 ∨ y = t.1 36 0 ∨ ¬ sp_lit t (t.1 14 y) = true then 0 else
    if t.1 9 y = 2 then t.1 1 0 * sp_cnt (sp_lookers t y) 7 - t.1 1 0 * sp_cnt (sp_lookers t y) 7 / 9 else t.1 1 0 * sp_cnt (sp_lookers t y) 7
def sp_sum (f : Nat → Nat) : Nat → Nat
  | 0 => 0
  | i + 1 => sp_sum f i + f i
def sp_wouldPay (t : sp_S) (x : Nat) : Nat := t.1 1 0 * sp_sum (fun y => if (sp_bit (sp_lookedAt t x) y && sp_lit t (t.1 14 y)) = true then 1 else 0) (t.1 0 0)
def sp_duties (t : sp_S) : Nat := sp_sum (sp_owes t) (t.1 0 0)
/-- the numbers are in their ranges -/
def sp_wf (t : sp_S) : Prop :=
  t.1 0 0 ≤ 7 ∧ (1 ≤ t.1 1 0 ∧ t.1 1 0 ≤ 9) ∧ (1 ≤ t.1 2 0 ∧ t.1 2 0 ≤ 5) ∧ t.1 3 0 ≤ 1 ∧
  (∀ p, p < 7 → t.1 9 p ≤ 6 ∧ t.1 10 p ≤ 9 ∧ t.1 11 p ≤ 20 ∧ t.1 12 p ≤ 9 ∧ t.1 13 p ≤ 9999 ∧ t.1 14 p < 36 ∧ t.1 15 p ≤ 1) ∧
  (∀ c, c < 36 → t.1 16 c ≤ 1 ∧ t.1 17 c ≤ 1) ∧ (∀ p, p < t.1 0 0 → t.1 16 (t.1 14 p) = 0) ∧ (t.1 36 0 = 99 ∨ t.1 36 0 < t.1 0 0)
section SPW
variable {t : sp_S}
theorem sp_wf.b0 (h : sp_wf t) : t.1 0 0 ≤ 7 := h.1
theorem sp_wf.b1 (h : sp_wf t) : 1 ≤ t.1 1 0 ∧ t.1 1 0 ≤ 9 := h.2.1
theorem sp_wf.b2 (h : sp_wf t) : 1 ≤ t.1 2 0 ∧ t.1 2 0 ≤ 5 := h.2.2.1
theorem sp_wf.b3 (h : sp_wf t) : t.1 3 0 ≤ 1 := h.2.2.2.1
theorem sp_wf.b9 (h : sp_wf t) {p : Nat} (hp : p < 7) : t.1 9 p ≤ 6 := (h.2.2.2.2.1 p hp).1
theorem sp_wf.b10 (h : sp_wf t) {p : Nat} (hp : p < 7) : t.1 10 p ≤ 9 := (h.2.2.2.2.1 p hp).2.1
theorem sp_wf.b11 (h : sp_wf t) {p : Nat} (hp : p < 7) : t.1 11 p ≤ 20 := (h.2.2.2.2.1 p hp).2.2.1
theorem sp_wf.b12 (h : sp_wf t) {p : Nat} (hp : p < 7) : t.1 12 p ≤ 9 := (h.2.2.2.2.1 p hp).2.2.2.1
theorem sp_wf.b13 (h : sp_wf t) {p : Nat} (hp : p < 7) : t.1 13 p ≤ 9999 := (h.2.2.2.2.1 p hp).2.2.2.2.1
theorem sp_wf.b14 (h : sp_wf t) {p : Nat} (hp : p < 7) : t.1 14 p < 36 := (h.2.2.2.2.1 p hp).2.2.2.2.2.1
theorem sp_wf.b15 (h : sp_wf t) {p : Nat} (hp : p < 7) : t.1 15 p ≤ 1 := (h.2.2.2.2.1 p hp).2.2.2.2.2.2
theorem sp_wf.b16 (h : sp_wf t) {c : Nat} (hc : c < 36) : t.1 16 c ≤ 1 := (h.2.2.2.2.2.1 c hc).1
theorem sp_wf.b17 (h : sp_wf t) {c : Nat} (hc : c < 36) : t.1 17 c ≤ 1 := (h.2.2.2.2.2.1 c hc).2
theorem sp_wf.fr (h : sp_wf t) {p : Nat} (hp : p < t.1 0 0) : t.1 16 (t.1 14 p) = 0 := h.2.2.2.2.2.2.1 p hp
theorem sp_wf.b36 (h : sp_wf t) : t.1 36 0 = 99 ∨ t.1 36 0 < t.1 0 0 := h.2.2.2.2.2.2.2
end SPW
theorem sp_dist_lt {a b : Nat} (ha : a < 36) (hb : b < 36) : sp_dist a b ≤ 10 := by unfold sp_dist; omega
theorem sp_dist_i {a b : Nat} (ha : a < 36) (hb : b < 36) (hab : a / 6 = b / 6 ∨ a % 6 = b % 6) (h : ¬ 0 ≤ nI (a / 6) - nI (b / 6) + (nI (a % 6) - nI (b % 6))) : -(nI (a / 6) - nI (b / 6) + (nI (a % 6) - nI (b % 6))) = nI (sp_dist a b) := by
  revert hab h
  have key : ∀ a, a < 36 → ∀ b, b < 36 → (a / 6 = b / 6 ∨ a % 6 = b % 6) → ¬ 0 ≤ nI (a / 6) - nI (b / 6) + (nI (a % 6) - nI (b % 6)) → -(nI (a / 6) - nI (b / 6) + (nI (a % 6) - nI (b % 6))) = nI (sp_dist a b) := by decide +kernel
  exact key a ha b hb
theorem sp_dist_j {a b : Nat} (ha : a < 36) (hb : b < 36) (hab : a / 6 = b / 6 ∨ a % 6 = b % 6) (h : 0 ≤ nI (a / 6) - nI (b / 6) + (nI (a % 6) - nI (b % 6))) : nI (a / 6) - nI (b / 6) + (nI (a % 6) - nI (b % 6)) = nI (sp_dist a b) := by
  revert hab h
  have key : ∀ a, a < 36 → ∀ b, b < 36 → (a / 6 = b / 6 ∨ a % 6 = b % 6) → 0 ≤ nI (a / 6) - nI (b / 6) + (nI (a % 6) - nI (b % 6)) → nI (a / 6) - nI (b / 6) + (nI (a % 6) - nI (b % 6)) = nI (sp_dist a b) := by decide +kernel
  exact key a ha b hb
theorem sp_clr_e {w : Nat → Nat} {st hi n c : Nat} (h : hi ≤ c) : sp_clr w st hi n c = true := by
  cases n with
  | zero => rfl
  | succ n => rw [sp_clr, if_neg (by omega)]
theorem sp_clr_w {w : Nat → Nat} {st hi n c : Nat} (h : c < hi) (hw : w c = 1) : sp_clr w st hi (n + 1) c = false := by
  rw [sp_clr, if_pos h, if_pos hw]
theorem sp_clr_s {w : Nat → Nat} {st hi n c : Nat} (h : c < hi) (hw : ¬ w c = 1) : sp_clr w st hi (n + 1) c = sp_clr w st hi n (c + st) := by
  rw [sp_clr, if_pos h, if_neg hw]
theorem sp_sees_eq {t : sp_S} {a b : Nat} (h : a = b) : sp_sees t a b = true := by rw [sp_sees, if_pos h]
theorem sp_sees_no {t : sp_S} {a b : Nat} (h : ¬ a = b) (hd : (a / 6 ≠ b / 6 ∧ a % 6 ≠ b % 6) ∨ t.1 2 0 < sp_dist a b) : sp_sees t a b = false := by rw [sp_sees, if_neg h, if_pos hd]
theorem sp_sees_go {t : sp_S} {a b : Nat} (h : ¬ a = b) (hd : ¬ ((a / 6 ≠ b / 6 ∧ a % 6 ≠ b % 6) ∨ t.1 2 0 < sp_dist a b)) : sp_clr (t.1 16) (if a / 6 = b / 6 then 1 else 6) (max a b) 50 (min a b + (if a / 6 = b / 6 then 1 else 6)) = sp_sees t a b := by rw [sp_sees, if_neg h, if_neg hd]
theorem sp_lit_f {t : sp_S} {c : Nat} (h : ∀ j, j < 36 → (t.1 17 j == 1 && sp_sees t j c) = false) : sp_lit t c = false := by
  unfold sp_lit
  rw [List.any_eq_false]
  intro j hj
  rw [h j (List.mem_range.mp hj)]
  decide
theorem sp_lit_t {t : sp_S} {b c : Nat} (hb : b < 36) (h1 : t.1 17 b = 1) (h2 : sp_sees t b c = true) : sp_lit t c = true := by
  unfold sp_lit
  rw [List.any_eq_true]
  exact ⟨b, List.mem_range.mpr hb, by simp [h1, h2]⟩
theorem sp_ext {P : Nat → Prop} {i : Nat} (h : ∀ j, j < i → P j) (hi : P i) : ∀ j, j < i + 1 → P j := fun j hj => by
  rcases Nat.lt_or_ge j i with g | g
  · exact h j g
  · rw [show j = i by omega]; exact hi
/-! bits -/
theorem sp_shl {i : Nat} (h : i < 31) : nI 1 <<< (nI i &&& 31) = nI (2 ^ i) := by
  revert i
  decide +kernel
theorem sp_shr {s y : Nat} (hs : s < 2 ^ 31) (hy : y < 8) : nI s >>> (nI y &&& 31) = nI (s / 2 ^ y) := by
  refine pk_shrN hs _ y ?_
  revert y
  decide +kernel
theorem sp_and1 {n : Nat} (h : n < 2 ^ 31) : nI n &&& nI 1 = nI (n % 2) := pk_andN (by omega) 1 (by decide)
theorem sp_pow {i : Nat} (h : i < 8) : 1 ≤ 2 ^ i ∧ 2 ^ i ≤ 128 := by
  revert i
  decide +kernel
theorem sp_bits_lt (f : Nat → Bool) : ∀ n, sp_bits f n < 2 ^ n
  | 0 => by rw [sp_bits]; decide
  | n + 1 => by
    have h := sp_bits_lt f n
    rw [sp_bits, Nat.pow_succ]
    split <;> omega
theorem sp_bits_128 (f : Nat → Bool) {n : Nat} (h : n ≤ 7) : sp_bits f n < 128 := Nat.lt_of_lt_of_le (sp_bits_lt f n) (show 2 ^ n ≤ 128 from (sp_pow (by omega)).2)
theorem sp_bits_t {f : Nat → Bool} {i : Nat} (h : f i = true) : sp_bits f i + 2 ^ i = sp_bits f (i + 1) := by rw [sp_bits, if_pos h]
theorem sp_bits_f {f : Nat → Bool} {i : Nat} (h : f i = false) : sp_bits f i = sp_bits f (i + 1) := by rw [sp_bits, if_neg (by rw [h]; decide), Nat.add_zero]
/-! what one shows -/
theorem sp_shows_lt {t : sp_S} (hw : sp_wf t) {x : Nat} (hx : x < 7) : sp_shows t x ≤ 49 := by
  have h1 := hw.b10 hx
  have h2 := hw.b11 hx
  unfold sp_shows
  split
  · omega
  · dsimp only
    split <;> split <;> (try split) <;> (try split) <;> omega
theorem sp_best_lt (t : sp_S) (x : Nat) : ∀ i, sp_best t x i = 99 ∨ sp_best t x i < i
  | 0 => Or.inl rfl
  | i + 1 => by
    have h := sp_best_lt t x i
    rw [sp_best]
    split
    · right; omega
    · rcases h with h | h
      · left; exact h
      · right; omega
theorem sp_lookedAt_lt {t : sp_S} (hw : sp_wf t) (x : Nat) : sp_lookedAt t x < 128 := by
  have h1 := hw.b0
  unfold sp_lookedAt
  split
  · split
    · decide
    · have h2 := sp_best_lt t x (t.1 0 0)
      have h3 : sp_best t x (t.1 0 0) < 7 := by omega
      revert h3
      generalize sp_best t x (t.1 0 0) = b
      revert b
      decide +kernel
  · exact sp_bits_128 _ h1
theorem sp_lookers_lt {t : sp_S} (hw : sp_wf t) (x : Nat) : sp_lookers t x < 128 := sp_bits_128 _ hw.b0
theorem sp_cnt_le (s : Nat) : ∀ k, sp_cnt s k ≤ k
  | 0 => Nat.le_refl _
  | k + 1 => by
    have h := sp_cnt_le s k
    rw [sp_cnt]
    omega
theorem sp_bit_1 {s y : Nat} : sp_bit s y = true ↔ s / 2 ^ y % 2 = 1 := by simp [sp_bit]
theorem sp_bit_0 {s y : Nat} : sp_bit s y = false ↔ ¬ s / 2 ^ y % 2 = 1 := by simp [sp_bit]
theorem sp_bit_le (s y : Nat) : s / 2 ^ y % 2 ≤ 1 := by omega
theorem sp_owes_lt {t : sp_S} (hw : sp_wf t) (x : Nat) : sp_owes t x ≤ 63 := by
  have h1 := hw.b1
  have h2 := sp_cnt_le (sp_lookers t x) 7
  have h3 : t.1 1 0 * sp_cnt (sp_lookers t x) 7 ≤ 9 * 7 := Nat.mul_le_mul h1.2 h2
  unfold sp_owes
  split
  · omega
  · split <;> omega
theorem sp_sum_le {f : Nat → Nat} {M : Nat} : ∀ {n}, (∀ j, j < n → f j ≤ M) → sp_sum f n ≤ n * M
  | 0, _ => by rw [sp_sum]; omega
  | n + 1, h => by
    have h1 := sp_sum_le (n := n) (fun j hj => h j (by omega))
    have h2 := h n (by omega)
    rw [sp_sum, Nat.succ_mul]
    omega
/-! whom one would look at -/
theorem sp_would_n {t : sp_S} {x y : Nat} (h : x = y ∨ x = t.1 36 0 ∨ y = t.1 36 0 ∨ t.1 9 x = 3 ∨ t.1 9 x = 5) : sp_would t x y = false := by
  rw [sp_would, decide_eq_false (by omega)]
  rfl
theorem sp_would_s {t : sp_S} {x y : Nat} (h : sp_sees t (t.1 14 x) (t.1 14 y) = false) : sp_would t x y = false := by
  rw [sp_would, h, Bool.false_and, Bool.and_false]
theorem sp_would_f {t : sp_S} {x y : Nat} (h : ¬ t.1 12 x + sp_dist (t.1 14 x) (t.1 14 y) < sp_shows t y) : sp_would t x y = false := by
  rw [sp_would, decide_eq_false (p := t.1 12 x + _ < _) h, Bool.and_false, Bool.and_false]
theorem sp_would_t {t : sp_S} {x y : Nat} (h : ¬ (x = y ∨ x = t.1 36 0 ∨ y = t.1 36 0 ∨ t.1 9 x = 3 ∨ t.1 9 x = 5)) (h1 : sp_sees t (t.1 14 x) (t.1 14 y) = true) (h2 : t.1 12 x + sp_dist (t.1 14 x) (t.1 14 y) < sp_shows t y) : sp_would t x y = true := by
  rw [sp_would, h1, decide_eq_true (p := t.1 12 x + _ < _) h2, decide_eq_true (by omega)]
  rfl
theorem sp_sees_line {t : sp_S} {a b : Nat} (h : sp_sees t a b = true) : a / 6 = b / 6 ∨ a % 6 = b % 6 := by
  by_cases e : a = b
  · left; rw [e]
  · by_cases d : (a / 6 ≠ b / 6 ∧ a % 6 ≠ b % 6) ∨ t.1 2 0 < sp_dist a b
    · rw [sp_sees_no e d] at h
      cases h
    · omega
theorem sp_would_line {t : sp_S} {x y : Nat} (h : sp_would t x y = true) : t.1 14 x / 6 = t.1 14 y / 6 ∨ t.1 14 x % 6 = t.1 14 y % 6 := by
  by_cases e : sp_sees t (t.1 14 x) (t.1 14 y) = true
  · exact sp_sees_line e
  · rw [sp_would_s (by simpa using e)] at h
    cases h
theorem sp_best_would {t : sp_S} {x : Nat} : ∀ i, sp_best t x i = 99 ∨ sp_would t x (sp_best t x i) = true
  | 0 => Or.inl rfl
  | i + 1 => by
    have h := sp_best_would (t := t) (x := x) i
    rw [sp_best]
    split
    · rename_i g
      exact Or.inr g.1
    · exact h
theorem sp_best_n {t : sp_S} {x y : Nat} (h : sp_would t x y = false) : sp_best t x (y + 1) = sp_best t x y := by
  rw [sp_best, if_neg]
  rw [h]
  simp
theorem sp_best_y {t : sp_S} {x y b : Nat} (hb : b = sp_best t x y) (h : sp_would t x y = true) (g : b = 99 ∨ sp_dist (t.1 14 x) (t.1 14 y) < sp_dist (t.1 14 x) (t.1 14 b) ∨ (sp_dist (t.1 14 x) (t.1 14 y) = sp_dist (t.1 14 x) (t.1 14 b) ∧ sp_shows t b < sp_shows t y)) : y = sp_best t x (y + 1) := by
  subst hb
  rw [sp_best, if_pos ⟨h, g⟩]
theorem sp_best_k {t : sp_S} {x y b : Nat} (hb : b = sp_best t x y) (g : ¬ (b = 99 ∨ sp_dist (t.1 14 x) (t.1 14 y) < sp_dist (t.1 14 x) (t.1 14 b) ∨ (sp_dist (t.1 14 x) (t.1 14 y) = sp_dist (t.1 14 x) (t.1 14 b) ∧ sp_shows t b < sp_shows t y))) : b = sp_best t x (y + 1) := by
  subst hb
  rw [sp_best, if_neg]
  intro h
  exact g h.2
theorem sp_sub_gt {a b : Nat} (ha : a ≤ 10) (hb : b ≤ 10) : 0 < nI a - nI b ↔ b < a := by
  have key : ∀ a, a < 11 → ∀ b, b < 11 → (0 < nI a - nI b ↔ b < a) := by decide +kernel
  exact key a (by omega) b (by omega)
theorem sp_sub_z {a b : Nat} (ha : a ≤ 10) (hb : b ≤ 10) : nI a - nI b = 0 ↔ a = b := by
  have key : ∀ a, a < 11 → ∀ b, b < 11 → (nI a - nI b = 0 ↔ a = b) := by decide +kernel
  exact key a (by omega) b (by omega)
theorem sp_lookedAt_a {t : sp_S} {x i s : Nat} (hi : i = t.1 0 0) (hs : s = sp_bits (sp_would t x) i) (h : ¬ (t.1 9 x = 4 ∨ t.1 9 x = 6)) : s = sp_lookedAt t x := by
  subst hi hs
  rw [sp_lookedAt, if_neg h]
theorem sp_lookedAt_z {t : sp_S} {x i b : Nat} (hi : i = t.1 0 0) (hb : b = sp_best t x i) (h : t.1 9 x = 4 ∨ t.1 9 x = 6) (e : b = 99) : 0 = sp_lookedAt t x := by
  subst hi hb
  rw [sp_lookedAt, if_pos h, if_pos e]
theorem sp_lookedAt_o {t : sp_S} {x i b : Nat} (hi : i = t.1 0 0) (hb : b = sp_best t x i) (h : t.1 9 x = 4 ∨ t.1 9 x = 6) (e : ¬ b = 99) : 2 ^ b = sp_lookedAt t x := by
  subst hi hb
  rw [sp_lookedAt, if_pos h, if_neg e]
theorem sp_owes_z {t : sp_S} {y : Nat} (h : t.1 9 y = 5 ∨ y = t.1 36 0 ∨ sp_lit t (t.1 14 y) = false) : 0 = sp_owes t y := by
  rw [sp_owes, if_pos]
  rcases h with h | h | h
  · exact Or.inl h
  · exact Or.inr (Or.inl h)
  · exact Or.inr (Or.inr (by rw [h]; decide))
theorem sp_owes_n {t : sp_S} {y : Nat} (h : ¬ (t.1 9 y = 5 ∨ y = t.1 36 0)) (hl : sp_lit t (t.1 14 y) = true) : sp_owes t y = if t.1 9 y = 2 then t.1 1 0 * sp_cnt (sp_lookers t y) 7 - t.1 1 0 * sp_cnt (sp_lookers t y) 7 / 9 else t.1 1 0 * sp_cnt (sp_lookers t y) 7 := by
  rw [sp_owes, if_neg]
  rintro (g | g | g)
  · exact h (Or.inl g)
  · exact h (Or.inr g)
  · exact g hl
theorem sp_sum_t {f : Nat → Bool} {i s : Nat} (hs : s = sp_sum (fun y => if f y = true then 1 else 0) i) (h : f i = true) : s + 1 = sp_sum (fun y => if f y = true then 1 else 0) (i + 1) := by
  rw [sp_sum, hs]; simp [h]
theorem sp_sum_f {f : Nat → Bool} {i s : Nat} (hs : s = sp_sum (fun y => if f y = true then 1 else 0) i) (h : f i = false) : s = sp_sum (fun y => if f y = true then 1 else 0) (i + 1) := by
  rw [sp_sum, hs]; simp [h]
/-! THE REFERENCE's object: at m; its arrays at am k (k: the field's number). s.1: its ints; s.2.1 k: the ints of array k; s.2.2 k: the longs of array k -/
abbrev tw_S : Type := (Nat → Int32) × (Nat → Nat → Int32) × (Nat → Nat → Int64)
def tw_ll : List Nat := [0, 0, 0, 0, 0, 0, 0, 0, 8, 7, 7, 7, 7, 7, 7, 7, 36, 36, 8, 8, 8, 8, 1280, 160, 47, 7, 6, 6, 0, 0, 0, 0, 0, 130, 130, 130, 0, 36, 36, 7, 0, 20, 0, 0]
def tw_len (k : Nat) : Nat := tw_ll.getD k 0
def tw_t (k : Nat) : Nat := if k = 22 ∨ k = 23 then 1 else 0
def tw_isA (k : Nat) : Bool := hg_ft 5 k == 2 && decide (k < 44)
def tw_setS (s : tw_S) (k : Nat) (v : Int32) : tw_S := ((fun j => if j = k then v else s.1 j), s.2)
def tw_setA (s : tw_S) (k j : Nat) (v : Int32) : tw_S := (s.1, (fun a i => if a = k then (if i = j then v else s.2.1 a i) else s.2.1 a i), s.2.2)
def tw_setJ (s : tw_S) (k j : Nat) (v : Int64) : tw_S := (s.1, s.2.1, (fun a i => if a = k then (if i = j then v else s.2.2 a i) else s.2.2 a i))
theorem tw_setS1 (s : tw_S) (k : Nat) (v : Int32) (j : Nat) : (tw_setS s k v).1 j = if j = k then v else s.1 j := rfl
theorem tw_setS2 (s : tw_S) (k : Nat) (v : Int32) : (tw_setS s k v).2 = s.2 := rfl
theorem tw_setA1 (s : tw_S) (k j : Nat) (v : Int32) : (tw_setA s k j v).1 = s.1 := rfl
theorem tw_setA2 (s : tw_S) (k j : Nat) (v : Int32) (a i : Nat) : (tw_setA s k j v).2.1 a i = if a = k then (if i = j then v else s.2.1 a i) else s.2.1 a i := rfl
theorem tw_setA3 (s : tw_S) (k j : Nat) (v : Int32) : (tw_setA s k j v).2.2 = s.2.2 := rfl
theorem tw_setJ1 (s : tw_S) (k j : Nat) (v : Int64) : (tw_setJ s k j v).1 = s.1 := rfl
theorem tw_setJ2 (s : tw_S) (k j : Nat) (v : Int64) : (tw_setJ s k j v).2.1 = s.2.1 := rfl
theorem tw_setJ3 (s : tw_S) (k j : Nat) (v : Int64) (a i : Nat) : (tw_setJ s k j v).2.2 a i = if a = k then (if i = j then v else s.2.2 a i) else s.2.2 a i := rfl
def tw_R (G : hg_G) (m : Nat) (am : Nat → Nat) (s : tw_S) : Prop :=
  G.1 m = some (0, 5) ∧ (∀ k, tw_isA k = true → G.2.2.2 m k = some (am k) ∧ G.1 (am k) = some (tw_t k + 1, tw_len k)) ∧ (∀ k k', tw_isA k = true → tw_isA k' = true → am k = am k' → k = k') ∧
  (∀ k, G.2.1 m k = s.1 k) ∧ (∀ k, tw_isA k = true → ∀ j, G.2.1 (am k) j = s.2.1 k j) ∧ ∀ k, tw_isA k = true → ∀ j, G.2.2.1 (am k) j = s.2.2 k j
section TWR
variable {G : hg_G} {m : Nat} {am : Nat → Nat} {s : tw_S}
theorem tw_R.om (h : tw_R G m am s) : G.1 m = some (0, 5) := h.1
theorem tw_R.f (h : tw_R G m am s) {k : Nat} (hk : tw_isA k = true) : G.2.2.2 m k = some (am k) := (h.2.1 k hk).1
theorem tw_R.ka (h : tw_R G m am s) {k t n : Nat} (hk : tw_isA k = true) (ht : tw_t k = t) (hn : tw_len k = n) : G.1 (am k) = some (t + 1, n) := by rw [← ht, ← hn]; exact (h.2.1 k hk).2
theorem tw_R.sc (h : tw_R G m am s) (k : Nat) : G.2.1 m k = s.1 k := h.2.2.2.1 k
theorem tw_R.ar (h : tw_R G m am s) {k : Nat} (hk : tw_isA k = true) (j : Nat) : G.2.1 (am k) j = s.2.1 k j := h.2.2.2.2.1 k hk j
theorem tw_R.lg (h : tw_R G m am s) {k : Nat} (hk : tw_isA k = true) (j : Nat) : G.2.2.1 (am k) j = s.2.2 k j := h.2.2.2.2.2 k hk j
theorem tw_R.ne (h : tw_R G m am s) {k : Nat} (hk : tw_isA k = true) : am k ≠ m := by
  intro e
  have h1 := (h.2.1 k hk).2
  rw [e, h.1] at h1
  cases h1
theorem tw_R.setS (h : tw_R G m am s) (k : Nat) (v : Int32) : tw_R (hs_I G m k v) m am (tw_setS s k v) := by
  refine ⟨h.1, h.2.1, h.2.2.1, fun j => ?_, fun a ha j => ?_, h.2.2.2.2.2⟩
  · rw [hs_II, tw_setS1]
    by_cases e : j = k
    · simp [e]
    · simp [e, h.sc j]
  · rw [hs_II, if_neg (h.ne ha), ite_self]
    exact h.ar ha j
theorem tw_R.setA (h : tw_R G m am s) {k : Nat} (hk : tw_isA k = true) (j : Nat) (v : Int32) : tw_R (hs_I G (am k) j v) m am (tw_setA s k j v) := by
  refine ⟨h.1, h.2.1, h.2.2.1, fun i => ?_, fun a ha i => ?_, h.2.2.2.2.2⟩
  · rw [hs_II, if_neg (Ne.symm (h.ne hk)), ite_self]
    exact h.sc i
  · rw [hs_II, tw_setA2, h.ar ha i]
    by_cases e : a = k
    · subst e
      simp
    · have e2 : am a ≠ am k := fun z => e (h.2.2.1 a k ha hk z)
      simp [e, e2]
theorem tw_R.setJ (h : tw_R G m am s) {k : Nat} (hk : tw_isA k = true) (j : Nat) (v : Int64) : tw_R (hs_J G (am k) j v) m am (tw_setJ s k j v) := by
  refine ⟨h.1, h.2.1, h.2.2.1, h.2.2.2.1, h.2.2.2.2.1, fun a ha i => ?_⟩
  rw [hs_JJ, tw_setJ3, h.lg ha i]
  by_cases e : a = k
  · subst e
    simp
  · have e2 : am a ≠ am k := fun z => e (h.2.2.1 a k ha hk z)
    simp [e, e2]
end TWR
/-- the reference's town is the numbers t -/
def tw_T (s : tw_S) (t : sp_S) : Prop :=
  (∀ k, k < 4 → s.1 k = nI (t.1 k 0)) ∧ (s.1 4 = t.2 4 ∧ s.1 5 = t.2 5 ∧ s.1 6 = t.2 6) ∧ (s.1 36 = oI (t.1 36 0)) ∧ (∀ k, 9 ≤ k → k ≤ 15 → ∀ p, p < 7 → s.2.1 k p = nI (t.1 k p)) ∧ ∀ k, 16 ≤ k → k ≤ 17 → ∀ c, c < 36 → s.2.1 k c = nI (t.1 k c)
theorem tw_T.sc {s : tw_S} {t : sp_S} (h : tw_T s t) {k : Nat} (hk : k < 4) : s.1 k = nI (t.1 k 0) := h.1 k hk
theorem tw_T.p {s : tw_S} {t : sp_S} (h : tw_T s t) {k : Nat} (h1 : 9 ≤ k) (h2 : k ≤ 15) {p : Nat} (hp : p < 7) : s.2.1 k p = nI (t.1 k p) := h.2.2.2.1 k h1 h2 p hp
theorem tw_T.c {s : tw_S} {t : sp_S} (h : tw_T s t) {k : Nat} (h1 : 16 ≤ k) (h2 : k ≤ 17) {p : Nat} (hp : p < 36) : s.2.1 k p = nI (t.1 k p) := h.2.2.2.2 k h1 h2 p hp
