/-! changes and changes back -/
theorem ab_ext {A B : ab_S} (h1 : ∀ a i, A.1.1 a i = B.1.1 a i) (h2 : ∀ k, A.1.2 k = B.1.2 k) (h3 : A.2.1 = B.2.1) (h4 : ∀ a i, A.2.2.1 a i = B.2.2.1 a i) (h5 : ∀ i, A.2.2.2 i = B.2.2.2 i) : A = B := by
  obtain ⟨⟨a1, a2⟩, a3, a4, a5⟩ := A
  obtain ⟨⟨b1, b2⟩, b3, b4, b5⟩ := B
  have e1 : a1 = b1 := funext fun a => funext fun i => h1 a i
  have e2 : a2 = b2 := funext h2
  have e4 : a4 = b4 := funext fun a => funext fun i => h4 a i
  have e5 : a5 = b5 := funext h5
  have e3 : a3 = b3 := h3
  subst e1 e2 e3 e4 e5
  rfl
theorem sp_set_id (t : sp_S) (k j : Nat) : sp_set t k j (t.1 k j) = t := by
  obtain ⟨t1, t2⟩ := t
  refine Prod.ext (funext fun a => funext fun i => ?_) rfl
  show (if a = k then (if i = j then t1 k j else t1 a i) else t1 a i) = t1 a i
  split
  · split
    · subst_vars; rfl
    · rfl
  · rfl
theorem sp_set_set (t : sp_S) (k j n n' : Nat) : sp_set (sp_set t k j n) k j n' = sp_set t k j n' := by
  refine Prod.ext (funext fun a => funext fun i => ?_) rfl
  show (if a = k then (if i = j then n' else (sp_set t k j n).1 a i) else (sp_set t k j n).1 a i) = if a = k then (if i = j then n' else t.1 a i) else t.1 a i
  split
  · split
    · rfl
    · rename_i h1 h2
      subst h1
      exact sp_set_i h2
  · rename_i h1
    exact sp_set_o h1
theorem ab_n_id (A : ab_S) (k j : Nat) : ab_n A k j (A.1.1 k j) = A := by
  unfold ab_n
  rw [sp_set_id]
theorem ab_n_n (A : ab_S) (k j n n' : Nat) : ab_n (ab_n A k j n) k j n' = ab_n A k j n' := by
  unfold ab_n
  rw [show (sp_set A.1 k j n, A.2).1 = sp_set A.1 k j n from rfl, sp_set_set]
theorem ab_n_back (A : ab_S) (k j n : Nat) : ab_n (ab_n A k j n) k j (A.1.1 k j) = A := by rw [ab_n_n, ab_n_id]
/-! ranges kept -/
theorem sp_wf_look {t : sp_S} (h : sp_wf t) {x n : Nat} (hn : n ≤ 20) : sp_wf (sp_set t 11 x n) := by
  obtain ⟨h1, h2, h3, h4, h5, h6, h7, h8⟩ := h
  refine ⟨h1, h2, h3, h4, fun p hp => ?_, h6, h7, h8⟩
  obtain ⟨a1, a2, a3, a4⟩ := h5 p hp
  refine ⟨a1, a2, ?_, a4⟩
  show (if p = x then n else t.1 11 p) ≤ 20
  split <;> omega
theorem sp_wf_balcony {t : sp_S} (h : sp_wf t) {x n : Nat} (hn : n ≤ 1) : sp_wf (sp_set t 17 x n) := by
  obtain ⟨h1, h2, h3, h4, h5, h6, h7, h8⟩ := h
  refine ⟨h1, h2, h3, h4, h5, fun c hc => ⟨(h6 c hc).1, ?_⟩, h7, h8⟩
  have := (h6 c hc).2
  show (if c = x then n else t.1 17 c) ≤ 1
  split <;> omega
theorem sp_wf_missing {t : sp_S} (h : sp_wf t) {n : Nat} (hn : n = 99 ∨ n < t.1 0 0) : sp_wf (sp_set t 36 0 n) := by
  obtain ⟨h1, h2, h3, h4, h5, h6, h7, h8⟩ := h
  exact ⟨h1, h2, h3, h4, h5, h6, h7, hn⟩
theorem sp_wf_at {t : sp_S} (h : sp_wf t) {x c : Nat} (hc : c < 36) (hf : t.1 16 c = 0) : sp_wf (sp_set t 14 x c) := by
  obtain ⟨h1, h2, h3, h4, h5, h6, h7, h8⟩ := h
  refine ⟨h1, h2, h3, h4, fun p hp => ?_, h6, fun p hp => ?_, h8⟩
  · obtain ⟨a1, a2, a3, a4, a5, a6, a7⟩ := h5 p hp
    refine ⟨a1, a2, a3, a4, a5, ?_, a7⟩
    show (if p = x then c else t.1 14 p) < 36
    split <;> omega
  · show t.1 16 (if p = x then c else t.1 14 p) = 0
    split
    · exact hf
    · exact h7 p hp
theorem sp_wf_purse {t : sp_S} (h : sp_wf t) {x n : Nat} (hn : n ≤ 9999) : sp_wf (sp_set t 13 x n) := by
  obtain ⟨h1, h2, h3, h4, h5, h6, h7, h8⟩ := h
  refine ⟨h1, h2, h3, h4, fun p hp => ?_, h6, h7, h8⟩
  obtain ⟨a1, a2, a3, a4, a5, a6⟩ := h5 p hp
  refine ⟨a1, a2, a3, a4, ?_, a6⟩
  show (if p = x then n else t.1 13 p) ≤ 9999
  split <;> omega
theorem sp_wf_rain {t : sp_S} (h : sp_wf t) {n : Nat} (hn : n ≤ 1) : sp_wf (sp_set t 3 0 n) := by
  obtain ⟨h1, h2, h3, h4, h5, h6, h7, h8⟩ := h
  exact ⟨h1, h2, h3, hn, h5, h6, h7, h8⟩
theorem sp_wf_seti {t : sp_S} (h : sp_wf t) (k : Nat) (v : Int32) : sp_wf (sp_seti t k v) := h
/-- the sacks of a set put on -/
def ab_f (A : ab_S) (g : Nat → Nat) : ab_S := (((fun a i => if a = 15 then g i else A.1.1 a i), A.1.2), A.2)
theorem ab_f_id (A : ab_S) : ab_f A (A.1.1 15) = A := by
  refine ab_ext (fun a i => ?_) (fun _ => rfl) rfl (fun _ _ => rfl) (fun _ => rfl)
  show (if a = 15 then A.1.1 15 i else A.1.1 a i) = A.1.1 a i
  split
  · subst_vars; rfl
  · rfl
theorem ab_f_n (A : ab_S) (g : Nat → Nat) (x n : Nat) : ab_n (ab_f A g) 15 x n = ab_f A (fun i => if i = x then n else g i) := by
  refine ab_ext (fun a i => ?_) (fun _ => rfl) rfl (fun _ _ => rfl) (fun _ => rfl)
  show (if a = 15 then (if i = x then n else if a = 15 then g i else A.1.1 a i) else if a = 15 then g i else A.1.1 a i) = if a = 15 then (if i = x then n else g i) else A.1.1 a i
  split
  · rfl
  · rfl
theorem sp_wf_f {A : ab_S} (h : sp_wf A.1) {g : Nat → Nat} (hg : ∀ p, p < 7 → g p ≤ 1) : sp_wf (ab_f A g).1 := by
  obtain ⟨h1, h2, h3, h4, h5, h6, h7, h8⟩ := h
  refine ⟨h1, h2, h3, h4, fun p hp => ?_, h6, h7, h8⟩
  obtain ⟨a1, a2, a3, a4, a5, a6, a7⟩ := h5 p hp
  exact ⟨a1, a2, a3, a4, a5, a6, hg p hp⟩
/-- zeros on a shelf's first i places -/
def ab_z (A : ab_S) (s i : Nat) : ab_S := (A.1, A.2.1, A.2.2.1, fun j => if 160 * s ≤ j ∧ j < 160 * s + i then 0 else A.2.2.2 j)
theorem ab_z_0 (A : ab_S) (s : Nat) : ab_z A s 0 = A := ab_ext (fun _ _ => rfl) (fun _ => rfl) rfl (fun _ _ => rfl) (fun i => if_neg (by omega))
theorem ab_z_s (A : ab_S) (s i : Nat) : ab_c (ab_z A s i) (160 * s + i) 0 = ab_z A s (i + 1) := by
  refine ab_ext (fun _ _ => rfl) (fun _ => rfl) rfl (fun _ _ => rfl) (fun j => ?_)
  show (if j = 160 * s + i then (0 : Int64) else if 160 * s ≤ j ∧ j < 160 * s + i then 0 else A.2.2.2 j) = if 160 * s ≤ j ∧ j < 160 * s + (i + 1) then 0 else A.2.2.2 j
  by_cases h : j = 160 * s + i
  · rw [if_pos h, if_pos (by omega)]
  · rw [if_neg h]
    by_cases h2 : 160 * s ≤ j ∧ j < 160 * s + i
    · rw [if_pos h2, if_pos (by omega)]
    · rw [if_neg h2, if_neg (by omega)]
/-- the first k elements of one shelf's part over another's -/
def ab_cp (A : ab_S) (p i q j k : Nat) : ab_S := (A.1, A.2.1, A.2.2.1, fun m => if 160 * q + j ≤ m ∧ m < 160 * q + j + k then A.2.2.2 (160 * p + i + (m - (160 * q + j))) else A.2.2.2 m)
theorem ab_cp_0 (A : ab_S) (p i q j : Nat) : ab_cp A p i q j 0 = A := ab_ext (fun _ _ => rfl) (fun _ => rfl) rfl (fun _ _ => rfl) (fun m => if_neg (by omega))
theorem ab_cp_s (A : ab_S) (p i q j k : Nat) : ab_c (ab_cp A p i q j k) (160 * q + j + k) (A.2.2.2 (160 * p + i + k)) = ab_cp A p i q j (k + 1) := by
  refine ab_ext (fun _ _ => rfl) (fun _ => rfl) rfl (fun _ _ => rfl) (fun m => ?_)
  show (if m = 160 * q + j + k then A.2.2.2 (160 * p + i + k) else if 160 * q + j ≤ m ∧ m < 160 * q + j + k then A.2.2.2 (160 * p + i + (m - (160 * q + j))) else A.2.2.2 m) = if 160 * q + j ≤ m ∧ m < 160 * q + j + (k + 1) then A.2.2.2 (160 * p + i + (m - (160 * q + j))) else A.2.2.2 m
  by_cases h : m = 160 * q + j + k
  · rw [if_pos h, if_pos (by omega), h, show 160 * q + j + k - (160 * q + j) = k by omega]
  · rw [if_neg h]
    by_cases h2 : 160 * q + j ≤ m ∧ m < 160 * q + j + k
    · rw [if_pos h2, if_pos (by omega)]
    · rw [if_neg h2, if_neg (by omega)]
theorem sp_fit {a n : Int32} {sz : Nat} (hz : sz ≤ 160) (ha : ¬ a < 0) (hn : ¬ n < 0) (h : a ≤ nI sz - n) : iN a + iN n ≤ sz := by
  obtain ⟨e1, l1⟩ := sp_geN ha
  obtain ⟨e2, l2⟩ := sp_geN hn
  have h2 := Int32.le_iff_toInt_le.mp h
  rw [Int32.toInt_sub] at h2
  have t1 : a.toInt = (iN a : Int) := by rw [e1, nI_toInt l1, ← e1]
  have t2 : n.toInt = (iN n : Int) := by rw [e2, nI_toInt l2, ← e2]
  rw [t1, t2, nI_toInt (by omega)] at h2
  rw [Int.bmod_eq_of_le (by omega) (by omega)] at h2
  omega
/-! the best of many -/
def sp_bst (ok : Nat → Bool) (lt : Nat → Nat → Bool) : Nat → Nat
  | 0 => 99
  | i + 1 => if ok i = true ∧ (sp_bst ok lt i = 99 ∨ lt i (sp_bst ok lt i) = true) then i else sp_bst ok lt i
theorem sp_bst_y {ok : Nat → Bool} {lt : Nat → Nat → Bool} {i B : Nat} (hB : B = sp_bst ok lt i) (h : ok i = true) (h2 : B = 99 ∨ lt i B = true) : i = sp_bst ok lt (i + 1) := by
  subst hB
  rw [sp_bst, if_pos ⟨h, h2⟩]
theorem sp_bst_k {ok : Nat → Bool} {lt : Nat → Nat → Bool} {i B : Nat} (hB : B = sp_bst ok lt i) (h2 : ok i = false ∨ (¬ B = 99 ∧ lt i B = false)) : B = sp_bst ok lt (i + 1) := by
  subst hB
  rw [sp_bst, if_neg]
  rintro ⟨g1, g2⟩
  rcases h2 with h2 | ⟨h2, h3⟩
  · rw [h2] at g1; cases g1
  · rcases g2 with g2 | g2
    · exact h2 g2
    · rw [h3] at g2; cases g2
theorem sp_bst_lt (ok : Nat → Bool) (lt : Nat → Nat → Bool) : ∀ i, sp_bst ok lt i = 99 ∨ sp_bst ok lt i < i
  | 0 => Or.inl rfl
  | i + 1 => by
    have h := sp_bst_lt ok lt i
    rw [sp_bst]
    split
    · right; omega
    · rcases h with h | h
      · left; exact h
      · right; omega
theorem sp_bst_all {lt : Nat → Nat → Bool} : ∀ {i}, 0 < i → i < 99 → sp_bst (fun _ => true) lt i < i
  | 0, h, _ => absurd h (Nat.lt_irrefl 0)
  | 1, _, _ => by rw [sp_bst, if_pos ⟨rfl, Or.inl rfl⟩]; decide
  | i + 2, _, h2 => by
    have h := sp_bst_all (lt := lt) (i := i + 1) (by omega) (by omega)
    rw [sp_bst]
    split <;> omega
/-- what goes with the best: -1 at first -/
def sp_mst (f : Nat → Nat) (B : Nat) : Int32 := if B = 99 then -1 else nI (f B)
theorem sp_mst_lt {f : Nat → Nat} {B T : Nat} (hT : T < 2 ^ 31) (hB : B = 99 ∨ f B < 2 ^ 31) : sp_mst f B < nI T ↔ (B = 99 ∨ f B < T) := by
  unfold sp_mst
  split
  · rename_i h
    refine ⟨fun _ => Or.inl h, fun _ => ?_⟩
    rw [Int32.lt_iff_toInt_lt, nI_toInt hT]
    have : (-1 : Int32).toInt = -1 := by decide
    omega
  · rename_i h
    rw [nI_ltI (by omega) hT]
    omega
theorem sp_mst_n {f : Nat → Nat} {B : Nat} (h : ¬ B = 99) : sp_mst f B = nI (f B) := if_neg h
/-! sums over all -/
def sp_all (t : sp_S) (w : Nat) : Nat := sp_sum (fun x => if w = 0 then sp_owes t x else if w = 1 then sp_wouldPay t x else if w = 2 then (if t.1 13 x < sp_owes t x then 2 ^ x else 0) else (if sp_owes t x = 0 then 1 else 0)) (t.1 0 0)
def sp_entAll (t : sp_S) : Nat := sp_sum (sp_entered t) (t.1 0 0)
theorem sp_entered_le (t : sp_S) (y : Nat) : sp_entered t y ≤ 7 := by
  unfold sp_entered
  split
  · exact sp_cnt_le _ 7
  · omega
theorem sp_entAll_le {t : sp_S} (hw : sp_wf t) : sp_entAll t ≤ 49 := by
  have h1 := hw.b0
  have h2 := sp_sum_le (f := sp_entered t) (M := 7) (n := t.1 0 0) (fun j _ => sp_entered_le t j)
  unfold sp_entAll
  omega
theorem sp_duties_le {t : sp_S} (hw : sp_wf t) : sp_duties t ≤ 441 := by
  have h1 := hw.b0
  have h2 := sp_sum_le (f := sp_owes t) (M := 63) (n := t.1 0 0) (fun j _ => sp_owes_lt hw j)
  unfold sp_duties
  omega
def sp_seers (t : sp_S) (c : Nat) : Nat := sp_sum (fun x => if (decide (¬ (t.1 9 x = 3 ∨ t.1 9 x = 5)) && sp_sees t (t.1 14 x) c) = true then 1 else 0) (t.1 0 0)
theorem sp_sum_b {f : Nat → Bool} : ∀ n, sp_sum (fun y => if f y = true then 1 else 0) n ≤ n
  | 0 => Nat.le_refl _
  | n + 1 => by
    have := sp_sum_b (f := f) n
    rw [sp_sum]
    split <;> omega
def sp_empty (t : sp_S) : Nat := sp_sum (fun x => if (t.1 13 x == 0) = true then 1 else 0) (t.1 0 0)
/-- his duty by squares -/
def sp_dutyAt (t : sp_S) (x c : Nat) : Nat := if t.1 16 c = 1 then 100000000 else sp_owes (sp_set t 14 x c) x
/-- whether a row's first ints are the duties -/
def sp_roll (A : ab_S) (s : Nat) : Nat → Bool
  | 0 => true
  | y + 1 => sp_roll A s y && (nI (sp_owes A.1 y) == (A.2.2.2 (160 * s + y)).toInt32)
