/-! THE STATE of both, as numbers. A.1: the town and what is at hand (t.1: 0..3, 9..17, 36 as the town's; 18 held, 19 sort, 20 size, 21 shown, by shelves; 43: an image is there; t.2: 4 hours, 5 taken, 6 seed, 7 fault, 42 bodies that ran); A.2.1: the image; A.2.2.1: 8 refusals, 41 bodies; A.2.2.2: the rows' elements, 160 to a shelf -/
abbrev ab_S : Type := sp_S × sp_S × (Nat → Nat → Int32) × (Nat → Int64)
def iN (x : Int32) : Nat := x.toNatClampNeg
theorem iN_nI {n : Nat} (h : n < 2 ^ 31) : iN (nI n) = n := nI_clamp h
def sp_set (t : sp_S) (k j n : Nat) : sp_S := ((fun a i => if a = k then (if i = j then n else t.1 a i) else t.1 a i), t.2)
def sp_seti (t : sp_S) (k : Nat) (v : Int32) : sp_S := (t.1, fun j => if j = k then v else t.2 j)
def ab_n (A : ab_S) (k j n : Nat) : ab_S := (sp_set A.1 k j n, A.2)
def ab_i (A : ab_S) (k : Nat) (v : Int32) : ab_S := (sp_seti A.1 k v, A.2)
def ab_r (A : ab_S) (k j : Nat) (v : Int32) : ab_S := (A.1, A.2.1, (fun a i => if a = k then (if i = j then v else A.2.2.1 a i) else A.2.2.1 a i), A.2.2.2)
def ab_c (A : ab_S) (j : Nat) (v : Int64) : ab_S := (A.1, A.2.1, A.2.2.1, fun i => if i = j then v else A.2.2.2 i)
def sp_words : List Nat := [119, 97, 108, 108, 32, 0, 103, 97, 112, 32, 0, 98, 97, 108, 99, 111, 110, 121, 32, 0, 112, 101, 114, 115, 111, 110, 32, 0, 115, 97, 99, 107, 32, 0, 109, 105, 116, 101, 32, 0, 114, 101, 97, 99, 104, 32, 0]
def sp_nums : List Nat := [1, 1, 1, 6, 1, 1, 1]
def sp_mosts : List Nat := [6, 9, 20, 9, 99, 35]
/-- an image as 128 ints -/
def tw_K (f : Nat → Int32) (t : sp_S) : Prop := (∀ k, 9 ≤ k → k ≤ 15 → ∀ p, p < 7 → f (7 * (k - 9) + p) = nI (t.1 k p)) ∧ (∀ k, 16 ≤ k → k ≤ 17 → ∀ c, c < 36 → f (49 + 36 * (k - 16) + c) = nI (t.1 k c)) ∧ (∀ k, k < 4 → f (121 + k) = nI (t.1 k 0)) ∧ f 125 = t.2 4 ∧ f 126 = t.2 5 ∧ f 127 = t.2 6
def tw_A (u : tw_S) (A : ab_S) : Prop :=
  tw_T u A.1 ∧ (u.1 7 = A.1.2 7 ∧ u.1 42 = A.1.2 42 ∧ u.1 43 = nI (A.1.1 43 0)) ∧ (∀ k, 18 ≤ k → k ≤ 20 → ∀ j, j < 8 → u.2.1 k j = nI (A.1.1 k j)) ∧ (∀ j, j < 8 → u.2.1 21 j = oI (A.1.1 21 j)) ∧
  (A.1.1 43 0 = 1 → tw_K (u.2.1 34) A.2.1) ∧ (∀ k, k = 8 ∨ k = 41 → ∀ j, u.2.1 k j = A.2.2.1 k j) ∧ (∀ j, u.2.2 22 j = A.2.2.2 j) ∧ (∀ j, j < 47 → u.2.1 24 j = nI (sp_words.getD j 0)) ∧ (∀ j, j < 7 → u.2.1 25 j = nI (sp_nums.getD j 0)) ∧ (∀ j, j < 6 → u.2.1 26 j = nI (sp_mosts.getD j 0))
section TWA
variable {u : tw_S} {A : ab_S}
theorem tw_A.t (h : tw_A u A) : tw_T u A.1 := h.1
theorem tw_A.f7 (h : tw_A u A) : u.1 7 = A.1.2 7 := h.2.1.1
theorem tw_A.f42 (h : tw_A u A) : u.1 42 = A.1.2 42 := h.2.1.2.1
theorem tw_A.f43 (h : tw_A u A) : u.1 43 = nI (A.1.1 43 0) := h.2.1.2.2
theorem tw_A.f4 (h : tw_A u A) : u.1 4 = A.1.2 4 := h.1.2.1.1
theorem tw_A.f5 (h : tw_A u A) : u.1 5 = A.1.2 5 := h.1.2.1.2.1
theorem tw_A.f6 (h : tw_A u A) : u.1 6 = A.1.2 6 := h.1.2.1.2.2
theorem tw_A.f36 (h : tw_A u A) : u.1 36 = oI (A.1.1 36 0) := h.1.2.2.1
theorem tw_A.sc (h : tw_A u A) {k : Nat} (hk : k < 4) : u.1 k = nI (A.1.1 k 0) := h.1.1 k hk
theorem tw_A.p (h : tw_A u A) {k : Nat} (h1 : 9 ≤ k) (h2 : k ≤ 15) {p : Nat} (hp : p < 7) : u.2.1 k p = nI (A.1.1 k p) := h.1.2.2.2.1 k h1 h2 p hp
theorem tw_A.c (h : tw_A u A) {k : Nat} (h1 : 16 ≤ k) (h2 : k ≤ 17) {p : Nat} (hp : p < 36) : u.2.1 k p = nI (A.1.1 k p) := h.1.2.2.2.2 k h1 h2 p hp
theorem tw_A.s (h : tw_A u A) {k : Nat} (h1 : 18 ≤ k) (h2 : k ≤ 20) {p : Nat} (hp : p < 8) : u.2.1 k p = nI (A.1.1 k p) := h.2.2.1 k h1 h2 p hp
theorem tw_A.sh (h : tw_A u A) {p : Nat} (hp : p < 8) : u.2.1 21 p = oI (A.1.1 21 p) := h.2.2.2.1 p hp
theorem tw_A.kp (h : tw_A u A) (h1 : A.1.1 43 0 = 1) : tw_K (u.2.1 34) A.2.1 := h.2.2.2.2.1 h1
theorem tw_A.r (h : tw_A u A) {k : Nat} (hk : k = 8 ∨ k = 41) (j : Nat) : u.2.1 k j = A.2.2.1 k j := h.2.2.2.2.2.1 k hk j
theorem tw_A.ce (h : tw_A u A) (j : Nat) : u.2.2 22 j = A.2.2.2 j := h.2.2.2.2.2.2.1 j
theorem tw_A.w24 (h : tw_A u A) {j : Nat} (hj : j < 47) : u.2.1 24 j = nI (sp_words.getD j 0) := h.2.2.2.2.2.2.2.1 j hj
theorem tw_A.w25 (h : tw_A u A) {j : Nat} (hj : j < 7) : u.2.1 25 j = nI (sp_nums.getD j 0) := h.2.2.2.2.2.2.2.2.1 j hj
theorem tw_A.w26 (h : tw_A u A) {j : Nat} (hj : j < 6) : u.2.1 26 j = nI (sp_mosts.getD j 0) := h.2.2.2.2.2.2.2.2.2 j hj
end TWA
/-- what says nothing of the state: fields, arrays -/
def tw_sS (k : Nat) : Bool := decide (28 ≤ k) && decide (k ≤ 32) || k == 40
def tw_sA (k : Nat) : Bool := k == 27 || k == 33 || k == 35 || k == 37 || k == 38 || k == 39
theorem sp_set_o {t : sp_S} {k j n a i : Nat} (h : a ≠ k) : (sp_set t k j n).1 a i = t.1 a i := if_neg h
theorem sp_set_s {t : sp_S} {k j n : Nat} : (sp_set t k j n).1 k j = n := by simp [sp_set]
theorem sp_set_i {t : sp_S} {k j n i : Nat} (h : i ≠ j) : (sp_set t k j n).1 k i = t.1 k i := by simp [sp_set, h]
theorem tw_T.same {u u' : tw_S} {t : sp_S} (h : tw_T u t) (h1 : ∀ k, k < 7 ∨ k = 36 → u'.1 k = u.1 k) (h2 : ∀ k, 9 ≤ k → k ≤ 17 → ∀ j, u'.2.1 k j = u.2.1 k j) : tw_T u' t := by
  obtain ⟨a1, ⟨a2, a3, a4⟩, a5, a6, a7⟩ := h
  refine ⟨fun k hk => (h1 k (by omega)).trans (a1 k hk), ⟨(h1 4 (by omega)).trans a2, (h1 5 (by omega)).trans a3, (h1 6 (by omega)).trans a4⟩, (h1 36 (by omega)).trans a5, fun k p1 p2 p hp => (h2 k p1 (by omega) p).trans (a6 k p1 p2 p hp), fun k p1 p2 p hp => (h2 k (by omega) p2 p).trans (a7 k p1 p2 p hp)⟩
theorem tw_A.scS {u : tw_S} {A : ab_S} (h : tw_A u A) {k : Nat} (hk : tw_sS k = true) (v : Int32) : tw_A (tw_setS u k v) A := by
  have hk : (28 ≤ k ∧ k ≤ 32) ∨ k = 40 := by simpa [tw_sS] using hk
  have e : ∀ a, a < 28 ∨ a = 36 ∨ a = 42 ∨ a = 43 → (tw_setS u k v).1 a = u.1 a := fun a ha => if_neg (by omega)
  obtain ⟨a1, ⟨a2, a3, a4⟩, a5⟩ := h
  exact ⟨a1.same (fun a ha => e a (by omega)) (fun _ _ _ _ => rfl), ⟨(e 7 (by omega)).trans a2, (e 42 (by omega)).trans a3, (e 43 (by omega)).trans a4⟩, a5⟩
theorem tw_A.scA {u : tw_S} {A : ab_S} (h : tw_A u A) {k : Nat} (hk : tw_sA k = true) (j : Nat) (v : Int32) : tw_A (tw_setA u k j v) A := by
  have hk : k = 27 ∨ k = 33 ∨ k = 35 ∨ k = 37 ∨ k = 38 ∨ k = 39 := by simpa [tw_sA, or_assoc] using hk
  have e : ∀ a, a < 27 ∨ a = 34 ∨ a = 41 → (tw_setA u k j v).2.1 a = u.2.1 a := fun a ha => by
    funext i
    exact if_neg (by omega)
  obtain ⟨a1, a2, a3, a4, a5, a6, a7, a8, a9, a10⟩ := h
  exact ⟨a1.same (fun _ _ => rfl) (fun a _ _ i => by rw [e a (by omega)]), a2, fun a h1 h2 i hi => by rw [e a (by omega)]; exact a3 a h1 h2 i hi, fun i hi => by rw [e 21 (by omega)]; exact a4 i hi, fun z => by rw [e 34 (by omega)]; exact a5 z, fun a ha i => by rw [e a (by omega)]; exact a6 a ha i, a7, fun i hi => by rw [e 24 (by omega)]; exact a8 i hi, fun i hi => by rw [e 25 (by omega)]; exact a9 i hi, fun i hi => by rw [e 26 (by omega)]; exact a10 i hi⟩
theorem tw_A.scJ {u : tw_S} {A : ab_S} (h : tw_A u A) (j : Nat) (v : Int64) : tw_A (tw_setJ u 23 j v) A := by
  obtain ⟨a1, a2, a3, a4, a5, a6, a7, a8, a9, a10⟩ := h
  exact ⟨a1.same (fun _ _ => rfl) (fun _ _ _ _ => rfl), a2, a3, a4, a5, a6, a7, a8, a9, a10⟩
theorem tw_A.nS {u : tw_S} {A : ab_S} (h : tw_A u A) {k n : Nat} (hk : k < 4) {v : Int32} (hv : v = nI n) : tw_A (tw_setS u k v) (ab_n A k 0 n) := by
  subst hv
  have e : ∀ a i, a ≠ k → (ab_n A k 0 n).1.1 a i = A.1.1 a i := fun a i ha => if_neg ha
  obtain ⟨⟨b1, ⟨b2, b3, b4⟩, b5, b6, b7⟩, ⟨a2, a3, a4⟩, a5, a6, a7, a8⟩ := h
  refine ⟨⟨fun a ha => ?_, ⟨(if_neg (by omega)).trans b2, (if_neg (by omega)).trans b3, (if_neg (by omega)).trans b4⟩, ?_, fun a h1 h2 p hp => ?_, fun a h1 h2 p hp => ?_⟩, ⟨(if_neg (by omega)).trans a2, (if_neg (by omega)).trans a3, ?_⟩, fun a h1 h2 i hi => ?_, fun i hi => ?_, fun z => ?_, a8⟩
  · by_cases g : a = k
    · subst g
      show (if a = a then nI n else u.1 a) = nI (if a = a then (if 0 = 0 then n else _) else _)
      rw [if_pos rfl, if_pos rfl, if_pos rfl]
    · rw [e a 0 g]
      exact (if_neg g).trans (b1 a ha)
  · rw [e 36 0 (by omega)]
    exact (if_neg (by omega)).trans b5
  · rw [e a p (by omega)]
    exact b6 a h1 h2 p hp
  · rw [e a p (by omega)]
    exact b7 a h1 h2 p hp
  · rw [e 43 0 (by omega)]
    exact (if_neg (by omega)).trans a4
  · rw [e a i (by omega)]
    exact a5 a h1 h2 i hi
  · rw [e 21 i (by omega)]
    exact a6 i hi
  · rw [e 43 0 (by omega)] at z
    exact a7 z
theorem tw_A.oS {u : tw_S} {A : ab_S} (h : tw_A u A) {n : Nat} {v : Int32} (hv : v = oI n) : tw_A (tw_setS u 36 v) (ab_n A 36 0 n) := by
  subst hv
  have e : ∀ a i, a ≠ 36 → (ab_n A 36 0 n).1.1 a i = A.1.1 a i := fun a i ha => if_neg ha
  obtain ⟨⟨b1, ⟨b2, b3, b4⟩, b5, b6, b7⟩, ⟨a2, a3, a4⟩, a5, a6, a7, a8⟩ := h
  refine ⟨⟨fun a ha => ?_, ⟨b2, b3, b4⟩, rfl, fun a h1 h2 p hp => ?_, fun a h1 h2 p hp => ?_⟩, ⟨a2, a3, a4⟩, fun a h1 h2 i hi => ?_, fun i hi => ?_, fun z => ?_, a8⟩
  · rw [e a 0 (by omega)]
    exact (if_neg (by omega)).trans (b1 a ha)
  · rw [e a p (by omega)]
    exact b6 a h1 h2 p hp
  · rw [e a p (by omega)]
    exact b7 a h1 h2 p hp
  · rw [e a i (by omega)]
    exact a5 a h1 h2 i hi
  · rw [e 21 i (by omega)]
    exact a6 i hi
  · exact a7 z
theorem tw_A.thereS {u : tw_S} {A : ab_S} (h : tw_A u A) {v : Int32} (hv : v = nI 1) {t : sp_S} (hK : tw_K (u.2.1 34) t) : tw_A (tw_setS u 43 v) (sp_set A.1 43 0 1, t, A.2.2) := by
  subst hv
  have e : ∀ a i, a ≠ 43 → (sp_set A.1 43 0 1).1 a i = A.1.1 a i := fun a i ha => if_neg ha
  obtain ⟨⟨b1, ⟨b2, b3, b4⟩, b5, b6, b7⟩, ⟨a2, a3, a4⟩, a5, a6, a7, a8⟩ := h
  refine ⟨⟨fun a ha => ?_, ⟨b2, b3, b4⟩, b5, fun a h1 h2 p hp => ?_, fun a h1 h2 p hp => ?_⟩, ⟨a2, a3, rfl⟩, fun a h1 h2 i hi => ?_, fun i hi => ?_, fun z => ?_, a8⟩
  · rw [show ((sp_set A.1 43 0 1, t, A.2.2) : ab_S).1.1 a 0 = A.1.1 a 0 from e a 0 (by omega)]
    exact (if_neg (by omega)).trans (b1 a ha)
  · rw [show ((sp_set A.1 43 0 1, t, A.2.2) : ab_S).1.1 a p = A.1.1 a p from e a p (by omega)]
    exact b6 a h1 h2 p hp
  · rw [show ((sp_set A.1 43 0 1, t, A.2.2) : ab_S).1.1 a p = A.1.1 a p from e a p (by omega)]
    exact b7 a h1 h2 p hp
  · rw [show ((sp_set A.1 43 0 1, t, A.2.2) : ab_S).1.1 a i = A.1.1 a i from e a i (by omega)]
    exact a5 a h1 h2 i hi
  · rw [show ((sp_set A.1 43 0 1, t, A.2.2) : ab_S).1.1 21 i = A.1.1 21 i from e 21 i (by omega)]
    exact a6 i hi
  · exact hK
theorem tw_A.iS {u : tw_S} {A : ab_S} (h : tw_A u A) {k : Nat} (hk : (4 ≤ k ∧ k ≤ 7) ∨ k = 42) (v : Int32) : tw_A (tw_setS u k v) (ab_i A k v) := by
  have e : ∀ a, u.1 a = A.1.2 a → (tw_setS u k v).1 a = (ab_i A k v).1.2 a := fun a ha => by
    show (if a = k then v else u.1 a) = if a = k then v else A.1.2 a
    rw [ha]
  obtain ⟨⟨b1, ⟨b2, b3, b4⟩, b5, b6, b7⟩, ⟨a2, a3, a4⟩, a5⟩ := h
  exact ⟨⟨fun a ha => (if_neg (by omega)).trans (b1 a ha), ⟨e 4 b2, e 5 b3, e 6 b4⟩, (if_neg (by omega)).trans b5, b6, b7⟩, ⟨e 7 a2, e 42 a3, (if_neg (by omega)).trans a4⟩, a5⟩
theorem tw_A.nA {u : tw_S} {A : ab_S} (h : tw_A u A) {k j n : Nat} (hk : 9 ≤ k ∧ k ≤ 20) {v : Int32} (hv : v = nI n) : tw_A (tw_setA u k j v) (ab_n A k j n) := by
  subst hv
  have e : ∀ a i, u.2.1 a i = nI (A.1.1 a i) → (tw_setA u k j (nI n)).2.1 a i = nI ((ab_n A k j n).1.1 a i) := fun a i ha => by
    show (if a = k then (if i = j then nI n else u.2.1 a i) else u.2.1 a i) = nI (if a = k then (if i = j then n else A.1.1 a i) else A.1.1 a i)
    split
    · split
      · rfl
      · exact ha
    · exact ha
  have e0 : ∀ a i, a ≠ k → (ab_n A k j n).1.1 a i = A.1.1 a i := fun a i ha => if_neg ha
  have e1 : ∀ a, a ≠ k → (tw_setA u k j (nI n)).2.1 a = u.2.1 a := fun a ha => by
    funext i
    exact if_neg ha
  obtain ⟨⟨b1, b2, b5, b6, b7⟩, ⟨a2, a3, a4⟩, a5, a6, a7, a8, a9, a10, a11, a12⟩ := h
  refine ⟨⟨fun a ha => ?_, b2, ?_, fun a h1 h2 p hp => e a p (b6 a h1 h2 p hp), fun a h1 h2 p hp => e a p (b7 a h1 h2 p hp)⟩, ⟨a2, a3, ?_⟩, fun a h1 h2 i hi => e a i (a5 a h1 h2 i hi), fun i hi => ?_, fun z => ?_, fun a ha i => ?_, a9, fun i hi => ?_, fun i hi => ?_, fun i hi => ?_⟩
  · rw [e0 a 0 (by omega)]
    exact b1 a ha
  · rw [e0 36 0 (by omega)]
    exact b5
  · rw [e0 43 0 (by omega)]
    exact a4
  · rw [e0 21 i (by omega), e1 21 (by omega)]
    exact a6 i hi
  · rw [e0 43 0 (by omega)] at z
    rw [e1 34 (by omega)]
    exact a7 z
  · rw [e1 a (by omega)]
    exact a8 a ha i
  · rw [e1 24 (by omega)]
    exact a10 i hi
  · rw [e1 25 (by omega)]
    exact a11 i hi
  · rw [e1 26 (by omega)]
    exact a12 i hi
theorem tw_A.oA {u : tw_S} {A : ab_S} (h : tw_A u A) {j n : Nat} {v : Int32} (hv : v = oI n) : tw_A (tw_setA u 21 j v) (ab_n A 21 j n) := by
  subst hv
  have e0 : ∀ a i, a ≠ 21 → (ab_n A 21 j n).1.1 a i = A.1.1 a i := fun a i ha => if_neg ha
  have e1 : ∀ a, a ≠ 21 → (tw_setA u 21 j (oI n)).2.1 a = u.2.1 a := fun a ha => by
    funext i
    exact if_neg ha
  obtain ⟨⟨b1, b2, b5, b6, b7⟩, ⟨a2, a3, a4⟩, a5, a6, a7, a8, a9, a10, a11, a12⟩ := h
  refine ⟨⟨fun a ha => ?_, b2, b5, fun a h1 h2 p hp => ?_, fun a h1 h2 p hp => ?_⟩, ⟨a2, a3, a4⟩, fun a h1 h2 i hi => ?_, fun i hi => ?_, fun z => a7 z, fun a ha i => ?_, a9, fun i hi => a10 i hi, fun i hi => a11 i hi, fun i hi => a12 i hi⟩
  · rw [e0 a 0 (by omega)]
    exact b1 a ha
  · rw [e0 a p (by omega), e1 a (by omega)]
    exact b6 a h1 h2 p hp
  · rw [e0 a p (by omega), e1 a (by omega)]
    exact b7 a h1 h2 p hp
  · rw [e0 a i (by omega), e1 a (by omega)]
    exact a5 a h1 h2 i hi
  · show (if i = j then oI n else u.2.1 21 i) = oI (if i = j then n else A.1.1 21 i)
    split
    · rfl
    · exact a6 i hi
  · rw [e1 a (by omega)]
    exact a8 a ha i
theorem tw_A.rA {u : tw_S} {A : ab_S} (h : tw_A u A) {k j : Nat} (hk : k = 8 ∨ k = 41) (v : Int32) : tw_A (tw_setA u k j v) (ab_r A k j v) := by
  have e1 : ∀ a, a ≠ k → (tw_setA u k j v).2.1 a = u.2.1 a := fun a ha => by
    funext i
    exact if_neg ha
  obtain ⟨a1, a2, a5, a6, a7, a8, a9, a10, a11, a12⟩ := h
  refine ⟨a1.same (fun _ _ => rfl) (fun a h1 h2 i => by rw [e1 a (by omega)]), a2, fun a h1 h2 i hi => ?_, fun i hi => ?_, fun z => ?_, fun a ha i => ?_, a9, fun i hi => ?_, fun i hi => ?_, fun i hi => ?_⟩
  · rw [e1 a (by omega)]
    exact a5 a h1 h2 i hi
  · rw [e1 21 (by omega)]
    exact a6 i hi
  · rw [e1 34 (by omega)]
    exact a7 z
  · show (if a = k then (if i = j then v else u.2.1 a i) else u.2.1 a i) = if a = k then (if i = j then v else A.2.2.1 a i) else A.2.2.1 a i
    rw [a8 a ha i]
  · rw [e1 24 (by omega)]
    exact a10 i hi
  · rw [e1 25 (by omega)]
    exact a11 i hi
  · rw [e1 26 (by omega)]
    exact a12 i hi
theorem tw_A.cJ {u : tw_S} {A : ab_S} (h : tw_A u A) (j : Nat) (v : Int64) : tw_A (tw_setJ u 22 j v) (ab_c A j v) := by
  obtain ⟨a1, a2, a3, a4, a5, a6, a7, a8⟩ := h
  refine ⟨a1.same (fun _ _ => rfl) (fun _ _ _ _ => rfl), a2, a3, a4, a5, a6, fun i => ?_, a8⟩
  show (if i = j then v else u.2.2 22 i) = if i = j then v else A.2.2.2 i
  rw [a7 i]
/-! ends of calls -/
def tw_Po (o : Nat) (am : Nat → Nat) (q : Int32 × ab_S) : hg_Po := fun r G' => r = .inl (some (.int q.1)) ∧ ∃ u', tw_R G' o am u' ∧ tw_A u' q.2
def tw_Pl (o : Nat) (am : Nat → Nat) (q : Int64 × ab_S) : hg_Po := fun r G' => r = .inl (some (.long q.1)) ∧ ∃ u', tw_R G' o am u' ∧ tw_A u' q.2
theorem tw_end {o : Nat} {am : Nat → Nat} {q : Int32 × ab_S} {G' : hg_G} {u' : tw_S} {v : Int32} {B : ab_S} (h : q = (v, B)) (hR : tw_R G' o am u') (hA : tw_A u' B) : tw_Po o am q (.inl (some (.int v))) G' := by
  subst h
  exact ⟨rfl, u', hR, hA⟩
theorem tw_endl {o : Nat} {am : Nat → Nat} {q : Int64 × ab_S} {G' : hg_G} {u' : tw_S} {v : Int64} {B : ab_S} (h : q = (v, B)) (hR : tw_R G' o am u') (hA : tw_A u' B) : tw_Pl o am q (.inl (some (.long v))) G' := by
  subst h
  exact ⟨rfl, u', hR, hA⟩
theorem sp_inN {x : Int32} {n : Nat} (hn : n < 2 ^ 31) (h : sp_in x n = true) : x = nI (iN x) ∧ iN x < n := by
  obtain ⟨j, hj, rfl⟩ := sp_in_of hn h
  rw [iN_nI (by omega)]
  exact ⟨rfl, hj⟩
theorem sp_geN {x : Int32} (h : ¬ x < 0) : x = nI (iN x) ∧ iN x < 2 ^ 31 := by
  obtain ⟨j, hj, rfl⟩ := nI_of (x := x) h
  rw [iN_nI hj]
  exact ⟨rfl, hj⟩
theorem sp_leN {x : Int32} {n : Nat} (hn : n < 2 ^ 31) (h : ¬ x < 0) (h2 : x ≤ nI n) : x = nI (iN x) ∧ iN x ≤ n := by
  obtain ⟨h3, h4⟩ := sp_geN h
  rw [h3] at h2
  exact ⟨h3, (nI_leI h4 hn).mp h2⟩
theorem sp_ltN {x : Int32} {n : Nat} (hn : n < 2 ^ 31) (h : ¬ x < 0) (h2 : x < nI n) : x = nI (iN x) ∧ iN x < n := by
  obtain ⟨h3, h4⟩ := sp_geN h
  rw [h3] at h2
  exact ⟨h3, (nI_ltI h4 hn).mp h2⟩
theorem sp_frN {x : Int32} {a b : Nat} (ha : a < 2 ^ 31) (hb : b < 2 ^ 31) (h : sp_fr x (nI a) (nI b) = true) : x = nI (iN x) ∧ a ≤ iN x ∧ iN x ≤ b := by
  have h := of_decide_eq_true h
  have h0 : ¬ x < 0 := fun z => Int32.not_lt.mpr (nI_pos' ha) (Int32.lt_of_le_of_lt h.1 z)
  obtain ⟨h3, h4⟩ := sp_geN h0
  rw [h3] at h
  exact ⟨h3, (nI_leI ha h4).mp h.1, (nI_leI h4 hb).mp h.2⟩
/-- a refusal told -/
def sq_no (b : Int32) (A : ab_S) : Int32 × ab_S := (b, ab_r A 8 (iN (-b)) (A.2.2.1 8 (iN (-b)) + 1))
def sq_noTen (b : Int32) (A : ab_S) : Int32 × ab_S := (b - nI 10, (sq_no b A).2)
theorem sp_btw {x : Int32} {a b : Nat} (ha : a < 2 ^ 31) (hb : b < 2 ^ 31) (h1 : ¬ x < nI a) (h2 : x ≤ nI b) : x = nI (iN x) ∧ a ≤ iN x ∧ iN x ≤ b := by
  have h0 : ¬ x < 0 := fun z => h1 (Int32.lt_of_lt_of_le z (nI_pos' ha))
  obtain ⟨h3, h4⟩ := sp_geN h0
  rw [h3] at h1 h2
  exact ⟨h3, Nat.not_lt.mp fun z => h1 ((nI_ltI h4 ha).mpr z), (nI_leI h4 hb).mp h2⟩
theorem sp_out {x : Int32} {n : Nat} (hn : n < 2 ^ 31) (h : ∀ i, i < n → ¬ x = nI i) : x.toInt < 0 ∨ (n : Int) - 1 < x.toInt := by
  by_cases h0 : x < 0
  · left
    have := Int32.lt_iff_toInt_lt.mp h0
    simpa using this
  · right
    obtain ⟨h3, h4⟩ := sp_geN h0
    have h5 : ¬ iN x < n := fun z => h _ z h3
    rw [h3, nI_toInt h4]
    omega
def ab_wf (A : ab_S) : Prop :=
  sp_wf A.1 ∧ A.1.1 36 0 = 99 ∧ (∀ j, j < 8 → A.1.1 18 j ≤ 2 ∧ A.1.1 19 j ≤ 3 ∧ A.1.1 20 j ≤ 160 ∧ (A.1.1 18 j = 2 → A.1.1 21 j < A.1.1 0 0)) ∧ A.1.1 43 0 ≤ 1 ∧ (A.1.1 43 0 = 1 → sp_wf A.2.1)
theorem ab_wf.w {A : ab_S} (h : ab_wf A) : sp_wf A.1 := h.1
theorem ab_wf.b36 {A : ab_S} (h : ab_wf A) : A.1.1 36 0 = 99 := h.2.1
theorem ab_wf.b18 {A : ab_S} (h : ab_wf A) {j : Nat} (hj : j < 8) : A.1.1 18 j ≤ 2 := (h.2.2.1 j hj).1
theorem ab_wf.b19 {A : ab_S} (h : ab_wf A) {j : Nat} (hj : j < 8) : A.1.1 19 j ≤ 3 := (h.2.2.1 j hj).2.1
theorem ab_wf.b20 {A : ab_S} (h : ab_wf A) {j : Nat} (hj : j < 8) : A.1.1 20 j ≤ 160 := (h.2.2.1 j hj).2.2.1
theorem ab_wf.b21 {A : ab_S} (h : ab_wf A) {j : Nat} (hj : j < 8) (h2 : A.1.1 18 j = 2) : A.1.1 21 j < A.1.1 0 0 := (h.2.2.1 j hj).2.2.2 h2
theorem ab_wf.b43 {A : ab_S} (h : ab_wf A) : A.1.1 43 0 ≤ 1 := h.2.2.2.1
theorem ab_wf.im {A : ab_S} (h : ab_wf A) (h2 : A.1.1 43 0 = 1) : sp_wf A.2.1 := h.2.2.2.2 h2
section ABC
variable {p : Program} {l : Launch} {e : Env} {R : Room} {s : State} {m : MethodId} {args : Array Value} {below : List Frame} {meth : Method} {c : Code} {Q : State → Prop} {D : hg_D} {lo : Nat} {C0 : hg_K} {nL kr nr : Nat} {G : hg_G} {pc q : Nat} {L : List (Option Value)} {st0 rest : List Value}
theorem hr_call0 {Post : hg_Po} (h : hg_Call p l e R s m args below meth c D lo C0 nL G pc L st0 rest 0 0 Post) (hq : pc + 3 = q) (kx : ∀ (qx : Nat) (E : String) (G' : hg_G), ¬ Post (.inr (qx, E)) G')
    (k1 : ∀ (r : Option Value) (G' : hg_G), Post (.inl r) G' → (∀ a v, G.1 a = some v → G'.1 a = some v) → hg_W p l e R s m args below meth c Q D lo C0 nL kr nr G' q L (r.toList ++ rest)) : hg_W p l e R s m args below meth c Q D lo C0 nL kr nr G pc L st0 := by
  subst hq
  exact h Q kr nr k1 (fun qx E G' hp _ => absurd hp (kx qx E G'))
theorem hr_callT {o : Nat} {am : Nat → Nat} {z : Int32 × ab_S} (h : hg_Call p l e R s m args below meth c D lo C0 nL G pc L st0 rest 0 0 (tw_Po o am z)) (hq : pc + 3 = q)
    (k : ∀ (G' : hg_G) (u' : tw_S), tw_R G' o am u' → tw_A u' z.2 → hg_W p l e R s m args below meth c Q D lo C0 nL kr nr G' q L (.int z.1 :: rest)) : hg_W p l e R s m args below meth c Q D lo C0 nL kr nr G pc L st0 := by
  refine hr_call0 h hq (fun qx E G' hp => by cases hp.1) (fun r G' hp _ => ?_)
  obtain ⟨h1, u', h2, h3⟩ := hp
  cases h1
  exact k G' u' h2 h3
/-- a method of no value that changes the state to B -/
def tw_Pz (o : Nat) (am : Nat → Nat) (B : ab_S) : hg_Po := fun r G' => r = .inl none ∧ ∃ u', tw_R G' o am u' ∧ tw_A u' B
theorem hr_callZ {o : Nat} {am : Nat → Nat} {B : ab_S} (h : hg_Call p l e R s m args below meth c D lo C0 nL G pc L st0 rest 0 0 (tw_Pz o am B)) (hq : pc + 3 = q)
    (k : ∀ (G' : hg_G) (u' : tw_S), tw_R G' o am u' → tw_A u' B → hg_W p l e R s m args below meth c Q D lo C0 nL kr nr G' q L rest) : hg_W p l e R s m args below meth c Q D lo C0 nL kr nr G pc L st0 := by
  refine hr_call0 h hq (fun qx E G' hp => by cases hp.1) (fun r G' hp _ => ?_)
  obtain ⟨h1, u', h2, h3⟩ := hp
  cases h1
  exact k G' u' h2 h3
end ABC
theorem tw_endz {o : Nat} {am : Nat → Nat} {q : ab_S} {G' : hg_G} {u' : tw_S} {B : ab_S} (h : q = B) (hR : tw_R G' o am u') (hA : tw_A u' B) : tw_Pz o am q (.inl none) G' := by
  subst h
  exact ⟨rfl, u', hR, hA⟩
