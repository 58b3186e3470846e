/-! images -/
def sp_back (A : ab_S) (t : sp_S) : ab_S := (((fun a i => if a < 4 ∨ (9 ≤ a ∧ a ≤ 17) then t.1 a i else A.1.1 a i), (fun k => if 4 ≤ k ∧ k ≤ 6 then t.2 k else A.1.2 k)), A.2)
theorem tw_cpF_o {u : tw_S} {k q f i a : Nat} (h : a ≠ q) : (tw_cpF u k q f i).2.1 a = u.2.1 a := by
  funext j
  exact if_neg h
theorem tw_cpF_q {u : tw_S} {k q f i j : Nat} : (tw_cpF u k q f i).2.1 q j = if f ≤ j ∧ j < f + i then u.2.1 k (j - f) else u.2.1 q j := if_pos rfl
theorem tw_carF_o {u : tw_S} {q a : Nat} (h : a ≠ q) : (tw_carF u q).2.1 a = u.2.1 a := by
  have e : ∀ (v : tw_S) j x, (tw_setA v q j x).2.1 a = v.2.1 a := fun v j x => by
    funext i
    exact if_neg h
  unfold tw_carF tw_carF0
  rw [e, e, e, e, e, e, e, tw_cpF_o h, tw_cpF_o h, tw_cpF_o h, tw_cpF_o h, tw_cpF_o h, tw_cpF_o h, tw_cpF_o h, tw_cpF_o h, tw_cpF_o h]
theorem tw_carF_n {u : tw_S} {q j : Nat} (h : j < 121) : (tw_carF u q).2.1 q j = (tw_carF0 u q).2.1 q j := by
  have e : ∀ (v : tw_S) i x, i ≥ 121 → (tw_setA v q i x).2.1 q j = v.2.1 q j := fun v i x hi => by
    show (if q = q then (if j = i then x else v.2.1 q j) else v.2.1 q j) = v.2.1 q j
    rw [if_pos rfl, if_neg (by omega)]
  unfold tw_carF
  rw [e _ _ _ (by decide), e _ _ _ (by decide), e _ _ _ (by decide), e _ _ _ (by decide), e _ _ _ (by decide), e _ _ _ (by decide), e _ _ _ (by decide)]
theorem tw_carF_K {u : tw_S} {q : Nat} {t : sp_S} (hq : 18 ≤ q) (h : tw_T u t) : tw_K ((tw_carF u q).2.1 q) t := by
  have e : ∀ (v : tw_S) i x j, (tw_setA v q i x).2.1 q j = if j = i then x else v.2.1 q j := fun v i x j => if_pos rfl
  have n9 : 9 ≠ q := by omega
  have n10 : 10 ≠ q := by omega
  have n11 : 11 ≠ q := by omega
  have n12 : 12 ≠ q := by omega
  have n13 : 13 ≠ q := by omega
  have n14 : 14 ≠ q := by omega
  have n15 : 15 ≠ q := by omega
  have n16 : 16 ≠ q := by omega
  have n17 : 17 ≠ q := by omega
  refine ⟨fun k h1 h2 p hp => ?_, fun k h1 h2 c hc => ?_, fun k hk => ?_, ?_, ?_, ?_⟩
  · rw [tw_carF_n (by omega), ← h.p h1 h2 hp]
    unfold tw_carF0
    have hk : k = 9 ∨ k = 10 ∨ k = 11 ∨ k = 12 ∨ k = 13 ∨ k = 14 ∨ k = 15 := by omega
    rcases hk with rfl | rfl | rfl | rfl | rfl | rfl | rfl
    all_goals
      simp only [tw_cpF_q]
      repeat first
        | rw [if_neg (by omega)]
        | rw [if_pos (by omega)]
      try simp only [tw_cpF_o n9, tw_cpF_o n10, tw_cpF_o n11, tw_cpF_o n12, tw_cpF_o n13, tw_cpF_o n14, tw_cpF_o n15, tw_cpF_o n16, tw_cpF_o n17]
      exact congrArg (u.2.1 _) (by omega)
  · rw [tw_carF_n (by omega), ← h.c h1 h2 hc]
    unfold tw_carF0
    have hk : k = 16 ∨ k = 17 := by omega
    rcases hk with rfl | rfl
    all_goals
      simp only [tw_cpF_q]
      repeat first
        | rw [if_neg (by omega)]
        | rw [if_pos (by omega)]
      try simp only [tw_cpF_o n9, tw_cpF_o n10, tw_cpF_o n11, tw_cpF_o n12, tw_cpF_o n13, tw_cpF_o n14, tw_cpF_o n15, tw_cpF_o n16, tw_cpF_o n17]
      exact congrArg (u.2.1 _) (by omega)
  · have hk2 : k = 0 ∨ k = 1 ∨ k = 2 ∨ k = 3 := by omega
    rw [← h.sc hk]
    unfold tw_carF
    rcases hk2 with rfl | rfl | rfl | rfl <;> simp [e]
  · rw [← h.2.1.1]
    unfold tw_carF
    simp [e]
  · rw [← h.2.1.2.1]
    unfold tw_carF
    simp [e]
  · rw [← h.2.1.2.2]
    unfold tw_carF
    simp [e]
theorem tw_carF_A {u : tw_S} {A : ab_S} {q : Nat} (hq : q = 33 ∨ q = 35) (h : tw_A u A) : tw_A (tw_carF u q) A := by
  have e : ∀ a, a ≠ q → (tw_carF u q).2.1 a = u.2.1 a := fun a ha => tw_carF_o ha
  obtain ⟨a1, a2, a3, a4, a5, a6, a7, a8, a9, a10⟩ := h
  exact ⟨a1.same (fun _ _ => rfl) (fun a _ _ i => by rw [e a (by omega)]), a2, fun a h1 h2 i hi => by rw [e a (by omega)]; exact a3 a h1 h2 i hi, fun i hi => by rw [e 21 (by omega)]; exact a4 i hi, fun z => by rw [e 34 (by omega)]; exact a5 z, fun a ha i => by rw [e a (by omega)]; exact a6 a ha i, a7, fun i hi => by rw [e 24 (by omega)]; exact a8 i hi, fun i hi => by rw [e 25 (by omega)]; exact a9 i hi, fun i hi => by rw [e 26 (by omega)]; exact a10 i hi⟩
theorem tw_cpB_o {u : tw_S} {k q f i a : Nat} (h : a ≠ k) : (tw_cpB u k q f i).2.1 a = u.2.1 a := by
  funext j
  exact if_neg h
theorem tw_cpB_k {u : tw_S} {k q f i j : Nat} (h : j < i) : (tw_cpB u k q f i).2.1 k j = u.2.1 q (f + j) := (if_pos rfl).trans (if_pos h)
theorem tw_carB_o {u : tw_S} {q a : Nat} (h : a < 9 ∨ 17 < a) : (tw_carB u q).2.1 a = u.2.1 a := by
  show (tw_carB0 u q).2.1 a = u.2.1 a
  unfold tw_carB0
  rw [tw_cpB_o (by omega), tw_cpB_o (by omega), tw_cpB_o (by omega), tw_cpB_o (by omega), tw_cpB_o (by omega), tw_cpB_o (by omega), tw_cpB_o (by omega), tw_cpB_o (by omega), tw_cpB_o (by omega)]
theorem tw_carB_p {u : tw_S} {q : Nat} (hq : 18 ≤ q) {k : Nat} (h1 : 9 ≤ k) (h2 : k ≤ 15) {p : Nat} (hp : p < 7) : (tw_carB u q).2.1 k p = u.2.1 q (7 * (k - 9) + p) := by
  show (tw_carB0 u q).2.1 k p = _
  unfold tw_carB0
  have hk : k = 9 ∨ k = 10 ∨ k = 11 ∨ k = 12 ∨ k = 13 ∨ k = 14 ∨ k = 15 := by omega
  rcases hk with rfl | rfl | rfl | rfl | rfl | rfl | rfl
  all_goals
    repeat rw [tw_cpB_o (by decide)]
    rw [tw_cpB_k hp]
    repeat rw [tw_cpB_o (by omega)]
theorem tw_carB_c {u : tw_S} {q : Nat} (hq : 18 ≤ q) {k : Nat} (h1 : 16 ≤ k) (h2 : k ≤ 17) {c : Nat} (hc : c < 36) : (tw_carB u q).2.1 k c = u.2.1 q (49 + 36 * (k - 16) + c) := by
  show (tw_carB0 u q).2.1 k c = _
  unfold tw_carB0
  have hk : k = 16 ∨ k = 17 := by omega
  rcases hk with rfl | rfl
  all_goals
    repeat rw [tw_cpB_o (by decide)]
    rw [tw_cpB_k hc]
    repeat rw [tw_cpB_o (by omega)]
theorem tw_carB_s {u : tw_S} {q k : Nat} (hk : k < 7) : (tw_carB u q).1 k = u.2.1 q (121 + k) := by
  have h : k = 0 ∨ k = 1 ∨ k = 2 ∨ k = 3 ∨ k = 4 ∨ k = 5 ∨ k = 6 := by omega
  rcases h with rfl | rfl | rfl | rfl | rfl | rfl | rfl <;> rfl
theorem tw_carB_S {u : tw_S} {q k : Nat} (hk : 7 ≤ k) : (tw_carB u q).1 k = u.1 k := by
  unfold tw_carB
  rw [tw_setS1, if_neg (by omega), tw_setS1, if_neg (by omega), tw_setS1, if_neg (by omega), tw_setS1, if_neg (by omega), tw_setS1, if_neg (by omega), tw_setS1, if_neg (by omega), tw_setS1, if_neg (by omega)]
  rfl
theorem tw_carB_A {u : tw_S} {A : ab_S} {q : Nat} {t : sp_S} (hq : q = 33 ∨ q = 34 ∨ q = 35) (h : tw_A u A) (hK : tw_K (u.2.1 q) t) : tw_A (tw_carB u q) (sp_back A t) := by
  have e : ∀ a, a < 9 ∨ 17 < a → (tw_carB u q).2.1 a = u.2.1 a := fun a ha => tw_carB_o ha
  have t1 : ∀ a i, a < 4 ∨ (9 ≤ a ∧ a ≤ 17) → (sp_back A t).1.1 a i = t.1 a i := fun a i ha => if_pos ha
  have t2 : ∀ a i, ¬ (a < 4 ∨ (9 ≤ a ∧ a ≤ 17)) → (sp_back A t).1.1 a i = A.1.1 a i := fun a i ha => if_neg ha
  obtain ⟨k1, k2, k3, k4, k5, k6⟩ := hK
  obtain ⟨⟨b1, b2, b5, b6, b7⟩, ⟨a2, a3, a4⟩, a5, a6, a7, a8, a9, a10, a11, a12⟩ := h
  refine ⟨⟨fun a ha => ?_, ⟨(tw_carB_s (by decide)).trans k4, (tw_carB_s (by decide)).trans k5, (tw_carB_s (by decide)).trans k6⟩, ?_, fun a h1 h2 p hp => ?_, fun a h1 h2 c hc => ?_⟩, ⟨(tw_carB_S (by decide)).trans a2, (tw_carB_S (by decide)).trans a3, ?_⟩, fun a h1 h2 i hi => ?_, fun i hi => ?_, fun z => ?_, fun a ha i => ?_, a9, fun i hi => ?_, fun i hi => ?_, fun i hi => ?_⟩
  · rw [t1 a 0 (by omega), tw_carB_s (by omega)]
    exact k3 a ha
  · rw [t2 36 0 (by omega), tw_carB_S (by omega)]
    exact b5
  · rw [t1 a p (by omega), tw_carB_p (by omega) h1 h2 hp]
    exact k1 a h1 h2 p hp
  · rw [t1 a c (by omega), tw_carB_c (by omega) h1 h2 hc]
    exact k2 a h1 h2 c hc
  · rw [t2 43 0 (by omega), tw_carB_S (by omega)]
    exact a4
  · rw [t2 a i (by omega), e a (by omega)]
    exact a5 a h1 h2 i hi
  · rw [t2 21 i (by omega), e 21 (by omega)]
    exact a6 i hi
  · rw [t2 43 0 (by omega)] at z
    rw [e 34 (by omega)]
    exact a7 z
  · rw [e a (by omega)]
    exact a8 a ha i
  · rw [e 24 (by omega)]
    exact a10 i hi
  · rw [e 25 (by omega)]
    exact a11 i hi
  · rw [e 26 (by omega)]
    exact a12 i hi
