/-! what is carried to and fro -/
def tw_cpF (u : tw_S) (k q f i : Nat) : tw_S := (u.1, (fun a j => if a = q then (if f ≤ j ∧ j < f + i then u.2.1 k (j - f) else u.2.1 q j) else u.2.1 a j), u.2.2)
def tw_cpB (u : tw_S) (k q f i : Nat) : tw_S := (u.1, (fun a j => if a = k then (if j < i then u.2.1 q (f + j) else u.2.1 k j) else u.2.1 a j), u.2.2)
theorem tw_ext {u v : tw_S} (h1 : ∀ k, u.1 k = v.1 k) (h2 : ∀ a j, u.2.1 a j = v.2.1 a j) (h3 : ∀ a j, u.2.2 a j = v.2.2 a j) : u = v := by
  obtain ⟨u1, u2, u3⟩ := u
  obtain ⟨v1, v2, v3⟩ := v
  have e1 : u1 = v1 := funext h1
  have e2 : u2 = v2 := funext fun a => funext fun j => h2 a j
  have e3 : u3 = v3 := funext fun a => funext fun j => h3 a j
  rw [e1, e2, e3]
theorem tw_cpF_0 (u : tw_S) (k q f : Nat) : tw_cpF u k q f 0 = u := by
  refine tw_ext (fun _ => rfl) (fun a j => ?_) (fun _ _ => rfl)
  show (if a = q then (if f ≤ j ∧ j < f + 0 then u.2.1 k (j - f) else u.2.1 q j) else u.2.1 a j) = u.2.1 a j
  by_cases h : a = q
  · rw [if_pos h, if_neg (by omega), h]
  · rw [if_neg h]
theorem tw_cpF_s (u : tw_S) (k q f i : Nat) : tw_setA (tw_cpF u k q f i) q (f + i) (u.2.1 k i) = tw_cpF u k q f (i + 1) := by
  refine tw_ext (fun _ => rfl) (fun a j => ?_) (fun _ _ => rfl)
  show (if a = q then (if j = f + i then u.2.1 k i else if a = q then (if f ≤ j ∧ j < f + i then u.2.1 k (j - f) else u.2.1 q j) else u.2.1 a j) else if a = q then (if f ≤ j ∧ j < f + i then u.2.1 k (j - f) else u.2.1 q j) else u.2.1 a j) = if a = q then (if f ≤ j ∧ j < f + (i + 1) then u.2.1 k (j - f) else u.2.1 q j) else u.2.1 a j
  by_cases h : a = q
  · rw [if_pos h, if_pos h, if_pos h]
    by_cases h2 : j = f + i
    · rw [if_pos h2, if_pos (by omega), h2, show f + i - f = i by omega]
    · rw [if_neg h2]
      by_cases h3 : f ≤ j ∧ j < f + i
      · rw [if_pos h3, if_pos (by omega)]
      · rw [if_neg h3, if_neg (by omega)]
  · rw [if_neg h, if_neg h, if_neg h]
theorem tw_cpB_0 (u : tw_S) (k q f : Nat) : tw_cpB u k q f 0 = u := by
  refine tw_ext (fun _ => rfl) (fun a j => ?_) (fun _ _ => rfl)
  show (if a = k then (if j < 0 then u.2.1 q (f + j) else u.2.1 k j) else u.2.1 a j) = u.2.1 a j
  by_cases h : a = k
  · rw [if_pos h, if_neg (by omega), h]
  · rw [if_neg h]
theorem tw_cpB_s (u : tw_S) (k q f i : Nat) : tw_setA (tw_cpB u k q f i) k i (u.2.1 q (f + i)) = tw_cpB u k q f (i + 1) := by
  refine tw_ext (fun _ => rfl) (fun a j => ?_) (fun _ _ => rfl)
  show (if a = k then (if j = i then u.2.1 q (f + i) else if a = k then (if j < i then u.2.1 q (f + j) else u.2.1 k j) else u.2.1 a j) else if a = k then (if j < i then u.2.1 q (f + j) else u.2.1 k j) else u.2.1 a j) = if a = k then (if j < i + 1 then u.2.1 q (f + j) else u.2.1 k j) else u.2.1 a j
  by_cases h : a = k
  · rw [if_pos h, if_pos h, if_pos h]
    by_cases h2 : j = i
    · rw [if_pos h2, if_pos (by omega), h2]
    · rw [if_neg h2]
      by_cases h3 : j < i
      · rw [if_pos h3, if_pos (by omega)]
      · rw [if_neg h3, if_neg (by omega)]
  · rw [if_neg h, if_neg h, if_neg h]
/-! all of it: to an image q, and back -/
def tw_carF0 (u : tw_S) (q : Nat) : tw_S := tw_cpF (tw_cpF (tw_cpF (tw_cpF (tw_cpF (tw_cpF (tw_cpF (tw_cpF (tw_cpF u 9 q 0 7) 10 q 7 7) 11 q 14 7) 12 q 21 7) 13 q 28 7) 14 q 35 7) 15 q 42 7) 16 q 49 36) 17 q 85 36
def tw_carF (u : tw_S) (q : Nat) : tw_S := tw_setA (tw_setA (tw_setA (tw_setA (tw_setA (tw_setA (tw_setA (tw_carF0 u q) q 121 (u.1 0)) q 122 (u.1 1)) q 123 (u.1 2)) q 124 (u.1 3)) q 125 (u.1 4)) q 126 (u.1 5)) q 127 (u.1 6)
def tw_carB0 (u : tw_S) (q : Nat) : tw_S := tw_cpB (tw_cpB (tw_cpB (tw_cpB (tw_cpB (tw_cpB (tw_cpB (tw_cpB (tw_cpB u 9 q 0 7) 10 q 7 7) 11 q 14 7) 12 q 21 7) 13 q 28 7) 14 q 35 7) 15 q 42 7) 16 q 49 36) 17 q 85 36
def tw_carB (u : tw_S) (q : Nat) : tw_S := tw_setS (tw_setS (tw_setS (tw_setS (tw_setS (tw_setS (tw_setS (tw_carB0 u q) 0 (u.2.1 q 121)) 1 (u.2.1 q 122)) 2 (u.2.1 q 123)) 3 (u.2.1 q 124)) 4 (u.2.1 q 125)) 5 (u.2.1 q 126)) 6 (u.2.1 q 127)
