/-! a new reference, half made: arrays that are there (S), fields that hold them (T) -/
def tw_B (G : hg_G) (m : Nat) (am : Nat → Nat) (S T : Nat → Bool) (u : tw_S) : Prop :=
  G.1 m = some (0, 5) ∧ (∀ k, S k = true → G.1 (am k) = some (tw_t k + 1, tw_len k)) ∧ (∀ k k', S k = true → S k' = true → am k = am k' → k = k') ∧ (∀ k, G.2.1 m k = u.1 k) ∧
  (∀ k, S k = true → ∀ j, G.2.1 (am k) j = u.2.1 k j) ∧ (∀ k, S k = true → ∀ j, G.2.2.1 (am k) j = u.2.2 k j) ∧ ∀ k, T k = true → S k = true ∧ G.2.2.2 m k = some (am k)
def tw_z (u : tw_S) (k : Nat) : tw_S := (u.1, (fun a j => if a = k then 0 else u.2.1 a j), (fun a j => if a = k then 0 else u.2.2 a j))
def tw_u0 : tw_S := (fun _ => 0, fun _ _ => 0, fun _ _ => 0)
def tw_add (S : Nat → Bool) (k : Nat) : Nat → Bool := fun i => i == k || S i
section TWB
variable {G : hg_G} {m : Nat} {am : Nat → Nat} {S T : Nat → Bool} {u : tw_S}
theorem tw_B.om (h : tw_B G m am S T u) : G.1 m = some (0, 5) := h.1
theorem tw_B.ne (h : tw_B G m am S T u) {k : Nat} (hk : S k = true) : am k ≠ m := by
  intro e
  have h1 := h.2.1 k hk
  rw [e, h.1] at h1
  cases h1
theorem tw_B.setS (h : tw_B G m am S T u) (k : Nat) (v : Int32) : tw_B (hs_I G m k v) m am S T (tw_setS u k v) := by
  refine ⟨h.1, h.2.1, h.2.2.1, fun j => ?_, fun a ha j => ?_, h.2.2.2.2.2.1, h.2.2.2.2.2.2⟩
  · rw [hs_II, tw_setS1]
    by_cases e : j = k
    · simp [e]
    · simp [e, h.2.2.2.1 j]
  · rw [hs_II, if_neg (h.ne ha), ite_self]
    exact h.2.2.2.2.1 a ha j
theorem tw_B.setA (h : tw_B G m am S T u) {k : Nat} (hk : S k = true) {x : Nat} (hx : am k = x) (j : Nat) (v : Int32) : tw_B (hs_I G x j v) m am S T (tw_setA u k j v) := by
  subst hx
  refine ⟨h.1, h.2.1, h.2.2.1, fun i => ?_, fun a ha i => ?_, h.2.2.2.2.2.1, h.2.2.2.2.2.2⟩
  · rw [hs_II, if_neg (Ne.symm (h.ne hk)), ite_self]
    exact h.2.2.2.1 i
  · rw [hs_II, tw_setA2, h.2.2.2.2.1 a ha i]
    by_cases e : a = k
    · subst e
      simp
    · have e2 : am a ≠ am k := fun z => e (h.2.2.1 a k ha hk z)
      simp [e, e2]
theorem tw_B.new (h : tw_B G m am S T u) {k x t n : Nat} (hk : S k = false) (hx : G.1 x = none) (ht : t = tw_t k) (hn : n = tw_len k) : ∃ am', am' k = x ∧ tw_B (hs_N G x (t + 1, n)) m am' (tw_add S k) T (tw_z u k) := by
  subst ht hn
  have hm : m ≠ x := fun e => by rw [← e, h.1] at hx; cases hx
  have hne : ∀ i, S i = true → am i ≠ x := fun i hi e => by
    have := h.2.1 i hi
    rw [e, hx] at this
    cases this
  have hik : ∀ i, S i = true → i ≠ k := fun i hi e => by rw [e, hk] at hi; cases hi
  have hS : ∀ i, tw_add S k i = true → i = k ∨ (i ≠ k ∧ S i = true) := fun i hi => by
    by_cases e : i = k
    · exact Or.inl e
    · right
      simp [tw_add, e] at hi
      exact ⟨e, hi⟩
  refine ⟨fun i => if i = k then x else am i, if_pos rfl, ?_, fun i hi => ?_, fun i i' hi hi' e => ?_, fun j => ?_, fun i hi j => ?_, fun i hi j => ?_, fun i hi => ?_⟩
  · exact (if_neg hm).trans h.1
  · show (if (if i = k then x else am i) = x then _ else G.1 (if i = k then x else am i)) = _
    rcases hS i hi with e | ⟨e, e2⟩
    · subst e
      rw [if_pos rfl, if_pos rfl]
    · rw [if_neg e, if_neg (hne i e2)]
      exact h.2.1 i e2
  · have e : (if i = k then x else am i) = (if i' = k then x else am i') := e
    rcases hS i hi with g | ⟨g, g2⟩
    · rcases hS i' hi' with g' | ⟨g', g2'⟩
      · rw [g, g']
      · rw [if_pos g, if_neg g'] at e
        exact absurd e.symm (hne i' g2')
    · rcases hS i' hi' with g' | ⟨g', g2'⟩
      · rw [if_neg g, if_pos g'] at e
        exact absurd e (hne i g2)
      · rw [if_neg g, if_neg g'] at e
        exact h.2.2.1 i i' g2 g2' e
  · exact (if_neg hm).trans (h.2.2.2.1 j)
  · show (if (if i = k then x else am i) = x then 0 else G.2.1 (if i = k then x else am i) j) = if i = k then 0 else u.2.1 i j
    rcases hS i hi with e | ⟨e, e2⟩
    · rw [if_pos e, if_pos e, if_pos rfl]
    · rw [if_neg e, if_neg e, if_neg (hne i e2)]
      exact h.2.2.2.2.1 i e2 j
  · show (if (if i = k then x else am i) = x then 0 else G.2.2.1 (if i = k then x else am i) j) = if i = k then 0 else u.2.2 i j
    rcases hS i hi with e | ⟨e, e2⟩
    · rw [if_pos e, if_pos e, if_pos rfl]
    · rw [if_neg e, if_neg e, if_neg (hne i e2)]
      exact h.2.2.2.2.2.1 i e2 j
  · obtain ⟨h1, h2⟩ := h.2.2.2.2.2.2 i hi
    refine ⟨by simp [tw_add, h1], ?_⟩
    show (if m = x then none else G.2.2.2 m i) = some (if i = k then x else am i)
    rw [if_neg hm, if_neg (hik i h1)]
    exact h2
theorem tw_B.link (h : tw_B G m am S T u) {k x : Nat} (hk : S k = true) (hx : am k = x) : tw_B (hs_R G m k (some x)) m am S (tw_add T k) u := by
  subst hx
  refine ⟨h.1, h.2.1, h.2.2.1, h.2.2.2.1, h.2.2.2.2.1, h.2.2.2.2.2.1, fun i hi => ?_⟩
  by_cases e : i = k
  · subst e
    refine ⟨hk, ?_⟩
    rw [hs_RR, if_pos rfl, if_pos rfl]
  · have h2 : T i = true := by simpa [tw_add, e] using hi
    refine ⟨(h.2.2.2.2.2.2 i h2).1, ?_⟩
    rw [hs_RR, if_neg e]
    exact (h.2.2.2.2.2.2 i h2).2
theorem tw_B.done (h : tw_B G m am S T u) (hS : ∀ k, tw_isA k = true → T k = true) : tw_R G m am u := by
  have hS2 : ∀ k, tw_isA k = true → S k = true := fun k hk => (h.2.2.2.2.2.2 k (hS k hk)).1
  exact ⟨h.1, fun k hk => ⟨(h.2.2.2.2.2.2 k (hS k hk)).2, h.2.1 k (hS2 k hk)⟩, fun k k' hk hk' e => h.2.2.1 k k' (hS2 k hk) (hS2 k' hk') e, h.2.2.2.1, fun k hk j => h.2.2.2.2.1 k (hS2 k hk) j, fun k hk j => h.2.2.2.2.2.1 k (hS2 k hk) j⟩
theorem tw_B.start (h1 : G.1 m = some (0, 5)) (h2 : ∀ k, G.2.1 m k = 0) : tw_B G m (fun _ => 0) (fun _ => false) (fun _ => false) tw_u0 := ⟨h1, (fun _ z => nomatch z), (fun _ _ z => nomatch z), h2, (fun _ z => nomatch z), (fun _ z => nomatch z), fun _ z => nomatch z⟩
end TWB
def tw_V (u : tw_S) (k : Nat) (f : Nat → Nat) (i : Nat) : Prop := ∀ j, j < i → u.2.1 k j = nI (f j)
theorem tw_V.z {u : tw_S} {k : Nat} {f : Nat → Nat} : tw_V u k f 0 := fun _ h => absurd h (Nat.not_lt_zero _)
theorem tw_V.here {u : tw_S} {k i n : Nat} {f : Nat → Nat} (h : tw_V u k f i) (hn : n = f i) : tw_V (tw_setA u k i (nI n)) k f (i + 1) := sp_ext (fun j hj => by
  show (if k = k then (if j = i then _ else u.2.1 k j) else _) = _
  rw [if_pos rfl, if_neg (by omega)]
  exact h j hj) (by
  show (if k = k then (if i = i then _ else _) else _) = _
  rw [if_pos rfl, if_pos rfl, hn])
theorem tw_V.oA {u : tw_S} {k k' i j : Nat} {v : Int32} {f : Nat → Nat} (h : tw_V u k f i) (hk : k ≠ k') : tw_V (tw_setA u k' j v) k f i := fun x hx => (if_neg hk).trans (h x hx)
theorem tw_V.oS {u : tw_S} {k k' i : Nat} {v : Int32} {f : Nat → Nat} (h : tw_V u k f i) : tw_V (tw_setS u k' v) k f i := h
theorem tw_V.oz {u : tw_S} {k k' i : Nat} {f : Nat → Nat} (h : tw_V u k f i) (hk : k ≠ k') : tw_V (tw_z u k') k f i := fun x hx => (if_neg hk).trans (h x hx)
theorem tw_B.v0 {G : hg_G} {m : Nat} {am : Nat → Nat} {S T : Nat → Bool} {u : tw_S} (_ : tw_B G m am S T u) (k : Nat) (f : Nat → Nat) : tw_V u k f 0 := tw_V.z
/-- the state at the beginning -/
def sp_0 : sp_S := ((fun a _ => if a = 1 then 1 else if a = 2 then 5 else if a = 36 then 99 else 0), fun k => if k = 6 then 1 else if k = 7 then -1 else 0)
def ab_0 : ab_S := (sp_0, sp_0, (fun _ _ => 0), fun _ => 0)
theorem ab_0_wf : ab_wf ab_0 := by
  have hs : sp_wf sp_0 := ⟨by decide, by decide, by decide, by decide, fun p _ => by show 0 ≤ 6 ∧ 0 ≤ 9 ∧ 0 ≤ 20 ∧ 0 ≤ 9 ∧ 0 ≤ 9999 ∧ 0 < 36 ∧ 0 ≤ 1; decide, fun c _ => by show 0 ≤ 1 ∧ 0 ≤ 1; decide, fun p _ => rfl, Or.inl rfl⟩
  exact ⟨hs, rfl, fun j _ => ⟨by show 0 ≤ 2; decide, by show 0 ≤ 3; decide, by show 0 ≤ 160; decide, fun z => by have z : (0 : Nat) = 2 := z; cases z⟩, by show 0 ≤ 1; decide, fun z => by have z : (0 : Nat) = 1 := z; cases z⟩
theorem tw_A_0 {u : tw_S} (h0 : u.1 0 = 0) (h1 : u.1 1 = 1) (h2 : u.1 2 = 5) (h3 : u.1 3 = 0) (h4 : u.1 4 = 0) (h5 : u.1 5 = 0) (h6 : u.1 6 = 1) (h7 : u.1 7 = -1) (h36 : u.1 36 = -1) (h42 : u.1 42 = 0) (h43 : u.1 43 = 0)
    (hz : ∀ k, (9 ≤ k ∧ k ≤ 21) ∨ k = 8 ∨ k = 41 → ∀ j, u.2.1 k j = 0) (hj : ∀ j, u.2.2 22 j = 0) (h24 : tw_V u 24 (fun j => sp_words.getD j 0) 47) (h25 : tw_V u 25 (fun j => sp_nums.getD j 0) 7) (h26 : tw_V u 26 (fun j => sp_mosts.getD j 0) 6) : tw_A u ab_0 := by
  have z9 : ∀ k p, 9 ≤ k → k ≤ 20 → ab_0.1.1 k p = 0 := fun k p a b => by
    show (if k = 1 then 1 else if k = 2 then 5 else if k = 36 then 99 else 0) = 0
    rw [if_neg (by omega), if_neg (by omega), if_neg (by omega)]
  refine ⟨⟨fun k hk => ?_, ⟨h4, h5, h6⟩, h36, fun k a b p hp => ?_, fun k a b p hp => ?_⟩, ⟨h7, h42, h43⟩, fun k a b j hj => ?_, fun j hj => ?_, fun z => ?_, fun k hk j => ?_, hj, h24, h25, h26⟩
  · have hk2 : k = 0 ∨ k = 1 ∨ k = 2 ∨ k = 3 := by omega
    rcases hk2 with rfl | rfl | rfl | rfl
    · exact h0
    · exact h1
    · exact h2
    · exact h3
  · rw [hz k (by omega), z9 k p a (by omega)]
    rfl
  · rw [hz k (by omega), z9 k p (by omega) (by omega)]
    rfl
  · rw [hz k (by omega), z9 k j (by omega) (by omega)]
    rfl
  · rw [hz 21 (by omega)]
    rfl
  · have z : (0 : Nat) = 1 := z
    cases z
  · rw [hz k (by omega)]
    rfl
abbrev rk_X5_init : Room := { frames := 1, cells := 40, slots := 4000, locals := 40 }
theorem tw_allA : ∀ k, tw_isA k = true → (tw_add (tw_add (tw_add (tw_add (tw_add (tw_add (tw_add (tw_add (tw_add (tw_add (tw_add (tw_add (tw_add (tw_add (tw_add (tw_add (tw_add (tw_add (tw_add (tw_add (tw_add (tw_add (tw_add (tw_add (tw_add (tw_add (tw_add (fun _ => false) 8) 9) 10) 11) 12) 13) 14) 15) 16) 17) 18) 19) 20) 21) 22) 23) 24) 25) 26) 27) 33) 34) 35) 37) 38) 39) 41) k = true := by
  intro k hk
  by_cases h : k < 44
  · have key : ∀ k, k < 44 → tw_isA k = true → (tw_add (tw_add (tw_add (tw_add (tw_add (tw_add (tw_add (tw_add (tw_add (tw_add (tw_add (tw_add (tw_add (tw_add (tw_add (tw_add (tw_add (tw_add (tw_add (tw_add (tw_add (tw_add (tw_add (tw_add (tw_add (tw_add (tw_add (fun _ => false) 8) 9) 10) 11) 12) 13) 14) 15) 16) 17) 18) 19) 20) 21) 22) 23) 24) 25) 26) 27) 33) 34) 35) 37) 38) 39) 41) k = true := by decide +kernel
    exact key k h hk
  · simp [tw_isA, h] at hk
theorem tk_init {l : Launch} {D : hg_D} {lo : Nat} (htr : l.stackTraces = false) {G : hg_G} {o : Nat} (h0 : G.1 o = some (0, 5)) (hz : ∀ k, G.2.1 o k = 0) :
    hg_M l D lo yX5_init (ws_ yX5_init cX5_init 1 (none)) rk_X5_init [.ref o] G (fun r G' => r = .inl none ∧ ∃ am u', tw_R G' o am u' ∧ tw_A u' ab_0) := by
  refine hg_M.of htr (by decide) [some (.ref o)] rfl (Nat.le_of_ble_eq_true rfl) ?_
  intro p e s m args below meth c X hr hnm htab
  have X : hg_X p l s m args meth c D lo "TaxOnLooksModel" cX5_init 1 := X
  have hnm : meth.name = "<init>" := hnm
  refine hr_room (kr' := 40) (nr' := 4000) (by decide) (by decide) ?_
  have hB := tw_B.start h0 hz
  refine hr_aload0 (q := 1) X dX5_init_0 rfl ?_
  refine hr_objInit (q := 4) X dX5_init_1 rfl q1381 (by decide) (by decide) ?_
  refine hr_aload0 (q := 5) X dX5_init_4 rfl ?_
  refine hr_iconst (v := (nI 1)) (q := 6) X dX5_init_5 rfl rfl ?_
  refine hr_putI (q := 9) X dX5_init_6 rfl fw_q1383_5 (fun h => nomatch h) rfl rfl rfl hB.om ?_
  have hB1 := hB.setS 1 ((nI 1))
  refine hr_aload0 (q := 10) X dX5_init_9 rfl ?_
  refine hr_iconst (v := (nI 5)) (q := 11) X dX5_init_10 rfl rfl ?_
  refine hr_putI (q := 14) X dX5_init_11 rfl fw_q1384_5 (fun h => nomatch h) rfl rfl rfl hB1.om ?_
  have hB2 := hB1.setS 2 ((nI 5))
  refine hr_aload0 (q := 15) X dX5_init_14 rfl ?_
  refine hr_iconst (v := (nI 1)) (q := 16) X dX5_init_15 rfl rfl ?_
  refine hr_putI (q := 19) X dX5_init_16 rfl fw_q1388_5 (fun h => nomatch h) rfl rfl rfl hB2.om ?_
  have hB3 := hB2.setS 6 ((nI 1))
  refine hr_aload0 (q := 20) X dX5_init_19 rfl ?_
  refine hr_iconst (v := (-1)) (q := 21) X dX5_init_20 rfl rfl ?_
  refine hr_putI (q := 24) X dX5_init_21 rfl fw_q1389_5 (fun h => nomatch h) rfl rfl rfl hB3.om ?_
  have hB4 := hB3.setS 7 ((-1))
  refine hr_aload0 (q := 25) X dX5_init_24 rfl ?_
  refine hr_bipush (v := (nI 8)) (q := 27) X dX5_init_25 rfl rfl ?_
  refine hr_newarr (kr := 39) (nr := 3992) (q := 29) (t := 0) (N := 8) X dX5_init_27 rfl (Or.inl ⟨rfl, rfl⟩) q143 rfl (by decide) (fun x8 hl8 hn8 => ?_)
  obtain ⟨am8, ha8, hB5⟩ := hB4.new (k := 8) rfl hn8 rfl rfl
  refine hr_putR (q := 32) X dX5_init_29 rfl fw_q1390_5 (fun _ => hnm) rfl rfl hB5.om ?_
  have hB6 := hB5.link (k := 8) rfl ha8
  refine hr_aload0 (q := 33) X dX5_init_32 rfl ?_
  refine hr_bipush (v := (nI 7)) (q := 35) X dX5_init_33 rfl rfl ?_
  refine hr_newarr (kr := 38) (nr := 3985) (q := 37) (t := 0) (N := 7) X dX5_init_35 rfl (Or.inl ⟨rfl, rfl⟩) q143 rfl (by decide) (fun x9 hl9 hn9 => ?_)
  obtain ⟨am9, ha9, hB7⟩ := hB6.new (k := 9) rfl hn9 rfl rfl
  refine hr_putR (q := 40) X dX5_init_37 rfl fw_q1391_5 (fun _ => hnm) rfl rfl hB7.om ?_
  have hB8 := hB7.link (k := 9) rfl ha9
  refine hr_aload0 (q := 41) X dX5_init_40 rfl ?_
  refine hr_bipush (v := (nI 7)) (q := 43) X dX5_init_41 rfl rfl ?_
  refine hr_newarr (kr := 37) (nr := 3978) (q := 45) (t := 0) (N := 7) X dX5_init_43 rfl (Or.inl ⟨rfl, rfl⟩) q143 rfl (by decide) (fun x10 hl10 hn10 => ?_)
  obtain ⟨am10, ha10, hB9⟩ := hB8.new (k := 10) rfl hn10 rfl rfl
  refine hr_putR (q := 48) X dX5_init_45 rfl fw_q1392_5 (fun _ => hnm) rfl rfl hB9.om ?_
  have hB10 := hB9.link (k := 10) rfl ha10
  refine hr_aload0 (q := 49) X dX5_init_48 rfl ?_
  refine hr_bipush (v := (nI 7)) (q := 51) X dX5_init_49 rfl rfl ?_
  refine hr_newarr (kr := 36) (nr := 3971) (q := 53) (t := 0) (N := 7) X dX5_init_51 rfl (Or.inl ⟨rfl, rfl⟩) q143 rfl (by decide) (fun x11 hl11 hn11 => ?_)
  obtain ⟨am11, ha11, hB11⟩ := hB10.new (k := 11) rfl hn11 rfl rfl
  refine hr_putR (q := 56) X dX5_init_53 rfl fw_q1393_5 (fun _ => hnm) rfl rfl hB11.om ?_
  have hB12 := hB11.link (k := 11) rfl ha11
  refine hr_aload0 (q := 57) X dX5_init_56 rfl ?_
  refine hr_bipush (v := (nI 7)) (q := 59) X dX5_init_57 rfl rfl ?_
  refine hr_newarr (kr := 35) (nr := 3964) (q := 61) (t := 0) (N := 7) X dX5_init_59 rfl (Or.inl ⟨rfl, rfl⟩) q143 rfl (by decide) (fun x12 hl12 hn12 => ?_)
  obtain ⟨am12, ha12, hB13⟩ := hB12.new (k := 12) rfl hn12 rfl rfl
  refine hr_putR (q := 64) X dX5_init_61 rfl fw_q1394_5 (fun _ => hnm) rfl rfl hB13.om ?_
  have hB14 := hB13.link (k := 12) rfl ha12
  refine hr_aload0 (q := 65) X dX5_init_64 rfl ?_
  refine hr_bipush (v := (nI 7)) (q := 67) X dX5_init_65 rfl rfl ?_
  refine hr_newarr (kr := 34) (nr := 3957) (q := 69) (t := 0) (N := 7) X dX5_init_67 rfl (Or.inl ⟨rfl, rfl⟩) q143 rfl (by decide) (fun x13 hl13 hn13 => ?_)
  obtain ⟨am13, ha13, hB15⟩ := hB14.new (k := 13) rfl hn13 rfl rfl
  refine hr_putR (q := 72) X dX5_init_69 rfl fw_q1395_5 (fun _ => hnm) rfl rfl hB15.om ?_
  have hB16 := hB15.link (k := 13) rfl ha13
  refine hr_aload0 (q := 73) X dX5_init_72 rfl ?_
  refine hr_bipush (v := (nI 7)) (q := 75) X dX5_init_73 rfl rfl ?_
  refine hr_newarr (kr := 33) (nr := 3950) (q := 77) (t := 0) (N := 7) X dX5_init_75 rfl (Or.inl ⟨rfl, rfl⟩) q143 rfl (by decide) (fun x14 hl14 hn14 => ?_)
  obtain ⟨am14, ha14, hB17⟩ := hB16.new (k := 14) rfl hn14 rfl rfl
  refine hr_putR (q := 80) X dX5_init_77 rfl fw_q1396_5 (fun _ => hnm) rfl rfl hB17.om ?_
  have hB18 := hB17.link (k := 14) rfl ha14
  refine hr_aload0 (q := 81) X dX5_init_80 rfl ?_
  refine hr_bipush (v := (nI 7)) (q := 83) X dX5_init_81 rfl rfl ?_
  refine hr_newarr (kr := 32) (nr := 3943) (q := 85) (t := 0) (N := 7) X dX5_init_83 rfl (Or.inl ⟨rfl, rfl⟩) q143 rfl (by decide) (fun x15 hl15 hn15 => ?_)
  obtain ⟨am15, ha15, hB19⟩ := hB18.new (k := 15) rfl hn15 rfl rfl
  refine hr_putR (q := 88) X dX5_init_85 rfl fw_q1397_5 (fun _ => hnm) rfl rfl hB19.om ?_
  have hB20 := hB19.link (k := 15) rfl ha15
  refine hr_aload0 (q := 89) X dX5_init_88 rfl ?_
  refine hr_bipush (v := (nI 36)) (q := 91) X dX5_init_89 rfl rfl ?_
  refine hr_newarr (kr := 31) (nr := 3907) (q := 93) (t := 0) (N := 36) X dX5_init_91 rfl (Or.inl ⟨rfl, rfl⟩) q143 rfl (by decide) (fun x16 hl16 hn16 => ?_)
  obtain ⟨am16, ha16, hB21⟩ := hB20.new (k := 16) rfl hn16 rfl rfl
  refine hr_putR (q := 96) X dX5_init_93 rfl fw_q1398_5 (fun _ => hnm) rfl rfl hB21.om ?_
  have hB22 := hB21.link (k := 16) rfl ha16
  refine hr_aload0 (q := 97) X dX5_init_96 rfl ?_
  refine hr_bipush (v := (nI 36)) (q := 99) X dX5_init_97 rfl rfl ?_
  refine hr_newarr (kr := 30) (nr := 3871) (q := 101) (t := 0) (N := 36) X dX5_init_99 rfl (Or.inl ⟨rfl, rfl⟩) q143 rfl (by decide) (fun x17 hl17 hn17 => ?_)
  obtain ⟨am17, ha17, hB23⟩ := hB22.new (k := 17) rfl hn17 rfl rfl
  refine hr_putR (q := 104) X dX5_init_101 rfl fw_q1399_5 (fun _ => hnm) rfl rfl hB23.om ?_
  have hB24 := hB23.link (k := 17) rfl ha17
  refine hr_aload0 (q := 105) X dX5_init_104 rfl ?_
  refine hr_bipush (v := (nI 8)) (q := 107) X dX5_init_105 rfl rfl ?_
  refine hr_newarr (kr := 29) (nr := 3863) (q := 109) (t := 0) (N := 8) X dX5_init_107 rfl (Or.inl ⟨rfl, rfl⟩) q143 rfl (by decide) (fun x18 hl18 hn18 => ?_)
  obtain ⟨am18, ha18, hB25⟩ := hB24.new (k := 18) rfl hn18 rfl rfl
  refine hr_putR (q := 112) X dX5_init_109 rfl fw_q1400_5 (fun _ => hnm) rfl rfl hB25.om ?_
  have hB26 := hB25.link (k := 18) rfl ha18
  refine hr_aload0 (q := 113) X dX5_init_112 rfl ?_
  refine hr_bipush (v := (nI 8)) (q := 115) X dX5_init_113 rfl rfl ?_
  refine hr_newarr (kr := 28) (nr := 3855) (q := 117) (t := 0) (N := 8) X dX5_init_115 rfl (Or.inl ⟨rfl, rfl⟩) q143 rfl (by decide) (fun x19 hl19 hn19 => ?_)
  obtain ⟨am19, ha19, hB27⟩ := hB26.new (k := 19) rfl hn19 rfl rfl
  refine hr_putR (q := 120) X dX5_init_117 rfl fw_q1401_5 (fun _ => hnm) rfl rfl hB27.om ?_
  have hB28 := hB27.link (k := 19) rfl ha19
  refine hr_aload0 (q := 121) X dX5_init_120 rfl ?_
  refine hr_bipush (v := (nI 8)) (q := 123) X dX5_init_121 rfl rfl ?_
  refine hr_newarr (kr := 27) (nr := 3847) (q := 125) (t := 0) (N := 8) X dX5_init_123 rfl (Or.inl ⟨rfl, rfl⟩) q143 rfl (by decide) (fun x20 hl20 hn20 => ?_)
  obtain ⟨am20, ha20, hB29⟩ := hB28.new (k := 20) rfl hn20 rfl rfl
  refine hr_putR (q := 128) X dX5_init_125 rfl fw_q1402_5 (fun _ => hnm) rfl rfl hB29.om ?_
  have hB30 := hB29.link (k := 20) rfl ha20
  refine hr_aload0 (q := 129) X dX5_init_128 rfl ?_
  refine hr_bipush (v := (nI 8)) (q := 131) X dX5_init_129 rfl rfl ?_
  refine hr_newarr (kr := 26) (nr := 3839) (q := 133) (t := 0) (N := 8) X dX5_init_131 rfl (Or.inl ⟨rfl, rfl⟩) q143 rfl (by decide) (fun x21 hl21 hn21 => ?_)
  obtain ⟨am21, ha21, hB31⟩ := hB30.new (k := 21) rfl hn21 rfl rfl
  refine hr_putR (q := 136) X dX5_init_133 rfl fw_q1403_5 (fun _ => hnm) rfl rfl hB31.om ?_
  have hB32 := hB31.link (k := 21) rfl ha21
  refine hr_aload0 (q := 137) X dX5_init_136 rfl ?_
  refine hr_sipush (v := (nI 1280)) (q := 140) X dX5_init_137 rfl rfl ?_
  refine hr_newarr (kr := 25) (nr := 2559) (q := 142) (t := 1) (N := 1280) X dX5_init_140 rfl (Or.inr (Or.inl ⟨rfl, rfl⟩)) q451 rfl (by decide) (fun x22 hl22 hn22 => ?_)
  obtain ⟨am22, ha22, hB33⟩ := hB32.new (k := 22) rfl hn22 rfl rfl
  refine hr_putR (q := 145) X dX5_init_142 rfl fw_q1404_5 (fun _ => hnm) rfl rfl hB33.om ?_
  have hB34 := hB33.link (k := 22) rfl ha22
  refine hr_aload0 (q := 146) X dX5_init_145 rfl ?_
  refine hr_sipush (v := (nI 160)) (q := 149) X dX5_init_146 rfl rfl ?_
  refine hr_newarr (kr := 24) (nr := 2399) (q := 151) (t := 1) (N := 160) X dX5_init_149 rfl (Or.inr (Or.inl ⟨rfl, rfl⟩)) q451 rfl (by decide) (fun x23 hl23 hn23 => ?_)
  obtain ⟨am23, ha23, hB35⟩ := hB34.new (k := 23) rfl hn23 rfl rfl
  refine hr_putR (q := 154) X dX5_init_151 rfl fw_q1405_5 (fun _ => hnm) rfl rfl hB35.om ?_
  have hB36 := hB35.link (k := 23) rfl ha23
  refine hr_aload0 (q := 155) X dX5_init_154 rfl ?_
  refine hr_bipush (v := (nI 47)) (q := 157) X dX5_init_155 rfl rfl ?_
  refine hr_newarr (kr := 23) (nr := 2352) (q := 159) (t := 0) (N := 47) X dX5_init_157 rfl (Or.inl ⟨rfl, rfl⟩) q143 rfl (by decide) (fun x24 hl24 hn24 => ?_)
  obtain ⟨am24, ha24, hB37⟩ := hB36.new (k := 24) rfl hn24 rfl rfl
  refine hr_dup (q := 160) X dX5_init_159 rfl rfl ?_
  refine hr_iconst (v := (nI 0)) (q := 161) X dX5_init_160 rfl rfl ?_
  refine hr_bipush (v := (nI 119)) (q := 163) X dX5_init_161 rfl rfl ?_
  refine hr_iastN (q := 164) X dX5_init_163 rfl ((congrArg _ ha24.symm).trans (hB37.2.1 24 rfl)) (by decide) (by decide) ?_
  have hB38 := hB37.setA (k := 24) rfl ha24 0 ((nI 119))
  have hV39 := (hB37.v0 24 (fun j => sp_words.getD j 0)).here (n := 119) rfl
  refine hr_dup (q := 165) X dX5_init_164 rfl rfl ?_
  refine hr_iconst (v := (nI 1)) (q := 166) X dX5_init_165 rfl rfl ?_
  refine hr_bipush (v := (nI 97)) (q := 168) X dX5_init_166 rfl rfl ?_
  refine hr_iastN (q := 169) X dX5_init_168 rfl ((congrArg _ ha24.symm).trans (hB38.2.1 24 rfl)) (by decide) (by decide) ?_
  have hB40 := hB38.setA (k := 24) rfl ha24 1 ((nI 97))
  have hV41 := hV39.here (n := 97) rfl
  refine hr_dup (q := 170) X dX5_init_169 rfl rfl ?_
  refine hr_iconst (v := (nI 2)) (q := 171) X dX5_init_170 rfl rfl ?_
  refine hr_bipush (v := (nI 108)) (q := 173) X dX5_init_171 rfl rfl ?_
  refine hr_iastN (q := 174) X dX5_init_173 rfl ((congrArg _ ha24.symm).trans (hB40.2.1 24 rfl)) (by decide) (by decide) ?_
  have hB42 := hB40.setA (k := 24) rfl ha24 2 ((nI 108))
  have hV43 := hV41.here (n := 108) rfl
  refine hr_dup (q := 175) X dX5_init_174 rfl rfl ?_
  refine hr_iconst (v := (nI 3)) (q := 176) X dX5_init_175 rfl rfl ?_
  refine hr_bipush (v := (nI 108)) (q := 178) X dX5_init_176 rfl rfl ?_
  refine hr_iastN (q := 179) X dX5_init_178 rfl ((congrArg _ ha24.symm).trans (hB42.2.1 24 rfl)) (by decide) (by decide) ?_
  have hB44 := hB42.setA (k := 24) rfl ha24 3 ((nI 108))
  have hV45 := hV43.here (n := 108) rfl
  refine hr_dup (q := 180) X dX5_init_179 rfl rfl ?_
  refine hr_iconst (v := (nI 4)) (q := 181) X dX5_init_180 rfl rfl ?_
  refine hr_bipush (v := (nI 32)) (q := 183) X dX5_init_181 rfl rfl ?_
  refine hr_iastN (q := 184) X dX5_init_183 rfl ((congrArg _ ha24.symm).trans (hB44.2.1 24 rfl)) (by decide) (by decide) ?_
  have hB46 := hB44.setA (k := 24) rfl ha24 4 ((nI 32))
  have hV47 := hV45.here (n := 32) rfl
  refine hr_dup (q := 185) X dX5_init_184 rfl rfl ?_
  refine hr_iconst (v := (nI 5)) (q := 186) X dX5_init_185 rfl rfl ?_
  refine hr_iconst (v := (nI 0)) (q := 187) X dX5_init_186 rfl rfl ?_
  refine hr_iastN (q := 188) X dX5_init_187 rfl ((congrArg _ ha24.symm).trans (hB46.2.1 24 rfl)) (by decide) (by decide) ?_
  have hB48 := hB46.setA (k := 24) rfl ha24 5 ((nI 0))
  have hV49 := hV47.here (n := 0) rfl
  refine hr_dup (q := 189) X dX5_init_188 rfl rfl ?_
  refine hr_bipush (v := (nI 6)) (q := 191) X dX5_init_189 rfl rfl ?_
  refine hr_bipush (v := (nI 103)) (q := 193) X dX5_init_191 rfl rfl ?_
  refine hr_iastN (q := 194) X dX5_init_193 rfl ((congrArg _ ha24.symm).trans (hB48.2.1 24 rfl)) (by decide) (by decide) ?_
  have hB50 := hB48.setA (k := 24) rfl ha24 6 ((nI 103))
  have hV51 := hV49.here (n := 103) rfl
  refine hr_dup (q := 195) X dX5_init_194 rfl rfl ?_
  refine hr_bipush (v := (nI 7)) (q := 197) X dX5_init_195 rfl rfl ?_
  refine hr_bipush (v := (nI 97)) (q := 199) X dX5_init_197 rfl rfl ?_
  refine hr_iastN (q := 200) X dX5_init_199 rfl ((congrArg _ ha24.symm).trans (hB50.2.1 24 rfl)) (by decide) (by decide) ?_
  have hB52 := hB50.setA (k := 24) rfl ha24 7 ((nI 97))
  have hV53 := hV51.here (n := 97) rfl
  refine hr_dup (q := 201) X dX5_init_200 rfl rfl ?_
  refine hr_bipush (v := (nI 8)) (q := 203) X dX5_init_201 rfl rfl ?_
  refine hr_bipush (v := (nI 112)) (q := 205) X dX5_init_203 rfl rfl ?_
  refine hr_iastN (q := 206) X dX5_init_205 rfl ((congrArg _ ha24.symm).trans (hB52.2.1 24 rfl)) (by decide) (by decide) ?_
  have hB54 := hB52.setA (k := 24) rfl ha24 8 ((nI 112))
  have hV55 := hV53.here (n := 112) rfl
  refine hr_dup (q := 207) X dX5_init_206 rfl rfl ?_
  refine hr_bipush (v := (nI 9)) (q := 209) X dX5_init_207 rfl rfl ?_
  refine hr_bipush (v := (nI 32)) (q := 211) X dX5_init_209 rfl rfl ?_
  refine hr_iastN (q := 212) X dX5_init_211 rfl ((congrArg _ ha24.symm).trans (hB54.2.1 24 rfl)) (by decide) (by decide) ?_
  have hB56 := hB54.setA (k := 24) rfl ha24 9 ((nI 32))
  have hV57 := hV55.here (n := 32) rfl
  refine hr_dup (q := 213) X dX5_init_212 rfl rfl ?_
  refine hr_bipush (v := (nI 10)) (q := 215) X dX5_init_213 rfl rfl ?_
  refine hr_iconst (v := (nI 0)) (q := 216) X dX5_init_215 rfl rfl ?_
  refine hr_iastN (q := 217) X dX5_init_216 rfl ((congrArg _ ha24.symm).trans (hB56.2.1 24 rfl)) (by decide) (by decide) ?_
  have hB58 := hB56.setA (k := 24) rfl ha24 10 ((nI 0))
  have hV59 := hV57.here (n := 0) rfl
  refine hr_dup (q := 218) X dX5_init_217 rfl rfl ?_
  refine hr_bipush (v := (nI 11)) (q := 220) X dX5_init_218 rfl rfl ?_
  refine hr_bipush (v := (nI 98)) (q := 222) X dX5_init_220 rfl rfl ?_
  refine hr_iastN (q := 223) X dX5_init_222 rfl ((congrArg _ ha24.symm).trans (hB58.2.1 24 rfl)) (by decide) (by decide) ?_
  have hB60 := hB58.setA (k := 24) rfl ha24 11 ((nI 98))
  have hV61 := hV59.here (n := 98) rfl
  refine hr_dup (q := 224) X dX5_init_223 rfl rfl ?_
  refine hr_bipush (v := (nI 12)) (q := 226) X dX5_init_224 rfl rfl ?_
  refine hr_bipush (v := (nI 97)) (q := 228) X dX5_init_226 rfl rfl ?_
  refine hr_iastN (q := 229) X dX5_init_228 rfl ((congrArg _ ha24.symm).trans (hB60.2.1 24 rfl)) (by decide) (by decide) ?_
  have hB62 := hB60.setA (k := 24) rfl ha24 12 ((nI 97))
  have hV63 := hV61.here (n := 97) rfl
  refine hr_dup (q := 230) X dX5_init_229 rfl rfl ?_
  refine hr_bipush (v := (nI 13)) (q := 232) X dX5_init_230 rfl rfl ?_
  refine hr_bipush (v := (nI 108)) (q := 234) X dX5_init_232 rfl rfl ?_
  refine hr_iastN (q := 235) X dX5_init_234 rfl ((congrArg _ ha24.symm).trans (hB62.2.1 24 rfl)) (by decide) (by decide) ?_
  have hB64 := hB62.setA (k := 24) rfl ha24 13 ((nI 108))
  have hV65 := hV63.here (n := 108) rfl
  refine hr_dup (q := 236) X dX5_init_235 rfl rfl ?_
  refine hr_bipush (v := (nI 14)) (q := 238) X dX5_init_236 rfl rfl ?_
  refine hr_bipush (v := (nI 99)) (q := 240) X dX5_init_238 rfl rfl ?_
  refine hr_iastN (q := 241) X dX5_init_240 rfl ((congrArg _ ha24.symm).trans (hB64.2.1 24 rfl)) (by decide) (by decide) ?_
  have hB66 := hB64.setA (k := 24) rfl ha24 14 ((nI 99))
  have hV67 := hV65.here (n := 99) rfl
  refine hr_dup (q := 242) X dX5_init_241 rfl rfl ?_
  refine hr_bipush (v := (nI 15)) (q := 244) X dX5_init_242 rfl rfl ?_
  refine hr_bipush (v := (nI 111)) (q := 246) X dX5_init_244 rfl rfl ?_
  refine hr_iastN (q := 247) X dX5_init_246 rfl ((congrArg _ ha24.symm).trans (hB66.2.1 24 rfl)) (by decide) (by decide) ?_
  have hB68 := hB66.setA (k := 24) rfl ha24 15 ((nI 111))
  have hV69 := hV67.here (n := 111) rfl
  refine hr_dup (q := 248) X dX5_init_247 rfl rfl ?_
  refine hr_bipush (v := (nI 16)) (q := 250) X dX5_init_248 rfl rfl ?_
  refine hr_bipush (v := (nI 110)) (q := 252) X dX5_init_250 rfl rfl ?_
  refine hr_iastN (q := 253) X dX5_init_252 rfl ((congrArg _ ha24.symm).trans (hB68.2.1 24 rfl)) (by decide) (by decide) ?_
  have hB70 := hB68.setA (k := 24) rfl ha24 16 ((nI 110))
  have hV71 := hV69.here (n := 110) rfl
  refine hr_dup (q := 254) X dX5_init_253 rfl rfl ?_
  refine hr_bipush (v := (nI 17)) (q := 256) X dX5_init_254 rfl rfl ?_
  refine hr_bipush (v := (nI 121)) (q := 258) X dX5_init_256 rfl rfl ?_
  refine hr_iastN (q := 259) X dX5_init_258 rfl ((congrArg _ ha24.symm).trans (hB70.2.1 24 rfl)) (by decide) (by decide) ?_
  have hB72 := hB70.setA (k := 24) rfl ha24 17 ((nI 121))
  have hV73 := hV71.here (n := 121) rfl
  refine hr_dup (q := 260) X dX5_init_259 rfl rfl ?_
  refine hr_bipush (v := (nI 18)) (q := 262) X dX5_init_260 rfl rfl ?_
  refine hr_bipush (v := (nI 32)) (q := 264) X dX5_init_262 rfl rfl ?_
  refine hr_iastN (q := 265) X dX5_init_264 rfl ((congrArg _ ha24.symm).trans (hB72.2.1 24 rfl)) (by decide) (by decide) ?_
  have hB74 := hB72.setA (k := 24) rfl ha24 18 ((nI 32))
  have hV75 := hV73.here (n := 32) rfl
  refine hr_dup (q := 266) X dX5_init_265 rfl rfl ?_
  refine hr_bipush (v := (nI 19)) (q := 268) X dX5_init_266 rfl rfl ?_
  refine hr_iconst (v := (nI 0)) (q := 269) X dX5_init_268 rfl rfl ?_
  refine hr_iastN (q := 270) X dX5_init_269 rfl ((congrArg _ ha24.symm).trans (hB74.2.1 24 rfl)) (by decide) (by decide) ?_
  have hB76 := hB74.setA (k := 24) rfl ha24 19 ((nI 0))
  have hV77 := hV75.here (n := 0) rfl
  refine hr_dup (q := 271) X dX5_init_270 rfl rfl ?_
  refine hr_bipush (v := (nI 20)) (q := 273) X dX5_init_271 rfl rfl ?_
  refine hr_bipush (v := (nI 112)) (q := 275) X dX5_init_273 rfl rfl ?_
  refine hr_iastN (q := 276) X dX5_init_275 rfl ((congrArg _ ha24.symm).trans (hB76.2.1 24 rfl)) (by decide) (by decide) ?_
  have hB78 := hB76.setA (k := 24) rfl ha24 20 ((nI 112))
  have hV79 := hV77.here (n := 112) rfl
  refine hr_dup (q := 277) X dX5_init_276 rfl rfl ?_
  refine hr_bipush (v := (nI 21)) (q := 279) X dX5_init_277 rfl rfl ?_
  refine hr_bipush (v := (nI 101)) (q := 281) X dX5_init_279 rfl rfl ?_
  refine hr_iastN (q := 282) X dX5_init_281 rfl ((congrArg _ ha24.symm).trans (hB78.2.1 24 rfl)) (by decide) (by decide) ?_
  have hB80 := hB78.setA (k := 24) rfl ha24 21 ((nI 101))
  have hV81 := hV79.here (n := 101) rfl
  refine hr_dup (q := 283) X dX5_init_282 rfl rfl ?_
  refine hr_bipush (v := (nI 22)) (q := 285) X dX5_init_283 rfl rfl ?_
  refine hr_bipush (v := (nI 114)) (q := 287) X dX5_init_285 rfl rfl ?_
  refine hr_iastN (q := 288) X dX5_init_287 rfl ((congrArg _ ha24.symm).trans (hB80.2.1 24 rfl)) (by decide) (by decide) ?_
  have hB82 := hB80.setA (k := 24) rfl ha24 22 ((nI 114))
  have hV83 := hV81.here (n := 114) rfl
  refine hr_dup (q := 289) X dX5_init_288 rfl rfl ?_
  refine hr_bipush (v := (nI 23)) (q := 291) X dX5_init_289 rfl rfl ?_
  refine hr_bipush (v := (nI 115)) (q := 293) X dX5_init_291 rfl rfl ?_
  refine hr_iastN (q := 294) X dX5_init_293 rfl ((congrArg _ ha24.symm).trans (hB82.2.1 24 rfl)) (by decide) (by decide) ?_
  have hB84 := hB82.setA (k := 24) rfl ha24 23 ((nI 115))
  have hV85 := hV83.here (n := 115) rfl
  refine hr_dup (q := 295) X dX5_init_294 rfl rfl ?_
  refine hr_bipush (v := (nI 24)) (q := 297) X dX5_init_295 rfl rfl ?_
  refine hr_bipush (v := (nI 111)) (q := 299) X dX5_init_297 rfl rfl ?_
  refine hr_iastN (q := 300) X dX5_init_299 rfl ((congrArg _ ha24.symm).trans (hB84.2.1 24 rfl)) (by decide) (by decide) ?_
  have hB86 := hB84.setA (k := 24) rfl ha24 24 ((nI 111))
  have hV87 := hV85.here (n := 111) rfl
  refine hr_dup (q := 301) X dX5_init_300 rfl rfl ?_
  refine hr_bipush (v := (nI 25)) (q := 303) X dX5_init_301 rfl rfl ?_
  refine hr_bipush (v := (nI 110)) (q := 305) X dX5_init_303 rfl rfl ?_
  refine hr_iastN (q := 306) X dX5_init_305 rfl ((congrArg _ ha24.symm).trans (hB86.2.1 24 rfl)) (by decide) (by decide) ?_
  have hB88 := hB86.setA (k := 24) rfl ha24 25 ((nI 110))
  have hV89 := hV87.here (n := 110) rfl
  refine hr_dup (q := 307) X dX5_init_306 rfl rfl ?_
  refine hr_bipush (v := (nI 26)) (q := 309) X dX5_init_307 rfl rfl ?_
  refine hr_bipush (v := (nI 32)) (q := 311) X dX5_init_309 rfl rfl ?_
  refine hr_iastN (q := 312) X dX5_init_311 rfl ((congrArg _ ha24.symm).trans (hB88.2.1 24 rfl)) (by decide) (by decide) ?_
  have hB90 := hB88.setA (k := 24) rfl ha24 26 ((nI 32))
  have hV91 := hV89.here (n := 32) rfl
  refine hr_dup (q := 313) X dX5_init_312 rfl rfl ?_
  refine hr_bipush (v := (nI 27)) (q := 315) X dX5_init_313 rfl rfl ?_
  refine hr_iconst (v := (nI 0)) (q := 316) X dX5_init_315 rfl rfl ?_
  refine hr_iastN (q := 317) X dX5_init_316 rfl ((congrArg _ ha24.symm).trans (hB90.2.1 24 rfl)) (by decide) (by decide) ?_
  have hB92 := hB90.setA (k := 24) rfl ha24 27 ((nI 0))
  have hV93 := hV91.here (n := 0) rfl
  refine hr_dup (q := 318) X dX5_init_317 rfl rfl ?_
  refine hr_bipush (v := (nI 28)) (q := 320) X dX5_init_318 rfl rfl ?_
  refine hr_bipush (v := (nI 115)) (q := 322) X dX5_init_320 rfl rfl ?_
  refine hr_iastN (q := 323) X dX5_init_322 rfl ((congrArg _ ha24.symm).trans (hB92.2.1 24 rfl)) (by decide) (by decide) ?_
  have hB94 := hB92.setA (k := 24) rfl ha24 28 ((nI 115))
  have hV95 := hV93.here (n := 115) rfl
  refine hr_dup (q := 324) X dX5_init_323 rfl rfl ?_
  refine hr_bipush (v := (nI 29)) (q := 326) X dX5_init_324 rfl rfl ?_
  refine hr_bipush (v := (nI 97)) (q := 328) X dX5_init_326 rfl rfl ?_
  refine hr_iastN (q := 329) X dX5_init_328 rfl ((congrArg _ ha24.symm).trans (hB94.2.1 24 rfl)) (by decide) (by decide) ?_
  have hB96 := hB94.setA (k := 24) rfl ha24 29 ((nI 97))
  have hV97 := hV95.here (n := 97) rfl
  refine hr_dup (q := 330) X dX5_init_329 rfl rfl ?_
  refine hr_bipush (v := (nI 30)) (q := 332) X dX5_init_330 rfl rfl ?_
  refine hr_bipush (v := (nI 99)) (q := 334) X dX5_init_332 rfl rfl ?_
  refine hr_iastN (q := 335) X dX5_init_334 rfl ((congrArg _ ha24.symm).trans (hB96.2.1 24 rfl)) (by decide) (by decide) ?_
  have hB98 := hB96.setA (k := 24) rfl ha24 30 ((nI 99))
  have hV99 := hV97.here (n := 99) rfl
  refine hr_dup (q := 336) X dX5_init_335 rfl rfl ?_
  refine hr_bipush (v := (nI 31)) (q := 338) X dX5_init_336 rfl rfl ?_
  refine hr_bipush (v := (nI 107)) (q := 340) X dX5_init_338 rfl rfl ?_
  refine hr_iastN (q := 341) X dX5_init_340 rfl ((congrArg _ ha24.symm).trans (hB98.2.1 24 rfl)) (by decide) (by decide) ?_
  have hB100 := hB98.setA (k := 24) rfl ha24 31 ((nI 107))
  have hV101 := hV99.here (n := 107) rfl
  refine hr_dup (q := 342) X dX5_init_341 rfl rfl ?_
  refine hr_bipush (v := (nI 32)) (q := 344) X dX5_init_342 rfl rfl ?_
  refine hr_bipush (v := (nI 32)) (q := 346) X dX5_init_344 rfl rfl ?_
  refine hr_iastN (q := 347) X dX5_init_346 rfl ((congrArg _ ha24.symm).trans (hB100.2.1 24 rfl)) (by decide) (by decide) ?_
  have hB102 := hB100.setA (k := 24) rfl ha24 32 ((nI 32))
  have hV103 := hV101.here (n := 32) rfl
  refine hr_dup (q := 348) X dX5_init_347 rfl rfl ?_
  refine hr_bipush (v := (nI 33)) (q := 350) X dX5_init_348 rfl rfl ?_
  refine hr_iconst (v := (nI 0)) (q := 351) X dX5_init_350 rfl rfl ?_
  refine hr_iastN (q := 352) X dX5_init_351 rfl ((congrArg _ ha24.symm).trans (hB102.2.1 24 rfl)) (by decide) (by decide) ?_
  have hB104 := hB102.setA (k := 24) rfl ha24 33 ((nI 0))
  have hV105 := hV103.here (n := 0) rfl
  refine hr_dup (q := 353) X dX5_init_352 rfl rfl ?_
  refine hr_bipush (v := (nI 34)) (q := 355) X dX5_init_353 rfl rfl ?_
  refine hr_bipush (v := (nI 109)) (q := 357) X dX5_init_355 rfl rfl ?_
  refine hr_iastN (q := 358) X dX5_init_357 rfl ((congrArg _ ha24.symm).trans (hB104.2.1 24 rfl)) (by decide) (by decide) ?_
  have hB106 := hB104.setA (k := 24) rfl ha24 34 ((nI 109))
  have hV107 := hV105.here (n := 109) rfl
  refine hr_dup (q := 359) X dX5_init_358 rfl rfl ?_
  refine hr_bipush (v := (nI 35)) (q := 361) X dX5_init_359 rfl rfl ?_
  refine hr_bipush (v := (nI 105)) (q := 363) X dX5_init_361 rfl rfl ?_
  refine hr_iastN (q := 364) X dX5_init_363 rfl ((congrArg _ ha24.symm).trans (hB106.2.1 24 rfl)) (by decide) (by decide) ?_
  have hB108 := hB106.setA (k := 24) rfl ha24 35 ((nI 105))
  have hV109 := hV107.here (n := 105) rfl
  refine hr_dup (q := 365) X dX5_init_364 rfl rfl ?_
  refine hr_bipush (v := (nI 36)) (q := 367) X dX5_init_365 rfl rfl ?_
  refine hr_bipush (v := (nI 116)) (q := 369) X dX5_init_367 rfl rfl ?_
  refine hr_iastN (q := 370) X dX5_init_369 rfl ((congrArg _ ha24.symm).trans (hB108.2.1 24 rfl)) (by decide) (by decide) ?_
  have hB110 := hB108.setA (k := 24) rfl ha24 36 ((nI 116))
  have hV111 := hV109.here (n := 116) rfl
  refine hr_dup (q := 371) X dX5_init_370 rfl rfl ?_
  refine hr_bipush (v := (nI 37)) (q := 373) X dX5_init_371 rfl rfl ?_
  refine hr_bipush (v := (nI 101)) (q := 375) X dX5_init_373 rfl rfl ?_
  refine hr_iastN (q := 376) X dX5_init_375 rfl ((congrArg _ ha24.symm).trans (hB110.2.1 24 rfl)) (by decide) (by decide) ?_
  have hB112 := hB110.setA (k := 24) rfl ha24 37 ((nI 101))
  have hV113 := hV111.here (n := 101) rfl
  refine hr_dup (q := 377) X dX5_init_376 rfl rfl ?_
  refine hr_bipush (v := (nI 38)) (q := 379) X dX5_init_377 rfl rfl ?_
  refine hr_bipush (v := (nI 32)) (q := 381) X dX5_init_379 rfl rfl ?_
  refine hr_iastN (q := 382) X dX5_init_381 rfl ((congrArg _ ha24.symm).trans (hB112.2.1 24 rfl)) (by decide) (by decide) ?_
  have hB114 := hB112.setA (k := 24) rfl ha24 38 ((nI 32))
  have hV115 := hV113.here (n := 32) rfl
  refine hr_dup (q := 383) X dX5_init_382 rfl rfl ?_
  refine hr_bipush (v := (nI 39)) (q := 385) X dX5_init_383 rfl rfl ?_
  refine hr_iconst (v := (nI 0)) (q := 386) X dX5_init_385 rfl rfl ?_
  refine hr_iastN (q := 387) X dX5_init_386 rfl ((congrArg _ ha24.symm).trans (hB114.2.1 24 rfl)) (by decide) (by decide) ?_
  have hB116 := hB114.setA (k := 24) rfl ha24 39 ((nI 0))
  have hV117 := hV115.here (n := 0) rfl
  refine hr_dup (q := 388) X dX5_init_387 rfl rfl ?_
  refine hr_bipush (v := (nI 40)) (q := 390) X dX5_init_388 rfl rfl ?_
  refine hr_bipush (v := (nI 114)) (q := 392) X dX5_init_390 rfl rfl ?_
  refine hr_iastN (q := 393) X dX5_init_392 rfl ((congrArg _ ha24.symm).trans (hB116.2.1 24 rfl)) (by decide) (by decide) ?_
  have hB118 := hB116.setA (k := 24) rfl ha24 40 ((nI 114))
  have hV119 := hV117.here (n := 114) rfl
  refine hr_dup (q := 394) X dX5_init_393 rfl rfl ?_
  refine hr_bipush (v := (nI 41)) (q := 396) X dX5_init_394 rfl rfl ?_
  refine hr_bipush (v := (nI 101)) (q := 398) X dX5_init_396 rfl rfl ?_
  refine hr_iastN (q := 399) X dX5_init_398 rfl ((congrArg _ ha24.symm).trans (hB118.2.1 24 rfl)) (by decide) (by decide) ?_
  have hB120 := hB118.setA (k := 24) rfl ha24 41 ((nI 101))
  have hV121 := hV119.here (n := 101) rfl
  refine hr_dup (q := 400) X dX5_init_399 rfl rfl ?_
  refine hr_bipush (v := (nI 42)) (q := 402) X dX5_init_400 rfl rfl ?_
  refine hr_bipush (v := (nI 97)) (q := 404) X dX5_init_402 rfl rfl ?_
  refine hr_iastN (q := 405) X dX5_init_404 rfl ((congrArg _ ha24.symm).trans (hB120.2.1 24 rfl)) (by decide) (by decide) ?_
  have hB122 := hB120.setA (k := 24) rfl ha24 42 ((nI 97))
  have hV123 := hV121.here (n := 97) rfl
  refine hr_dup (q := 406) X dX5_init_405 rfl rfl ?_
  refine hr_bipush (v := (nI 43)) (q := 408) X dX5_init_406 rfl rfl ?_
  refine hr_bipush (v := (nI 99)) (q := 410) X dX5_init_408 rfl rfl ?_
  refine hr_iastN (q := 411) X dX5_init_410 rfl ((congrArg _ ha24.symm).trans (hB122.2.1 24 rfl)) (by decide) (by decide) ?_
  have hB124 := hB122.setA (k := 24) rfl ha24 43 ((nI 99))
  have hV125 := hV123.here (n := 99) rfl
  refine hr_dup (q := 412) X dX5_init_411 rfl rfl ?_
  refine hr_bipush (v := (nI 44)) (q := 414) X dX5_init_412 rfl rfl ?_
  refine hr_bipush (v := (nI 104)) (q := 416) X dX5_init_414 rfl rfl ?_
  refine hr_iastN (q := 417) X dX5_init_416 rfl ((congrArg _ ha24.symm).trans (hB124.2.1 24 rfl)) (by decide) (by decide) ?_
  have hB126 := hB124.setA (k := 24) rfl ha24 44 ((nI 104))
  have hV127 := hV125.here (n := 104) rfl
  refine hr_dup (q := 418) X dX5_init_417 rfl rfl ?_
  refine hr_bipush (v := (nI 45)) (q := 420) X dX5_init_418 rfl rfl ?_
  refine hr_bipush (v := (nI 32)) (q := 422) X dX5_init_420 rfl rfl ?_
  refine hr_iastN (q := 423) X dX5_init_422 rfl ((congrArg _ ha24.symm).trans (hB126.2.1 24 rfl)) (by decide) (by decide) ?_
  have hB128 := hB126.setA (k := 24) rfl ha24 45 ((nI 32))
  have hV129 := hV127.here (n := 32) rfl
  refine hr_dup (q := 424) X dX5_init_423 rfl rfl ?_
  refine hr_bipush (v := (nI 46)) (q := 426) X dX5_init_424 rfl rfl ?_
  refine hr_iconst (v := (nI 0)) (q := 427) X dX5_init_426 rfl rfl ?_
  refine hr_iastN (q := 428) X dX5_init_427 rfl ((congrArg _ ha24.symm).trans (hB128.2.1 24 rfl)) (by decide) (by decide) ?_
  have hB130 := hB128.setA (k := 24) rfl ha24 46 ((nI 0))
  have hV131 := hV129.here (n := 0) rfl
  refine hr_putR (q := 431) X dX5_init_428 rfl fw_q1406_5 (fun _ => hnm) rfl rfl hB130.om ?_
  have hB132 := hB130.link (k := 24) rfl ha24
  refine hr_aload0 (q := 432) X dX5_init_431 rfl ?_
  refine hr_bipush (v := (nI 7)) (q := 434) X dX5_init_432 rfl rfl ?_
  refine hr_newarr (kr := 22) (nr := 2345) (q := 436) (t := 0) (N := 7) X dX5_init_434 rfl (Or.inl ⟨rfl, rfl⟩) q143 rfl (by decide) (fun x25 hl25 hn25 => ?_)
  obtain ⟨am25, ha25, hB133⟩ := hB132.new (k := 25) rfl hn25 rfl rfl
  have hV134 := hV131.oz (k' := 25) (by decide)
  refine hr_dup (q := 437) X dX5_init_436 rfl rfl ?_
  refine hr_iconst (v := (nI 0)) (q := 438) X dX5_init_437 rfl rfl ?_
  refine hr_iconst (v := (nI 1)) (q := 439) X dX5_init_438 rfl rfl ?_
  refine hr_iastN (q := 440) X dX5_init_439 rfl ((congrArg _ ha25.symm).trans (hB133.2.1 25 rfl)) (by decide) (by decide) ?_
  have hB135 := hB133.setA (k := 25) rfl ha25 0 ((nI 1))
  have hV137 := hV134.oA (k' := 25) (j := 0) (v := (nI 1)) (by decide)
  have hV136 := (hB133.v0 25 (fun j => sp_nums.getD j 0)).here (n := 1) rfl
  refine hr_dup (q := 441) X dX5_init_440 rfl rfl ?_
  refine hr_iconst (v := (nI 1)) (q := 442) X dX5_init_441 rfl rfl ?_
  refine hr_iconst (v := (nI 1)) (q := 443) X dX5_init_442 rfl rfl ?_
  refine hr_iastN (q := 444) X dX5_init_443 rfl ((congrArg _ ha25.symm).trans (hB135.2.1 25 rfl)) (by decide) (by decide) ?_
  have hB138 := hB135.setA (k := 25) rfl ha25 1 ((nI 1))
  have hV140 := hV137.oA (k' := 25) (j := 1) (v := (nI 1)) (by decide)
  have hV139 := hV136.here (n := 1) rfl
  refine hr_dup (q := 445) X dX5_init_444 rfl rfl ?_
  refine hr_iconst (v := (nI 2)) (q := 446) X dX5_init_445 rfl rfl ?_
  refine hr_iconst (v := (nI 1)) (q := 447) X dX5_init_446 rfl rfl ?_
  refine hr_iastN (q := 448) X dX5_init_447 rfl ((congrArg _ ha25.symm).trans (hB138.2.1 25 rfl)) (by decide) (by decide) ?_
  have hB141 := hB138.setA (k := 25) rfl ha25 2 ((nI 1))
  have hV143 := hV140.oA (k' := 25) (j := 2) (v := (nI 1)) (by decide)
  have hV142 := hV139.here (n := 1) rfl
  refine hr_dup (q := 449) X dX5_init_448 rfl rfl ?_
  refine hr_iconst (v := (nI 3)) (q := 450) X dX5_init_449 rfl rfl ?_
  refine hr_bipush (v := (nI 6)) (q := 452) X dX5_init_450 rfl rfl ?_
  refine hr_iastN (q := 453) X dX5_init_452 rfl ((congrArg _ ha25.symm).trans (hB141.2.1 25 rfl)) (by decide) (by decide) ?_
  have hB144 := hB141.setA (k := 25) rfl ha25 3 ((nI 6))
  have hV146 := hV143.oA (k' := 25) (j := 3) (v := (nI 6)) (by decide)
  have hV145 := hV142.here (n := 6) rfl
  refine hr_dup (q := 454) X dX5_init_453 rfl rfl ?_
  refine hr_iconst (v := (nI 4)) (q := 455) X dX5_init_454 rfl rfl ?_
  refine hr_iconst (v := (nI 1)) (q := 456) X dX5_init_455 rfl rfl ?_
  refine hr_iastN (q := 457) X dX5_init_456 rfl ((congrArg _ ha25.symm).trans (hB144.2.1 25 rfl)) (by decide) (by decide) ?_
  have hB147 := hB144.setA (k := 25) rfl ha25 4 ((nI 1))
  have hV149 := hV146.oA (k' := 25) (j := 4) (v := (nI 1)) (by decide)
  have hV148 := hV145.here (n := 1) rfl
  refine hr_dup (q := 458) X dX5_init_457 rfl rfl ?_
  refine hr_iconst (v := (nI 5)) (q := 459) X dX5_init_458 rfl rfl ?_
  refine hr_iconst (v := (nI 1)) (q := 460) X dX5_init_459 rfl rfl ?_
  refine hr_iastN (q := 461) X dX5_init_460 rfl ((congrArg _ ha25.symm).trans (hB147.2.1 25 rfl)) (by decide) (by decide) ?_
  have hB150 := hB147.setA (k := 25) rfl ha25 5 ((nI 1))
  have hV152 := hV149.oA (k' := 25) (j := 5) (v := (nI 1)) (by decide)
  have hV151 := hV148.here (n := 1) rfl
  refine hr_dup (q := 462) X dX5_init_461 rfl rfl ?_
  refine hr_bipush (v := (nI 6)) (q := 464) X dX5_init_462 rfl rfl ?_
  refine hr_iconst (v := (nI 1)) (q := 465) X dX5_init_464 rfl rfl ?_
  refine hr_iastN (q := 466) X dX5_init_465 rfl ((congrArg _ ha25.symm).trans (hB150.2.1 25 rfl)) (by decide) (by decide) ?_
  have hB153 := hB150.setA (k := 25) rfl ha25 6 ((nI 1))
  have hV155 := hV152.oA (k' := 25) (j := 6) (v := (nI 1)) (by decide)
  have hV154 := hV151.here (n := 1) rfl
  refine hr_putR (q := 469) X dX5_init_466 rfl fw_q1407_5 (fun _ => hnm) rfl rfl hB153.om ?_
  have hB156 := hB153.link (k := 25) rfl ha25
  refine hr_aload0 (q := 470) X dX5_init_469 rfl ?_
  refine hr_bipush (v := (nI 6)) (q := 472) X dX5_init_470 rfl rfl ?_
  refine hr_newarr (kr := 21) (nr := 2339) (q := 474) (t := 0) (N := 6) X dX5_init_472 rfl (Or.inl ⟨rfl, rfl⟩) q143 rfl (by decide) (fun x26 hl26 hn26 => ?_)
  obtain ⟨am26, ha26, hB157⟩ := hB156.new (k := 26) rfl hn26 rfl rfl
  have hV158 := hV155.oz (k' := 26) (by decide)
  have hV159 := hV154.oz (k' := 26) (by decide)
  refine hr_dup (q := 475) X dX5_init_474 rfl rfl ?_
  refine hr_iconst (v := (nI 0)) (q := 476) X dX5_init_475 rfl rfl ?_
  refine hr_bipush (v := (nI 6)) (q := 478) X dX5_init_476 rfl rfl ?_
  refine hr_iastN (q := 479) X dX5_init_478 rfl ((congrArg _ ha26.symm).trans (hB157.2.1 26 rfl)) (by decide) (by decide) ?_
  have hB160 := hB157.setA (k := 26) rfl ha26 0 ((nI 6))
  have hV162 := hV158.oA (k' := 26) (j := 0) (v := (nI 6)) (by decide)
  have hV163 := hV159.oA (k' := 26) (j := 0) (v := (nI 6)) (by decide)
  have hV161 := (hB157.v0 26 (fun j => sp_mosts.getD j 0)).here (n := 6) rfl
  refine hr_dup (q := 480) X dX5_init_479 rfl rfl ?_
  refine hr_iconst (v := (nI 1)) (q := 481) X dX5_init_480 rfl rfl ?_
  refine hr_bipush (v := (nI 9)) (q := 483) X dX5_init_481 rfl rfl ?_
  refine hr_iastN (q := 484) X dX5_init_483 rfl ((congrArg _ ha26.symm).trans (hB160.2.1 26 rfl)) (by decide) (by decide) ?_
  have hB164 := hB160.setA (k := 26) rfl ha26 1 ((nI 9))
  have hV166 := hV162.oA (k' := 26) (j := 1) (v := (nI 9)) (by decide)
  have hV167 := hV163.oA (k' := 26) (j := 1) (v := (nI 9)) (by decide)
  have hV165 := hV161.here (n := 9) rfl
  refine hr_dup (q := 485) X dX5_init_484 rfl rfl ?_
  refine hr_iconst (v := (nI 2)) (q := 486) X dX5_init_485 rfl rfl ?_
  refine hr_bipush (v := (nI 20)) (q := 488) X dX5_init_486 rfl rfl ?_
  refine hr_iastN (q := 489) X dX5_init_488 rfl ((congrArg _ ha26.symm).trans (hB164.2.1 26 rfl)) (by decide) (by decide) ?_
  have hB168 := hB164.setA (k := 26) rfl ha26 2 ((nI 20))
  have hV170 := hV166.oA (k' := 26) (j := 2) (v := (nI 20)) (by decide)
  have hV171 := hV167.oA (k' := 26) (j := 2) (v := (nI 20)) (by decide)
  have hV169 := hV165.here (n := 20) rfl
  refine hr_dup (q := 490) X dX5_init_489 rfl rfl ?_
  refine hr_iconst (v := (nI 3)) (q := 491) X dX5_init_490 rfl rfl ?_
  refine hr_bipush (v := (nI 9)) (q := 493) X dX5_init_491 rfl rfl ?_
  refine hr_iastN (q := 494) X dX5_init_493 rfl ((congrArg _ ha26.symm).trans (hB168.2.1 26 rfl)) (by decide) (by decide) ?_
  have hB172 := hB168.setA (k := 26) rfl ha26 3 ((nI 9))
  have hV174 := hV170.oA (k' := 26) (j := 3) (v := (nI 9)) (by decide)
  have hV175 := hV171.oA (k' := 26) (j := 3) (v := (nI 9)) (by decide)
  have hV173 := hV169.here (n := 9) rfl
  refine hr_dup (q := 495) X dX5_init_494 rfl rfl ?_
  refine hr_iconst (v := (nI 4)) (q := 496) X dX5_init_495 rfl rfl ?_
  refine hr_bipush (v := (nI 99)) (q := 498) X dX5_init_496 rfl rfl ?_
  refine hr_iastN (q := 499) X dX5_init_498 rfl ((congrArg _ ha26.symm).trans (hB172.2.1 26 rfl)) (by decide) (by decide) ?_
  have hB176 := hB172.setA (k := 26) rfl ha26 4 ((nI 99))
  have hV178 := hV174.oA (k' := 26) (j := 4) (v := (nI 99)) (by decide)
  have hV179 := hV175.oA (k' := 26) (j := 4) (v := (nI 99)) (by decide)
  have hV177 := hV173.here (n := 99) rfl
  refine hr_dup (q := 500) X dX5_init_499 rfl rfl ?_
  refine hr_iconst (v := (nI 5)) (q := 501) X dX5_init_500 rfl rfl ?_
  refine hr_bipush (v := (nI 35)) (q := 503) X dX5_init_501 rfl rfl ?_
  refine hr_iastN (q := 504) X dX5_init_503 rfl ((congrArg _ ha26.symm).trans (hB176.2.1 26 rfl)) (by decide) (by decide) ?_
  have hB180 := hB176.setA (k := 26) rfl ha26 5 ((nI 35))
  have hV182 := hV178.oA (k' := 26) (j := 5) (v := (nI 35)) (by decide)
  have hV183 := hV179.oA (k' := 26) (j := 5) (v := (nI 35)) (by decide)
  have hV181 := hV177.here (n := 35) rfl
  refine hr_putR (q := 507) X dX5_init_504 rfl fw_q1408_5 (fun _ => hnm) rfl rfl hB180.om ?_
  have hB184 := hB180.link (k := 26) rfl ha26
  refine hr_aload0 (q := 508) X dX5_init_507 rfl ?_
  refine hr_bipush (v := (nI 6)) (q := 510) X dX5_init_508 rfl rfl ?_
  refine hr_newarr (kr := 20) (nr := 2333) (q := 512) (t := 0) (N := 6) X dX5_init_510 rfl (Or.inl ⟨rfl, rfl⟩) q143 rfl (by decide) (fun x27 hl27 hn27 => ?_)
  obtain ⟨am27, ha27, hB185⟩ := hB184.new (k := 27) rfl hn27 rfl rfl
  have hV186 := hV182.oz (k' := 27) (by decide)
  have hV187 := hV183.oz (k' := 27) (by decide)
  have hV188 := hV181.oz (k' := 27) (by decide)
  refine hr_putR (q := 515) X dX5_init_512 rfl fw_q1409_5 (fun _ => hnm) rfl rfl hB185.om ?_
  have hB189 := hB185.link (k := 27) rfl ha27
  refine hr_aload0 (q := 516) X dX5_init_515 rfl ?_
  refine hr_sipush (v := (nI 130)) (q := 519) X dX5_init_516 rfl rfl ?_
  refine hr_newarr (kr := 19) (nr := 2203) (q := 521) (t := 0) (N := 130) X dX5_init_519 rfl (Or.inl ⟨rfl, rfl⟩) q143 rfl (by decide) (fun x33 hl33 hn33 => ?_)
  obtain ⟨am33, ha33, hB190⟩ := hB189.new (k := 33) rfl hn33 rfl rfl
  have hV191 := hV186.oz (k' := 33) (by decide)
  have hV192 := hV187.oz (k' := 33) (by decide)
  have hV193 := hV188.oz (k' := 33) (by decide)
  refine hr_putR (q := 524) X dX5_init_521 rfl fw_q1415_5 (fun _ => hnm) rfl rfl hB190.om ?_
  have hB194 := hB190.link (k := 33) rfl ha33
  refine hr_aload0 (q := 525) X dX5_init_524 rfl ?_
  refine hr_sipush (v := (nI 130)) (q := 528) X dX5_init_525 rfl rfl ?_
  refine hr_newarr (kr := 18) (nr := 2073) (q := 530) (t := 0) (N := 130) X dX5_init_528 rfl (Or.inl ⟨rfl, rfl⟩) q143 rfl (by decide) (fun x34 hl34 hn34 => ?_)
  obtain ⟨am34, ha34, hB195⟩ := hB194.new (k := 34) rfl hn34 rfl rfl
  have hV196 := hV191.oz (k' := 34) (by decide)
  have hV197 := hV192.oz (k' := 34) (by decide)
  have hV198 := hV193.oz (k' := 34) (by decide)
  refine hr_putR (q := 533) X dX5_init_530 rfl fw_q1416_5 (fun _ => hnm) rfl rfl hB195.om ?_
  have hB199 := hB195.link (k := 34) rfl ha34
  refine hr_aload0 (q := 534) X dX5_init_533 rfl ?_
  refine hr_sipush (v := (nI 130)) (q := 537) X dX5_init_534 rfl rfl ?_
  refine hr_newarr (kr := 17) (nr := 1943) (q := 539) (t := 0) (N := 130) X dX5_init_537 rfl (Or.inl ⟨rfl, rfl⟩) q143 rfl (by decide) (fun x35 hl35 hn35 => ?_)
  obtain ⟨am35, ha35, hB200⟩ := hB199.new (k := 35) rfl hn35 rfl rfl
  have hV201 := hV196.oz (k' := 35) (by decide)
  have hV202 := hV197.oz (k' := 35) (by decide)
  have hV203 := hV198.oz (k' := 35) (by decide)
  refine hr_putR (q := 542) X dX5_init_539 rfl fw_q1417_5 (fun _ => hnm) rfl rfl hB200.om ?_
  have hB204 := hB200.link (k := 35) rfl ha35
  refine hr_aload0 (q := 543) X dX5_init_542 rfl ?_
  refine hr_iconst (v := (-1)) (q := 544) X dX5_init_543 rfl rfl ?_
  refine hr_putI (q := 547) X dX5_init_544 rfl fw_q1418_5 (fun h => nomatch h) rfl rfl rfl hB204.om ?_
  have hB205 := hB204.setS 36 ((-1))
  have hV206 := hV201.oS (k' := 36) (v := (-1))
  have hV207 := hV202.oS (k' := 36) (v := (-1))
  have hV208 := hV203.oS (k' := 36) (v := (-1))
  refine hr_aload0 (q := 548) X dX5_init_547 rfl ?_
  refine hr_bipush (v := (nI 36)) (q := 550) X dX5_init_548 rfl rfl ?_
  refine hr_newarr (kr := 16) (nr := 1907) (q := 552) (t := 0) (N := 36) X dX5_init_550 rfl (Or.inl ⟨rfl, rfl⟩) q143 rfl (by decide) (fun x37 hl37 hn37 => ?_)
  obtain ⟨am37, ha37, hB209⟩ := hB205.new (k := 37) rfl hn37 rfl rfl
  have hV210 := hV206.oz (k' := 37) (by decide)
  have hV211 := hV207.oz (k' := 37) (by decide)
  have hV212 := hV208.oz (k' := 37) (by decide)
  refine hr_putR (q := 555) X dX5_init_552 rfl fw_q1419_5 (fun _ => hnm) rfl rfl hB209.om ?_
  have hB213 := hB209.link (k := 37) rfl ha37
  refine hr_aload0 (q := 556) X dX5_init_555 rfl ?_
  refine hr_bipush (v := (nI 36)) (q := 558) X dX5_init_556 rfl rfl ?_
  refine hr_newarr (kr := 15) (nr := 1871) (q := 560) (t := 0) (N := 36) X dX5_init_558 rfl (Or.inl ⟨rfl, rfl⟩) q143 rfl (by decide) (fun x38 hl38 hn38 => ?_)
  obtain ⟨am38, ha38, hB214⟩ := hB213.new (k := 38) rfl hn38 rfl rfl
  have hV215 := hV210.oz (k' := 38) (by decide)
  have hV216 := hV211.oz (k' := 38) (by decide)
  have hV217 := hV212.oz (k' := 38) (by decide)
  refine hr_putR (q := 563) X dX5_init_560 rfl fw_q1420_5 (fun _ => hnm) rfl rfl hB214.om ?_
  have hB218 := hB214.link (k := 38) rfl ha38
  refine hr_aload0 (q := 564) X dX5_init_563 rfl ?_
  refine hr_bipush (v := (nI 7)) (q := 566) X dX5_init_564 rfl rfl ?_
  refine hr_newarr (kr := 14) (nr := 1864) (q := 568) (t := 0) (N := 7) X dX5_init_566 rfl (Or.inl ⟨rfl, rfl⟩) q143 rfl (by decide) (fun x39 hl39 hn39 => ?_)
  obtain ⟨am39, ha39, hB219⟩ := hB218.new (k := 39) rfl hn39 rfl rfl
  have hV220 := hV215.oz (k' := 39) (by decide)
  have hV221 := hV216.oz (k' := 39) (by decide)
  have hV222 := hV217.oz (k' := 39) (by decide)
  refine hr_putR (q := 571) X dX5_init_568 rfl fw_q1421_5 (fun _ => hnm) rfl rfl hB219.om ?_
  have hB223 := hB219.link (k := 39) rfl ha39
  refine hr_aload0 (q := 572) X dX5_init_571 rfl ?_
  refine hr_bipush (v := (nI 20)) (q := 574) X dX5_init_572 rfl rfl ?_
  refine hr_newarr (kr := 13) (nr := 1844) (q := 576) (t := 0) (N := 20) X dX5_init_574 rfl (Or.inl ⟨rfl, rfl⟩) q143 rfl (by decide) (fun x41 hl41 hn41 => ?_)
  obtain ⟨am41, ha41, hB224⟩ := hB223.new (k := 41) rfl hn41 rfl rfl
  have hV225 := hV220.oz (k' := 41) (by decide)
  have hV226 := hV221.oz (k' := 41) (by decide)
  have hV227 := hV222.oz (k' := 41) (by decide)
  refine hr_putR (q := 579) X dX5_init_576 rfl fw_q1423_5 (fun _ => hnm) rfl rfl hB224.om ?_
  have hB228 := hB224.link (k := 41) rfl ha41
  refine hr_vret X hr dX5_init_579 ⟨rfl, _, _, hB228.done (fun k hk => ?_), tw_A_0 rfl rfl rfl rfl rfl rfl rfl rfl rfl rfl rfl (fun k hk j => ?_) (fun j => rfl) hV225 hV226 hV227⟩
  · exact tw_allA k hk
  · have hk2 : k = 8 ∨ k = 9 ∨ k = 10 ∨ k = 11 ∨ k = 12 ∨ k = 13 ∨ k = 14 ∨ k = 15 ∨ k = 16 ∨ k = 17 ∨ k = 18 ∨ k = 19 ∨ k = 20 ∨ k = 21 ∨ k = 41 := by omega
    rcases hk2 with rfl | rfl | rfl | rfl | rfl | rfl | rfl | rfl | rfl | rfl | rfl | rfl | rfl | rfl | rfl <;> rfl

