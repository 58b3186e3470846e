/-! FRAME RULE: a contract over a smaller picture holds over the bigger one; under the line lo nothing is written -/
def hg_sub (Gc G : hg_G) : Prop := ∀ a, Gc.1 a ≠ none → hg_st Gc G a
def hf_ub (lo : Nat) (Gc : hg_G) (a : Nat) : Bool := decide (lo ≤ a) && (Gc.1 a).isSome
abbrev hf_up (lo : Nat) (Gc : hg_G) (a : Nat) : Prop := hf_ub lo Gc a = true
def hg_jn (lo : Nat) (Gc G : hg_G) : hg_G :=
  (fun a => if hf_up lo Gc a then Gc.1 a else G.1 a, fun a j => if hf_up lo Gc a then Gc.2.1 a j else G.2.1 a j, fun a j => if hf_up lo Gc a then Gc.2.2.1 a j else G.2.2.1 a j, fun a j => if hf_up lo Gc a then Gc.2.2.2 a j else G.2.2.2 a j)
theorem hg_jn.i {lo : Nat} {Gc G : hg_G} {a : Nat} (h : hf_up lo Gc a) : hg_st Gc (hg_jn lo Gc G) a := ⟨if_pos h, fun _ => if_pos h, fun _ => if_pos h, fun _ => if_pos h⟩
theorem hg_jn.o {lo : Nat} {Gc G : hg_G} {a : Nat} (h : ¬ hf_up lo Gc a) : hg_st G (hg_jn lo Gc G) a := ⟨if_neg h, fun _ => if_neg h, fun _ => if_neg h, fun _ => if_neg h⟩
theorem hf_st.rf {G : hg_G} {a : Nat} : hg_st G G a := ⟨rfl, fun _ => rfl, fun _ => rfl, fun _ => rfl⟩
theorem hf_st.sy {G G1 : hg_G} {a : Nat} (h : hg_st G G1 a) : hg_st G1 G a := ⟨h.1.symm, fun j => (h.2.1 j).symm, fun j => (h.2.2.1 j).symm, fun j => (h.2.2.2 j).symm⟩
theorem hf_ub.d {lo : Nat} {Gc : hg_G} {a : Nat} : hf_up lo Gc a ↔ lo ≤ a ∧ (Gc.1 a).isSome = true := by unfold hf_up hf_ub; simp
theorem hf_up.of {lo : Nat} {Gc : hg_G} {a : Nat} (h1 : lo ≤ a) (h2 : Gc.1 a ≠ none) : hf_up lo Gc a := hf_ub.d.mpr ⟨h1, by cases h : Gc.1 a with | none => exact absurd h h2 | some v => rfl⟩
theorem hf_up.no {lo : Nat} {Gc : hg_G} {a : Nat} (h : hf_up lo Gc a) : Gc.1 a ≠ none := fun e => by have := (hf_ub.d.mp h).2; rw [e] at this; cases this
theorem hg_P0.sub {D : hg_D} {Gc G : hg_G} {H : Heap} (h : hg_P0 D G H) (hs : hg_sub Gc G) : hg_P0 D Gc H := fun a k n e => by
  have t := hs a (by rw [e]; exact fun z => by cases z)
  exact (h a k n (t.1.trans e)).kept rfl (fun j => (t.2.1 j).symm) (fun j => (t.2.2.1 j).symm) (fun j => (t.2.2.2 j).symm)
theorem hg_P.sub {D : hg_D} {lo : Nat} {Gc G : hg_G} {H : Heap} (h : hg_P D lo G H) (hs : hg_sub Gc G) : hg_P D lo Gc H :=
  ⟨h.1.sub hs, fun a k n e hr => h.2 a k n ((hs a (by rw [e]; exact fun z => by cases z)).1.trans e) hr⟩
def hg_FP (lo : Nat) (Gc G : hg_G) (Post : hg_Po) : hg_Po := fun r G' => ∃ Gc' : hg_G, Post r Gc' ∧ G' = hg_jn lo Gc' G ∧ (∀ a v, Gc.1 a = some v → Gc'.1 a = some v) ∧ (∀ a, Gc'.1 a ≠ none → Gc.1 a ≠ none ∨ (lo ≤ a ∧ G.1 a = none)) ∧ ∀ a k n, Gc'.1 a = some (k, n) → hg_ro k n = false → lo ≤ a
theorem hg_frame {D : hg_D} {lo sz : Nat} {Gc G Gc' : hg_G} {H H' : Heap} (hs : hg_sub Gc G) (hsz : lo ≤ sz) (hz : H.size = sz) (hP : hg_P D lo G H) (hE : hg_E Gc.1 Gc'.1 sz) (hP' : hg_P D lo Gc' H') (hF : H.size ≤ H'.size ∧ ∀ q : Nat, q < H.size → ¬ hg_A lo Gc.1 sz q → H'[q]? = H[q]?) :
    (∀ a, Gc'.1 a ≠ none → Gc.1 a ≠ none ∨ (lo ≤ a ∧ G.1 a = none)) ∧ hg_E G.1 (hg_jn lo Gc' G).1 sz ∧ hg_P D lo (hg_jn lo Gc' G) H' := by
  have hlt : ∀ a, G.1 a ≠ none → a < sz := fun a h => by
    cases e : G.1 a with
    | none => exact absurd e h
    | some v => rw [← hz]; exact (hP.1 a v.1 v.2 e).lt
  have hnew : ∀ a, Gc'.1 a ≠ none → Gc.1 a ≠ none ∨ (lo ≤ a ∧ G.1 a = none) := fun a h => by
    rcases hE.2 a h with h1 | h1
    · exact Or.inl h1
    · refine Or.inr ⟨Nat.le_trans hsz h1, ?_⟩
      cases e : G.1 a with
      | none => rfl
      | some v => have := hlt a (by rw [e]; exact fun z => by cases z); omega
  refine ⟨hnew, ⟨fun q v h => ?_, fun q h => ?_⟩, fun a k n h => ?_, fun a k n h hr => ?_⟩
  · by_cases hu : hf_up lo Gc' q
    · refine (if_pos hu).trans ?_
      rcases hnew q hu.no with h1 | h1
      · cases e : Gc.1 q with
        | none => exact absurd e h1
        | some w =>
          have h2 := (hs q h1).1
          rw [h, e] at h2
          rw [hE.1 q w e, ← h2]
      · rw [h] at h1; cases h1.2
    · exact (if_neg hu).trans h
  · by_cases hu : hf_up lo Gc' q
    · rcases hE.2 q hu.no with h1 | h1
      · exact Or.inl (by rw [(hs q h1).1]; exact h1)
      · exact Or.inr h1
    · have e : (hg_jn lo Gc' G).1 q = G.1 q := if_neg hu
      rw [e] at h
      exact Or.inl h
  · by_cases hu : hf_up lo Gc' a
    · have t := hg_jn.i (G := G) hu
      exact (hP'.1 a k n (t.1.symm.trans h)).kept rfl t.2.1 t.2.2.1 t.2.2.2
    · have t := hg_jn.o (G := G) hu
      have h0 : G.1 a = some (k, n) := t.1.symm.trans h
      have hn : ¬ hg_A lo Gc.1 sz a := fun hA => by
        rcases hA.2 with h1 | h1
        · cases e : Gc.1 a with
          | none => exact h1 e
          | some w => exact hu (hf_up.of hA.1 (by rw [hE.1 a w e]; exact fun z => by cases z))
        · have := hlt a (by rw [h0]; exact fun z => by cases z)
          omega
      exact (hP.1 a k n h0).kept (hF.2 a (hP.1 a k n h0).lt hn) t.2.1 t.2.2.1 t.2.2.2
  · by_cases hu : hf_up lo Gc' a
    · exact (hf_ub.d.mp hu).1
    · exact hP.2 a k n ((hg_jn.o (G := G) hu).1.symm.trans h) hr
theorem hg_M.frame {l : Launch} {D : hg_D} {lo : Nat} {y : MethodName} {ws : List Cond} {rm : Room} {as : List Value} {Gc G : hg_G} {Post : hg_Po} (hs : hg_sub Gc G) (h : hg_M l D lo y ws rm as Gc Post) : hg_M l D lo y ws rm as G (hg_FP lo Gc G Post) := by
  intro sz hsz
  have hA : ∀ q, hg_A lo Gc.1 sz q → hg_A lo G.1 sz q := fun q h => ⟨h.1, h.2.imp (fun z => by rw [(hs q z).1]; exact z) id⟩
  refine MetFree.mono (h sz hsz) (fun _ U z => ⟨z.1, z.2.1, z.2.2.1, z.2.2.2.1, z.2.2.2.2.sub hs⟩) (fun _ _ _ _ _ z => z) ?_
  intro a st o t hp hq
  obtain ⟨-, hz, -, -, hP⟩ := hp
  rcases hq with ⟨⟨⟨r, G', h1, h2, h3, h4⟩, h5⟩, L, h6, h7⟩ | ⟨q, h0, E, ce, L, ⟨⟨G', h1, h2, h3⟩, h4⟩, h5, h6, h7, h8, h9, h10⟩
  · obtain ⟨g1, g2, g3⟩ := hg_frame hs hsz hz hP h3 h4 h5
    exact Or.inl ⟨⟨⟨r, hg_jn lo G' G, h1, ⟨G', h2, rfl, h3.1, g1, h4.2⟩, g2, g3⟩, h5.1, fun q g e => h5.2 q g (fun z => e (hA q z))⟩, L, h6, fun q g => hA _ (h7 q g)⟩
  · obtain ⟨g1, g2, g3⟩ := hg_frame hs hsz hz hP h2 h3 h4
    exact Or.inr ⟨q, h0, E, ce, L, ⟨⟨hg_jn lo G' G, ⟨G', h1, rfl, h2.1, g1, h3.2⟩, g2, g3⟩, h4.1, fun q g e => h4.2 q g (fun z => e (hA q z))⟩, h5, h6, h7, h8, h9, fun q g => hA _ (h10 q g)⟩
