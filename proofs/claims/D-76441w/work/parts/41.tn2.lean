/-! a town changes -/
theorem hs_Ine {G : hg_G} {a b k j : Nat} {v : Int32} (h : b ≠ a) : (hs_I G a k v).2.1 b j = G.2.1 b j := by rw [hs_II, if_neg h, ite_self]
theorem hs_Inj {G : hg_G} {a b k j : Nat} {v : Int32} (h : j ≠ k) : (hs_I G a k v).2.1 b j = G.2.1 b j := by rw [hs_II, if_neg h]
theorem hs_Ieq {G : hg_G} {a k : Nat} {v : Int32} : (hs_I G a k v).2.1 a k = v := by rw [hs_II, if_pos rfl, if_pos rfl]
theorem hs_Iif {G : hg_G} {a k j : Nat} {v : Int32} : (hs_I G a k v).2.1 a j = if j = k then v else G.2.1 a j := by rw [hs_II, if_pos rfl]
theorem hs_Rne {G : hg_G} {a b k j : Nat} {v : Option Nat} (h : b ≠ a) : (hs_R G a k v).2.2.2 b j = G.2.2.2 b j := by rw [hs_RR, if_neg h, ite_self]
theorem hs_Rnj {G : hg_G} {a b k j : Nat} {v : Option Nat} (h : j ≠ k) : (hs_R G a k v).2.2.2 b j = G.2.2.2 b j := by rw [hs_RR, if_neg h]
theorem hs_Req {G : hg_G} {a k : Nat} {v : Option Nat} : (hs_R G a k v).2.2.2 a k = v := by rw [hs_RR, if_pos rfl, if_pos rfl]
theorem hs_Jne {G : hg_G} {a b k j : Nat} {v : Int64} (h : b ≠ a) : (hs_J G a k v).2.2.1 b j = G.2.2.1 b j := by rw [hs_JJ, if_neg h, ite_self]
theorem hs_Jnj {G : hg_G} {a b k j : Nat} {v : Int64} (h : j ≠ k) : (hs_J G a k v).2.2.1 b j = G.2.2.1 b j := by rw [hs_JJ, if_neg h]
theorem hs_Jeq {G : hg_G} {a k : Nat} {v : Int64} : (hs_J G a k v).2.2.1 a k = v := by rw [hs_JJ, if_pos rfl, if_pos rfl]
/-- nothing changes but at W -/
def hg_fr (W : Nat → Prop) (G G' : hg_G) : Prop := ∀ a, ¬ W a → G'.1 a = G.1 a ∧ (∀ j, G'.2.1 a j = G.2.1 a j) ∧ (∀ j, G'.2.2.1 a j = G.2.2.1 a j) ∧ ∀ j, G'.2.2.2 a j = G.2.2.2 a j
section HFR
variable {W : Nat → Prop} {G G1 G2 : hg_G}
theorem hg_fr.rf : hg_fr W G G := fun _ _ => ⟨rfl, fun _ => rfl, fun _ => rfl, fun _ => rfl⟩
theorem hg_fr.tr (h : hg_fr W G G1) (h' : hg_fr W G1 G2) : hg_fr W G G2 := fun a ha => by
  obtain ⟨h1, h2, h3, h4⟩ := h a ha
  obtain ⟨g1, g2, g3, g4⟩ := h' a ha
  exact ⟨g1.trans h1, fun j => (g2 j).trans (h2 j), fun j => (g3 j).trans (h3 j), fun j => (g4 j).trans (h4 j)⟩
theorem hg_fr.I (h : hg_fr W G G1) {a k : Nat} {v : Int32} (ha : W a) : hg_fr W G (hs_I G1 a k v) := h.tr fun b hb => ⟨rfl, fun j => hs_Ine (fun e => hb (e ▸ ha)), fun _ => rfl, fun _ => rfl⟩
theorem hg_fr.J (h : hg_fr W G G1) {a k : Nat} {v : Int64} (ha : W a) : hg_fr W G (hs_J G1 a k v) := h.tr fun b hb => ⟨rfl, fun _ => rfl, fun j => hs_Jne (fun e => hb (e ▸ ha)), fun _ => rfl⟩
theorem hg_fr.R (h : hg_fr W G G1) {a k : Nat} {v : Option Nat} (ha : W a) : hg_fr W G (hs_R G1 a k v) := h.tr fun b hb => ⟨rfl, fun _ => rfl, fun _ => rfl, fun j => hs_Rne (fun e => hb (e ▸ ha))⟩
end HFR
def tn_W (ta : Nat → Nat) (a : Nat) : Prop := ∃ i, i < 5 ∧ a = ta i
def tn_D (ta : Nat → Nat) : Prop := ∀ i j, i < 5 → j < 5 → ta i = ta j → i = j
section TNS
variable {G : hg_G} {ta : Nat → Nat} {t : sp_S}
theorem tn_R.p0 (h : tn_R G ta t) {q k : Nat} (hq : G.1 q = some (0, 12 + k)) : q ≠ ta 0 := fun e => by
  rw [e, h.ob] at hq
  have := (Prod.mk.inj (Option.some.inj hq)).2
  omega
theorem tn_R.pk (h : tn_R G ta t) {q k i : Nat} (hq : G.1 q = some (0, 12 + k)) (hi : i < 5) : q ≠ ta i := fun e => by
  have hi2 : i = 0 ∨ i = 1 ∨ i = 2 ∨ i = 3 ∨ i = 4 := by omega
  rw [e] at hq
  rcases hi2 with rfl | rfl | rfl | rfl | rfl
  · rw [h.ob] at hq
    have := (Prod.mk.inj (Option.some.inj hq)).2
    omega
  · rw [h.k1] at hq
    have := (Prod.mk.inj (Option.some.inj hq)).1
    omega
  · rw [h.k2] at hq
    have := (Prod.mk.inj (Option.some.inj hq)).1
    omega
  · rw [h.k3] at hq
    have := (Prod.mk.inj (Option.some.inj hq)).1
    omega
  · rw [h.k4] at hq
    have := (Prod.mk.inj (Option.some.inj hq)).1
    omega
/-- a field of ints written -/
theorem tn_R.put0 (h : tn_R G ta t) (hD : tn_D ta) {k : Nat} {v : Int32} {t' : sp_S} (h0 : t'.1 0 0 = t.1 0 0) (hf : ∀ j, j < 4 → (if j = k then v else nI (t.1 j 0)) = nI (t'.1 j 0)) (hi : ∀ j, 4 ≤ j → j < 7 → (if j = k then v else t.2 j) = t'.2 j) (ha : (if 10 = k then v else oI (t.1 36 0)) = oI (t'.1 36 0)) (hp : ∀ a, 9 ≤ a → a ≤ 17 → a ≠ 15 → t'.1 a = t.1 a)
    (hs : ∃ K, K < 128 ∧ (if 9 = k then v else G.2.1 (ta 0) 9) = nI K ∧ ∀ p, p < t.1 0 0 → K / 2 ^ p % 2 = t'.1 15 p) : tn_R (hs_I G (ta 0) k v) ta t' := by
  have ne : ∀ i, 0 < i → i < 5 → ta i ≠ ta 0 := fun i h1 h2 e => by have := hD i 0 h2 (by decide) e; omega
  refine ⟨h.1, h.2.1, ⟨?_, ?_, ?_, ?_, ?_, ?_, ?_, ?_⟩, ?_, ?_, fun p hp9 => ?_, fun p hp9 => ?_⟩
  · rw [hs_Iif, h.f0]; exact hf 0 (by decide)
  · rw [hs_Iif, h.f1]; exact hf 1 (by decide)
  · rw [hs_Iif, h.f2]; exact hf 2 (by decide)
  · rw [hs_Iif, h.f3]; exact hf 3 (by decide)
  · rw [hs_Iif, h.f4]; exact hi 4 (by decide) (by decide)
  · rw [hs_Iif, h.f5]; exact hi 5 (by decide) (by decide)
  · rw [hs_Iif, h.f6]; exact hi 6 (by decide) (by decide)
  · rw [hs_Iif, h.f10]; exact ha
  · rw [hp 16 (by decide) (by decide) (by decide), hp 17 (by decide) (by decide) (by decide)]
    exact h.2.2.2.1
  · obtain ⟨K, h1, h2, h3⟩ := hs
    exact ⟨K, h1, by rw [hs_Iif]; exact h2, fun p hp9 => h3 p (h0 ▸ hp9)⟩
  · obtain ⟨q, q1, q2, q3, q4, q5⟩ := h.pe (p := p) (h0 ▸ hp9)
    have hq := h.p0 q2
    rw [hp 9 (by decide) (by decide) (by decide), hp 10 (by decide) (by decide) (by decide), hp 12 (by decide) (by decide) (by decide)]
    exact ⟨q, q1, q2, (hs_Ine hq).trans q3, (hs_Ine hq).trans q4, (hs_Ine hq).trans q5⟩
  · rw [hp 11 (by decide) (by decide) (by decide), hp 13 (by decide) (by decide) (by decide), hp 14 (by decide) (by decide) (by decide), hs_Ine (ne 2 (by decide) (by decide)), hs_Ine (ne 3 (by decide) (by decide)), hs_Ine (ne 4 (by decide) (by decide))]
    exact h.2.2.2.2.2.2 p (h0 ▸ hp9)
theorem tn_R.seti (h : tn_R G ta t) (hD : tn_D ta) {k : Nat} (hk : 4 ≤ k ∧ k < 7) (v : Int32) : tn_R (hs_I G (ta 0) k v) ta (sp_seti t k v) := by
  refine h.put0 hD rfl (fun j hj => if_neg (by omega)) (fun j h1 h2 => ?_) (if_neg (by omega)) (fun _ _ _ _ => rfl) ?_
  · rfl
  · obtain ⟨K, h1, h2, h3⟩ := h.sk
    exact ⟨K, h1, by rw [if_neg (by omega)]; exact h2, h3⟩
theorem tn_R.setn (h : tn_R G ta t) (hD : tn_D ta) {k : Nat} (hk : 1 ≤ k ∧ k < 4) (n : Nat) : tn_R (hs_I G (ta 0) k (nI n)) ta (sp_set t k 0 n) := by
  have e : ∀ a, a ≠ k → (sp_set t k 0 n).1 a = t.1 a := fun a ha => funext fun i => sp_set_o ha
  refine h.put0 hD (by rw [e 0 (by omega)]) (fun j hj => ?_) (fun j h1 h2 => if_neg (by omega)) ?_ (fun a h1 h2 _ => e a (by omega)) ?_
  · by_cases g : j = k
    · rw [if_pos g, g, sp_set_s]
    · rw [if_neg g, e j g]
  · rw [if_neg (by omega), e 36 (by omega)]
  · obtain ⟨K, h1, h2, h3⟩ := h.sk
    exact ⟨K, h1, by rw [if_neg (by omega)]; exact h2, by rw [e 15 (by omega)]; exact h3⟩
theorem tn_R.setabs (h : tn_R G ta t) (hD : tn_D ta) (n : Nat) : tn_R (hs_I G (ta 0) 10 (oI n)) ta (sp_set t 36 0 n) := by
  have e : ∀ a, a ≠ 36 → (sp_set t 36 0 n).1 a = t.1 a := fun a ha => funext fun i => sp_set_o ha
  refine h.put0 hD (by rw [e 0 (by omega)]) (fun j hj => by rw [if_neg (by omega), e j (by omega)]) (fun j h1 h2 => if_neg (by omega)) ?_ (fun a h1 h2 _ => e a (by omega)) ?_
  · rw [if_pos rfl, sp_set_s]
  · obtain ⟨K, h1, h2, h3⟩ := h.sk
    exact ⟨K, h1, by rw [if_neg (by omega)]; exact h2, by rw [e 15 (by omega)]; exact h3⟩
/-- the sacks -/
theorem tn_R.setsk (h : tn_R G ta t) (hD : tn_D ta) {K : Nat} (hK : K < 128) {g : Nat → Nat} (hg : ∀ p, p < t.1 0 0 → K / 2 ^ p % 2 = g p) : tn_R (hs_I G (ta 0) 9 (nI K)) ta ((fun a i => if a = 15 then g i else t.1 a i), t.2) := by
  refine h.put0 hD rfl (fun j hj => ?_) (fun j h1 h2 => if_neg (by omega)) rfl (fun a h1 h2 h3 => funext fun i => if_neg h3) ⟨K, hK, if_pos rfl, fun p hp => hg p hp⟩
  rw [if_neg (by omega)]
  exact congrArg nI (if_neg (by omega)).symm
/-- a place of looks, purse, at -/
theorem tn_R.putA (h : tn_R G ta t) (hD : tn_D ta) {i a p n : Nat} (hi : (i = 2 ∧ a = 11) ∨ (i = 3 ∧ a = 13) ∨ (i = 4 ∧ a = 14)) : tn_R (hs_I G (ta i) p (nI n)) ta (sp_set t a p n) := by
  have ne : ∀ j, j < 5 → j ≠ i → ta j ≠ ta i := fun j h1 h2 e => h2 (hD j i h1 (by omega) e)
  have e : ∀ b, b ≠ a → (sp_set t a p n).1 b = t.1 b := fun b hb => funext fun i => sp_set_o hb
  have n0 := ne 0 (by decide) (by omega)
  refine ⟨h.1, h.2.1, ?_, ?_, ?_, fun x hx => ?_, fun x hx => ?_⟩
  · rw [hs_Ine n0, hs_Ine n0, hs_Ine n0, hs_Ine n0, hs_Ine n0, hs_Ine n0, hs_Ine n0, hs_Ine n0, e 0 (by omega), e 1 (by omega), e 2 (by omega), e 3 (by omega), e 36 (by omega)]
    exact h.2.2.1
  · rw [e 16 (by omega), e 17 (by omega)]
    exact h.2.2.2.1
  · rw [hs_Ine n0, e 0 (by omega), e 15 (by omega)]
    exact h.sk
  · rw [e 0 (by omega)] at hx
    obtain ⟨q, q1, q2, q3, q4, q5⟩ := h.pe hx
    have hq := h.pk q2 (i := i) (by omega)
    rw [e 9 (by omega), e 10 (by omega), e 12 (by omega)]
    exact ⟨q, q1, q2, (hs_Ine hq).trans q3, (hs_Ine hq).trans q4, (hs_Ine hq).trans q5⟩
  · rw [e 0 (by omega)] at hx
    obtain ⟨l1, l2, l3⟩ := h.2.2.2.2.2.2 x hx
    have key : ∀ j b, (j = 2 ∧ b = 11) ∨ (j = 3 ∧ b = 13) ∨ (j = 4 ∧ b = 14) → G.2.1 (ta j) x = nI (t.1 b x) → (hs_I G (ta i) p (nI n)).2.1 (ta j) x = nI ((sp_set t a p n).1 b x) := by
      intro j b hj hx2
      by_cases g : j = i
      · have gb : b = a := by omega
        subst g gb
        rw [hs_Iif]
        show _ = nI (if b = b then (if x = p then n else t.1 b x) else t.1 b x)
        rw [if_pos rfl]
        split
        · rfl
        · exact hx2
      · rw [hs_Ine (ne j (by omega) g), e b (by omega)]
        exact hx2
    exact ⟨key 2 11 (by decide) l1, key 3 13 (by decide) l2, key 4 14 (by decide) l3⟩
end TNS
/-- a town's change: its answer, its new numbers, where; who is there stays -/
def tn_Po (ta : Nat → Nat) (G : hg_G) (t t' : sp_S) (r0 : Option Value) : hg_Po := fun r G' => r = .inl r0 ∧ tn_R G' ta t' ∧ G'.1 = G.1 ∧ hg_fr (tn_W ta) G G' ∧ ∀ p, p < t.1 0 0 → G'.2.2.2 (ta 1) p = G.2.2.2 (ta 1) p
