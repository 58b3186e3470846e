/-! somebody more -/
def sp_add (t : sp_S) (k b l s m c : Nat) : sp_S := sp_set (sp_set (sp_set (sp_set (sp_set (sp_set (sp_set (sp_set t 9 (t.1 0 0) k) 10 (t.1 0 0) b) 11 (t.1 0 0) l) 12 (t.1 0 0) s) 13 (t.1 0 0) m) 14 (t.1 0 0) c) 15 (t.1 0 0) 0) 0 0 (t.1 0 0 + 1)
theorem sq_adds_t (k1 k2 k3 k4 k5 k6 : Nat) (A : ab_S) : (sq_adds k1 k2 k3 k4 k5 k6 A).2.1 = sp_add A.1 k1 k2 k3 k4 k5 k6 := rfl
theorem sp_add_e {t : sp_S} {k b l s m c a i : Nat} : (sp_add t k b l s m c).1 a i = if a = 0 ∧ i = 0 then t.1 0 0 + 1 else if i = t.1 0 0 then (if a = 9 then k else if a = 10 then b else if a = 11 then l else if a = 12 then s else if a = 13 then m else if a = 14 then c else if a = 15 then 0 else t.1 a i) else t.1 a i := by
  unfold sp_add sp_set
  dsimp only
  by_cases h0 : a = 0
  · subst h0
    by_cases hi : i = 0 <;> simp [hi]
  · simp only [if_neg h0, h0, false_and, if_false]
    by_cases hi : i = t.1 0 0
    · simp only [hi, if_true]
      (repeat' split) <;> first | rfl | omega
    · simp only [hi, if_false]
      (repeat' split) <;> rfl
def sk_clr (K P : Nat) : Nat := if K / 2 ^ P % 2 = 1 then K - 2 ^ P else K
theorem sk_clr_1 : ∀ K, K < 128 → ∀ P, P < 7 → nI K &&& ((nI 1 <<< (nI P &&& 31)) ^^^ -1) = nI (sk_clr K P) ∧ sk_clr K P < 128 ∧ sk_clr K P / 2 ^ P % 2 = 0 := by decide +kernel
theorem sk_clr_2 : ∀ K, K < 128 → ∀ P, P < 7 → ∀ p, p < 7 → p ≠ P → sk_clr K P / 2 ^ p % 2 = K / 2 ^ p % 2 := by decide +kernel
def sk_put (K P : Nat) : Nat := if K / 2 ^ P % 2 = 1 then K else K + 2 ^ P
theorem sk_put_1 : ∀ K, K < 128 → ∀ P, P < 7 → nI K ||| (nI 1 <<< (nI P &&& 31)) = nI (sk_put K P) ∧ sk_put K P < 128 ∧ sk_put K P / 2 ^ P % 2 = 1 := by decide +kernel
theorem sk_put_2 : ∀ K, K < 128 → ∀ P, P < 7 → ∀ p, p < 7 → p ≠ P → sk_put K P / 2 ^ p % 2 = K / 2 ^ p % 2 := by decide +kernel
section TNB
variable {G : hg_G} {ta : Nat → Nat} {t : sp_S}
theorem tn_R.beyR (h : tn_R G ta t) (hD : tn_D ta) {p : Nat} {o : Option Nat} (hp : t.1 0 0 ≤ p) : tn_R (hs_R G (ta 1) p o) ta t := by
  have n0 : ta 0 ≠ ta 1 := fun e => by have := hD 0 1 (by decide) (by decide) e; omega
  refine ⟨h.1, ?_, h.2.2.1, h.2.2.2.1, h.sk, fun x hx => ?_, h.2.2.2.2.2.2⟩
  · rw [hs_Rne n0, hs_Rne n0, hs_Rne n0, hs_Rne n0]
    exact h.2.1
  · obtain ⟨q, q1, q2⟩ := h.pe hx
    exact ⟨q, by rw [hs_Rnj (by omega)]; exact q1, q2⟩
theorem tn_R.beyI (h : tn_R G ta t) (hD : tn_D ta) {i p : Nat} {v : Int32} (hi : 2 ≤ i ∧ i < 5) (hp : t.1 0 0 ≤ p) : tn_R (hs_I G (ta i) p v) ta t := by
  have ne : ∀ j, j < 5 → j ≠ i → ta j ≠ ta i := fun j h1 h2 e => h2 (hD j i h1 (by omega) e)
  have n0 := ne 0 (by decide) (by omega)
  refine ⟨h.1, h.2.1, ?_, h.2.2.2.1, ?_, fun x hx => ?_, fun x hx => ?_⟩
  · rw [hs_Ine n0, hs_Ine n0, hs_Ine n0, hs_Ine n0, hs_Ine n0, hs_Ine n0, hs_Ine n0, hs_Ine n0]
    exact h.2.2.1
  · rw [hs_Ine n0]
    exact h.sk
  · obtain ⟨q, q1, q2, q3, q4, q5⟩ := h.pe hx
    have hq := h.pk q2 (i := i) (by omega)
    exact ⟨q, q1, q2, (hs_Ine hq).trans q3, (hs_Ine hq).trans q4, (hs_Ine hq).trans q5⟩
  · rw [hs_Inj (by omega), hs_Inj (by omega), hs_Inj (by omega)]
    exact h.2.2.2.2.2.2 x hx
theorem tn_R.keepsk (h : tn_R G ta t) (hD : tn_D ta) {K : Nat} (hK : K < 128) (hg : ∀ p, p < t.1 0 0 → K / 2 ^ p % 2 = t.1 15 p) : tn_R (hs_I G (ta 0) 9 (nI K)) ta t :=
  h.put0 hD rfl (fun j hj => if_neg (by omega)) (fun j h1 h2 => if_neg (by omega)) (if_neg (by omega)) (fun _ _ _ _ => rfl) ⟨K, hK, if_pos rfl, hg⟩
theorem tn_R.add (h : tn_R G ta t) (hD : tn_D ta) {q k b l s m c : Nat} (h1 : G.2.2.2 (ta 1) (t.1 0 0) = some q) (h2 : G.1 q = some (0, 12 + k)) (h3 : G.2.1 q 0 = nI (t.1 0 0)) (h4 : G.2.1 q 1 = nI b) (h5 : G.2.1 q 2 = nI s)
    (h6 : G.2.1 (ta 2) (t.1 0 0) = nI l) (h7 : G.2.1 (ta 3) (t.1 0 0) = nI m) (h8 : G.2.1 (ta 4) (t.1 0 0) = nI c) (h9 : ∃ K, K < 128 ∧ G.2.1 (ta 0) 9 = nI K ∧ (∀ p, p < t.1 0 0 → K / 2 ^ p % 2 = t.1 15 p) ∧ K / 2 ^ (t.1 0 0) % 2 = 0) :
    tn_R (hs_I G (ta 0) 0 (nI (t.1 0 0 + 1))) ta (sp_add t k b l s m c) := by
  have ne : ∀ i, 0 < i → i < 5 → ta i ≠ ta 0 := fun i g1 g2 e => by have := hD i 0 g2 (by decide) e; omega
  have e0 : (sp_add t k b l s m c).1 0 0 = t.1 0 0 + 1 := by rw [sp_add_e, if_pos ⟨rfl, rfl⟩]
  have eo : ∀ a, (a ≠ 0 ∧ a < 9) ∨ 15 < a → (sp_add t k b l s m c).1 a = t.1 a := fun a ha => funext fun i => by
    rw [sp_add_e, if_neg (by omega)]
    split
    · rw [if_neg (by omega), if_neg (by omega), if_neg (by omega), if_neg (by omega), if_neg (by omega), if_neg (by omega), if_neg (by omega)]
    · rfl
  have ep : ∀ a p, 0 < a → p < t.1 0 0 → (sp_add t k b l s m c).1 a p = t.1 a p := fun a p ha hp => by rw [sp_add_e, if_neg (by omega), if_neg (by omega)]
  have en : ∀ a, 0 < a → (sp_add t k b l s m c).1 a (t.1 0 0) = (if a = 9 then k else if a = 10 then b else if a = 11 then l else if a = 12 then s else if a = 13 then m else if a = 14 then c else if a = 15 then 0 else t.1 a (t.1 0 0)) := fun a ha => by rw [sp_add_e, if_neg (by omega), if_pos rfl]
  have cases : ∀ p, p < (sp_add t k b l s m c).1 0 0 → p < t.1 0 0 ∨ p = t.1 0 0 := fun p hp => by rw [e0] at hp; omega
  refine ⟨h.1, h.2.1, ⟨?_, ?_, ?_, ?_, ?_, ?_, ?_, ?_⟩, ?_, ?_, fun p hp => ?_, fun p hp => ?_⟩
  · rw [hs_Ieq, e0]
  · rw [hs_Inj (by decide), eo 1 (by omega)]; exact h.f1
  · rw [hs_Inj (by decide), eo 2 (by omega)]; exact h.f2
  · rw [hs_Inj (by decide), eo 3 (by omega)]; exact h.f3
  · rw [hs_Inj (by decide)]; exact h.f4
  · rw [hs_Inj (by decide)]; exact h.f5
  · rw [hs_Inj (by decide)]; exact h.f6
  · rw [hs_Inj (by decide), eo 36 (by omega)]; exact h.f10
  · rw [eo 16 (by omega), eo 17 (by omega)]; exact h.2.2.2.1
  · obtain ⟨K, g1, g2, g3, g4⟩ := h9
    refine ⟨K, g1, by rw [hs_Inj (by decide)]; exact g2, fun p hp => ?_⟩
    rcases cases p hp with g | g
    · rw [ep 15 p (by decide) g]; exact g3 p g
    · rw [g, en 15 (by decide)]; exact g4
  · rcases cases p hp with g | g
    · obtain ⟨y, q1, q2, q3, q4, q5⟩ := h.pe g
      have hq := h.p0 q2
      rw [ep 9 p (by decide) g, ep 10 p (by decide) g, ep 12 p (by decide) g]
      exact ⟨y, q1, q2, (hs_Ine hq).trans q3, (hs_Ine hq).trans q4, (hs_Ine hq).trans q5⟩
    · have hq := h.p0 h2
      rw [g, en 9 (by decide), en 10 (by decide), en 12 (by decide)]
      exact ⟨q, h1, h2, (hs_Ine hq).trans h3, (hs_Ine hq).trans h4, (hs_Ine hq).trans h5⟩
  · rw [hs_Ine (ne 2 (by decide) (by decide)), hs_Ine (ne 3 (by decide) (by decide)), hs_Ine (ne 4 (by decide) (by decide))]
    rcases cases p hp with g | g
    · rw [ep 11 p (by decide) g, ep 13 p (by decide) g, ep 14 p (by decide) g]
      exact h.2.2.2.2.2.2 p g
    · rw [g, en 11 (by decide), en 13 (by decide), en 14 (by decide)]
      exact ⟨h6, h7, h8⟩
end TNB
abbrev rk_X0_personOfKind : Room := { frames := 4, cells := 1, slots := 3, locals := 109 }
theorem fpw_q652 : ∀ k, k ≤ 6 → hg_Fw "TaxOnLooks$Person" 7 (12 + k) 0 true .int := fun k hk => match k, hk with | 0, _ => fw_q652_12 | 1, _ => fw_q652_13 | 2, _ => fw_q652_14 | 3, _ => fw_q652_15 | 4, _ => fw_q652_16 | 5, _ => fw_q652_17 | 6, _ => fw_q652_18 | (k + 7), h => absurd h (by omega)

theorem fpw_q665 : ∀ k, k ≤ 6 → hg_Fw "TaxOnLooks$Person" 13 (12 + k) 1 true .int := fun k hk => match k, hk with | 0, _ => fw_q665_12 | 1, _ => fw_q665_13 | 2, _ => fw_q665_14 | 3, _ => fw_q665_15 | 4, _ => fw_q665_16 | 5, _ => fw_q665_17 | 6, _ => fw_q665_18 | (k + 7), h => absurd h (by omega)

theorem fpw_q673 : ∀ k, k ≤ 6 → hg_Fw "TaxOnLooks$Person" 16 (12 + k) 2 true .int := fun k hk => match k, hk with | 0, _ => fw_q673_12 | 1, _ => fw_q673_13 | 2, _ => fw_q673_14 | 3, _ => fw_q673_15 | 4, _ => fw_q673_16 | 5, _ => fw_q673_17 | 6, _ => fw_q673_18 | (k + 7), h => absurd h (by omega)

theorem pi_X12 {l : Launch} {D : hg_D} {lo : Nat} (htr : l.stackTraces = false) {G : hg_G} {b k : Nat} (hk : k ≤ 6) (hb : G.1 b = some (0, 12 + k)) {x y z : Int32} :
    hg_M l D lo yX12_init (ws_ yX12_init cX12_init 4 (none)) rm_X12_init [.ref b, .int x, .int y, .int z] G (fun r G' => r = .inl none ∧ G' = hs_I (hs_I (hs_I G b 0 x) b 1 y) b 2 z) := by
  refine hg_M.of htr (by decide) [some (.ref b), some (.int x), some (.int y), some (.int z)] rfl (Nat.le_of_ble_eq_true rfl) ?_
  intro p e s m args below meth c X hr hnm htab
  have X : hg_X p l s m args meth c D lo "TaxOnLooks$Person" cX12_init 4 := X
  have hnm : meth.name = "<init>" := hnm
  refine hr_aload0 (q := 1) X dX12_init_0 rfl ?_
  refine hr_objInit (q := 4) X dX12_init_1 rfl q651 (by decide) (by decide) ?_
  refine hr_aload0 (q := 5) X dX12_init_4 rfl ?_
  refine hr_iload1 (q := 6) X dX12_init_5 rfl ?_
  refine hr_putI (q := 9) X dX12_init_6 rfl (fpw_q652 _ (by omega)) (fun _ => hnm) (fp_ft _ (by omega) 0 (by decide)) rfl rfl hb ?_
  refine hr_aload0 (q := 10) X dX12_init_9 rfl ?_
  refine hr_iload2 (q := 11) X dX12_init_10 rfl ?_
  refine hr_putI (q := 14) X dX12_init_11 rfl (fpw_q665 _ (by omega)) (fun _ => hnm) (fp_ft _ (by omega) 1 (by decide)) rfl rfl hb ?_
  refine hr_aload0 (q := 15) X dX12_init_14 rfl ?_
  refine hr_iload3 (q := 16) X dX12_init_15 rfl ?_
  refine hr_putI (q := 19) X dX12_init_16 rfl (fpw_q673 _ (by omega)) (fun _ => hnm) (fp_ft _ (by omega) 2 (by decide)) rfl rfl hb ?_
  exact hr_vret X hr dX12_init_19 ⟨rfl, rfl⟩

theorem pi_X13 {l : Launch} {D : hg_D} {lo : Nat} (htr : l.stackTraces = false) {G : hg_G} {b k : Nat} (hk : k = 1 ∨ k = 2) (hb : G.1 b = some (0, 12 + k)) {x y z : Int32} :
    hg_M l D lo yX13_init (ws_ yX13_init cX13_init 4 (none)) rm_X13_init [.ref b, .int x, .int y, .int z] G (fun r G' => r = .inl none ∧ G' = hs_I (hs_I (hs_I G b 0 x) b 1 y) b 2 z) := by
  refine hg_M.of htr (by decide) [some (.ref b), some (.int x), some (.int y), some (.int z)] rfl (Nat.le_of_ble_eq_true rfl) ?_
  intro p e s m args below meth c X hr hnm htab
  have X : hg_X p l s m args meth c D lo "TaxOnLooks$Beauty" cX13_init 4 := X
  have hnm : meth.name = "<init>" := hnm
  refine hr_aload0 (q := 1) X dX13_init_0 rfl ?_
  refine hr_iload1 (q := 2) X dX13_init_1 rfl ?_
  refine hr_iload2 (q := 3) X dX13_init_2 rfl ?_
  refine hr_iload3 (q := 4) X dX13_init_3 rfl ?_
  refine hr_call0 (q := 7) (hc_I (n := 3) (As := [.int x, .int y, .int z]) X dX13_init_4 rfl (pi_X12 X.tr (k := k) (by omega) hb (x := x) (y := y) (z := z)) q648 cj_X12_init ⟨Nat.le_of_ble_eq_true rfl, Nat.le_of_ble_eq_true rfl⟩ rfl (Nat.le_of_ble_eq_true rfl)) rfl (fun qx E G' hp => by cases hp.1) (fun r G1 hp _ => ?_)
  obtain ⟨hv1, rfl⟩ := hp
  cases hv1
  exact hr_vret X hr dX13_init_7 ⟨rfl, rfl⟩

theorem pi_X14 {l : Launch} {D : hg_D} {lo : Nat} (htr : l.stackTraces = false) {G : hg_G} {b k : Nat} (hk : k = 2) (hb : G.1 b = some (0, 12 + k)) {x y z : Int32} :
    hg_M l D lo yX14_init (ws_ yX14_init cX14_init 4 (none)) rm_X14_init [.ref b, .int x, .int y, .int z] G (fun r G' => r = .inl none ∧ G' = hs_I (hs_I (hs_I G b 0 x) b 1 y) b 2 z) := by
  refine hg_M.of htr (by decide) [some (.ref b), some (.int x), some (.int y), some (.int z)] rfl (Nat.le_of_ble_eq_true rfl) ?_
  intro p e s m args below meth c X hr hnm htab
  have X : hg_X p l s m args meth c D lo "TaxOnLooks$Actress" cX14_init 4 := X
  have hnm : meth.name = "<init>" := hnm
  refine hr_aload0 (q := 1) X dX14_init_0 rfl ?_
  refine hr_iload1 (q := 2) X dX14_init_1 rfl ?_
  refine hr_iload2 (q := 3) X dX14_init_2 rfl ?_
  refine hr_iload3 (q := 4) X dX14_init_3 rfl ?_
  refine hr_call0 (q := 7) (hc_I (n := 3) (As := [.int x, .int y, .int z]) X dX14_init_4 rfl (pi_X13 X.tr (k := k) (by omega) hb (x := x) (y := y) (z := z)) q692 cj_X13_init ⟨Nat.le_of_ble_eq_true rfl, Nat.le_of_ble_eq_true rfl⟩ rfl (Nat.le_of_ble_eq_true rfl)) rfl (fun qx E G' hp => by cases hp.1) (fun r G1 hp _ => ?_)
  obtain ⟨hv1, rfl⟩ := hp
  cases hv1
  exact hr_vret X hr dX14_init_7 ⟨rfl, rfl⟩

theorem pi_X15 {l : Launch} {D : hg_D} {lo : Nat} (htr : l.stackTraces = false) {G : hg_G} {b k : Nat} (hk : k = 3 ∨ k = 5) (hb : G.1 b = some (0, 12 + k)) {x y z : Int32} :
    hg_M l D lo yX15_init (ws_ yX15_init cX15_init 4 (none)) rm_X15_init [.ref b, .int x, .int y, .int z] G (fun r G' => r = .inl none ∧ G' = hs_I (hs_I (hs_I G b 0 x) b 1 y) b 2 z) := by
  refine hg_M.of htr (by decide) [some (.ref b), some (.int x), some (.int y), some (.int z)] rfl (Nat.le_of_ble_eq_true rfl) ?_
  intro p e s m args below meth c X hr hnm htab
  have X : hg_X p l s m args meth c D lo "TaxOnLooks$Blind" cX15_init 4 := X
  have hnm : meth.name = "<init>" := hnm
  refine hr_aload0 (q := 1) X dX15_init_0 rfl ?_
  refine hr_iload1 (q := 2) X dX15_init_1 rfl ?_
  refine hr_iload2 (q := 3) X dX15_init_2 rfl ?_
  refine hr_iload3 (q := 4) X dX15_init_3 rfl ?_
  refine hr_call0 (q := 7) (hc_I (n := 3) (As := [.int x, .int y, .int z]) X dX15_init_4 rfl (pi_X12 X.tr (k := k) (by omega) hb (x := x) (y := y) (z := z)) q701 cj_X12_init ⟨Nat.le_of_ble_eq_true rfl, Nat.le_of_ble_eq_true rfl⟩ rfl (Nat.le_of_ble_eq_true rfl)) rfl (fun qx E G' hp => by cases hp.1) (fun r G1 hp _ => ?_)
  obtain ⟨hv1, rfl⟩ := hp
  cases hv1
  exact hr_vret X hr dX15_init_7 ⟨rfl, rfl⟩

theorem pi_X16 {l : Launch} {D : hg_D} {lo : Nat} (htr : l.stackTraces = false) {G : hg_G} {b k : Nat} (hk : k = 4 ∨ k = 6) (hb : G.1 b = some (0, 12 + k)) {x y z : Int32} :
    hg_M l D lo yX16_init (ws_ yX16_init cX16_init 4 (none)) rm_X16_init [.ref b, .int x, .int y, .int z] G (fun r G' => r = .inl none ∧ G' = hs_I (hs_I (hs_I G b 0 x) b 1 y) b 2 z) := by
  refine hg_M.of htr (by decide) [some (.ref b), some (.int x), some (.int y), some (.int z)] rfl (Nat.le_of_ble_eq_true rfl) ?_
  intro p e s m args below meth c X hr hnm htab
  have X : hg_X p l s m args meth c D lo "TaxOnLooks$Lover" cX16_init 4 := X
  have hnm : meth.name = "<init>" := hnm
  refine hr_aload0 (q := 1) X dX16_init_0 rfl ?_
  refine hr_iload1 (q := 2) X dX16_init_1 rfl ?_
  refine hr_iload2 (q := 3) X dX16_init_2 rfl ?_
  refine hr_iload3 (q := 4) X dX16_init_3 rfl ?_
  refine hr_call0 (q := 7) (hc_I (n := 3) (As := [.int x, .int y, .int z]) X dX16_init_4 rfl (pi_X12 X.tr (k := k) (by omega) hb (x := x) (y := y) (z := z)) q711 cj_X12_init ⟨Nat.le_of_ble_eq_true rfl, Nat.le_of_ble_eq_true rfl⟩ rfl (Nat.le_of_ble_eq_true rfl)) rfl (fun qx E G' hp => by cases hp.1) (fun r G1 hp _ => ?_)
  obtain ⟨hv1, rfl⟩ := hp
  cases hv1
  exact hr_vret X hr dX16_init_7 ⟨rfl, rfl⟩

theorem pi_X17 {l : Launch} {D : hg_D} {lo : Nat} (htr : l.stackTraces = false) {G : hg_G} {b k : Nat} (hk : k = 5) (hb : G.1 b = some (0, 12 + k)) {x y z : Int32} :
    hg_M l D lo yX17_init (ws_ yX17_init cX17_init 4 (none)) rm_X17_init [.ref b, .int x, .int y, .int z] G (fun r G' => r = .inl none ∧ G' = hs_I (hs_I (hs_I G b 0 x) b 1 y) b 2 z) := by
  refine hg_M.of htr (by decide) [some (.ref b), some (.int x), some (.int y), some (.int z)] rfl (Nat.le_of_ble_eq_true rfl) ?_
  intro p e s m args below meth c X hr hnm htab
  have X : hg_X p l s m args meth c D lo "TaxOnLooks$Child" cX17_init 4 := X
  have hnm : meth.name = "<init>" := hnm
  refine hr_aload0 (q := 1) X dX17_init_0 rfl ?_
  refine hr_iload1 (q := 2) X dX17_init_1 rfl ?_
  refine hr_iload2 (q := 3) X dX17_init_2 rfl ?_
  refine hr_iload3 (q := 4) X dX17_init_3 rfl ?_
  refine hr_call0 (q := 7) (hc_I (n := 3) (As := [.int x, .int y, .int z]) X dX17_init_4 rfl (pi_X15 X.tr (k := k) (by omega) hb (x := x) (y := y) (z := z)) q720 cj_X15_init ⟨Nat.le_of_ble_eq_true rfl, Nat.le_of_ble_eq_true rfl⟩ rfl (Nat.le_of_ble_eq_true rfl)) rfl (fun qx E G' hp => by cases hp.1) (fun r G1 hp _ => ?_)
  obtain ⟨hv1, rfl⟩ := hp
  cases hv1
  exact hr_vret X hr dX17_init_7 ⟨rfl, rfl⟩

theorem pi_X18 {l : Launch} {D : hg_D} {lo : Nat} (htr : l.stackTraces = false) {G : hg_G} {b k : Nat} (hk : k = 6) (hb : G.1 b = some (0, 12 + k)) {x y z : Int32} :
    hg_M l D lo yX18_init (ws_ yX18_init cX18_init 4 (none)) rm_X18_init [.ref b, .int x, .int y, .int z] G (fun r G' => r = .inl none ∧ G' = hs_I (hs_I (hs_I G b 0 x) b 1 y) b 2 z) := by
  refine hg_M.of htr (by decide) [some (.ref b), some (.int x), some (.int y), some (.int z)] rfl (Nat.le_of_ble_eq_true rfl) ?_
  intro p e s m args below meth c X hr hnm htab
  have X : hg_X p l s m args meth c D lo "TaxOnLooks$Shamed" cX18_init 4 := X
  have hnm : meth.name = "<init>" := hnm
  refine hr_aload0 (q := 1) X dX18_init_0 rfl ?_
  refine hr_iload1 (q := 2) X dX18_init_1 rfl ?_
  refine hr_iload2 (q := 3) X dX18_init_2 rfl ?_
  refine hr_iload3 (q := 4) X dX18_init_3 rfl ?_
  refine hr_call0 (q := 7) (hc_I (n := 3) (As := [.int x, .int y, .int z]) X dX18_init_4 rfl (pi_X16 X.tr (k := k) (by omega) hb (x := x) (y := y) (z := z)) q730 cj_X16_init ⟨Nat.le_of_ble_eq_true rfl, Nat.le_of_ble_eq_true rfl⟩ rfl (Nat.le_of_ble_eq_true rfl)) rfl (fun qx E G' hp => by cases hp.1) (fun r G1 hp _ => ?_)
  obtain ⟨hv1, rfl⟩ := hp
  cases hv1
  exact hr_vret X hr dX18_init_7 ⟨rfl, rfl⟩

theorem tc_person {l : Launch} {D : hg_D} {lo : Nat} (htr : l.stackTraces = false) {G : hg_G} {k : Nat} (hk : k ≤ 6) {x y z : Int32} :
    hg_M l D lo yX0_personOfKind (ws_ yX0_personOfKind cX0_personOfKind 4 ((some (FieldType.object "TaxOnLooks$Person")))) rk_X0_personOfKind [.int (nI k), .int x, .int y, .int z] G (fun r G' => ∃ b, r = .inl (some (.ref b)) ∧ G.1 b = none ∧ G' = hs_I (hs_I (hs_I (hs_N G b (0, 12 + k)) b 0 x) b 1 y) b 2 z) := by
  refine hg_M.of htr (by decide) [some (.int (nI k)), some (.int x), some (.int y), some (.int z)] rfl (Nat.le_of_ble_eq_true rfl) ?_
  intro p e s m args below meth c X hr hnm htab
  have X : hg_X p l s m args meth c D lo "TaxOnLooks" cX0_personOfKind 4 := X
  refine hr_room (kr' := 1) (nr' := 3) (by decide) (by decide) ?_
  refine hr_iload0 (q := 1) X dX0_personOfKind_0 rfl ?_
  by_cases e1 : k = 1
  · refine hr_tableIn (off := 39) (tgt := 40) X dX0_personOfKind_1 (by rw [congrArg nI e1]; decide) (by rw [congrArg nI e1]; decide) (by rw [congrArg nI e1]; rfl) (by decide) ?_
    refine hr_new (kr := 0) (nr := 0) (q := 43) (ci := 13) (T := TX13) (N := 3) (ty := tyX13) X dX0_personOfKind_40 rfl q643 q644 q105 rfl in_X13 tyX13_ok (by decide) (fun x1 hlx1 hnx1 => ?_)
    refine hr_dup (q := 44) X dX0_personOfKind_43 rfl rfl ?_
    refine hr_iload1 (q := 45) X dX0_personOfKind_44 rfl ?_
    refine hr_iload2 (q := 46) X dX0_personOfKind_45 rfl ?_
    refine hr_iload3 (q := 47) X dX0_personOfKind_46 rfl ?_
    refine hr_call0 (q := 50) (hc_I (n := 3) (As := [.int x, .int y, .int z]) X dX0_personOfKind_47 rfl (pi_X13 X.tr (k := 1) (by decide) (if_pos rfl) (x := x) (y := y) (z := z)) q645 cj_X13_init ⟨Nat.le_of_ble_eq_true rfl, Nat.le_of_ble_eq_true rfl⟩ rfl (Nat.le_of_ble_eq_true rfl)) rfl (fun qx E G' hp => by cases hp.1) (fun r G1 hp _ => ?_)
    obtain ⟨hv1, rfl⟩ := hp
    cases hv1
    exact hr_aret X hr rfl dX0_personOfKind_50 ⟨x1, rfl, hnx1, by rw [e1]⟩
  by_cases e2 : k = 2
  · refine hr_tableIn (off := 50) (tgt := 51) X dX0_personOfKind_1 (by rw [congrArg nI e2]; decide) (by rw [congrArg nI e2]; decide) (by rw [congrArg nI e2]; rfl) (by decide) ?_
    refine hr_new (kr := 0) (nr := 0) (q := 54) (ci := 14) (T := TX14) (N := 3) (ty := tyX14) X dX0_personOfKind_51 rfl q687 q688 q106 rfl in_X14 tyX14_ok (by decide) (fun x2 hlx2 hnx2 => ?_)
    refine hr_dup (q := 55) X dX0_personOfKind_54 rfl rfl ?_
    refine hr_iload1 (q := 56) X dX0_personOfKind_55 rfl ?_
    refine hr_iload2 (q := 57) X dX0_personOfKind_56 rfl ?_
    refine hr_iload3 (q := 58) X dX0_personOfKind_57 rfl ?_
    refine hr_call0 (q := 61) (hc_I (n := 3) (As := [.int x, .int y, .int z]) X dX0_personOfKind_58 rfl (pi_X14 X.tr (k := 2) (by decide) (if_pos rfl) (x := x) (y := y) (z := z)) q689 cj_X14_init ⟨Nat.le_of_ble_eq_true rfl, Nat.le_of_ble_eq_true rfl⟩ rfl (Nat.le_of_ble_eq_true rfl)) rfl (fun qx E G' hp => by cases hp.1) (fun r G1 hp _ => ?_)
    obtain ⟨hv1, rfl⟩ := hp
    cases hv1
    exact hr_aret X hr rfl dX0_personOfKind_61 ⟨x2, rfl, hnx2, by rw [e2]⟩
  by_cases e3 : k = 3
  · refine hr_tableIn (off := 61) (tgt := 62) X dX0_personOfKind_1 (by rw [congrArg nI e3]; decide) (by rw [congrArg nI e3]; decide) (by rw [congrArg nI e3]; rfl) (by decide) ?_
    refine hr_new (kr := 0) (nr := 0) (q := 65) (ci := 15) (T := TX15) (N := 3) (ty := tyX15) X dX0_personOfKind_62 rfl q696 q697 q107 rfl in_X15 tyX15_ok (by decide) (fun x3 hlx3 hnx3 => ?_)
    refine hr_dup (q := 66) X dX0_personOfKind_65 rfl rfl ?_
    refine hr_iload1 (q := 67) X dX0_personOfKind_66 rfl ?_
    refine hr_iload2 (q := 68) X dX0_personOfKind_67 rfl ?_
    refine hr_iload3 (q := 69) X dX0_personOfKind_68 rfl ?_
    refine hr_call0 (q := 72) (hc_I (n := 3) (As := [.int x, .int y, .int z]) X dX0_personOfKind_69 rfl (pi_X15 X.tr (k := 3) (by decide) (if_pos rfl) (x := x) (y := y) (z := z)) q698 cj_X15_init ⟨Nat.le_of_ble_eq_true rfl, Nat.le_of_ble_eq_true rfl⟩ rfl (Nat.le_of_ble_eq_true rfl)) rfl (fun qx E G' hp => by cases hp.1) (fun r G1 hp _ => ?_)
    obtain ⟨hv1, rfl⟩ := hp
    cases hv1
    exact hr_aret X hr rfl dX0_personOfKind_72 ⟨x3, rfl, hnx3, by rw [e3]⟩
  by_cases e4 : k = 4
  · refine hr_tableIn (off := 72) (tgt := 73) X dX0_personOfKind_1 (by rw [congrArg nI e4]; decide) (by rw [congrArg nI e4]; decide) (by rw [congrArg nI e4]; rfl) (by decide) ?_
    refine hr_new (kr := 0) (nr := 0) (q := 76) (ci := 16) (T := TX16) (N := 3) (ty := tyX16) X dX0_personOfKind_73 rfl q706 q707 q108 rfl in_X16 tyX16_ok (by decide) (fun x4 hlx4 hnx4 => ?_)
    refine hr_dup (q := 77) X dX0_personOfKind_76 rfl rfl ?_
    refine hr_iload1 (q := 78) X dX0_personOfKind_77 rfl ?_
    refine hr_iload2 (q := 79) X dX0_personOfKind_78 rfl ?_
    refine hr_iload3 (q := 80) X dX0_personOfKind_79 rfl ?_
    refine hr_call0 (q := 83) (hc_I (n := 3) (As := [.int x, .int y, .int z]) X dX0_personOfKind_80 rfl (pi_X16 X.tr (k := 4) (by decide) (if_pos rfl) (x := x) (y := y) (z := z)) q708 cj_X16_init ⟨Nat.le_of_ble_eq_true rfl, Nat.le_of_ble_eq_true rfl⟩ rfl (Nat.le_of_ble_eq_true rfl)) rfl (fun qx E G' hp => by cases hp.1) (fun r G1 hp _ => ?_)
    obtain ⟨hv1, rfl⟩ := hp
    cases hv1
    exact hr_aret X hr rfl dX0_personOfKind_83 ⟨x4, rfl, hnx4, by rw [e4]⟩
  by_cases e5 : k = 5
  · refine hr_tableIn (off := 83) (tgt := 84) X dX0_personOfKind_1 (by rw [congrArg nI e5]; decide) (by rw [congrArg nI e5]; decide) (by rw [congrArg nI e5]; rfl) (by decide) ?_
    refine hr_new (kr := 0) (nr := 0) (q := 87) (ci := 17) (T := TX17) (N := 3) (ty := tyX17) X dX0_personOfKind_84 rfl q715 q716 q109 rfl in_X17 tyX17_ok (by decide) (fun x5 hlx5 hnx5 => ?_)
    refine hr_dup (q := 88) X dX0_personOfKind_87 rfl rfl ?_
    refine hr_iload1 (q := 89) X dX0_personOfKind_88 rfl ?_
    refine hr_iload2 (q := 90) X dX0_personOfKind_89 rfl ?_
    refine hr_iload3 (q := 91) X dX0_personOfKind_90 rfl ?_
    refine hr_call0 (q := 94) (hc_I (n := 3) (As := [.int x, .int y, .int z]) X dX0_personOfKind_91 rfl (pi_X17 X.tr (k := 5) (by decide) (if_pos rfl) (x := x) (y := y) (z := z)) q717 cj_X17_init ⟨Nat.le_of_ble_eq_true rfl, Nat.le_of_ble_eq_true rfl⟩ rfl (Nat.le_of_ble_eq_true rfl)) rfl (fun qx E G' hp => by cases hp.1) (fun r G1 hp _ => ?_)
    obtain ⟨hv1, rfl⟩ := hp
    cases hv1
    exact hr_aret X hr rfl dX0_personOfKind_94 ⟨x5, rfl, hnx5, by rw [e5]⟩
  by_cases e6 : k = 6
  · refine hr_tableIn (off := 94) (tgt := 95) X dX0_personOfKind_1 (by rw [congrArg nI e6]; decide) (by rw [congrArg nI e6]; decide) (by rw [congrArg nI e6]; rfl) (by decide) ?_
    refine hr_new (kr := 0) (nr := 0) (q := 98) (ci := 18) (T := TX18) (N := 3) (ty := tyX18) X dX0_personOfKind_95 rfl q725 q726 q110 rfl in_X18 tyX18_ok (by decide) (fun x6 hlx6 hnx6 => ?_)
    refine hr_dup (q := 99) X dX0_personOfKind_98 rfl rfl ?_
    refine hr_iload1 (q := 100) X dX0_personOfKind_99 rfl ?_
    refine hr_iload2 (q := 101) X dX0_personOfKind_100 rfl ?_
    refine hr_iload3 (q := 102) X dX0_personOfKind_101 rfl ?_
    refine hr_call0 (q := 105) (hc_I (n := 3) (As := [.int x, .int y, .int z]) X dX0_personOfKind_102 rfl (pi_X18 X.tr (k := 6) (by decide) (if_pos rfl) (x := x) (y := y) (z := z)) q727 cj_X18_init ⟨Nat.le_of_ble_eq_true rfl, Nat.le_of_ble_eq_true rfl⟩ rfl (Nat.le_of_ble_eq_true rfl)) rfl (fun qx E G' hp => by cases hp.1) (fun r G1 hp _ => ?_)
    obtain ⟨hv1, rfl⟩ := hp
    cases hv1
    exact hr_aret X hr rfl dX0_personOfKind_105 ⟨x6, rfl, hnx6, by rw [e6]⟩
  have e0 : k = 0 := by omega
  refine hr_tableOut (tgt := 106) X dX0_personOfKind_1 (Or.inl (by rw [congrArg nI e0]; decide)) (by decide) ?_
  refine hr_new (kr := 0) (nr := 0) (q := 109) (ci := 12) (T := TX12) (N := 3) (ty := tyX12) X dX0_personOfKind_106 rfl q575 q734 q104 rfl in_X12 tyX12_ok (by decide) (fun x7 hlx7 hnx7 => ?_)
  refine hr_dup (q := 110) X dX0_personOfKind_109 rfl rfl ?_
  refine hr_iload1 (q := 111) X dX0_personOfKind_110 rfl ?_
  refine hr_iload2 (q := 112) X dX0_personOfKind_111 rfl ?_
  refine hr_iload3 (q := 113) X dX0_personOfKind_112 rfl ?_
  refine hr_call0 (q := 116) (hc_I (n := 3) (As := [.int x, .int y, .int z]) X dX0_personOfKind_113 rfl (pi_X12 X.tr (k := 0) (by decide) (if_pos rfl) (x := x) (y := y) (z := z)) q735 cj_X12_init ⟨Nat.le_of_ble_eq_true rfl, Nat.le_of_ble_eq_true rfl⟩ rfl (Nat.le_of_ble_eq_true rfl)) rfl (fun qx E G' hp => by cases hp.1) (fun r G1 hp _ => ?_)
  obtain ⟨hv1, rfl⟩ := hp
  cases hv1
  exact hr_aret X hr rfl dX0_personOfKind_116 ⟨x7, rfl, hnx7, by rw [e0]⟩

theorem tn_addPerson {l : Launch} {D : hg_D} {lo : Nat} (htr : l.stackTraces = false) {G : hg_G} {ta : Nat → Nat} {t : sp_S} (hT : tn_R G ta t) (hw : sp_wf t) (hD : tn_D ta) (h7 : t.1 0 0 < 7) {q k b1 s1 l1 m1 c1 : Nat} (hk : k ≤ 6) (hq : G.1 q = some (0, 12 + k)) (hq0 : G.2.1 q 0 = nI (t.1 0 0)) (hq1 : G.2.1 q 1 = nI b1) (hq2 : G.2.1 q 2 = nI s1) :
    hg_M l D lo yX2_addPerson (ws_ yX2_addPerson cX2_addPerson 5 (none)) rm_X2_addPerson [.ref (ta 0), .ref q, .int (nI l1), .int (nI m1), .int (nI c1)] G (fun r G' => tn_Po ta G t (sp_add t k b1 l1 s1 m1 c1) none r G' ∧ G'.2.2.2 (ta 1) (t.1 0 0) = some q) := by
  refine hg_M.of htr (by decide) [some (.ref (ta 0)), some (.ref q), some (.int (nI l1)), some (.int (nI m1)), some (.int (nI c1))] rfl (Nat.le_of_ble_eq_true rfl) ?_
  intro p e s m args below meth c X hr hnm htab
  have X : hg_X p l s m args meth c D lo "TaxOnLooks$Town" cX2_addPerson 5 := X
  have w0 := hw.b0; have w1 := hw.b1; have w2 := hw.b2; have w3 := hw.b3; have w36 := hw.b36
  obtain ⟨K, hK, hKs, hKb⟩ := hT.sk
  obtain ⟨rr, hrr, hcast⟩ := hg_clP2 k hk
  have ne : ∀ i j, i < 5 → j < 5 → i ≠ j → ta i ≠ ta j := fun i j h1 h2 h3 e => h3 (hD i j h1 h2 e)
  refine hr_aload0 (q := 1) X dX2_addPerson_0 rfl ?_
  refine hr_getR (v := (ta 1)) (q := 4) X dX2_addPerson_1 rfl fr_q180_2 rfl hT.ob hT.f11 ?_
  refine hr_aload0 (q := 5) X dX2_addPerson_4 rfl ?_
  refine hr_getI (v := (nI (t.1 0 0))) (q := 8) X dX2_addPerson_5 rfl fr_q152_2 rfl hT.ob hT.f0 ?_
  refine hr_aload1 (q := 9) X dX2_addPerson_8 rfl ?_
  refine hr_aast (n := 7) (t := 5) (q := 10) X dX2_addPerson_9 rfl hT.k1 (Or.inr rfl) (vp_in_nI (by omega) (by decide)) hq hrr hcast ?_
  rw [nI_clamp (by omega)]
  have hT1 := hT.beyR hD (p := t.1 0 0) (o := some q) (Nat.le_refl _)
  refine hr_aload0 (q := 11) X dX2_addPerson_10 rfl ?_
  refine hr_getR (v := (ta 2)) (q := 14) X dX2_addPerson_11 rfl fr_q182_2 rfl hT1.ob hT1.f12 ?_
  refine hr_aload0 (q := 15) X dX2_addPerson_14 rfl ?_
  refine hr_getI (v := (nI (t.1 0 0))) (q := 18) X dX2_addPerson_15 rfl fr_q152_2 rfl hT1.ob hT1.f0 ?_
  refine hr_iload2 (q := 19) X dX2_addPerson_18 rfl ?_
  refine hr_iastN (q := 20) X dX2_addPerson_19 rfl hT1.k2 (by omega) (by decide) ?_
  have hT2 := hT1.beyI hD (i := 2) (p := t.1 0 0) (v := (nI l1)) (by decide) (Nat.le_refl _)
  refine hr_aload0 (q := 21) X dX2_addPerson_20 rfl ?_
  refine hr_getR (v := (ta 3)) (q := 24) X dX2_addPerson_21 rfl fr_q184_2 rfl hT2.ob hT2.f13 ?_
  refine hr_aload0 (q := 25) X dX2_addPerson_24 rfl ?_
  refine hr_getI (v := (nI (t.1 0 0))) (q := 28) X dX2_addPerson_25 rfl fr_q152_2 rfl hT2.ob hT2.f0 ?_
  refine hr_iload3 (q := 29) X dX2_addPerson_28 rfl ?_
  refine hr_iastN (q := 30) X dX2_addPerson_29 rfl hT2.k3 (by omega) (by decide) ?_
  have hT3 := hT2.beyI hD (i := 3) (p := t.1 0 0) (v := (nI m1)) (by decide) (Nat.le_refl _)
  refine hr_aload0 (q := 31) X dX2_addPerson_30 rfl ?_
  refine hr_getR (v := (ta 4)) (q := 34) X dX2_addPerson_31 rfl fr_q187_2 rfl hT3.ob hT3.f14 ?_
  refine hr_aload0 (q := 35) X dX2_addPerson_34 rfl ?_
  refine hr_getI (v := (nI (t.1 0 0))) (q := 38) X dX2_addPerson_35 rfl fr_q152_2 rfl hT3.ob hT3.f0 ?_
  refine hr_iload4 (q := 40) X dX2_addPerson_38 rfl ?_
  refine hr_iastN (q := 41) X dX2_addPerson_40 rfl hT3.k4 (by omega) (by decide) ?_
  have hT4 := hT3.beyI hD (i := 4) (p := t.1 0 0) (v := (nI c1)) (by decide) (Nat.le_refl _)
  refine hr_aload0 (q := 42) X dX2_addPerson_41 rfl ?_
  refine hr_dup (q := 43) X dX2_addPerson_42 rfl rfl ?_
  refine hr_getI (v := (nI K)) (q := 46) X dX2_addPerson_43 rfl fr_q175_2 rfl hT4.ob ((hs_Ine (ne 0 4 (by decide) (by decide) (by decide))).trans ((hs_Ine (ne 0 3 (by decide) (by decide) (by decide))).trans ((hs_Ine (ne 0 2 (by decide) (by decide) (by decide))).trans hKs))) ?_
  refine hr_iconst (v := (nI 1)) (q := 47) X dX2_addPerson_46 rfl rfl ?_
  refine hr_aload0 (q := 48) X dX2_addPerson_47 rfl ?_
  refine hr_getI (v := (nI (t.1 0 0))) (q := 51) X dX2_addPerson_48 rfl fr_q152_2 rfl hT4.ob hT4.f0 ?_
  refine hr_ishl (v := (nI 1 <<< (nI (t.1 0 0) &&& 31))) (q := 52) X dX2_addPerson_51 rfl rfl ?_
  refine hr_iconst (v := (-1)) (q := 53) X dX2_addPerson_52 rfl rfl ?_
  refine hr_ixor (v := ((nI 1 <<< (nI (t.1 0 0) &&& 31)) ^^^ -1)) (q := 54) X dX2_addPerson_53 rfl rfl ?_
  refine hr_iand (v := (nI (sk_clr K (t.1 0 0)))) (q := 55) X dX2_addPerson_54 rfl (sk_clr_1 K hK _ h7).1 ?_
  refine hr_putI (q := 58) X dX2_addPerson_55 rfl fw_q175_2 (fun h => nomatch h) rfl rfl rfl hT4.ob ?_
  have hT5 := hT4.keepsk hD (K := sk_clr K (t.1 0 0)) (sk_clr_1 K hK _ h7).2.1 (fun p hp => (sk_clr_2 K hK _ h7 p (by omega) (by omega)).trans (hKb p hp))
  refine hr_aload0 (q := 59) X dX2_addPerson_58 rfl ?_
  refine hr_dup (q := 60) X dX2_addPerson_59 rfl rfl ?_
  refine hr_getI (v := (nI (t.1 0 0))) (q := 63) X dX2_addPerson_60 rfl fr_q152_2 rfl hT5.ob hT5.f0 ?_
  refine hr_iconst (v := (nI 1)) (q := 64) X dX2_addPerson_63 rfl rfl ?_
  refine hr_iadd (v := (nI (t.1 0 0 + 1))) (q := 65) X dX2_addPerson_64 rfl (nI_add _ _) ?_
  refine hr_putI (q := 68) X dX2_addPerson_65 rfl fw_q152_2 (fun h => nomatch h) rfl rfl rfl hT5.ob ?_
  have hR6 := hT5.add hD (q := q) (k := k) (b := b1) (l := l1) (s := s1) (m := m1) (c := c1) hs_Req hq ((hs_Ine (hT.pk hq (i := 0) (by decide))).trans ((hs_Ine (hT.pk hq (i := 4) (by decide))).trans ((hs_Ine (hT.pk hq (i := 3) (by decide))).trans ((hs_Ine (hT.pk hq (i := 2) (by decide))).trans hq0)))) ((hs_Ine (hT.pk hq (i := 0) (by decide))).trans ((hs_Ine (hT.pk hq (i := 4) (by decide))).trans ((hs_Ine (hT.pk hq (i := 3) (by decide))).trans ((hs_Ine (hT.pk hq (i := 2) (by decide))).trans hq1)))) ((hs_Ine (hT.pk hq (i := 0) (by decide))).trans ((hs_Ine (hT.pk hq (i := 4) (by decide))).trans ((hs_Ine (hT.pk hq (i := 3) (by decide))).trans ((hs_Ine (hT.pk hq (i := 2) (by decide))).trans hq2)))) ((hs_Ine (ne 2 0 (by decide) (by decide) (by decide))).trans ((hs_Ine (ne 2 4 (by decide) (by decide) (by decide))).trans ((hs_Ine (ne 2 3 (by decide) (by decide) (by decide))).trans hs_Ieq))) ((hs_Ine (ne 3 0 (by decide) (by decide) (by decide))).trans ((hs_Ine (ne 3 4 (by decide) (by decide) (by decide))).trans hs_Ieq)) ((hs_Ine (ne 4 0 (by decide) (by decide) (by decide))).trans hs_Ieq) ⟨_, (sk_clr_1 K hK _ h7).2.1, hs_Ieq, fun p hp => (sk_clr_2 K hK _ h7 p (by omega) (by omega)).trans (hKb p hp), (sk_clr_1 K hK _ h7).2.2⟩
  exact hr_vret X hr dX2_addPerson_68 ⟨⟨rfl, hR6, rfl, ((((((hg_fr.rf (W := tn_W ta)).R ⟨1, by decide, rfl⟩).I ⟨2, by decide, rfl⟩).I ⟨3, by decide, rfl⟩).I ⟨4, by decide, rfl⟩).I ⟨0, by decide, rfl⟩).I ⟨0, by decide, rfl⟩, fun p hp => hs_Rnj (by omega)⟩, hs_Req⟩

