/-! A TOWN of the component: ta: 0 the object, 1 people, 2 looks, 3 purse, 4 at -/
def tn_R (G : hg_G) (ta : Nat → Nat) (t : sp_S) : Prop :=
  (G.1 (ta 0) = some (0, 2) ∧ G.1 (ta 1) = some (6, 7) ∧ G.1 (ta 2) = some (1, 7) ∧ G.1 (ta 3) = some (1, 7) ∧ G.1 (ta 4) = some (1, 7)) ∧
  (G.2.2.2 (ta 0) 11 = some (ta 1) ∧ G.2.2.2 (ta 0) 12 = some (ta 2) ∧ G.2.2.2 (ta 0) 13 = some (ta 3) ∧ G.2.2.2 (ta 0) 14 = some (ta 4)) ∧
  (G.2.1 (ta 0) 0 = nI (t.1 0 0) ∧ G.2.1 (ta 0) 1 = nI (t.1 1 0) ∧ G.2.1 (ta 0) 2 = nI (t.1 2 0) ∧ G.2.1 (ta 0) 3 = nI (t.1 3 0) ∧ G.2.1 (ta 0) 4 = t.2 4 ∧ G.2.1 (ta 0) 5 = t.2 5 ∧ G.2.1 (ta 0) 6 = t.2 6 ∧ G.2.1 (ta 0) 10 = oI (t.1 36 0)) ∧
  (G.2.2.1 (ta 0) 7 = lN (sp_pk (t.1 16) 36) ∧ G.2.2.1 (ta 0) 8 = lN (sp_pk (t.1 17) 36)) ∧
  (∃ K, K < 128 ∧ G.2.1 (ta 0) 9 = nI K ∧ ∀ p, p < t.1 0 0 → K / 2 ^ p % 2 = t.1 15 p) ∧
  (∀ p, p < t.1 0 0 → ∃ q, G.2.2.2 (ta 1) p = some q ∧ G.1 q = some (0, 12 + t.1 9 p) ∧ G.2.1 q 0 = nI p ∧ G.2.1 q 1 = nI (t.1 10 p) ∧ G.2.1 q 2 = nI (t.1 12 p)) ∧
  ∀ p, p < t.1 0 0 → G.2.1 (ta 2) p = nI (t.1 11 p) ∧ G.2.1 (ta 3) p = nI (t.1 13 p) ∧ G.2.1 (ta 4) p = nI (t.1 14 p)
section TNR
variable {G : hg_G} {ta : Nat → Nat} {t : sp_S}
theorem tn_R.ob (h : tn_R G ta t) : G.1 (ta 0) = some (0, 2) := h.1.1
theorem tn_R.k1 (h : tn_R G ta t) : G.1 (ta 1) = some (5 + 1, 7) := h.1.2.1
theorem tn_R.k2 (h : tn_R G ta t) : G.1 (ta 2) = some (0 + 1, 7) := h.1.2.2.1
theorem tn_R.k3 (h : tn_R G ta t) : G.1 (ta 3) = some (0 + 1, 7) := h.1.2.2.2.1
theorem tn_R.k4 (h : tn_R G ta t) : G.1 (ta 4) = some (0 + 1, 7) := h.1.2.2.2.2
theorem tn_R.f11 (h : tn_R G ta t) : G.2.2.2 (ta 0) 11 = some (ta 1) := h.2.1.1
theorem tn_R.f12 (h : tn_R G ta t) : G.2.2.2 (ta 0) 12 = some (ta 2) := h.2.1.2.1
theorem tn_R.f13 (h : tn_R G ta t) : G.2.2.2 (ta 0) 13 = some (ta 3) := h.2.1.2.2.1
theorem tn_R.f14 (h : tn_R G ta t) : G.2.2.2 (ta 0) 14 = some (ta 4) := h.2.1.2.2.2
theorem tn_R.f0 (h : tn_R G ta t) : G.2.1 (ta 0) 0 = nI (t.1 0 0) := h.2.2.1.1
theorem tn_R.f1 (h : tn_R G ta t) : G.2.1 (ta 0) 1 = nI (t.1 1 0) := h.2.2.1.2.1
theorem tn_R.f2 (h : tn_R G ta t) : G.2.1 (ta 0) 2 = nI (t.1 2 0) := h.2.2.1.2.2.1
theorem tn_R.f3 (h : tn_R G ta t) : G.2.1 (ta 0) 3 = nI (t.1 3 0) := h.2.2.1.2.2.2.1
theorem tn_R.f4 (h : tn_R G ta t) : G.2.1 (ta 0) 4 = t.2 4 := h.2.2.1.2.2.2.2.1
theorem tn_R.f5 (h : tn_R G ta t) : G.2.1 (ta 0) 5 = t.2 5 := h.2.2.1.2.2.2.2.2.1
theorem tn_R.f6 (h : tn_R G ta t) : G.2.1 (ta 0) 6 = t.2 6 := h.2.2.1.2.2.2.2.2.2.1
theorem tn_R.f10 (h : tn_R G ta t) : G.2.1 (ta 0) 10 = oI (t.1 36 0) := h.2.2.1.2.2.2.2.2.2.2
theorem tn_R.f7 (h : tn_R G ta t) : G.2.2.1 (ta 0) 7 = lN (sp_pk (t.1 16) 36) := h.2.2.2.1.1
theorem tn_R.f8 (h : tn_R G ta t) : G.2.2.1 (ta 0) 8 = lN (sp_pk (t.1 17) 36) := h.2.2.2.1.2
theorem tn_R.sk (h : tn_R G ta t) : ∃ K, K < 128 ∧ G.2.1 (ta 0) 9 = nI K ∧ ∀ p, p < t.1 0 0 → K / 2 ^ p % 2 = t.1 15 p := h.2.2.2.2.1
theorem tn_R.pe (h : tn_R G ta t) {p : Nat} (hp : p < t.1 0 0) : ∃ q, G.2.2.2 (ta 1) p = some q ∧ G.1 q = some (0, 12 + t.1 9 p) ∧ G.2.1 q 0 = nI p ∧ G.2.1 q 1 = nI (t.1 10 p) ∧ G.2.1 q 2 = nI (t.1 12 p) := h.2.2.2.2.2.1 p hp
theorem tn_R.e2 (h : tn_R G ta t) {p : Nat} (hp : p < t.1 0 0) : G.2.1 (ta 2) p = nI (t.1 11 p) := (h.2.2.2.2.2.2 p hp).1
theorem tn_R.e3 (h : tn_R G ta t) {p : Nat} (hp : p < t.1 0 0) : G.2.1 (ta 3) p = nI (t.1 13 p) := (h.2.2.2.2.2.2 p hp).2.1
theorem tn_R.e4 (h : tn_R G ta t) {p : Nat} (hp : p < t.1 0 0) : G.2.1 (ta 4) p = nI (t.1 14 p) := (h.2.2.2.2.2.2 p hp).2.2
end TNR
theorem sp_or0 (n : Nat) : nI n ||| nI 0 = nI n := by
  rw [nI_0]
  exact Int32.or_zero
theorem sp_or2 {S i : Nat} (hi : i < 8) (h : S < 2 ^ i) : nI S ||| nI (2 ^ i) = nI (S + 2 ^ i) := by
  revert h
  revert S
  revert i
  decide +kernel
theorem sp_wpk {t : sp_S} (hw : sp_wf t) : sp_pk (t.1 16) 36 < 2 ^ 36 := sp_pk_lt 36 (fun c hc => hw.b16 hc)
theorem sp_bpk {t : sp_S} (hw : sp_wf t) : sp_pk (t.1 17) 36 < 2 ^ 36 := sp_pk_lt 36 (fun c hc => hw.b17 hc)
theorem sp_wbit {t : sp_S} (hw : sp_wf t) {c : Nat} (hc : c < 36) : sp_pk (t.1 16) 36 / 2 ^ c % 2 = t.1 16 c := sp_pk_bit 36 (fun c hc => hw.b16 hc) c hc
theorem sp_bbit {t : sp_S} (hw : sp_wf t) {c : Nat} (hc : c < 36) : sp_pk (t.1 17) 36 / 2 ^ c % 2 = t.1 17 c := sp_pk_bit 36 (fun c hc => hw.b17 hc) c hc
def sp_free (t : sp_S) (x : Int32) : Bool := sp_in x 36 && !(t.1 16 (iN x) == 1)
def sp_before (t : sp_S) (p a b : Nat) : Bool := decide (sp_dist (t.1 14 p) (t.1 14 a) < sp_dist (t.1 14 p) (t.1 14 b) ∨ (sp_dist (t.1 14 p) (t.1 14 a) = sp_dist (t.1 14 p) (t.1 14 b) ∧ sp_shows t b < sp_shows t a))
theorem sp_dist_le {a b : Nat} (ha : a < 36) (hb : b < 36) : sp_dist a b ≤ 10 := sp_dist_lt ha hb
theorem sp_bits_none {f : Nat → Bool} : ∀ n, (∀ i, i < n → f i = false) → sp_bits f n = 0
  | 0, _ => rfl
  | n + 1, h => by rw [sp_bits, sp_bits_none n (fun i hi => h i (by omega)), h n (Nat.lt_succ_self n)]; rfl
theorem sp_bit_bits (f : Nat → Bool) : ∀ n y, sp_bit (sp_bits f n) y = (decide (y < n) && f y)
  | 0, y => by simp [sp_bit, sp_bits]
  | n + 1, y => by
    have h1 := sp_bits_lt f n
    have h2 := sp_bit_bits f n y
    unfold sp_bit at h2 ⊢
    rw [sp_bits]
    by_cases e : y = n
    · subst e
      have e0 : sp_bits f y / 2 ^ y = 0 := Nat.div_eq_of_lt h1
      cases g : f y with
      | false => simp [g, e0]
      | true =>
        rw [if_pos rfl, Nat.add_div_right _ (Nat.two_pow_pos y), e0]
        simp
    · by_cases l : y < n
      · have e3 : (sp_bits f n + if f n = true then 2 ^ n else 0) / 2 ^ y % 2 = sp_bits f n / 2 ^ y % 2 := by
          split
          · obtain ⟨k, rfl⟩ : ∃ k, n = y + (k + 1) := ⟨n - y - 1, by omega⟩
            rw [show 2 ^ (y + (k + 1)) = (2 ^ k * 2) * 2 ^ y by rw [Nat.pow_add, Nat.pow_succ]; simp [Nat.mul_comm, Nat.mul_left_comm, Nat.mul_assoc], Nat.add_mul_div_right _ _ (Nat.two_pow_pos y)]
            omega
          · rfl
        rw [e3, h2]
        simp [l, show y < n + 1 by omega]
      · have hlt : (sp_bits f n + if f n = true then 2 ^ n else 0) < 2 ^ y := by
          have h5 := sp_bits_lt f (n + 1)
          rw [sp_bits] at h5
          exact Nat.lt_of_lt_of_le h5 (Nat.pow_le_pow_right (by decide) (by omega))
        rw [Nat.div_eq_of_lt hlt]
        simp [show ¬ y < n + 1 by omega]
theorem sp_bit_pow (b y : Nat) : sp_bit (2 ^ b) y = decide (y = b) := by
  unfold sp_bit
  by_cases e : y = b
  · subst e
    rw [Nat.div_self (Nat.two_pow_pos y)]
    simp
  · by_cases l : y < b
    · obtain ⟨k, rfl⟩ : ∃ k, b = y + (k + 1) := ⟨b - y - 1, by omega⟩
      rw [show 2 ^ (y + (k + 1)) = (2 ^ k * 2) * 2 ^ y by rw [Nat.pow_add, Nat.pow_succ]; simp [Nat.mul_comm, Nat.mul_left_comm, Nat.mul_assoc], Nat.mul_div_cancel _ (Nat.two_pow_pos y)]
      simp [e]
    · rw [Nat.div_eq_of_lt (Nat.pow_lt_pow_right (by decide) (by omega))]
      simp [e]
/-- who isn't there is looked at by nobody -/
theorem sp_lookers_missing {t : sp_S} {x : Nat} (h : x = t.1 36 0) : sp_lookers t x = 0 := by
  refine sp_bits_none _ (fun z _ => ?_)
  show sp_bit (sp_lookedAt t z) x = false
  have hno : ∀ w, sp_would t w x = false := fun w => sp_would_n (Or.inr (Or.inr (Or.inl h)))
  unfold sp_lookedAt
  split
  · split
    · simp [sp_bit]
    · rename_i hb
      rw [sp_bit_pow]
      have hw := (sp_best_would (t := t) (x := z) (t.1 0 0)).resolve_left hb
      refine decide_eq_false (fun e => ?_)
      rw [← e, hno] at hw
      cases hw
  · rw [sp_bit_bits, hno, Bool.and_false]
theorem sp_owK_0 (k : Nat) : sp_owK k 0 = 0 := by
  unfold sp_owK
  (repeat' split) <;> rfl
theorem sp_owes_owK {t : sp_S} {x : Nat} : sp_owK (t.1 9 x) (t.1 1 0 * sp_entered t x) = sp_owes t x := by
  by_cases hl : sp_lit t (t.1 14 x) = true
  · by_cases hm : x = t.1 36 0
    · have e : sp_entered t x = 0 := by
        unfold sp_entered
        rw [if_pos hl, sp_lookers_missing hm]
        rfl
      rw [e, Nat.mul_zero, sp_owK_0]
      unfold sp_owes
      rw [if_pos (Or.inr (Or.inl hm))]
    · have e : sp_entered t x = sp_cnt (sp_lookers t x) 7 := by
        unfold sp_entered
        rw [if_pos hl]
      rw [e]
      unfold sp_owes sp_owK
      by_cases h5 : t.1 9 x = 5
      · rw [if_pos h5, if_pos (Or.inl h5)]
      · rw [if_neg h5, if_neg (show ¬ (t.1 9 x = 5 ∨ x = t.1 36 0 ∨ ¬ sp_lit t (t.1 14 x) = true) by simp [h5, hm, hl])]
  · have e : sp_entered t x = 0 := by
      unfold sp_entered
      rw [if_neg hl]
    rw [e, Nat.mul_zero, sp_owK_0]
    unfold sp_owes
    rw [if_pos (Or.inr (Or.inr hl))]
/-- the square beside one where one may stand (99: none) -/
def sp_bes (t : sp_S) (c w : Nat) : Nat := if sp_beside c w = 99 then 99 else if t.1 16 (sp_beside c w) = 1 then 99 else sp_beside c w
