/-! sacks put on; bodies told; pay -/
def sp_sk (t : sp_S) (z : Nat) : Nat → Nat := fun x => if x < t.1 0 0 ∧ sp_bit z x = true then 1 else t.1 15 x
theorem sp_sk_le {t : sp_S} (hw : sp_wf t) (z : Nat) : ∀ p, p < 7 → sp_sk t z p ≤ 1 := fun p hp => by
  have := hw.b15 hp
  unfold sp_sk
  split <;> omega
def sp_skd (A : ab_S) (z : Nat) : Nat := sp_duties (ab_f A (sp_sk A.1 z)).1
theorem sp_skd_le {A : ab_S} (hw : sp_wf A.1) (z : Nat) : sp_skd A z ≤ 441 := sp_duties_le (sp_wf_f hw (sp_sk_le hw z))
def sp_sax (A : ab_S) (k n : Nat) : Nat := sp_bst (fun z => decide (sp_cnt z 7 = k)) (fun a b => decide (sp_skd A a < sp_skd A b)) n
def sq_body (b r : Nat) (A : ab_S) : ab_S := ab_i (if r < 20 then ab_r A 41 r (nI b) else A) 42 (nI (r + 1))
theorem sq_body_t (b r : Nat) (A : ab_S) : (sq_body b r A).1.1 = A.1.1 := by
  unfold sq_body
  split <;> rfl
theorem sq_body_k (b r : Nat) (A : ab_S) : (sq_body b r A).2.1 = A.2.1 := by
  unfold sq_body
  split <;> rfl
theorem ab_wf.same {A B : ab_S} (h : ab_wf A) (h1 : B.1.1 = A.1.1) (h2 : B.2.1 = A.2.1) : ab_wf B := by
  unfold ab_wf sp_wf at *
  rw [h1, h2]
  exact h
theorem ab_wf.body {A : ab_S} (h : ab_wf A) (b r : Nat) : ab_wf (sq_body b r A) := h.same (sq_body_t b r A) (sq_body_k b r A)
def sp_paid (t : sp_S) (x : Nat) : Nat := if sp_owes t x ≤ t.1 13 x then sp_owes t x else t.1 13 x
theorem sp_paid_le (t : sp_S) (x : Nat) : sp_paid t x ≤ t.1 13 x := by
  unfold sp_paid
  split <;> omega
def sq_pay (A : ab_S) (x : Nat) : ab_S := ab_n A 13 x (A.1.1 13 x - sp_paid A.1 x)
def sq_drawn (n : Nat) (v : Int32) : Int32 := (v.toUInt32 >>> (Int32.toUInt32 (nI 16) &&& Int32.toUInt32 31)).toInt32 - (v.toUInt32 >>> (Int32.toUInt32 (nI 16) &&& Int32.toUInt32 31)).toInt32 / nI n * nI n
/-- written so that the kernel, made to look into it, stops at once -/
def sq_next (v : Int32) : Int32 := nI 12345 + 1103515245 * v
theorem sq_next_eq (v : Int32) : v * 1103515245 + nI 12345 = sq_next v := by rw [sq_next, Int32.mul_comm, Int32.add_comm]
theorem u32_nI (x : UInt32) : x.toInt32 = nI x.toNat := by
  apply Int32.toBitVec_inj.mp
  have h := UInt32.toNat_lt x
  first
    | (simp [nI]; done)
    | (apply BitVec.eq_of_toNat_eq; simp [nI]; done)
    | (apply BitVec.eq_of_toNat_eq; simp [nI]; omega)
theorem sq_drawn_n {n : Nat} (hn : 0 < n) (hn2 : n < 2 ^ 31) (v : Int32) : sq_drawn n v = nI (iN (sq_drawn n v)) ∧ iN (sq_drawn n v) < n := by
  have e : ∃ m : Nat, m < 65536 ∧ (v.toUInt32 >>> (Int32.toUInt32 (nI 16) &&& Int32.toUInt32 31)).toInt32 = nI m := by
    refine ⟨(v.toUInt32 >>> (Int32.toUInt32 (nI 16) &&& Int32.toUInt32 31)).toNat, ?_, ?_⟩
    · rw [UInt32.toNat_shiftRight]
      have h1 := UInt32.toNat_lt v.toUInt32
      have h2 : (Int32.toUInt32 (nI 16) &&& Int32.toUInt32 31).toNat % 32 = 16 := by decide
      rw [h2, Nat.shiftRight_eq_div_pow]
      omega
    · exact u32_nI _
  obtain ⟨m, hm, e⟩ := e
  unfold sq_drawn
  rw [e, pk_rem (by omega) hn hn2, iN_nI (Nat.lt_of_lt_of_le (Nat.mod_lt m hn) (by omega))]
  exact ⟨rfl, Nat.mod_lt m hn⟩
